/-! the twin: reading calls -/
theorem one_shl : ∀ n, n ≤ 9 → 0 < 1 <<< n ∧ 1 <<< n ≤ 512 := by decide +kernel
theorem partN_eq {b : BT} {v : Nat} (l : List Nat) (n : Nat) (h : n + l.findIdx (fun p => p.testBit v) = partN b v) (p : Nat) (t : List Nat) (e : l = p :: t) : (p.testBit v = true → partN b v = n) ∧ (p.testBit v = false → n + 1 + t.findIdx (fun p => p.testBit v) = partN b v) := by
  subst e
  rw [List.findIdx_cons] at h
  constructor
  · intro q
    rw [q] at h
    simpa using h.symm
  · intro q
    rw [q] at h
    simp only [cond_false] at h
    omega
theorem nneg_ex {p : Int32} (h : 0 ≤ p) : ∃ k, p = nI k ∧ k < 2 ^ 31 := by
  rw [Int32.le_iff_toInt_le] at h
  have h0 : (0 : Int32).toInt = 0 := rfl
  rw [h0] at h
  have h2 := Int32.toInt_lt p
  refine ⟨p.toInt.toNat, ?_, by omega⟩
  apply Int32.toInt_inj.1
  rw [nI_int (by omega)]
  omega
theorem nn_lt {k : Nat} (h : k < 2 ^ 31) : ¬ nI k < 0 := by
  rw [Int32.lt_iff_toInt_lt, nI_int h]
  have h0 : (0 : Int32).toInt = 0 := rfl
  omega

set_option maxRecDepth 100000 in
theorem t6_partOf {γ : Gm} (hG : GF γ) (l : Launch) (o sz : Nat) (u : TU) {b : Nat → Nat} (hu : BD u b) (hA : WA b) {v : Nat} (hv : v < b 0) (hf : fr b v = true) : MX γ l yX6_partOf cX6_partOf 5 (some .int) 2 43 0 0 [.ref o, .int (nI v)] (th o u) sz (RI (th o u) sz (nI (partN b v))) NX := by
  refine mx_start hG (by decide) (Nat.le_of_ble_eq_true rfl) (fun x C => ?_)
  have hW := hA.w
  have hN := hW.2.1
  have hC3 := hW.2.2.2.1
  have hL9 := hA.l
  have hF := freeS_lt hN
  have key : ∀ j left n, left + 1 ≤ j → left < 512 → left.testBit v = true → n + (pts b (freeS b) left).findIdx (fun p => p.testBit v) = partN b v → AW γ l x (QX γ x 0 0 (RI (th o u) sz (nI (partN b v))) NX) 5 (th o u) sz 0 0 10 [(0, .ref o), (1, .int (nI v)), (2, .int (nI (freeS b))), (3, .int (nI n)), (4, .int (nI left))] [] := by
    intro j
    induction j with
    | zero => intro left n h2 h3 hb hn; exact absurd h2 (by omega)
    | succ j ih =>
      intro left n h2 h3 hb hn
      have h0 : 0 < left := by
        rcases Nat.eq_zero_or_pos left with e | e
        · rw [e] at hb; simp at hb
        · exact e
      obtain ⟨hl1, hl2, hl3⟩ := low_bit left h3 h0
      have hd := nd_lt_of hl1 (rch_self b (low left) (freeS b))
      have hr9 := rch_lt (b := b) hl2 hF
      have hq := partN_eq _ n hn _ _ (pts_s b (freeS b) h0 h3)
      refine aw_aload_n C rfl rfl dX6_partOf_10 ?_
      refine aw_iload C rfl dX6_partOf_11 ?_
      refine tw_callSR C (t6_lowest hG l o sz _ (by omega) (by omega)) q2019 q2020 q120 q2021 (n9 := 1) (by decide +kernel) rfl (Nat.le_of_ble_eq_true rfl) (Nat.le_of_ble_eq_true rfl) (Nat.zero_le _) (Nat.zero_le _) rfl (Nat.le_of_ble_eq_true rfl) dX6_partOf_13 ?_
      refine aw_iload_n C rfl rfl dX6_partOf_16 ?_
      refine tw_callR C (t6_reached hG l o sz _ hu hW (by omega) (by omega)) q1996 q1998 qs61 q120 q1999 (n9 := 2) (by decide +kernel) rfl (Nat.le_of_ble_eq_true rfl) (Nat.le_of_ble_eq_true rfl) (Nat.zero_le _) (Nat.zero_le _) rfl (Nat.le_of_ble_eq_true rfl) dX6_partOf_17 ?_
      refine aw_iload_n C rfl rfl dX6_partOf_20 ?_
      refine aw_ishrN C (by omega) (by omega) dX6_partOf_21 ?_
      refine aw_iconst C (v := nI 1) (by decide) dX6_partOf_22 ?_
      refine aw_iandBit C dX6_partOf_23 ?_
      refine aw_bit_ne0 C (tgt := 50) dX6_partOf_24 (by decide) (fun gB => ?_) (fun gB => ?_)
      · refine aw_iload_n C rfl rfl dX6_partOf_50 ?_
        exact aw_iret C rfl dX6_partOf_51 (Nat.le_refl _) (Nat.le_refl _) ⟨by rw [hq.1 gB], rfl, rfl⟩
      · refine aw_iload C rfl dX6_partOf_27 ?_
        refine aw_aload_n C rfl rfl dX6_partOf_29 ?_
        refine aw_iload C rfl dX6_partOf_30 ?_
        refine tw_callSR C (t6_lowest hG l o sz _ (by omega) (by omega)) q2019 q2020 q120 q2021 (n9 := 1) (by decide +kernel) rfl (Nat.le_of_ble_eq_true rfl) (Nat.le_of_ble_eq_true rfl) (Nat.zero_le _) (Nat.zero_le _) rfl (Nat.le_of_ble_eq_true rfl) dX6_partOf_32 ?_
        refine aw_iload_n C rfl rfl dX6_partOf_35 ?_
        refine tw_callR C (t6_reached hG l o sz _ hu hW (by omega) (by omega)) q1996 q1998 qs61 q120 q1999 (n9 := 2) (by decide +kernel) rfl (Nat.le_of_ble_eq_true rfl) (Nat.le_of_ble_eq_true rfl) (Nat.zero_le _) (Nat.zero_le _) rfl (Nat.le_of_ble_eq_true rfl) dX6_partOf_36 ?_
        refine aw_iconst C (v := -1) (by decide) dX6_partOf_39 ?_
        refine aw_ixor C dX6_partOf_40 ?_
        refine aw_iandNot C dX6_partOf_41 ?_
        refine aw_istore C (by decide) rfl dX6_partOf_42 ?_
        refine aw_iinc1 C rfl (by decide) rfl dX6_partOf_44 ?_
        refine aw_goto C (tgt := 10) dX6_partOf_47 (by decide) ?_
        exact aw_lo (ih (nd left (rch b (low left) (freeS b))) (n + 1) (by omega) (by omega) (by rw [nd_bit, hb, gB]; rfl) (hq.2 gB)) ⟨rfl, rfl, rfl, rfl, rfl, trivial⟩
  refine aw_aload_n C rfl rfl dX6_partOf_0 ?_
  refine tw_callR C (t6_freeSet hG l o sz _ hu hW) q1992 q1994 qs60 q120 q1995 (n9 := 0) (by decide +kernel) rfl (Nat.le_of_ble_eq_true rfl) (Nat.le_of_ble_eq_true rfl) (Nat.zero_le _) (Nat.zero_le _) rfl (Nat.le_of_ble_eq_true rfl) dX6_partOf_1 ?_
  refine aw_istore_n C rfl (by decide) rfl dX6_partOf_4 ?_
  refine aw_iconst C (v := nI 0) (by decide) dX6_partOf_5 ?_
  refine aw_istore_n C rfl (by decide) rfl dX6_partOf_6 ?_
  refine aw_iload_n C rfl rfl dX6_partOf_7 ?_
  refine aw_istore C (by decide) rfl dX6_partOf_8 ?_
  exact aw_lo (key (freeS b + 1) (freeS b) 0 (by omega) hF (by rw [freeS_bit]; simp [hv, hf]) (Nat.zero_add _)) ⟨rfl, rfl, rfl, rfl, rfl, trivial⟩
set_option maxRecDepth 100000 in
theorem t6_ofPart {γ : Gm} (hG : GF γ) (l : Launch) (o sz : Nat) (u : TU) {b : Nat → Nat} (hu : BD u b) (hA : WA b) {S m w : Nat} (hV : Vd b S) (h0 : 0 < S) (hm : m ≤ b 1) (hw : w < 8) : MX γ l yX6_ofPart cX6_ofPart 5 (some .int) 23 772 0 0 [.ref o, .int (nI S), .int (nI m - nI 1), .int (nI w)] (th o u) sz (RUi o sz (fun z u' => z = (if w = 5 then nI (G b S m).1 else if w = 6 then nI (G b S m).2.1 else nI (G b S m).2.2) ∧ TJ u u' ∧ BD u' b)) NX := by
  refine mx_start hG (by decide) (Nat.le_of_ble_eq_true rfl) (fun x C => ?_)
  have hW := hA.w
  have hN := hW.2.1
  have hC3 := hW.2.2.2.1
  have hL9 := hA.l
  refine aw_aload_n C rfl rfl dX6_ofPart_0 ?_
  refine tw_callV C (t6_forgets hG l o sz _) q2102 q2104 qs81 q120 q2105 (n9 := 0) (by decide +kernel) rfl (Nat.le_of_ble_eq_true rfl) (Nat.le_of_ble_eq_true rfl) (Nat.zero_le _) (Nat.zero_le _) rfl (Nat.le_of_ble_eq_true rfl) dX6_ofPart_1 (fun u2 hp => ?_)
  obtain ⟨g, hgu, hg⟩ := hp
  have hkt : KT u2 b := kt_none (by rw [hgu]; exact hg) hA.p
  have hu : BD u2 b := bd_of hu (by rw [hgu]; rfl)
  have hj3 := fg_tj hgu
  refine aw_aload_n C rfl rfl dX6_ofPart_4 ?_
  refine aw_iload_n C rfl rfl dX6_ofPart_5 ?_
  refine aw_iload_n C rfl rfl dX6_ofPart_6 ?_
  refine tw_callI C (t6_knownOf hG l o sz _ hu hW hA.p hA.s hV h0 hm hkt) q2106 q2108 qs82 q120 q2109 (n9 := 2) (by decide +kernel) rfl (Nat.le_of_ble_eq_true rfl) (Nat.le_of_ble_eq_true rfl) (Nat.zero_le _) (Nat.zero_le _) rfl (Nat.le_of_ble_eq_true rfl) dX6_ofPart_7 (fun r u3 hp => ?_)
  obtain ⟨rfl, hk2, hkt⟩ := hp
  have hu := hk2.bd hu
  have hj := hj3.tr hk2.tj
  obtain ⟨hi1, hi2, hi3⟩ := G_gb hA.s hW hV.1 m
  have hel := enc_lt (i := G b S m) hi1 (by omega) (by omega)
  refine aw_istore C (by decide) rfl dX6_ofPart_10 ?_
  refine aw_iload_n C rfl rfl dX6_ofPart_12 ?_
  refine aw_iconst C (v := nI 5) (by decide) dX6_ofPart_13 ?_
  refine aw_icmpN_ne C (tgt := 25) (by omega) (by omega) dX6_ofPart_14 (by decide) (fun g5 => ?_) (fun g5 => ?_)
  · refine aw_iload_n C rfl rfl dX6_ofPart_25 ?_
    refine aw_bipush C (v := nI 6) (by decide) dX6_ofPart_26 ?_
    refine aw_icmpN_ne C (tgt := 41) (by omega) (by omega) dX6_ofPart_28 (by decide) (fun g6 => ?_) (fun g6 => ?_)
    · refine aw_iload C rfl dX6_ofPart_41 ?_
      refine aw_bipush C (v := nI 10) (by decide) dX6_ofPart_43 ?_
      refine aw_ishrN C (by omega) (by omega) dX6_ofPart_45 ?_
      try refine aw_top (show _ = nI (G b S m).2.2 from by rw [enc_s hi1 (by omega)]) ?_
      exact aw_iret C rfl dX6_ofPart_46 (Nat.le_refl _) (Nat.le_refl _) ⟨rfl, _, _, rfl, rfl, by simp [*], hj, hu⟩
    · refine aw_iload C rfl dX6_ofPart_31 ?_
      refine aw_iconst C (v := nI 5) (by decide) dX6_ofPart_33 ?_
      refine aw_ishrN C (by omega) (by omega) dX6_ofPart_34 ?_
      refine aw_bipush C (v := nI 31) (by decide) dX6_ofPart_35 ?_
      refine aw_iandN C dX6_ofPart_37 ?_
      refine aw_top (show _ = nI (G b S m).2.1 from by rw [enc_l hi1 (by omega)]) ?_
      refine aw_goto C (tgt := 46) dX6_ofPart_38 (by decide) ?_
      try refine aw_top (show _ = nI (G b S m).2.2 from by rw [enc_s hi1 (by omega)]) ?_
      exact aw_iret C rfl dX6_ofPart_46 (Nat.le_refl _) (Nat.le_refl _) ⟨rfl, _, _, rfl, rfl, by simp [*], hj, hu⟩
  · refine aw_iload C rfl dX6_ofPart_17 ?_
    refine aw_bipush C (v := nI 31) (by decide) dX6_ofPart_19 ?_
    refine aw_iandN C dX6_ofPart_21 ?_
    refine aw_top (show _ = nI (G b S m).1 from by rw [enc_v hi1 (by omega)]) ?_
    refine aw_goto C (tgt := 46) dX6_ofPart_22 (by decide) ?_
    try refine aw_top (show _ = nI (G b S m).2.2 from by rw [enc_s hi1 (by omega)]) ?_
    exact aw_iret C rfl dX6_ofPart_46 (Nat.le_refl _) (Nat.le_refl _) ⟨rfl, _, _, rfl, rfl, by simp [*], hj, hu⟩
set_option maxRecDepth 100000 in
theorem t6_count {γ : Gm} (hG : GF γ) (l : Launch) (o sz : Nat) (u : TU) {b : BT} {ks : List BT} {sl : Nat → Option BT} {bf : List Nat} {ea : Int32} {wr : List Nat} (hu : BD u b) (hA : WA b) (hT : TO u ks sl bf ea wr) (w : Int32) : MX γ l yX6_count cX6_count 2 (some .int) 6 132 0 0 [.ref o, .int w] (th o u) sz (PS o sz (spCnt b w, (b, ks, sl, bf, ea, wr))) NX := by
  refine mx_start hG (by decide) (Nat.le_of_ble_eq_true rfl) (fun x C => ?_)
  have hW := hA.w
  have hN := hW.2.1
  have hC3 := hW.2.2.2.1
  have hL9 := hA.l
  have hm := hA.m
  refine aw_aload_n C rfl rfl dX6_count_0 ?_
  refine aw_iload_n C rfl rfl dX6_count_1 ?_
  refine aw_iconst C (v := nI 0) (by decide) dX6_count_2 ?_
  refine aw_bipush C (v := nI 12) (by decide) dX6_count_3 ?_
  refine tw_callSR C (t6_isIn hG l o sz _ _ _ _) q1905 q1906 q120 q1907 (n9 := 3) (by decide +kernel) rfl (Nat.le_of_ble_eq_true rfl) (Nat.le_of_ble_eq_true rfl) (Nat.zero_le _) (Nat.zero_le _) rfl (Nat.le_of_ble_eq_true rfl) dX6_count_5 ?_
  refine aw_bit_eq0 C (tgt := 15) dX6_count_8 (by decide) (fun gI => ?_) (fun gI => ?_)
  · refine aw_iconst C (v := nI 1) (by decide) dX6_count_15 ?_
    refine tw_put C 7 (by decide) q1825 rfl rfl rfl dX6_count_16 ?_
    refine aw_aload_n C rfl rfl dX6_count_19 ?_
    refine tw_get C 7 (by decide) q1825 rfl dX6_count_20 ?_
    refine aw_top (tsf_at _ _ _) ?_
    refine aw_if_le C (tgt := 28) dX6_count_23 (by decide) (fun g1 => ?_) (fun g1 => ?_)
    · exact absurd g1 (by decide)
    · refine aw_iconst C (v := nI 0) (by decide) dX6_count_26 ?_
      refine aw_iret C rfl dX6_count_27 (Nat.le_refl _) (Nat.le_refl _) ?_
      unfold spCnt
      first
        | (rw [if_pos (show isI w (nI 0) (nI 12) = false from gI)]; exact ⟨rfl, _, _, rfl, rfl, tsf_at _ _ _, rfl, hu, hA, to_put7 hT _⟩)
  · refine aw_iconst C (v := nI 0) (by decide) dX6_count_11 ?_
    refine aw_goto C (tgt := 16) dX6_count_12 (by decide) ?_
    refine tw_put C 7 (by decide) q1825 rfl rfl rfl dX6_count_16 ?_
    refine aw_aload_n C rfl rfl dX6_count_19 ?_
    refine tw_get C 7 (by decide) q1825 rfl dX6_count_20 ?_
    refine aw_top (tsf_at _ _ _) ?_
    refine aw_if_le C (tgt := 28) dX6_count_23 (by decide) (fun g2 => ?_) (fun g2 => ?_)
    · obtain ⟨k1, rfl, hk0, hk1⟩ := isI_ex (lo := 0) (hi := 12) (by decide) (by decide) gI
      have en := nt_n (k := k1) (by omega)
      have hI := isI_n (k := k1) (lo := 0) (hi := 12) (by decide) (by omega) (by omega)
      have hT := to_put7 hT (nI 0)
      have hu := bd_tsf hu 7 (nI 0)
      have h7 : (tsf u 7 (nI 0)).1 7 = nI 0 := tsf_at _ _ _
      have hs1 := one_shl (b 0) hN
      have hF := freeS_lt hN
      refine aw_iload_n C rfl rfl dX6_count_28 ?_
      obtain rfl | rfl | rfl | rfl | rfl | rfl | rfl | rfl | rfl | rfl | rfl | rfl | hk9 : k1 = 0 ∨ k1 = 1 ∨ k1 = 2 ∨ k1 = 3 ∨ k1 = 4 ∨ k1 = 5 ∨ k1 = 6 ∨ k1 = 7 ∨ k1 = 8 ∨ k1 = 9 ∨ k1 = 10 ∨ k1 = 11 ∨ 12 ≤ k1 := by omega
      · refine aw_tableIn C (off := 63) (tgt := 92) dX6_count_29 (by decide) (by decide) (by decide) (by decide) ?_
        refine aw_aload_n C rfl rfl dX6_count_92 ?_
        refine tw_get C 0 (by decide) q1818 rfl dX6_count_93 ?_
        refine aw_iconst C (v := nI 0) (by decide) dX6_count_96 ?_
        refine tw_ld0 C (by omega) dX6_count_97 ?_
        refine aw_top ((hu _)) ?_
        refine aw_iret C rfl dX6_count_98 (Nat.le_refl _) (Nat.le_refl _) ?_
        unfold spCnt
        rw [en, if_neg (by rw [hI]; decide)]
        exact ⟨rfl, _, _, rfl, rfl, h7, rfl, hu, hA, hT⟩
      · refine aw_tableIn C (off := 70) (tgt := 99) dX6_count_29 (by decide) (by decide) (by decide) (by decide) ?_
        refine aw_aload_n C rfl rfl dX6_count_99 ?_
        refine aw_iconst C (v := nI 1) (by decide) dX6_count_100 ?_
        refine aw_aload_n C rfl rfl dX6_count_101 ?_
        refine tw_get C 0 (by decide) q1818 rfl dX6_count_102 ?_
        refine aw_iconst C (v := nI 0) (by decide) dX6_count_105 ?_
        refine tw_ld0 C (by omega) dX6_count_106 ?_
        refine aw_top ((hu _)) ?_
        refine aw_ishlN C (by omega) dX6_count_107 ?_
        refine aw_iconst C (v := nI 1) (by decide) dX6_count_108 ?_
        refine aw_isubN C (by omega) dX6_count_109 ?_
        refine tw_callR C (t6_edgesIn hG l o sz _ hu hW (by omega)) q2050 q2052 qs71 q120 q2053 (n9 := 1) (by decide +kernel) rfl (Nat.le_of_ble_eq_true rfl) (Nat.le_of_ble_eq_true rfl) (Nat.zero_le _) (Nat.zero_le _) rfl (Nat.le_of_ble_eq_true rfl) dX6_count_110 ?_
        refine aw_iret C rfl dX6_count_113 (Nat.le_refl _) (Nat.le_refl _) ?_
        unfold spCnt
        rw [en, if_neg (by rw [hI]; decide)]
        exact ⟨rfl, _, _, rfl, rfl, h7, rfl, hu, hA, hT⟩
      · refine aw_tableIn C (off := 85) (tgt := 114) dX6_count_29 (by decide) (by decide) (by decide) (by decide) ?_
        refine aw_aload_n C rfl rfl dX6_count_114 ?_
        refine tw_get C 0 (by decide) q1818 rfl dX6_count_115 ?_
        refine aw_iconst C (v := nI 1) (by decide) dX6_count_118 ?_
        refine tw_ld0 C (by omega) dX6_count_119 ?_
        refine aw_top ((hu _)) ?_
        refine aw_iret C rfl dX6_count_120 (Nat.le_refl _) (Nat.le_refl _) ?_
        unfold spCnt
        rw [en, if_neg (by rw [hI]; decide)]
        exact ⟨rfl, _, _, rfl, rfl, h7, rfl, hu, hA, hT⟩
      · refine aw_tableIn C (off := 92) (tgt := 121) dX6_count_29 (by decide) (by decide) (by decide) (by decide) ?_
        refine aw_aload_n C rfl rfl dX6_count_121 ?_
        refine tw_get C 0 (by decide) q1818 rfl dX6_count_122 ?_
        refine aw_iconst C (v := nI 2) (by decide) dX6_count_125 ?_
        refine tw_ld0 C (by omega) dX6_count_126 ?_
        refine aw_top ((hu _)) ?_
        refine aw_iret C rfl dX6_count_127 (Nat.le_refl _) (Nat.le_refl _) ?_
        unfold spCnt
        rw [en, if_neg (by rw [hI]; decide)]
        exact ⟨rfl, _, _, rfl, rfl, h7, rfl, hu, hA, hT⟩
      · refine aw_tableIn C (off := 99) (tgt := 128) dX6_count_29 (by decide) (by decide) (by decide) (by decide) ?_
        refine aw_aload_n C rfl rfl dX6_count_128 ?_
        refine tw_callR C (t6_freeSet hG l o sz _ hu hW) q1992 q1994 qs60 q120 q1995 (n9 := 0) (by decide +kernel) rfl (Nat.le_of_ble_eq_true rfl) (Nat.le_of_ble_eq_true rfl) (Nat.zero_le _) (Nat.zero_le _) rfl (Nat.le_of_ble_eq_true rfl) dX6_count_129 ?_
        refine tw_callSR C (t6_bits hG l o sz _ (by omega)) q2008 q2009 q120 q2010 (n9 := 1) (by decide +kernel) rfl (Nat.le_of_ble_eq_true rfl) (Nat.le_of_ble_eq_true rfl) (Nat.zero_le _) (Nat.zero_le _) rfl (Nat.le_of_ble_eq_true rfl) dX6_count_132 ?_
        refine aw_iret C rfl dX6_count_135 (Nat.le_refl _) (Nat.le_refl _) ?_
        unfold spCnt
        rw [en, if_neg (by rw [hI]; decide)]
        exact ⟨rfl, _, _, rfl, rfl, h7, rfl, hu, hA, hT⟩
      · refine aw_tableIn C (off := 107) (tgt := 136) dX6_count_29 (by decide) (by decide) (by decide) (by decide) ?_
        refine aw_aload_n C rfl rfl dX6_count_136 ?_
        refine aw_aload_n C rfl rfl dX6_count_137 ?_
        refine tw_callR C (t6_freeSet hG l o sz _ hu hW) q1992 q1994 qs60 q120 q1995 (n9 := 0) (by decide +kernel) rfl (Nat.le_of_ble_eq_true rfl) (Nat.le_of_ble_eq_true rfl) (Nat.zero_le _) (Nat.zero_le _) rfl (Nat.le_of_ble_eq_true rfl) dX6_count_138 ?_
        refine tw_callR C (t6_partsIn hG l o sz _ hu hW (by omega)) q2015 q2017 qs65 q120 q2018 (n9 := 1) (by decide +kernel) rfl (Nat.le_of_ble_eq_true rfl) (Nat.le_of_ble_eq_true rfl) (Nat.zero_le _) (Nat.zero_le _) rfl (Nat.le_of_ble_eq_true rfl) dX6_count_141 ?_
        refine aw_iret C rfl dX6_count_144 (Nat.le_refl _) (Nat.le_refl _) ?_
        unfold spCnt
        rw [en, if_neg (by rw [hI]; decide)]
        exact ⟨rfl, _, _, rfl, rfl, h7, rfl, hu, hA, hT⟩
      · refine aw_tableIn C (off := 116) (tgt := 145) dX6_count_29 (by decide) (by decide) (by decide) (by decide) ?_
        refine aw_aload_n C rfl rfl dX6_count_145 ?_
        refine tw_callR C (t6_turn hG l o sz _ hu (by have := hA.m; omega)) q2026 q2028 qs67 q120 q2029 (n9 := 0) (by decide +kernel) rfl (Nat.le_of_ble_eq_true rfl) (Nat.le_of_ble_eq_true rfl) (Nat.zero_le _) (Nat.zero_le _) rfl (Nat.le_of_ble_eq_true rfl) dX6_count_146 ?_
        refine aw_iret C rfl dX6_count_149 (Nat.le_refl _) (Nat.le_refl _) ?_
        unfold spCnt
        rw [en, if_neg (by rw [hI]; decide)]
        exact ⟨rfl, _, _, rfl, rfl, h7, rfl, hu, hA, hT⟩
      · refine aw_tableIn C (off := 121) (tgt := 150) dX6_count_29 (by decide) (by decide) (by decide) (by decide) ?_
        refine aw_aload_n C rfl rfl dX6_count_150 ?_
        refine tw_get C 0 (by decide) q1818 rfl dX6_count_151 ?_
        refine aw_iconst C (v := nI 3) (by decide) dX6_count_154 ?_
        refine tw_ld0 C (by omega) dX6_count_155 ?_
        refine aw_top ((hu _)) ?_
        refine aw_iret C rfl dX6_count_156 (Nat.le_refl _) (Nat.le_refl _) ?_
        unfold spCnt
        rw [en, if_neg (by rw [hI]; decide)]
        exact ⟨rfl, _, _, rfl, rfl, h7, rfl, hu, hA, hT⟩
      · refine aw_tableIn C (off := 128) (tgt := 157) dX6_count_29 (by decide) (by decide) (by decide) (by decide) ?_
        refine aw_aload_n C rfl rfl dX6_count_157 ?_
        refine tw_callR C (t6_isOver hG l o sz _ hu hW hL9) q2054 q2056 qs72 q120 q2057 (n9 := 0) (by decide +kernel) rfl (Nat.le_of_ble_eq_true rfl) (Nat.le_of_ble_eq_true rfl) (Nat.zero_le _) (Nat.zero_le _) rfl (Nat.le_of_ble_eq_true rfl) dX6_count_158 ?_
        refine aw_bit_eq0 C (tgt := 168) dX6_count_161 (by decide) (fun gO => ?_) (fun gO => ?_)
        · refine aw_iconst C (v := nI 0) (by decide) dX6_count_168 ?_
          refine aw_iret C rfl dX6_count_169 (Nat.le_refl _) (Nat.le_refl _) ?_
          unfold spCnt
          rw [en, if_neg (by rw [hI]; decide)]
          refine ⟨rfl, _, _, rfl, rfl, h7, ?_, hu, hA, hT⟩
          simp [cntN, over, gO]
        · refine aw_iconst C (v := nI 1) (by decide) dX6_count_164 ?_
          refine aw_goto C (tgt := 169) dX6_count_165 (by decide) ?_
          refine aw_iret C rfl dX6_count_169 (Nat.le_refl _) (Nat.le_refl _) ?_
          unfold spCnt
          rw [en, if_neg (by rw [hI]; decide)]
          refine ⟨rfl, _, _, rfl, rfl, h7, ?_, hu, hA, hT⟩
          simp [cntN, over, gO]
      · refine aw_tableIn C (off := 141) (tgt := 170) dX6_count_29 (by decide) (by decide) (by decide) (by decide) ?_
        refine aw_aload_n C rfl rfl dX6_count_170 ?_
        refine tw_callR C (t6_isOver hG l o sz _ hu hW hL9) q2054 q2056 qs72 q120 q2057 (n9 := 0) (by decide +kernel) rfl (Nat.le_of_ble_eq_true rfl) (Nat.le_of_ble_eq_true rfl) (Nat.zero_le _) (Nat.zero_le _) rfl (Nat.le_of_ble_eq_true rfl) dX6_count_171 ?_
        refine aw_bit_eq0 C (tgt := 186) dX6_count_174 (by decide) (fun gO => ?_) (fun gO => ?_)
        · refine aw_iconst C (v := -1) (by decide) dX6_count_186 ?_
          refine aw_iret C rfl dX6_count_187 (Nat.le_refl _) (Nat.le_refl _) ?_
          unfold spCnt
          rw [en, if_neg (by rw [hI]; decide)]
          refine ⟨rfl, _, _, rfl, rfl, h7, ?_, hu, hA, hT⟩
          simp [cntN, over, gO]
        · refine aw_iconst C (v := nI 1) (by decide) dX6_count_177 ?_
          refine aw_aload_n C rfl rfl dX6_count_178 ?_
          refine tw_callR C (t6_turn hG l o sz _ hu (by have := hA.m; omega)) q2026 q2028 qs67 q120 q2029 (n9 := 0) (by decide +kernel) rfl (Nat.le_of_ble_eq_true rfl) (Nat.le_of_ble_eq_true rfl) (Nat.zero_le _) (Nat.zero_le _) rfl (Nat.le_of_ble_eq_true rfl) dX6_count_179 ?_
          refine aw_isubN C (by omega) dX6_count_182 ?_
          refine aw_goto C (tgt := 187) dX6_count_183 (by decide) ?_
          refine aw_iret C rfl dX6_count_187 (Nat.le_refl _) (Nat.le_refl _) ?_
          unfold spCnt
          rw [en, if_neg (by rw [hI]; decide)]
          refine ⟨rfl, _, _, rfl, rfl, h7, ?_, hu, hA, hT⟩
          simp [cntN, over, gO]
      · refine aw_tableIn C (off := 159) (tgt := 188) dX6_count_29 (by decide) (by decide) (by decide) (by decide) ?_
        refine aw_aload_n C rfl rfl dX6_count_188 ?_
        refine tw_callR C (t6_pairs hG l o sz _ hu hW) q2058 q2060 qs73 q120 q2061 (n9 := 0) (by decide +kernel) rfl (Nat.le_of_ble_eq_true rfl) (Nat.le_of_ble_eq_true rfl) (Nat.zero_le _) (Nat.zero_le _) rfl (Nat.le_of_ble_eq_true rfl) dX6_count_189 ?_
        refine aw_iret C rfl dX6_count_192 (Nat.le_refl _) (Nat.le_refl _) ?_
        unfold spCnt
        rw [en, if_neg (by rw [hI]; decide)]
        exact ⟨rfl, _, _, rfl, rfl, h7, rfl, hu, hA, hT⟩
      · refine aw_tableIn C (off := 164) (tgt := 193) dX6_count_29 (by decide) (by decide) (by decide) (by decide) ?_
        refine aw_aload_n C rfl rfl dX6_count_193 ?_
        refine tw_callR C (t6_stuck hG l o sz _ hu hW) q2062 q2064 qs74 q120 q2065 (n9 := 0) (by decide +kernel) rfl (Nat.le_of_ble_eq_true rfl) (Nat.le_of_ble_eq_true rfl) (Nat.zero_le _) (Nat.zero_le _) rfl (Nat.le_of_ble_eq_true rfl) dX6_count_194 ?_
        refine aw_iret C rfl dX6_count_197 (Nat.le_refl _) (Nat.le_refl _) ?_
        unfold spCnt
        rw [en, if_neg (by rw [hI]; decide)]
        exact ⟨rfl, _, _, rfl, rfl, h7, rfl, hu, hA, hT⟩
      · refine aw_tableOut C (tgt := 198) dX6_count_29 (Or.inr (by rw [nI_int (by omega)]; omega)) (by decide) ?_
        refine aw_aload_n C rfl rfl dX6_count_198 ?_
        refine tw_get C 0 (by decide) q1818 rfl dX6_count_199 ?_
        refine aw_iconst C (v := nI 2) (by decide) dX6_count_202 ?_
        refine tw_ld0 C (by omega) dX6_count_203 ?_
        refine aw_top ((hu _)) ?_
        refine aw_iconst C (v := nI 2) (by decide) dX6_count_204 ?_
        refine aw_iremN C (by omega) (by omega) (by omega) dX6_count_205 ?_
        refine aw_iret C rfl dX6_count_206 (Nat.le_refl _) (Nat.le_refl _) ?_
        unfold spCnt
        rw [en, if_neg (by rw [hI]; decide)]
        obtain rfl : k1 = 12 := by omega
        exact ⟨rfl, _, _, rfl, rfl, h7, rfl, hu, hA, hT⟩
    · exact absurd (by decide) g2
set_option maxRecDepth 100000 in
theorem t6_vertex {γ : Gm} (hG : GF γ) (l : Launch) (o sz : Nat) (u : TU) {b : BT} {ks : List BT} {sl : Nat → Option BT} {bf : List Nat} {ea : Int32} {wr : List Nat} (hu : BD u b) (hA : WA b) (hT : TO u ks sl bf ea wr) (v w : Int32) : MX γ l yX6_vertex cX6_vertex 3 (some .int) 4 90 0 0 [.ref o, .int v, .int w] (th o u) sz (PS o sz (spVtx b v w, (b, ks, sl, bf, ea, wr))) NX := by
  refine mx_start hG (by decide) (Nat.le_of_ble_eq_true rfl) (fun x C => ?_)
  have hW := hA.w
  have hN := hW.2.1
  have hC3 := hW.2.2.2.1
  have hL9 := hA.l
  have hF := freeS_lt hN
  refine aw_aload_n C rfl rfl dX6_vertex_0 ?_
  refine aw_aload_n C rfl rfl dX6_vertex_1 ?_
  refine aw_iload_n C rfl rfl dX6_vertex_2 ?_
  refine tw_callR C (t6_isVertex hG l o sz _ hu _ hW.1) q2070 q2072 qs75 q120 q2073 (n9 := 1) (by decide +kernel) rfl (Nat.le_of_ble_eq_true rfl) (Nat.le_of_ble_eq_true rfl) (Nat.zero_le _) (Nat.zero_le _) rfl (Nat.le_of_ble_eq_true rfl) dX6_vertex_3 ?_
  refine aw_bit_ne0 C (tgt := 13) dX6_vertex_6 (by decide) (fun gV => ?_) (fun gV => ?_)
  · obtain ⟨v1, rfl, hv⟩ := isV_ex hN hW.1 gV
    have hV := isV_n hN hv
    have e1 := nt_n (k := v1) (by omega)
    refine aw_iload_n C rfl rfl dX6_vertex_13 ?_
    refine aw_iconst C (v := nI 0) (by decide) dX6_vertex_14 ?_
    refine aw_iconst C (v := nI 5) (by decide) dX6_vertex_15 ?_
    refine tw_callSR C (t6_isIn hG l o sz _ _ _ _) q1905 q1906 q120 q1907 (n9 := 3) (by decide +kernel) rfl (Nat.le_of_ble_eq_true rfl) (Nat.le_of_ble_eq_true rfl) (Nat.zero_le _) (Nat.zero_le _) rfl (Nat.le_of_ble_eq_true rfl) dX6_vertex_16 ?_
    refine aw_bit_eq0 C (tgt := 26) dX6_vertex_19 (by decide) (fun gI => ?_) (fun gI => ?_)
    · refine aw_iconst C (v := nI 2) (by decide) dX6_vertex_26 ?_
      refine tw_put C 7 (by decide) q1825 rfl rfl rfl dX6_vertex_27 ?_
      refine aw_aload_n C rfl rfl dX6_vertex_30 ?_
      refine tw_get C 7 (by decide) q1825 rfl dX6_vertex_31 ?_
      refine aw_top (tsf_at _ _ _) ?_
      refine aw_if_le C (tgt := 39) dX6_vertex_34 (by decide) (fun g1 => ?_) (fun g1 => ?_)
      · exact absurd g1 (by decide)
      · refine aw_iconst C (v := nI 0) (by decide) dX6_vertex_37 ?_
        refine aw_iret C rfl dX6_vertex_38 (Nat.le_refl _) (Nat.le_refl _) ?_
        unfold spVtx
        first
          | (rw [if_pos (show isV b v = false from gV)]; exact ⟨rfl, _, _, rfl, rfl, tsf_at _ _ _, rfl, hu, hA, to_put7 hT _⟩)
          | (rw [if_neg (by rw [hV]; decide), if_pos (show isI w (nI 0) (nI 5) = false from gI)]; exact ⟨rfl, _, _, rfl, rfl, tsf_at _ _ _, rfl, hu, hA, to_put7 hT _⟩)
    · refine aw_iconst C (v := nI 0) (by decide) dX6_vertex_22 ?_
      refine aw_goto C (tgt := 27) dX6_vertex_23 (by decide) ?_
      refine tw_put C 7 (by decide) q1825 rfl rfl rfl dX6_vertex_27 ?_
      refine aw_aload_n C rfl rfl dX6_vertex_30 ?_
      refine tw_get C 7 (by decide) q1825 rfl dX6_vertex_31 ?_
      refine aw_top (tsf_at _ _ _) ?_
      refine aw_if_le C (tgt := 39) dX6_vertex_34 (by decide) (fun g2 => ?_) (fun g2 => ?_)
      · obtain ⟨k1, rfl, hk0, hk1⟩ := isI_ex (lo := 0) (hi := 5) (by decide) (by decide) gI
        have en := nt_n (k := k1) (by omega)
        have hI := isI_n (k := k1) (lo := 0) (hi := 5) (by decide) (by omega) (by omega)
        have hT := to_put7 hT (nI 0)
        have hu := bd_tsf hu 7 (nI 0)
        have h7 : (tsf u 7 (nI 0)).1 7 = nI 0 := tsf_at _ _ _
        have hn9 := hW.n9 (v := v1) (by omega)
        have hng := Nat.and_le_right (n := b (13 + v1)) (m := freeS b)
        refine aw_iload_n C rfl rfl dX6_vertex_39 ?_
        obtain rfl | rfl | rfl | rfl | rfl | hk9 : k1 = 0 ∨ k1 = 1 ∨ k1 = 2 ∨ k1 = 3 ∨ k1 = 4 ∨ 5 ≤ k1 := by omega
        · refine aw_tableIn C (off := 36) (tgt := 76) dX6_vertex_40 (by decide) (by decide) (by decide) (by decide) ?_
          refine aw_aload_n C rfl rfl dX6_vertex_76 ?_
          refine aw_iload_n C rfl rfl dX6_vertex_77 ?_
          refine tw_callR C (t6_colourOf hG l o sz _ hu (by omega)) q1984 q1986 qs58 q120 q1987 (n9 := 1) (by decide +kernel) rfl (Nat.le_of_ble_eq_true rfl) (Nat.le_of_ble_eq_true rfl) (Nat.zero_le _) (Nat.zero_le _) rfl (Nat.le_of_ble_eq_true rfl) dX6_vertex_78 ?_
          refine aw_iret C rfl dX6_vertex_81 (Nat.le_refl _) (Nat.le_refl _) ?_
          unfold spVtx
          rw [e1, if_neg (by rw [hV]; decide), en, if_neg (by rw [hI]; decide)]
          exact ⟨rfl, _, _, rfl, rfl, h7, rfl, hu, hA, hT⟩
        · refine aw_tableIn C (off := 42) (tgt := 82) dX6_vertex_40 (by decide) (by decide) (by decide) (by decide) ?_
          refine aw_aload_n C rfl rfl dX6_vertex_82 ?_
          refine tw_get C 0 (by decide) q1818 rfl dX6_vertex_83 ?_
          refine aw_iconst C (v := nI 4) (by decide) dX6_vertex_86 ?_
          refine aw_iload_n C rfl rfl dX6_vertex_87 ?_
          refine aw_iaddN C dX6_vertex_88 ?_
          refine tw_ld0 C (by omega) dX6_vertex_89 ?_
          refine aw_top ((hu _)) ?_
          refine aw_iret C rfl dX6_vertex_90 (Nat.le_refl _) (Nat.le_refl _) ?_
          unfold spVtx
          rw [e1, if_neg (by rw [hV]; decide), en, if_neg (by rw [hI]; decide)]
          exact ⟨rfl, _, _, rfl, rfl, h7, rfl, hu, hA, hT⟩
        · refine aw_tableIn C (off := 51) (tgt := 91) dX6_vertex_40 (by decide) (by decide) (by decide) (by decide) ?_
          refine aw_aload_n C rfl rfl dX6_vertex_91 ?_
          refine aw_iload_n C rfl rfl dX6_vertex_92 ?_
          refine tw_callR C (t6_colours hG l o sz _ hu hW (by omega)) q1988 q1990 qs59 q120 q1991 (n9 := 1) (by decide +kernel) rfl (Nat.le_of_ble_eq_true rfl) (Nat.le_of_ble_eq_true rfl) (Nat.zero_le _) (Nat.zero_le _) rfl (Nat.le_of_ble_eq_true rfl) dX6_vertex_93 ?_
          refine aw_iret C rfl dX6_vertex_96 (Nat.le_refl _) (Nat.le_refl _) ?_
          unfold spVtx
          rw [e1, if_neg (by rw [hV]; decide), en, if_neg (by rw [hI]; decide)]
          exact ⟨rfl, _, _, rfl, rfl, h7, rfl, hu, hA, hT⟩
        · refine aw_tableIn C (off := 57) (tgt := 97) dX6_vertex_40 (by decide) (by decide) (by decide) (by decide) ?_
          refine aw_aload_n C rfl rfl dX6_vertex_97 ?_
          refine tw_get C 0 (by decide) q1818 rfl dX6_vertex_98 ?_
          refine aw_bipush C (v := nI 13) (by decide) dX6_vertex_101 ?_
          refine aw_iload_n C rfl rfl dX6_vertex_103 ?_
          refine aw_iaddN C dX6_vertex_104 ?_
          refine tw_ld0 C (by omega) dX6_vertex_105 ?_
          refine aw_top ((hu _)) ?_
          refine tw_callSR C (t6_bits hG l o sz _ (by omega)) q2008 q2009 q120 q2010 (n9 := 1) (by decide +kernel) rfl (Nat.le_of_ble_eq_true rfl) (Nat.le_of_ble_eq_true rfl) (Nat.zero_le _) (Nat.zero_le _) rfl (Nat.le_of_ble_eq_true rfl) dX6_vertex_106 ?_
          refine aw_iret C rfl dX6_vertex_109 (Nat.le_refl _) (Nat.le_refl _) ?_
          unfold spVtx
          rw [e1, if_neg (by rw [hV]; decide), en, if_neg (by rw [hI]; decide)]
          exact ⟨rfl, _, _, rfl, rfl, h7, rfl, hu, hA, hT⟩
        · refine aw_tableIn C (off := 70) (tgt := 110) dX6_vertex_40 (by decide) (by decide) (by decide) (by decide) ?_
          refine aw_aload_n C rfl rfl dX6_vertex_110 ?_
          refine aw_iload_n C rfl rfl dX6_vertex_111 ?_
          refine tw_callR C (t6_isFree hG l o sz _ hu (by omega) (hW.o3 (by omega))) q1976 q1978 qs56 q120 q1979 (n9 := 1) (by decide +kernel) rfl (Nat.le_of_ble_eq_true rfl) (Nat.le_of_ble_eq_true rfl) (Nat.zero_le _) (Nat.zero_le _) rfl (Nat.le_of_ble_eq_true rfl) dX6_vertex_112 ?_
          refine aw_bit_eq0 C (tgt := 126) dX6_vertex_115 (by decide) (fun gF => ?_) (fun gF => ?_)
          · refine aw_iconst C (v := -1) (by decide) dX6_vertex_126 ?_
            refine aw_iret C rfl dX6_vertex_127 (Nat.le_refl _) (Nat.le_refl _) ?_
            unfold spVtx
            rw [e1, if_neg (by rw [hV]; decide), en, if_neg (by rw [hI]; decide)]
            refine ⟨rfl, _, _, rfl, rfl, h7, ?_, hu, hA, hT⟩
            simp [vtxN, gF]
          · refine aw_aload_n C rfl rfl dX6_vertex_118 ?_
            refine aw_iload_n C rfl rfl dX6_vertex_119 ?_
            refine tw_callR C (t6_partOf hG l o sz _ hu hA (by omega) gF) q2074 q2076 qs76 q120 q2077 (n9 := 1) (by decide +kernel) rfl (Nat.le_of_ble_eq_true rfl) (Nat.le_of_ble_eq_true rfl) (Nat.zero_le _) (Nat.zero_le _) rfl (Nat.le_of_ble_eq_true rfl) dX6_vertex_120 ?_
            refine aw_goto C (tgt := 127) dX6_vertex_123 (by decide) ?_
            refine aw_iret C rfl dX6_vertex_127 (Nat.le_refl _) (Nat.le_refl _) ?_
            unfold spVtx
            rw [e1, if_neg (by rw [hV]; decide), en, if_neg (by rw [hI]; decide)]
            refine ⟨rfl, _, _, rfl, rfl, h7, ?_, hu, hA, hT⟩
            simp [vtxN, gF]
        · refine aw_tableOut C (tgt := 128) dX6_vertex_40 (Or.inr (by rw [nI_int (by omega)]; omega)) (by decide) ?_
          refine aw_aload_n C rfl rfl dX6_vertex_128 ?_
          refine tw_get C 0 (by decide) q1818 rfl dX6_vertex_129 ?_
          refine aw_bipush C (v := nI 13) (by decide) dX6_vertex_132 ?_
          refine aw_iload_n C rfl rfl dX6_vertex_134 ?_
          refine aw_iaddN C dX6_vertex_135 ?_
          refine tw_ld0 C (by omega) dX6_vertex_136 ?_
          refine aw_top ((hu _)) ?_
          refine aw_aload_n C rfl rfl dX6_vertex_137 ?_
          refine tw_callR C (t6_freeSet hG l o sz _ hu hW) q1992 q1994 qs60 q120 q1995 (n9 := 0) (by decide +kernel) rfl (Nat.le_of_ble_eq_true rfl) (Nat.le_of_ble_eq_true rfl) (Nat.zero_le _) (Nat.zero_le _) rfl (Nat.le_of_ble_eq_true rfl) dX6_vertex_138 ?_
          refine aw_iandN C dX6_vertex_141 ?_
          refine tw_callSR C (t6_bits hG l o sz _ (by omega)) q2008 q2009 q120 q2010 (n9 := 1) (by decide +kernel) rfl (Nat.le_of_ble_eq_true rfl) (Nat.le_of_ble_eq_true rfl) (Nat.zero_le _) (Nat.zero_le _) rfl (Nat.le_of_ble_eq_true rfl) dX6_vertex_142 ?_
          refine aw_iret C rfl dX6_vertex_145 (Nat.le_refl _) (Nat.le_refl _) ?_
          unfold spVtx
          rw [e1, if_neg (by rw [hV]; decide), en, if_neg (by rw [hI]; decide)]
          obtain rfl : k1 = 5 := by omega
          exact ⟨rfl, _, _, rfl, rfl, h7, rfl, hu, hA, hT⟩
      · exact absurd (by decide) g2
  · refine aw_iconst C (v := nI 1) (by decide) dX6_vertex_9 ?_
    refine aw_goto C (tgt := 27) dX6_vertex_10 (by decide) ?_
    refine tw_put C 7 (by decide) q1825 rfl rfl rfl dX6_vertex_27 ?_
    refine aw_aload_n C rfl rfl dX6_vertex_30 ?_
    refine tw_get C 7 (by decide) q1825 rfl dX6_vertex_31 ?_
    refine aw_top (tsf_at _ _ _) ?_
    refine aw_if_le C (tgt := 39) dX6_vertex_34 (by decide) (fun g3 => ?_) (fun g3 => ?_)
    · exact absurd g3 (by decide)
    · refine aw_iconst C (v := nI 0) (by decide) dX6_vertex_37 ?_
      refine aw_iret C rfl dX6_vertex_38 (Nat.le_refl _) (Nat.le_refl _) ?_
      unfold spVtx
      first
        | (rw [if_pos (show isV b v = false from gV)]; exact ⟨rfl, _, _, rfl, rfl, tsf_at _ _ _, rfl, hu, hA, to_put7 hT _⟩)
        | (rw [if_neg (by rw [hV]; decide), if_pos (show isI w (nI 0) (nI 5) = false from gI)]; exact ⟨rfl, _, _, rfl, rfl, tsf_at _ _ _, rfl, hu, hA, to_put7 hT _⟩)
set_option maxRecDepth 100000 in
theorem t6_reason {γ : Gm} (hG : GF γ) (l : Launch) (o sz : Nat) (u : TU) {b : BT} {ks : List BT} {sl : Nat → Option BT} {bf : List Nat} {ea : Int32} {wr : List Nat} (hu : BD u b) (hA : WA b) (hT : TO u ks sl bf ea wr) (v c : Int32) : MX γ l yX6_reason cX6_reason 3 (some .int) 5 112 0 0 [.ref o, .int v, .int c] (th o u) sz (PS o sz (spWhy b v c, (b, ks, sl, bf, ea, wr))) NX := by
  refine mx_start hG (by decide) (Nat.le_of_ble_eq_true rfl) (fun x C => ?_)
  have hW := hA.w
  have hN := hW.2.1
  have hC3 := hW.2.2.2.1
  have hL9 := hA.l
  refine aw_aload_n C rfl rfl dX6_reason_0 ?_
  refine aw_aload_n C rfl rfl dX6_reason_1 ?_
  refine aw_iload_n C rfl rfl dX6_reason_2 ?_
  refine tw_callR C (t6_isVertex hG l o sz _ hu _ hW.1) q2070 q2072 qs75 q120 q2073 (n9 := 1) (by decide +kernel) rfl (Nat.le_of_ble_eq_true rfl) (Nat.le_of_ble_eq_true rfl) (Nat.zero_le _) (Nat.zero_le _) rfl (Nat.le_of_ble_eq_true rfl) dX6_reason_3 ?_
  refine aw_bit_eq0 C (tgt := 21) dX6_reason_6 (by decide) (fun gV => ?_) (fun gV => ?_)
  · refine aw_iconst C (v := nI 1) (by decide) dX6_reason_21 ?_
    refine tw_put C 7 (by decide) q1825 rfl rfl rfl dX6_reason_22 ?_
    refine aw_aload_n C rfl rfl dX6_reason_25 ?_
    refine tw_get C 7 (by decide) q1825 rfl dX6_reason_26 ?_
    refine aw_top (tsf_at _ _ _) ?_
    refine aw_if_le C (tgt := 36) dX6_reason_29 (by decide) (fun g1 => ?_) (fun g1 => ?_)
    · exact absurd g1 (by decide)
    · refine aw_iconst C (v := nI 0) (by decide) dX6_reason_32 ?_
      refine aw_goto C (tgt := 42) dX6_reason_33 (by decide) ?_
      refine aw_iret C rfl dX6_reason_42 (Nat.le_refl _) (Nat.le_refl _) ?_
      unfold spWhy
      first
        | (have z1 : isV b v = false := gV; rw [if_pos (by simp [z1])]; exact ⟨rfl, _, _, rfl, rfl, tsf_at _ _ _, rfl, hu, hA, to_put7 hT _⟩)
        | (have z2 : isC b c = false := gC; rw [if_pos (by simp [z2])]; exact ⟨rfl, _, _, rfl, rfl, tsf_at _ _ _, rfl, hu, hA, to_put7 hT _⟩)
        | (rw [e1, e2, if_neg (by simp [hV, hC])]; exact ⟨rfl, _, _, rfl, rfl, h7, rfl, hu, hA, hT⟩)
  · refine aw_aload_n C rfl rfl dX6_reason_9 ?_
    refine aw_iload_n C rfl rfl dX6_reason_10 ?_
    refine tw_callR C (t6_isColour hG l o sz _ hu _ hW.2.2.1) q2082 q2084 qs77 q120 q2085 (n9 := 1) (by decide +kernel) rfl (Nat.le_of_ble_eq_true rfl) (Nat.le_of_ble_eq_true rfl) (Nat.zero_le _) (Nat.zero_le _) rfl (Nat.le_of_ble_eq_true rfl) dX6_reason_11 ?_
    refine aw_bit_eq0 C (tgt := 21) dX6_reason_14 (by decide) (fun gC => ?_) (fun gC => ?_)
    · refine aw_iconst C (v := nI 1) (by decide) dX6_reason_21 ?_
      refine tw_put C 7 (by decide) q1825 rfl rfl rfl dX6_reason_22 ?_
      refine aw_aload_n C rfl rfl dX6_reason_25 ?_
      refine tw_get C 7 (by decide) q1825 rfl dX6_reason_26 ?_
      refine aw_top (tsf_at _ _ _) ?_
      refine aw_if_le C (tgt := 36) dX6_reason_29 (by decide) (fun g2 => ?_) (fun g2 => ?_)
      · exact absurd g2 (by decide)
      · refine aw_iconst C (v := nI 0) (by decide) dX6_reason_32 ?_
        refine aw_goto C (tgt := 42) dX6_reason_33 (by decide) ?_
        refine aw_iret C rfl dX6_reason_42 (Nat.le_refl _) (Nat.le_refl _) ?_
        unfold spWhy
        first
          | (have z1 : isV b v = false := gV; rw [if_pos (by simp [z1])]; exact ⟨rfl, _, _, rfl, rfl, tsf_at _ _ _, rfl, hu, hA, to_put7 hT _⟩)
          | (have z2 : isC b c = false := gC; rw [if_pos (by simp [z2])]; exact ⟨rfl, _, _, rfl, rfl, tsf_at _ _ _, rfl, hu, hA, to_put7 hT _⟩)
          | (rw [e1, e2, if_neg (by simp [hV, hC])]; exact ⟨rfl, _, _, rfl, rfl, h7, rfl, hu, hA, hT⟩)
    · obtain ⟨v1, rfl, hv⟩ := isV_ex hN hW.1 gV
      have hV := isV_n hN hv
      have e1 := nt_n (k := v1) (by omega)
      obtain ⟨c1, rfl, hc⟩ := isC_ex hC3 hW.2.2.1 gC
      have hC := isC_n hC3 hc
      have e2 := nt_n (k := c1) (by omega)
      refine aw_iconst C (v := nI 0) (by decide) dX6_reason_17 ?_
      refine aw_goto C (tgt := 22) dX6_reason_18 (by decide) ?_
      refine tw_put C 7 (by decide) q1825 rfl rfl rfl dX6_reason_22 ?_
      refine aw_aload_n C rfl rfl dX6_reason_25 ?_
      refine tw_get C 7 (by decide) q1825 rfl dX6_reason_26 ?_
      refine aw_top (tsf_at _ _ _) ?_
      refine aw_if_le C (tgt := 36) dX6_reason_29 (by decide) (fun g3 => ?_) (fun g3 => ?_)
      · have hT := to_put7 hT (nI 0)
        have hu := bd_tsf hu 7 (nI 0)
        have h7 : (tsf u 7 (nI 0)).1 7 = nI 0 := tsf_at _ _ _
        refine aw_aload_n C rfl rfl dX6_reason_36 ?_
        refine aw_iload_n C rfl rfl dX6_reason_37 ?_
        refine aw_iload_n C rfl rfl dX6_reason_38 ?_
        refine tw_callR C (t6_whyNot hG l o sz _ hu hW (by omega) (by omega)) q1972 q1974 qs55 q120 q1975 (n9 := 2) (by decide +kernel) rfl (Nat.le_of_ble_eq_true rfl) (Nat.le_of_ble_eq_true rfl) (Nat.zero_le _) (Nat.zero_le _) rfl (Nat.le_of_ble_eq_true rfl) dX6_reason_39 ?_
        refine aw_iret C rfl dX6_reason_42 (Nat.le_refl _) (Nat.le_refl _) ?_
        unfold spWhy
        first
          | (have z1 : isV b v = false := gV; rw [if_pos (by simp [z1])]; exact ⟨rfl, _, _, rfl, rfl, tsf_at _ _ _, rfl, hu, hA, to_put7 hT _⟩)
          | (have z2 : isC b c = false := gC; rw [if_pos (by simp [z2])]; exact ⟨rfl, _, _, rfl, rfl, tsf_at _ _ _, rfl, hu, hA, to_put7 hT _⟩)
          | (rw [e1, e2, if_neg (by simp [hV, hC])]; exact ⟨rfl, _, _, rfl, rfl, h7, rfl, hu, hA, hT⟩)
      · exact absurd (by decide) g3
set_option maxRecDepth 100000 in
theorem t6_part {γ : Gm} (hG : GF γ) (l : Launch) (o sz : Nat) (u : TU) {b : BT} {ks : List BT} {sl : Nat → Option BT} {bf : List Nat} {ea : Int32} {wr : List Nat} (hu : BD u b) (hA : WA b) (hT : TO u ks sl bf ea wr) (p w : Int32) : MX γ l yX6_part cX6_part 5 (some .int) 24 796 0 0 [.ref o, .int p, .int w] (th o u) sz (PS o sz (spPrt b p w, (b, ks, sl, bf, ea, wr))) NX := by
  refine mx_start hG (by decide) (Nat.le_of_ble_eq_true rfl) (fun x C => ?_)
  have hW := hA.w
  have hN := hW.2.1
  have hC3 := hW.2.2.2.1
  have hL9 := hA.l
  have hF := freeS_lt hN
  have key : ∀ S, prtS b p = S → S < 512 → (¬ S = 0 → Vd b S) → AW γ l x (QX γ x 0 0 (PS o sz (spPrt b p w, (b, ks, sl, bf, ea, wr))) NX) 5 (th o u) sz 0 0 13 [(0, .ref o), (2, .int w)] [.int (nI S)] := by
    intro S hS hS9 hV
    refine aw_istore_n C rfl (by decide) rfl dX6_part_13 ?_
    refine aw_aload_n C rfl rfl dX6_part_14 ?_
    refine aw_iload_n C rfl rfl dX6_part_15 ?_
    refine aw_ifN_ne C (tgt := 23) (by omega) dX6_part_16 (by decide) (fun gS => ?_) (fun gS => ?_)
    · have hV := hV gS
      have hl9 := (low_bit S hS9 (by omega)).2.1
      refine aw_iload_n C rfl rfl dX6_part_23 ?_
      refine aw_iconst C (v := nI 0) (by decide) dX6_part_24 ?_
      refine aw_bipush C (v := nI 7) (by decide) dX6_part_25 ?_
      refine tw_callSR C (t6_isIn hG l o sz _ _ _ _) q1905 q1906 q120 q1907 (n9 := 3) (by decide +kernel) rfl (Nat.le_of_ble_eq_true rfl) (Nat.le_of_ble_eq_true rfl) (Nat.zero_le _) (Nat.zero_le _) rfl (Nat.le_of_ble_eq_true rfl) dX6_part_27 ?_
      refine aw_bit_eq0 C (tgt := 37) dX6_part_30 (by decide) (fun gI => ?_) (fun gI => ?_)
      · refine aw_iconst C (v := nI 2) (by decide) dX6_part_37 ?_
        refine tw_put C 7 (by decide) q1825 rfl rfl rfl dX6_part_38 ?_
        refine aw_aload_n C rfl rfl dX6_part_41 ?_
        refine tw_get C 7 (by decide) q1825 rfl dX6_part_42 ?_
        refine aw_top (tsf_at _ _ _) ?_
        refine aw_if_le C (tgt := 50) dX6_part_45 (by decide) (fun g1 => ?_) (fun g1 => ?_)
        · exact absurd g1 (by decide)
        · refine aw_iconst C (v := nI 0) (by decide) dX6_part_48 ?_
          refine aw_iret C rfl dX6_part_49 (Nat.le_refl _) (Nat.le_refl _) ?_
          unfold spPrt
          first
            | (rw [hS, if_pos gS]; exact ⟨rfl, _, _, rfl, rfl, tsf_at _ _ _, rfl, hu, hA, to_put7 hT _⟩)
            | (rw [hS, if_neg gS, if_pos (show isI w (nI 0) (nI 7) = false from gI)]; exact ⟨rfl, _, _, rfl, rfl, tsf_at _ _ _, rfl, hu, hA, to_put7 hT _⟩)
      · refine aw_iconst C (v := nI 0) (by decide) dX6_part_33 ?_
        refine aw_goto C (tgt := 38) dX6_part_34 (by decide) ?_
        refine tw_put C 7 (by decide) q1825 rfl rfl rfl dX6_part_38 ?_
        refine aw_aload_n C rfl rfl dX6_part_41 ?_
        refine tw_get C 7 (by decide) q1825 rfl dX6_part_42 ?_
        refine aw_top (tsf_at _ _ _) ?_
        refine aw_if_le C (tgt := 50) dX6_part_45 (by decide) (fun g2 => ?_) (fun g2 => ?_)
        · obtain ⟨k1, rfl, hk0, hk1⟩ := isI_ex (lo := 0) (hi := 7) (by decide) (by decide) gI
          have en := nt_n (k := k1) (by omega)
          have hI := isI_n (k := k1) (lo := 0) (hi := 7) (by decide) (by omega) (by omega)
          have hT := to_put7 hT (nI 0)
          have hu := bd_tsf hu 7 (nI 0)
          have h7 : (tsf u 7 (nI 0)).1 7 = nI 0 := tsf_at _ _ _
          refine aw_aload_n C rfl rfl dX6_part_50 ?_
          refine aw_iload_n C rfl rfl dX6_part_51 ?_
          refine tw_callSR C (t6_lowest hG l o sz _ (by omega) (by omega)) q2019 q2020 q120 q2021 (n9 := 1) (by decide +kernel) rfl (Nat.le_of_ble_eq_true rfl) (Nat.le_of_ble_eq_true rfl) (Nat.zero_le _) (Nat.zero_le _) rfl (Nat.le_of_ble_eq_true rfl) dX6_part_52 ?_
          refine tw_callR C (t6_banOf hG l o sz _ hu (by omega)) q2000 q2002 qs62 q120 q2003 (n9 := 1) (by decide +kernel) rfl (Nat.le_of_ble_eq_true rfl) (Nat.le_of_ble_eq_true rfl) (Nat.zero_le _) (Nat.zero_le _) rfl (Nat.le_of_ble_eq_true rfl) dX6_part_55 ?_
          refine aw_istore C (by decide) rfl dX6_part_58 ?_
          refine aw_iload_n C rfl rfl dX6_part_60 ?_
          obtain rfl | rfl | rfl | rfl | rfl | hk9 : k1 = 0 ∨ k1 = 1 ∨ k1 = 2 ∨ k1 = 3 ∨ k1 = 4 ∨ 5 ≤ k1 := by omega
          · refine aw_tableIn C (off := 35) (tgt := 96) dX6_part_61 (by decide) (by decide) (by decide) (by decide) ?_
            refine aw_iload_n C rfl rfl dX6_part_96 ?_
            refine tw_callSR C (t6_bits hG l o sz _ (by omega)) q2008 q2009 q120 q2010 (n9 := 1) (by decide +kernel) rfl (Nat.le_of_ble_eq_true rfl) (Nat.le_of_ble_eq_true rfl) (Nat.zero_le _) (Nat.zero_le _) rfl (Nat.le_of_ble_eq_true rfl) dX6_part_97 ?_
            refine aw_iret C rfl dX6_part_100 (Nat.le_refl _) (Nat.le_refl _) ?_
            unfold spPrt
            rw [hS, if_neg gS, en, if_neg (by rw [hI]; decide)]
            exact ⟨rfl, _, _, rfl, rfl, h7, rfl, hu, hA, hT⟩
          · refine aw_tableIn C (off := 40) (tgt := 101) dX6_part_61 (by decide) (by decide) (by decide) (by decide) ?_
            refine aw_iload_n C rfl rfl dX6_part_101 ?_
            refine tw_callSR C (t6_lowest hG l o sz _ (by omega) (by omega)) q2019 q2020 q120 q2021 (n9 := 1) (by decide +kernel) rfl (Nat.le_of_ble_eq_true rfl) (Nat.le_of_ble_eq_true rfl) (Nat.zero_le _) (Nat.zero_le _) rfl (Nat.le_of_ble_eq_true rfl) dX6_part_102 ?_
            refine aw_iret C rfl dX6_part_105 (Nat.le_refl _) (Nat.le_refl _) ?_
            unfold spPrt
            rw [hS, if_neg gS, en, if_neg (by rw [hI]; decide)]
            exact ⟨rfl, _, _, rfl, rfl, h7, rfl, hu, hA, hT⟩
          · refine aw_tableIn C (off := 45) (tgt := 106) dX6_part_61 (by decide) (by decide) (by decide) (by decide) ?_
            refine aw_iload C rfl dX6_part_106 ?_
            refine aw_iret C rfl dX6_part_108 (Nat.le_refl _) (Nat.le_refl _) ?_
            unfold spPrt
            rw [hS, if_neg gS, en, if_neg (by rw [hI]; decide)]
            exact ⟨rfl, _, _, rfl, rfl, h7, rfl, hu, hA, hT⟩
          · refine aw_tableIn C (off := 48) (tgt := 109) dX6_part_61 (by decide) (by decide) (by decide) (by decide) ?_
            refine aw_aload_n C rfl rfl dX6_part_109 ?_
            refine aw_iload_n C rfl rfl dX6_part_110 ?_
            refine tw_callR C (t6_edgesIn hG l o sz _ hu hW (by omega)) q2050 q2052 qs71 q120 q2053 (n9 := 1) (by decide +kernel) rfl (Nat.le_of_ble_eq_true rfl) (Nat.le_of_ble_eq_true rfl) (Nat.zero_le _) (Nat.zero_le _) rfl (Nat.le_of_ble_eq_true rfl) dX6_part_111 ?_
            refine aw_iret C rfl dX6_part_114 (Nat.le_refl _) (Nat.le_refl _) ?_
            unfold spPrt
            rw [hS, if_neg gS, en, if_neg (by rw [hI]; decide)]
            exact ⟨rfl, _, _, rfl, rfl, h7, rfl, hu, hA, hT⟩
          · refine aw_tableIn C (off := 54) (tgt := 115) dX6_part_61 (by decide) (by decide) (by decide) (by decide) ?_
            refine aw_aload_n C rfl rfl dX6_part_115 ?_
            refine aw_iload_n C rfl rfl dX6_part_116 ?_
            refine tw_callR C (t6_pairsIn hG l o sz _ hu hW (by omega)) q2094 q2096 qs79 q120 q2097 (n9 := 1) (by decide +kernel) rfl (Nat.le_of_ble_eq_true rfl) (Nat.le_of_ble_eq_true rfl) (Nat.zero_le _) (Nat.zero_le _) rfl (Nat.le_of_ble_eq_true rfl) dX6_part_117 ?_
            refine aw_iret C rfl dX6_part_120 (Nat.le_refl _) (Nat.le_refl _) ?_
            unfold spPrt
            rw [hS, if_neg gS, en, if_neg (by rw [hI]; decide)]
            exact ⟨rfl, _, _, rfl, rfl, h7, rfl, hu, hA, hT⟩
          · refine aw_tableOut C (tgt := 121) dX6_part_61 (Or.inr (by rw [nI_int (by omega)]; omega)) (by decide) ?_
            refine aw_aload_n C rfl rfl dX6_part_121 ?_
            refine aw_iload_n C rfl rfl dX6_part_122 ?_
            refine aw_iload C rfl dX6_part_123 ?_
            refine aw_iload_n C rfl rfl dX6_part_125 ?_
            refine tw_callI C (t6_ofPart hG l o sz _ hu hA (w := k1) hV (by omega) (hW.2.2.2.2.2.2.2 _ hl9) (by omega)) q2098 q2100 qs80 q120 q2101 (n9 := 3) (by decide +kernel) rfl (Nat.le_of_ble_eq_true rfl) (Nat.le_of_ble_eq_true rfl) (Nat.zero_le _) (Nat.zero_le _) rfl (Nat.le_of_ble_eq_true rfl) dX6_part_126 (fun r u2 hp => ?_)
            obtain ⟨rfl, hj2, hu⟩ := hp
            have hT := hT.j2 hj2.two
            have h7 := hj2.th.trans h7
            refine aw_iret C rfl dX6_part_129 (Nat.le_refl _) (Nat.le_refl _) ?_
            unfold spPrt
            rw [hS, if_neg gS, en, if_neg (by rw [hI]; decide)]
            obtain rfl | rfl | rfl : k1 = 5 ∨ k1 = 6 ∨ k1 = 7 := by omega
            all_goals exact ⟨rfl, _, _, rfl, rfl, h7, rfl, hu, hA, hT⟩
        · exact absurd (by decide) g2
    · refine aw_iconst C (v := nI 1) (by decide) dX6_part_19 ?_
      refine aw_goto C (tgt := 38) dX6_part_20 (by decide) ?_
      refine tw_put C 7 (by decide) q1825 rfl rfl rfl dX6_part_38 ?_
      refine aw_aload_n C rfl rfl dX6_part_41 ?_
      refine tw_get C 7 (by decide) q1825 rfl dX6_part_42 ?_
      refine aw_top (tsf_at _ _ _) ?_
      refine aw_if_le C (tgt := 50) dX6_part_45 (by decide) (fun g3 => ?_) (fun g3 => ?_)
      · exact absurd g3 (by decide)
      · refine aw_iconst C (v := nI 0) (by decide) dX6_part_48 ?_
        refine aw_iret C rfl dX6_part_49 (Nat.le_refl _) (Nat.le_refl _) ?_
        unfold spPrt
        first
          | (rw [hS, if_pos gS]; exact ⟨rfl, _, _, rfl, rfl, tsf_at _ _ _, rfl, hu, hA, to_put7 hT _⟩)
          | (rw [hS, if_neg gS, if_pos (show isI w (nI 0) (nI 7) = false from gI)]; exact ⟨rfl, _, _, rfl, rfl, tsf_at _ _ _, rfl, hu, hA, to_put7 hT _⟩)
  refine aw_iload_n C rfl rfl dX6_part_0 ?_
  refine aw_if_ge C (tgt := 8) dX6_part_1 (by decide) (fun gp => ?_) (fun gp => ?_)
  · obtain ⟨p1, rfl, hp1⟩ := nneg_ex gp
    have hpS : prtS b (nI p1) = partS b p1 := by unfold prtS; rw [if_neg (nn_lt hp1), nt_n hp1]
    refine aw_aload_n C rfl rfl dX6_part_8 ?_
    refine aw_iload_n C rfl rfl dX6_part_9 ?_
    refine tw_callR C (t6_partSet hG l o sz _ hu hW (by omega)) q2090 q2092 qs78 q120 q2093 (n9 := 1) (by decide +kernel) rfl (Nat.le_of_ble_eq_true rfl) (Nat.le_of_ble_eq_true rfl) (Nat.zero_le _) (Nat.zero_le _) rfl (Nat.le_of_ble_eq_true rfl) dX6_part_10 ?_
    exact aw_lo (key _ hpS (partS_lt hN _) (fun h => (partS_form hN h).1)) ⟨rfl, rfl, trivial⟩
  · refine aw_iconst C (v := nI 0) (by decide) dX6_part_4 ?_
    refine aw_goto C (tgt := 13) dX6_part_5 (by decide) ?_
    exact aw_lo (key 0 (by unfold prtS; rw [if_pos (Int32.not_le.mp gp)]) (by decide) (fun h => absurd rfl h)) ⟨rfl, rfl, trivial⟩
set_option maxRecDepth 100000 in
theorem t6_value {γ : Gm} (hG : GF γ) (l : Launch) (o sz : Nat) (u : TU) {b : BT} {ks : List BT} {sl : Nat → Option BT} {bf : List Nat} {ea : Int32} {wr : List Nat} (hu : BD u b) (hA : WA b) (hT : TO u ks sl bf ea wr)  : MX γ l yX6_value cX6_value 1 (some .int) 25 819 0 0 [.ref o] (th o u) sz (PS o sz (spVal b, (b, ks, sl, bf, ea, wr))) NX := by
  refine mx_start hG (by decide) (Nat.le_of_ble_eq_true rfl) (fun x C => ?_)
  have hW := hA.w
  have hN := hW.2.1
  have hC3 := hW.2.2.2.1
  have hL9 := hA.l
  refine aw_aload_n C rfl rfl dX6_value_0 ?_
  refine aw_iconst C (v := nI 0) (by decide) dX6_value_1 ?_
  refine tw_put C 7 (by decide) q1825 rfl rfl rfl dX6_value_2 ?_
  have hT := to_put7 hT (nI 0)
  have hu := bd_tsf hu 7 (nI 0)
  have h7 : (tsf u 7 (nI 0)).1 7 = nI 0 := tsf_at _ _ _
  refine aw_aload_n C rfl rfl dX6_value_5 ?_
  refine tw_callV C (t6_forgets hG l o sz _) q2102 q2104 qs81 q120 q2105 (n9 := 0) (by decide +kernel) rfl (Nat.le_of_ble_eq_true rfl) (Nat.le_of_ble_eq_true rfl) (Nat.zero_le _) (Nat.zero_le _) rfl (Nat.le_of_ble_eq_true rfl) dX6_value_6 (fun u2 hp => ?_)
  obtain ⟨g, hgu, hg⟩ := hp
  have hkt : KT u2 b := kt_none (by rw [hgu]; exact hg) hA.p
  have hu : BD u2 b := bd_of hu (by rw [hgu]; rfl)
  have hj3 := fg_tj hgu
  have hT := hT.j2 hj3.two
  have h7 := hj3.th.trans h7
  refine aw_aload_n C rfl rfl dX6_value_9 ?_
  refine tw_callI C (t6_valueNow hG l o sz _ hu hA hkt) q2122 q2124 qs85 q120 q2125 (n9 := 0) (by decide +kernel) rfl (Nat.le_of_ble_eq_true rfl) (Nat.le_of_ble_eq_true rfl) (Nat.zero_le _) (Nat.zero_le _) rfl (Nat.le_of_ble_eq_true rfl) dX6_value_10 (fun r u2 hp => ?_)
  obtain ⟨rfl, hj2, hu, hkt⟩ := hp
  have hT := hT.j2 hj2.two
  have h7 := hj2.th.trans h7
  have hbb := bb_gb hA.s hW
  have hbb1 := hbb.1
  have hvn : (BB b).1 ^^^ b 2 % 2 < 32 := xor_lt32 hbb1 (by omega)
  refine aw_iret C rfl dX6_value_13 (Nat.le_refl _) (Nat.le_refl _) ?_
  unfold spVal
  exact ⟨rfl, _, _, rfl, rfl, h7, rfl, hu, hA, hT⟩
set_option maxRecDepth 100000 in
theorem t6_longest {γ : Gm} (hG : GF γ) (l : Launch) (o sz : Nat) (u : TU) {b : BT} {ks : List BT} {sl : Nat → Option BT} {bf : List Nat} {ea : Int32} {wr : List Nat} (hu : BD u b) (hA : WA b) (hT : TO u ks sl bf ea wr)  : MX γ l yX6_longest cX6_longest 1 (some .int) 24 799 0 0 [.ref o] (th o u) sz (PS o sz (spLong b, (b, ks, sl, bf, ea, wr))) NX := by
  refine mx_start hG (by decide) (Nat.le_of_ble_eq_true rfl) (fun x C => ?_)
  have hW := hA.w
  have hN := hW.2.1
  have hC3 := hW.2.2.2.1
  have hL9 := hA.l
  refine aw_aload_n C rfl rfl dX6_longest_0 ?_
  refine aw_iconst C (v := nI 0) (by decide) dX6_longest_1 ?_
  refine tw_put C 7 (by decide) q1825 rfl rfl rfl dX6_longest_2 ?_
  have hT := to_put7 hT (nI 0)
  have hu := bd_tsf hu 7 (nI 0)
  have h7 : (tsf u 7 (nI 0)).1 7 = nI 0 := tsf_at _ _ _
  refine aw_aload_n C rfl rfl dX6_longest_5 ?_
  refine tw_callV C (t6_forgets hG l o sz _) q2102 q2104 qs81 q120 q2105 (n9 := 0) (by decide +kernel) rfl (Nat.le_of_ble_eq_true rfl) (Nat.le_of_ble_eq_true rfl) (Nat.zero_le _) (Nat.zero_le _) rfl (Nat.le_of_ble_eq_true rfl) dX6_longest_6 (fun u2 hp => ?_)
  obtain ⟨g, hgu, hg⟩ := hp
  have hkt : KT u2 b := kt_none (by rw [hgu]; exact hg) hA.p
  have hu : BD u2 b := bd_of hu (by rw [hgu]; rfl)
  have hj3 := fg_tj hgu
  have hT := hT.j2 hj3.two
  have h7 := hj3.th.trans h7
  refine aw_aload_n C rfl rfl dX6_longest_9 ?_
  refine tw_callI C (t6_board hG l o sz _ hu hA hkt) q2126 q2128 qs86 q120 q2129 (n9 := 0) (by decide +kernel) rfl (Nat.le_of_ble_eq_true rfl) (Nat.le_of_ble_eq_true rfl) (Nat.zero_le _) (Nat.zero_le _) rfl (Nat.le_of_ble_eq_true rfl) dX6_longest_10 (fun r u2 hp => ?_)
  obtain ⟨rfl, hk2, hkt⟩ := hp
  have hu := hk2.bd hu
  have hj2 := hk2.tj
  have hT := hT.j2 hj2.two
  have h7 := hj2.th.trans h7
  have hbb := bb_gb hA.s hW
  have hbb1 := hbb.1
  have hbb2 := hbb.2.1
  have hbb3 := hbb.2.2
  have hbl := enc_lt (i := BB b) hbb1 (by omega) (by omega)
  refine aw_iconst C (v := nI 5) (by decide) dX6_longest_13 ?_
  refine aw_ishrN C (by omega) (by omega) dX6_longest_14 ?_
  refine aw_bipush C (v := nI 31) (by decide) dX6_longest_15 ?_
  refine aw_iandN C dX6_longest_17 ?_
  refine aw_top (show _ = nI (BB b).2.1 from by rw [enc_l hbb1 (by omega)]) ?_
  refine aw_aload_n C rfl rfl dX6_longest_18 ?_
  refine tw_get C 0 (by decide) q1818 rfl dX6_longest_19 ?_
  refine aw_iconst C (v := nI 2) (by decide) dX6_longest_22 ?_
  refine tw_ld0 C (by omega) dX6_longest_23 ?_
  refine aw_top ((hu _)) ?_
  refine aw_iaddN C dX6_longest_24 ?_
  refine aw_iret C rfl dX6_longest_25 (Nat.le_refl _) (Nat.le_refl _) ?_
  unfold spLong
  exact ⟨rfl, _, _, rfl, rfl, h7, rfl, hu, hA, hT⟩
set_option maxRecDepth 100000 in
theorem t6_shortest {γ : Gm} (hG : GF γ) (l : Launch) (o sz : Nat) (u : TU) {b : BT} {ks : List BT} {sl : Nat → Option BT} {bf : List Nat} {ea : Int32} {wr : List Nat} (hu : BD u b) (hA : WA b) (hT : TO u ks sl bf ea wr)  : MX γ l yX6_shortest cX6_shortest 1 (some .int) 24 799 0 0 [.ref o] (th o u) sz (PS o sz (spShort b, (b, ks, sl, bf, ea, wr))) NX := by
  refine mx_start hG (by decide) (Nat.le_of_ble_eq_true rfl) (fun x C => ?_)
  have hW := hA.w
  have hN := hW.2.1
  have hC3 := hW.2.2.2.1
  have hL9 := hA.l
  refine aw_aload_n C rfl rfl dX6_shortest_0 ?_
  refine aw_iconst C (v := nI 0) (by decide) dX6_shortest_1 ?_
  refine tw_put C 7 (by decide) q1825 rfl rfl rfl dX6_shortest_2 ?_
  have hT := to_put7 hT (nI 0)
  have hu := bd_tsf hu 7 (nI 0)
  have h7 : (tsf u 7 (nI 0)).1 7 = nI 0 := tsf_at _ _ _
  refine aw_aload_n C rfl rfl dX6_shortest_5 ?_
  refine tw_callV C (t6_forgets hG l o sz _) q2102 q2104 qs81 q120 q2105 (n9 := 0) (by decide +kernel) rfl (Nat.le_of_ble_eq_true rfl) (Nat.le_of_ble_eq_true rfl) (Nat.zero_le _) (Nat.zero_le _) rfl (Nat.le_of_ble_eq_true rfl) dX6_shortest_6 (fun u2 hp => ?_)
  obtain ⟨g, hgu, hg⟩ := hp
  have hkt : KT u2 b := kt_none (by rw [hgu]; exact hg) hA.p
  have hu : BD u2 b := bd_of hu (by rw [hgu]; rfl)
  have hj3 := fg_tj hgu
  have hT := hT.j2 hj3.two
  have h7 := hj3.th.trans h7
  refine aw_aload_n C rfl rfl dX6_shortest_9 ?_
  refine tw_callI C (t6_board hG l o sz _ hu hA hkt) q2126 q2128 qs86 q120 q2129 (n9 := 0) (by decide +kernel) rfl (Nat.le_of_ble_eq_true rfl) (Nat.le_of_ble_eq_true rfl) (Nat.zero_le _) (Nat.zero_le _) rfl (Nat.le_of_ble_eq_true rfl) dX6_shortest_10 (fun r u2 hp => ?_)
  obtain ⟨rfl, hk2, hkt⟩ := hp
  have hu := hk2.bd hu
  have hj2 := hk2.tj
  have hT := hT.j2 hj2.two
  have h7 := hj2.th.trans h7
  have hbb := bb_gb hA.s hW
  have hbb1 := hbb.1
  have hbb2 := hbb.2.1
  have hbb3 := hbb.2.2
  have hbl := enc_lt (i := BB b) hbb1 (by omega) (by omega)
  refine aw_bipush C (v := nI 10) (by decide) dX6_shortest_13 ?_
  refine aw_ishrN C (by omega) (by omega) dX6_shortest_15 ?_
  refine aw_top (show _ = nI (BB b).2.2 from by rw [enc_s hbb1 (by omega)]) ?_
  refine aw_aload_n C rfl rfl dX6_shortest_16 ?_
  refine tw_get C 0 (by decide) q1818 rfl dX6_shortest_17 ?_
  refine aw_iconst C (v := nI 2) (by decide) dX6_shortest_20 ?_
  refine tw_ld0 C (by omega) dX6_shortest_21 ?_
  refine aw_top ((hu _)) ?_
  refine aw_iaddN C dX6_shortest_22 ?_
  refine aw_iret C rfl dX6_shortest_23 (Nat.le_refl _) (Nat.le_refl _) ?_
  unfold spShort
  exact ⟨rfl, _, _, rfl, rfl, h7, rfl, hu, hA, hT⟩
set_option maxRecDepth 100000 in
theorem t6_bestMove {γ : Gm} (hG : GF γ) (l : Launch) (o sz : Nat) (u : TU) {b : BT} {ks : List BT} {sl : Nat → Option BT} {bf : List Nat} {ea : Int32} {wr : List Nat} (hu : BD u b) (hA : WA b) (hT : TO u ks sl bf ea wr)  : MX γ l yX6_bestMove cX6_bestMove 1 (some .int) 27 874 0 0 [.ref o] (th o u) sz (PS o sz (spBest b, (b, ks, sl, bf, ea, wr))) NX := by
  refine mx_start hG (by decide) (Nat.le_of_ble_eq_true rfl) (fun x C => ?_)
  have hW := hA.w
  have hN := hW.2.1
  have hC3 := hW.2.2.2.1
  have hL9 := hA.l
  refine aw_aload_n C rfl rfl dX6_bestMove_0 ?_
  refine aw_aload_n C rfl rfl dX6_bestMove_1 ?_
  refine tw_callR C (t6_isOver hG l o sz _ hu hW hL9) q2054 q2056 qs72 q120 q2057 (n9 := 0) (by decide +kernel) rfl (Nat.le_of_ble_eq_true rfl) (Nat.le_of_ble_eq_true rfl) (Nat.zero_le _) (Nat.zero_le _) rfl (Nat.le_of_ble_eq_true rfl) dX6_bestMove_2 ?_
  refine aw_bit_eq0 C (tgt := 12) dX6_bestMove_5 (by decide) (fun gO => ?_) (fun gO => ?_)
  · refine aw_iconst C (v := nI 0) (by decide) dX6_bestMove_12 ?_
    refine tw_put C 7 (by decide) q1825 rfl rfl rfl dX6_bestMove_13 ?_
    refine aw_aload_n C rfl rfl dX6_bestMove_16 ?_
    refine tw_get C 7 (by decide) q1825 rfl dX6_bestMove_17 ?_
    refine aw_top (tsf_at _ _ _) ?_
    refine aw_if_le C (tgt := 25) dX6_bestMove_20 (by decide) (fun g1 => ?_) (fun g1 => ?_)
    · have hT := to_put7 hT (nI 0)
      have hu := bd_tsf hu 7 (nI 0)
      have h7 : (tsf u 7 (nI 0)).1 7 = nI 0 := tsf_at _ _ _
      refine aw_aload_n C rfl rfl dX6_bestMove_25 ?_
      refine tw_callV C (t6_forgets hG l o sz _) q2102 q2104 qs81 q120 q2105 (n9 := 0) (by decide +kernel) rfl (Nat.le_of_ble_eq_true rfl) (Nat.le_of_ble_eq_true rfl) (Nat.zero_le _) (Nat.zero_le _) rfl (Nat.le_of_ble_eq_true rfl) dX6_bestMove_26 (fun u2 hp => ?_)
      obtain ⟨g, hgu, hg⟩ := hp
      have hkt : KT u2 b := kt_none (by rw [hgu]; exact hg) hA.p
      have hu : BD u2 b := bd_of hu (by rw [hgu]; rfl)
      have hj3 := fg_tj hgu
      have hT := hT.j2 hj3.two
      have h7 := hj3.th.trans h7
      refine aw_aload_n C rfl rfl dX6_bestMove_29 ?_
      refine tw_callI C (t6_best hG l o sz _ hu hA hkt) q2158 q2160 qs90 q120 q2161 (n9 := 0) (by decide +kernel) rfl (Nat.le_of_ble_eq_true rfl) (Nat.le_of_ble_eq_true rfl) (Nat.zero_le _) (Nat.zero_le _) rfl (Nat.le_of_ble_eq_true rfl) dX6_bestMove_30 (fun r u2 hp => ?_)
      obtain ⟨rfl, hj2, hu, hkt⟩ := hp
      have hT := hT.j2 hj2.two
      have h7 := hj2.th.trans h7
      refine aw_iret C rfl dX6_bestMove_33 (Nat.le_refl _) (Nat.le_refl _) ?_
      unfold spBest
      rw [if_neg (by unfold over; rw [gO]; decide)]
      exact ⟨rfl, _, _, rfl, rfl, h7, rfl, hu, hA, hT⟩
    · exact absurd (by decide) g1
  · refine aw_iconst C (v := nI 1) (by decide) dX6_bestMove_8 ?_
    refine aw_goto C (tgt := 13) dX6_bestMove_9 (by decide) ?_
    refine tw_put C 7 (by decide) q1825 rfl rfl rfl dX6_bestMove_13 ?_
    refine aw_aload_n C rfl rfl dX6_bestMove_16 ?_
    refine tw_get C 7 (by decide) q1825 rfl dX6_bestMove_17 ?_
    refine aw_top (tsf_at _ _ _) ?_
    refine aw_if_le C (tgt := 25) dX6_bestMove_20 (by decide) (fun g2 => ?_) (fun g2 => ?_)
    · exact absurd g2 (by decide)
    · refine aw_iconst C (v := nI 0) (by decide) dX6_bestMove_23 ?_
      refine aw_iret C rfl dX6_bestMove_24 (Nat.le_refl _) (Nat.le_refl _) ?_
      unfold spBest
      first
        | (rw [if_pos (show over b = true from gO)]; exact ⟨rfl, _, _, rfl, rfl, tsf_at _ _ _, rfl, hu, hA, to_put7 hT _⟩)
set_option maxRecDepth 100000 in
theorem t6_winningColours {γ : Gm} (hG : GF γ) (l : Launch) (o sz : Nat) (u : TU) {b : BT} {ks : List BT} {sl : Nat → Option BT} {bf : List Nat} {ea : Int32} {wr : List Nat} (hu : BD u b) (hA : WA b) (hT : TO u ks sl bf ea wr) (v : Int32) : MX γ l yX6_winningColours cX6_winningColours 2 (some .int) 26 848 0 0 [.ref o, .int v] (th o u) sz (PS o sz (spWc b v, (b, ks, sl, bf, ea, wr))) NX := by
  refine mx_start hG (by decide) (Nat.le_of_ble_eq_true rfl) (fun x C => ?_)
  have hW := hA.w
  have hN := hW.2.1
  have hC3 := hW.2.2.2.1
  have hL9 := hA.l
  refine aw_aload_n C rfl rfl dX6_winningColours_0 ?_
  refine aw_aload_n C rfl rfl dX6_winningColours_1 ?_
  refine aw_iload_n C rfl rfl dX6_winningColours_2 ?_
  refine tw_callR C (t6_isVertex hG l o sz _ hu _ hW.1) q2070 q2072 qs75 q120 q2073 (n9 := 1) (by decide +kernel) rfl (Nat.le_of_ble_eq_true rfl) (Nat.le_of_ble_eq_true rfl) (Nat.zero_le _) (Nat.zero_le _) rfl (Nat.le_of_ble_eq_true rfl) dX6_winningColours_3 ?_
  refine aw_bit_eq0 C (tgt := 13) dX6_winningColours_6 (by decide) (fun gV => ?_) (fun gV => ?_)
  · refine aw_iconst C (v := nI 1) (by decide) dX6_winningColours_13 ?_
    refine tw_put C 7 (by decide) q1825 rfl rfl rfl dX6_winningColours_14 ?_
    refine aw_aload_n C rfl rfl dX6_winningColours_17 ?_
    refine tw_get C 7 (by decide) q1825 rfl dX6_winningColours_18 ?_
    refine aw_top (tsf_at _ _ _) ?_
    refine aw_if_le C (tgt := 26) dX6_winningColours_21 (by decide) (fun g1 => ?_) (fun g1 => ?_)
    · exact absurd g1 (by decide)
    · refine aw_iconst C (v := nI 0) (by decide) dX6_winningColours_24 ?_
      refine aw_iret C rfl dX6_winningColours_25 (Nat.le_refl _) (Nat.le_refl _) ?_
      unfold spWc
      first
        | (rw [if_pos (show isV b v = false from gV)]; exact ⟨rfl, _, _, rfl, rfl, tsf_at _ _ _, rfl, hu, hA, to_put7 hT _⟩)
  · refine aw_iconst C (v := nI 0) (by decide) dX6_winningColours_9 ?_
    refine aw_goto C (tgt := 14) dX6_winningColours_10 (by decide) ?_
    refine tw_put C 7 (by decide) q1825 rfl rfl rfl dX6_winningColours_14 ?_
    refine aw_aload_n C rfl rfl dX6_winningColours_17 ?_
    refine tw_get C 7 (by decide) q1825 rfl dX6_winningColours_18 ?_
    refine aw_top (tsf_at _ _ _) ?_
    refine aw_if_le C (tgt := 26) dX6_winningColours_21 (by decide) (fun g2 => ?_) (fun g2 => ?_)
    · obtain ⟨v1, rfl, hv⟩ := isV_ex hN hW.1 gV
      have hV := isV_n hN hv
      have e1 := nt_n (k := v1) (by omega)
      have hT := to_put7 hT (nI 0)
      have hu := bd_tsf hu 7 (nI 0)
      have h7 : (tsf u 7 (nI 0)).1 7 = nI 0 := tsf_at _ _ _
      refine aw_aload_n C rfl rfl dX6_winningColours_26 ?_
      refine tw_callV C (t6_forgets hG l o sz _) q2102 q2104 qs81 q120 q2105 (n9 := 0) (by decide +kernel) rfl (Nat.le_of_ble_eq_true rfl) (Nat.le_of_ble_eq_true rfl) (Nat.zero_le _) (Nat.zero_le _) rfl (Nat.le_of_ble_eq_true rfl) dX6_winningColours_27 (fun u2 hp => ?_)
      obtain ⟨g, hgu, hg⟩ := hp
      have hkt : KT u2 b := kt_none (by rw [hgu]; exact hg) hA.p
      have hu : BD u2 b := bd_of hu (by rw [hgu]; rfl)
      have hj3 := fg_tj hgu
      have hT := hT.j2 hj3.two
      have h7 := hj3.th.trans h7
      refine aw_aload_n C rfl rfl dX6_winningColours_30 ?_
      refine aw_iload_n C rfl rfl dX6_winningColours_31 ?_
      refine tw_callI C (t6_winningOn hG l o sz _ hu hA hkt (v := v1) (by omega)) q2146 q2148 qs89 q120 q2149 (n9 := 1) (by decide +kernel) rfl (Nat.le_of_ble_eq_true rfl) (Nat.le_of_ble_eq_true rfl) (Nat.zero_le _) (Nat.zero_le _) rfl (Nat.le_of_ble_eq_true rfl) dX6_winningColours_32 (fun r u2 hp => ?_)
      obtain ⟨rfl, hj2, hu, hkt⟩ := hp
      have hT := hT.j2 hj2.two
      have h7 := hj2.th.trans h7
      refine aw_iret C rfl dX6_winningColours_35 (Nat.le_refl _) (Nat.le_refl _) ?_
      unfold spWc
      rw [e1, if_neg (by rw [hV]; decide)]
      exact ⟨rfl, _, _, rfl, rfl, h7, rfl, hu, hA, hT⟩
    · exact absurd (by decide) g2
set_option maxRecDepth 100000 in
theorem t6_valueIf {γ : Gm} (hG : GF γ) (l : Launch) (o sz : Nat) (u : TU) {b : BT} {ks : List BT} {sl : Nat → Option BT} {bf : List Nat} {ea : Int32} {wr : List Nat} (hu : BD u b) (hA : WA b) (hT : TO u ks sl bf ea wr) (v c : Int32) : MX γ l yX6_valueIf cX6_valueIf 3 (some .int) 25 824 0 0 [.ref o, .int v, .int c] (th o u) sz (PS o sz (spVif b v c, (b, ks, sl, bf, ea, wr))) NX := by
  refine mx_start hG (by decide) (Nat.le_of_ble_eq_true rfl) (fun x C => ?_)
  have hW := hA.w
  have hN := hW.2.1
  have hC3 := hW.2.2.2.1
  have hL9 := hA.l
  refine aw_aload_n C rfl rfl dX6_valueIf_0 ?_
  refine aw_aload_n C rfl rfl dX6_valueIf_1 ?_
  refine aw_iload_n C rfl rfl dX6_valueIf_2 ?_
  refine tw_callR C (t6_isVertex hG l o sz _ hu _ hW.1) q2070 q2072 qs75 q120 q2073 (n9 := 1) (by decide +kernel) rfl (Nat.le_of_ble_eq_true rfl) (Nat.le_of_ble_eq_true rfl) (Nat.zero_le _) (Nat.zero_le _) rfl (Nat.le_of_ble_eq_true rfl) dX6_valueIf_3 ?_
  refine aw_bit_eq0 C (tgt := 17) dX6_valueIf_6 (by decide) (fun gV => ?_) (fun gV => ?_)
  · refine aw_iconst C (v := nI 1) (by decide) dX6_valueIf_17 ?_
    refine aw_goto C (tgt := 35) dX6_valueIf_18 (by decide) ?_
    refine tw_put C 7 (by decide) q1825 rfl rfl rfl dX6_valueIf_35 ?_
    refine aw_aload_n C rfl rfl dX6_valueIf_38 ?_
    refine tw_get C 7 (by decide) q1825 rfl dX6_valueIf_39 ?_
    refine aw_top (tsf_at _ _ _) ?_
    refine aw_if_le C (tgt := 47) dX6_valueIf_42 (by decide) (fun g1 => ?_) (fun g1 => ?_)
    · exact absurd g1 (by decide)
    · refine aw_iconst C (v := nI 0) (by decide) dX6_valueIf_45 ?_
      refine aw_iret C rfl dX6_valueIf_46 (Nat.le_refl _) (Nat.le_refl _) ?_
      unfold spVif
      first
        | (have z1 : isV b v = false := gV; rw [if_pos (by simp [z1])]; exact ⟨rfl, _, _, rfl, rfl, tsf_at _ _ _, rfl, hu, hA, to_put7 hT _⟩)
        | (have z2 : isC b c = false := gC; rw [if_pos (by simp [z2])]; exact ⟨rfl, _, _, rfl, rfl, tsf_at _ _ _, rfl, hu, hA, to_put7 hT _⟩)
        | (rw [if_neg (by simp [hV, hC]), if_pos (by simp only [e1, e2]; omega)]; exact ⟨rfl, _, _, rfl, rfl, tsf_at _ _ _, rfl, hu, hA, to_put7 hT _⟩)
  · refine aw_aload_n C rfl rfl dX6_valueIf_9 ?_
    refine aw_iload_n C rfl rfl dX6_valueIf_10 ?_
    refine tw_callR C (t6_isColour hG l o sz _ hu _ hW.2.2.1) q2082 q2084 qs77 q120 q2085 (n9 := 1) (by decide +kernel) rfl (Nat.le_of_ble_eq_true rfl) (Nat.le_of_ble_eq_true rfl) (Nat.zero_le _) (Nat.zero_le _) rfl (Nat.le_of_ble_eq_true rfl) dX6_valueIf_11 ?_
    refine aw_bit_ne0 C (tgt := 21) dX6_valueIf_14 (by decide) (fun gC => ?_) (fun gC => ?_)
    · obtain ⟨v1, rfl, hv⟩ := isV_ex hN hW.1 gV
      have hV := isV_n hN hv
      have e1 := nt_n (k := v1) (by omega)
      obtain ⟨c1, rfl, hc⟩ := isC_ex hC3 hW.2.2.1 gC
      have hC := isC_n hC3 hc
      have e2 := nt_n (k := c1) (by omega)
      have hwl : why b v1 c1 < 5 := by unfold why; (repeat' split) <;> decide
      refine aw_aload_n C rfl rfl dX6_valueIf_21 ?_
      refine aw_iload_n C rfl rfl dX6_valueIf_22 ?_
      refine aw_iload_n C rfl rfl dX6_valueIf_23 ?_
      refine tw_callR C (t6_whyNot hG l o sz _ hu hW (by omega) (by omega)) q1972 q1974 qs55 q120 q1975 (n9 := 2) (by decide +kernel) rfl (Nat.le_of_ble_eq_true rfl) (Nat.le_of_ble_eq_true rfl) (Nat.zero_le _) (Nat.zero_le _) rfl (Nat.le_of_ble_eq_true rfl) dX6_valueIf_24 ?_
      refine aw_ifN_le C (tgt := 34) (by omega) dX6_valueIf_27 (by decide) (fun gW => ?_) (fun gW => ?_)
      · refine aw_iconst C (v := nI 0) (by decide) dX6_valueIf_34 ?_
        refine tw_put C 7 (by decide) q1825 rfl rfl rfl dX6_valueIf_35 ?_
        refine aw_aload_n C rfl rfl dX6_valueIf_38 ?_
        refine tw_get C 7 (by decide) q1825 rfl dX6_valueIf_39 ?_
        refine aw_top (tsf_at _ _ _) ?_
        refine aw_if_le C (tgt := 47) dX6_valueIf_42 (by decide) (fun g2 => ?_) (fun g2 => ?_)
        · have hT := to_put7 hT (nI 0)
          have hu := bd_tsf hu 7 (nI 0)
          have h7 : (tsf u 7 (nI 0)).1 7 = nI 0 := tsf_at _ _ _
          have hfv : fr b v1 = true := by cases z : fr b v1; exact absurd gW (by unfold why; rw [if_pos z]; decide); rfl
          refine aw_aload_n C rfl rfl dX6_valueIf_47 ?_
          refine tw_callV C (t6_forgets hG l o sz _) q2102 q2104 qs81 q120 q2105 (n9 := 0) (by decide +kernel) rfl (Nat.le_of_ble_eq_true rfl) (Nat.le_of_ble_eq_true rfl) (Nat.zero_le _) (Nat.zero_le _) rfl (Nat.le_of_ble_eq_true rfl) dX6_valueIf_48 (fun u2 hp => ?_)
          obtain ⟨g, hgu, hg⟩ := hp
          have hkt : KT u2 b := kt_none (by rw [hgu]; exact hg) hA.p
          have hu : BD u2 b := bd_of hu (by rw [hgu]; rfl)
          have hj3 := fg_tj hgu
          have hT := hT.j2 hj3.two
          have h7 := hj3.th.trans h7
          refine aw_aload_n C rfl rfl dX6_valueIf_51 ?_
          refine aw_iload_n C rfl rfl dX6_valueIf_52 ?_
          refine aw_iload_n C rfl rfl dX6_valueIf_53 ?_
          refine tw_callI C (t6_boardIf hG l o sz _ hu hA hkt (v := v1) (c := c1) (by omega) (by omega) hfv) q2134 q2136 qs87 q120 q2137 (n9 := 2) (by decide +kernel) rfl (Nat.le_of_ble_eq_true rfl) (Nat.le_of_ble_eq_true rfl) (Nat.zero_le _) (Nat.zero_le _) rfl (Nat.le_of_ble_eq_true rfl) dX6_valueIf_54 (fun r u2 hp => ?_)
          obtain ⟨rfl, hj2, hu, hkt⟩ := hp
          have hT := hT.j2 hj2.two
          have h7 := hj2.th.trans h7
          have hbb := bb_gb (wa_layB hA (v := v1) (c := c1) (by omega) (by omega)).s (wb_layB hW (v := v1) (c := c1) (by omega))
          have hbb1 := hbb.1
          have hbb2 := hbb.2.1
          have hbb3 := hbb.2.2
          have hbl := enc_lt (i := BB (layB b v1 c1)) hbb1 (by omega) (by omega)
          refine aw_bipush C (v := nI 31) (by decide) dX6_valueIf_57 ?_
          refine aw_iandN C dX6_valueIf_59 ?_
          refine aw_top (show _ = nI (BB (layB b v1 c1)).1 from by rw [enc_v hbb1 (by omega)]) ?_
          refine aw_aload_n C rfl rfl dX6_valueIf_60 ?_
          refine tw_get C 0 (by decide) q1818 rfl dX6_valueIf_61 ?_
          refine aw_iconst C (v := nI 2) (by decide) dX6_valueIf_64 ?_
          refine tw_ld0 C (by omega) dX6_valueIf_65 ?_
          refine aw_top ((hu _)) ?_
          refine aw_iconst C (v := nI 2) (by decide) dX6_valueIf_66 ?_
          refine aw_iremN C (by omega) (by omega) (by omega) dX6_valueIf_67 ?_
          refine aw_ixorN C dX6_valueIf_68 ?_
          refine aw_iret C rfl dX6_valueIf_69 (Nat.le_refl _) (Nat.le_refl _) ?_
          unfold spVif
          rw [e1, e2, if_neg (by simp [hV, hC]), if_neg (by omega)]
          exact ⟨rfl, _, _, rfl, rfl, h7, rfl, hu, hA, hT⟩
        · exact absurd (by decide) g2
      · refine aw_iconst C (v := nI 2) (by decide) dX6_valueIf_30 ?_
        refine aw_goto C (tgt := 35) dX6_valueIf_31 (by decide) ?_
        refine tw_put C 7 (by decide) q1825 rfl rfl rfl dX6_valueIf_35 ?_
        refine aw_aload_n C rfl rfl dX6_valueIf_38 ?_
        refine tw_get C 7 (by decide) q1825 rfl dX6_valueIf_39 ?_
        refine aw_top (tsf_at _ _ _) ?_
        refine aw_if_le C (tgt := 47) dX6_valueIf_42 (by decide) (fun g3 => ?_) (fun g3 => ?_)
        · exact absurd g3 (by decide)
        · refine aw_iconst C (v := nI 0) (by decide) dX6_valueIf_45 ?_
          refine aw_iret C rfl dX6_valueIf_46 (Nat.le_refl _) (Nat.le_refl _) ?_
          unfold spVif
          first
            | (have z1 : isV b v = false := gV; rw [if_pos (by simp [z1])]; exact ⟨rfl, _, _, rfl, rfl, tsf_at _ _ _, rfl, hu, hA, to_put7 hT _⟩)
            | (have z2 : isC b c = false := gC; rw [if_pos (by simp [z2])]; exact ⟨rfl, _, _, rfl, rfl, tsf_at _ _ _, rfl, hu, hA, to_put7 hT _⟩)
            | (rw [if_neg (by simp [hV, hC]), if_pos (by simp only [e1, e2]; omega)]; exact ⟨rfl, _, _, rfl, rfl, tsf_at _ _ _, rfl, hu, hA, to_put7 hT _⟩)
    · refine aw_iconst C (v := nI 1) (by decide) dX6_valueIf_17 ?_
      refine aw_goto C (tgt := 35) dX6_valueIf_18 (by decide) ?_
      refine tw_put C 7 (by decide) q1825 rfl rfl rfl dX6_valueIf_35 ?_
      refine aw_aload_n C rfl rfl dX6_valueIf_38 ?_
      refine tw_get C 7 (by decide) q1825 rfl dX6_valueIf_39 ?_
      refine aw_top (tsf_at _ _ _) ?_
      refine aw_if_le C (tgt := 47) dX6_valueIf_42 (by decide) (fun g4 => ?_) (fun g4 => ?_)
      · exact absurd g4 (by decide)
      · refine aw_iconst C (v := nI 0) (by decide) dX6_valueIf_45 ?_
        refine aw_iret C rfl dX6_valueIf_46 (Nat.le_refl _) (Nat.le_refl _) ?_
        unfold spVif
        first
          | (have z1 : isV b v = false := gV; rw [if_pos (by simp [z1])]; exact ⟨rfl, _, _, rfl, rfl, tsf_at _ _ _, rfl, hu, hA, to_put7 hT _⟩)
          | (have z2 : isC b c = false := gC; rw [if_pos (by simp [z2])]; exact ⟨rfl, _, _, rfl, rfl, tsf_at _ _ _, rfl, hu, hA, to_put7 hT _⟩)
          | (rw [if_neg (by simp [hV, hC]), if_pos (by simp only [e1, e2]; omega)]; exact ⟨rfl, _, _, rfl, rfl, tsf_at _ _ _, rfl, hu, hA, to_put7 hT _⟩)
set_option maxRecDepth 100000 in
theorem t6_winningMoves {γ : Gm} (hG : GF γ) (l : Launch) (o sz : Nat) (u : TU) {b : BT} {ks : List BT} {sl : Nat → Option BT} {bf : List Nat} {ea : Int32} {wr : List Nat} (hu : BD u b) (hA : WA b) (hT : TO u ks sl bf ea wr)  : MX γ l yX6_winningMoves cX6_winningMoves 3 (some .int) 26 848 0 0 [.ref o] (th o u) sz (PS o sz (spWin b, (b, ks, sl, bf, ea, wr))) NX := by
  refine mx_start hG (by decide) (Nat.le_of_ble_eq_true rfl) (fun x C => ?_)
  have hW := hA.w
  have hN := hW.2.1
  have hC3 := hW.2.2.2.1
  have hL9 := hA.l
  have key : ∀ j v s u1, v ≤ b 0 → b 0 + 1 ≤ v + j → s = (if passW b = true then 1 else 0) + sumF (fun v => pop (winS b v)) v → BD u1 b → KT u1 b → TO u1 ks sl bf ea wr → u1.1 7 = nI 0 → AW γ l x (QX γ x 0 0 (PS o sz (spWin b, (b, ks, sl, bf, ea, wr))) NX) 3 (th o u1) sz 0 0 24 [(0, .ref o), (1, .int (nI s)), (2, .int (nI v))] [] := by
    intro j
    induction j with
    | zero => intro v s u1 h1 h2 hs hu hkt hT h7; exact absurd h2 (by omega)
    | succ j ih =>
      intro v s u1 h1 h2 hs hu hkt hT h7
      refine aw_iload_n C rfl rfl dX6_winningMoves_24 ?_
      refine aw_aload_n C rfl rfl dX6_winningMoves_25 ?_
      refine tw_get C 0 (by decide) q1818 rfl dX6_winningMoves_26 ?_
      refine aw_iconst C (v := nI 0) (by decide) dX6_winningMoves_29 ?_
      refine tw_ld0 C (by omega) dX6_winningMoves_30 ?_
      refine aw_top ((hu _)) ?_
      refine aw_icmpN_ge C (tgt := 51) (by omega) (by omega) dX6_winningMoves_31 (by decide) (fun gN => ?_) (fun gN => ?_)
      · refine aw_iload_n C rfl rfl dX6_winningMoves_51 ?_
        refine aw_iret C rfl dX6_winningMoves_52 (Nat.le_refl _) (Nat.le_refl _) ?_
        unfold spWin
        rw [hs, show v = b 0 by omega]
        exact ⟨rfl, _, _, rfl, rfl, h7, rfl, hu, hA, hT⟩
      · refine aw_iload_n C rfl rfl dX6_winningMoves_34 ?_
        refine aw_aload_n C rfl rfl dX6_winningMoves_35 ?_
        refine aw_iload_n C rfl rfl dX6_winningMoves_36 ?_
        refine tw_callI C (t6_winningOn hG l o sz _ hu hA hkt (v := v) (by omega)) q2146 q2148 qs89 q120 q2149 (n9 := 1) (by decide +kernel) rfl (Nat.le_of_ble_eq_true rfl) (Nat.le_of_ble_eq_true rfl) (Nat.zero_le _) (Nat.zero_le _) rfl (Nat.le_of_ble_eq_true rfl) dX6_winningMoves_37 (fun r u2 hp => ?_)
        obtain ⟨rfl, hj2, hu, hkt⟩ := hp
        have hT := hT.j2 hj2.two
        have h7 := hj2.th.trans h7
        have hws := winS_lt (b := b) hC3 v
        refine tw_callSR C (t6_bits hG l o sz _ (by omega)) q2008 q2009 q120 q2010 (n9 := 1) (by decide +kernel) rfl (Nat.le_of_ble_eq_true rfl) (Nat.le_of_ble_eq_true rfl) (Nat.zero_le _) (Nat.zero_le _) rfl (Nat.le_of_ble_eq_true rfl) dX6_winningMoves_40 ?_
        refine aw_iaddN C dX6_winningMoves_43 ?_
        refine aw_istore_n C rfl (by decide) rfl dX6_winningMoves_44 ?_
        refine aw_iinc1 C rfl (by decide) rfl dX6_winningMoves_45 ?_
        refine aw_goto C (tgt := 24) dX6_winningMoves_48 (by decide) ?_
        exact aw_lo (ih (v + 1) _ _ (by omega) (by omega) (by rw [sumF, hs, Nat.add_assoc]) hu hkt hT h7) ⟨rfl, rfl, rfl, trivial⟩
  refine aw_aload_n C rfl rfl dX6_winningMoves_0 ?_
  refine aw_iconst C (v := nI 0) (by decide) dX6_winningMoves_1 ?_
  refine tw_put C 7 (by decide) q1825 rfl rfl rfl dX6_winningMoves_2 ?_
  have hT := to_put7 hT (nI 0)
  have hu := bd_tsf hu 7 (nI 0)
  have h7 : (tsf u 7 (nI 0)).1 7 = nI 0 := tsf_at _ _ _
  refine aw_aload_n C rfl rfl dX6_winningMoves_5 ?_
  refine tw_callV C (t6_forgets hG l o sz _) q2102 q2104 qs81 q120 q2105 (n9 := 0) (by decide +kernel) rfl (Nat.le_of_ble_eq_true rfl) (Nat.le_of_ble_eq_true rfl) (Nat.zero_le _) (Nat.zero_le _) rfl (Nat.le_of_ble_eq_true rfl) dX6_winningMoves_6 (fun u2 hp => ?_)
  obtain ⟨g, hgu, hg⟩ := hp
  have hkt : KT u2 b := kt_none (by rw [hgu]; exact hg) hA.p
  have hu : BD u2 b := bd_of hu (by rw [hgu]; rfl)
  have hj3 := fg_tj hgu
  have hT := hT.j2 hj3.two
  have h7 := hj3.th.trans h7
  refine aw_aload_n C rfl rfl dX6_winningMoves_9 ?_
  refine tw_callI C (t6_passWins hG l o sz _ hu hA hkt) q2142 q2144 qs88 q120 q2145 (n9 := 0) (by decide +kernel) rfl (Nat.le_of_ble_eq_true rfl) (Nat.le_of_ble_eq_true rfl) (Nat.zero_le _) (Nat.zero_le _) rfl (Nat.le_of_ble_eq_true rfl) dX6_winningMoves_10 (fun r u2 hp => ?_)
  obtain ⟨rfl, hj2, hu, hkt⟩ := hp
  have hT := hT.j2 hj2.two
  have h7 := hj2.th.trans h7
  refine aw_bit_eq0 C (tgt := 20) dX6_winningMoves_13 (by decide) (fun gP => ?_) (fun gP => ?_)
  · refine aw_iconst C (v := nI 0) (by decide) dX6_winningMoves_20 ?_
    refine aw_istore_n C rfl (by decide) rfl dX6_winningMoves_21 ?_
    refine aw_iconst C (v := nI 0) (by decide) dX6_winningMoves_22 ?_
    refine aw_istore_n C rfl (by decide) rfl dX6_winningMoves_23 ?_
    exact aw_lo (key (b 0 + 1) 0 _ _ (Nat.zero_le _) (by omega) (by rw [gP]; rfl) hu hkt hT h7) ⟨rfl, rfl, rfl, trivial⟩
  · refine aw_iconst C (v := nI 1) (by decide) dX6_winningMoves_16 ?_
    refine aw_goto C (tgt := 21) dX6_winningMoves_17 (by decide) ?_
    refine aw_istore_n C rfl (by decide) rfl dX6_winningMoves_21 ?_
    refine aw_iconst C (v := nI 0) (by decide) dX6_winningMoves_22 ?_
    refine aw_istore_n C rfl (by decide) rfl dX6_winningMoves_23 ?_
    exact aw_lo (key (b 0 + 1) 0 _ _ (Nat.zero_le _) (by omega) (by rw [gP]; rfl) hu hkt hT h7) ⟨rfl, rfl, rfl, trivial⟩
set_option maxRecDepth 100000 in
theorem t6_falls {γ : Gm} (hG : GF γ) (l : Launch) (o sz : Nat) (u : TU) {b : BT} {ks : List BT} {sl : Nat → Option BT} {bf : List Nat} {ea : Int32} {wr : List Nat} (hu : BD u b) (hA : WA b) (hT : TO u ks sl bf ea wr) (v : Int32) : MX γ l yX6_falls cX6_falls 2 (some .int) 2 48 0 0 [.ref o, .int v] (th o u) sz (PS o sz (spFall b v, (b, ks, sl, bf, ea, wr))) NX := by
  refine mx_start hG (by decide) (Nat.le_of_ble_eq_true rfl) (fun x C => ?_)
  have hW := hA.w
  have hN := hW.2.1
  have hC3 := hW.2.2.2.1
  have hL9 := hA.l
  have hF := freeS_lt hN
  refine aw_aload_n C rfl rfl dX6_falls_0 ?_
  refine aw_aload_n C rfl rfl dX6_falls_1 ?_
  refine aw_iload_n C rfl rfl dX6_falls_2 ?_
  refine tw_callR C (t6_isVertex hG l o sz _ hu _ hW.1) q2070 q2072 qs75 q120 q2073 (n9 := 1) (by decide +kernel) rfl (Nat.le_of_ble_eq_true rfl) (Nat.le_of_ble_eq_true rfl) (Nat.zero_le _) (Nat.zero_le _) rfl (Nat.le_of_ble_eq_true rfl) dX6_falls_3 ?_
  refine aw_bit_ne0 C (tgt := 13) dX6_falls_6 (by decide) (fun gV => ?_) (fun gV => ?_)
  · obtain ⟨v1, rfl, hv⟩ := isV_ex hN hW.1 gV
    have hV := isV_n hN hv
    have e1 := nt_n (k := v1) (by omega)
    refine aw_aload_n C rfl rfl dX6_falls_13 ?_
    refine aw_iload_n C rfl rfl dX6_falls_14 ?_
    refine tw_callR C (t6_isFree hG l o sz _ hu (by omega) (hW.o3 (by omega))) q1976 q1978 qs56 q120 q1979 (n9 := 1) (by decide +kernel) rfl (Nat.le_of_ble_eq_true rfl) (Nat.le_of_ble_eq_true rfl) (Nat.zero_le _) (Nat.zero_le _) rfl (Nat.le_of_ble_eq_true rfl) dX6_falls_15 ?_
    refine aw_bit_eq0 C (tgt := 25) dX6_falls_18 (by decide) (fun gF => ?_) (fun gF => ?_)
    · refine aw_iconst C (v := nI 2) (by decide) dX6_falls_25 ?_
      refine tw_put C 7 (by decide) q1825 rfl rfl rfl dX6_falls_26 ?_
      refine aw_aload_n C rfl rfl dX6_falls_29 ?_
      refine tw_get C 7 (by decide) q1825 rfl dX6_falls_30 ?_
      refine aw_top (tsf_at _ _ _) ?_
      refine aw_if_le C (tgt := 40) dX6_falls_33 (by decide) (fun g1 => ?_) (fun g1 => ?_)
      · exact absurd g1 (by decide)
      · refine aw_iconst C (v := nI 0) (by decide) dX6_falls_36 ?_
        refine aw_goto C (tgt := 59) dX6_falls_37 (by decide) ?_
        refine aw_iret C rfl dX6_falls_59 (Nat.le_refl _) (Nat.le_refl _) ?_
        unfold spFall
        first
          | (rw [if_pos (show isV b v = false from gV)]; exact ⟨rfl, _, _, rfl, rfl, tsf_at _ _ _, rfl, hu, hA, to_put7 hT _⟩)
          | (rw [e1, if_neg (by rw [hV]; decide), if_pos (show fr b v1 = false from gF)]; exact ⟨rfl, _, _, rfl, rfl, tsf_at _ _ _, rfl, hu, hA, to_put7 hT _⟩)
          | (rw [e1, if_neg (by rw [hV]; decide), if_neg (by rw [gF]; decide)]; exact ⟨rfl, _, _, rfl, rfl, h7, rfl, hu, hA, hT⟩)
    · refine aw_iconst C (v := nI 0) (by decide) dX6_falls_21 ?_
      refine aw_goto C (tgt := 26) dX6_falls_22 (by decide) ?_
      refine tw_put C 7 (by decide) q1825 rfl rfl rfl dX6_falls_26 ?_
      refine aw_aload_n C rfl rfl dX6_falls_29 ?_
      refine tw_get C 7 (by decide) q1825 rfl dX6_falls_30 ?_
      refine aw_top (tsf_at _ _ _) ?_
      refine aw_if_le C (tgt := 40) dX6_falls_33 (by decide) (fun g2 => ?_) (fun g2 => ?_)
      · have hT := to_put7 hT (nI 0)
        have hu := bd_tsf hu 7 (nI 0)
        have h7 : (tsf u 7 (nI 0)).1 7 = nI 0 := tsf_at _ _ _
        have hr9 := rch_lt (b := b) (v := v1) (by omega) hF
        have hnd := nd_lt (c := 1 <<< v1) hr9
        refine aw_aload_n C rfl rfl dX6_falls_40 ?_
        refine aw_aload_n C rfl rfl dX6_falls_41 ?_
        refine aw_iload_n C rfl rfl dX6_falls_42 ?_
        refine aw_aload_n C rfl rfl dX6_falls_43 ?_
        refine tw_callR C (t6_freeSet hG l o sz _ hu hW) q1992 q1994 qs60 q120 q1995 (n9 := 0) (by decide +kernel) rfl (Nat.le_of_ble_eq_true rfl) (Nat.le_of_ble_eq_true rfl) (Nat.zero_le _) (Nat.zero_le _) rfl (Nat.le_of_ble_eq_true rfl) dX6_falls_44 ?_
        refine tw_callR C (t6_reached hG l o sz _ hu hW (by omega) (by omega)) q1996 q1998 qs61 q120 q1999 (n9 := 2) (by decide +kernel) rfl (Nat.le_of_ble_eq_true rfl) (Nat.le_of_ble_eq_true rfl) (Nat.zero_le _) (Nat.zero_le _) rfl (Nat.le_of_ble_eq_true rfl) dX6_falls_47 ?_
        refine aw_iconst C (v := nI 1) (by decide) dX6_falls_50 ?_
        refine aw_iload_n C rfl rfl dX6_falls_51 ?_
        refine aw_ishlN C (by omega) dX6_falls_52 ?_
        refine aw_iconst C (v := -1) (by decide) dX6_falls_53 ?_
        refine aw_ixor C dX6_falls_54 ?_
        refine aw_iandNot C dX6_falls_55 ?_
        refine tw_callR C (t6_partsIn hG l o sz _ hu hW (by omega)) q2015 q2017 qs65 q120 q2018 (n9 := 1) (by decide +kernel) rfl (Nat.le_of_ble_eq_true rfl) (Nat.le_of_ble_eq_true rfl) (Nat.zero_le _) (Nat.zero_le _) rfl (Nat.le_of_ble_eq_true rfl) dX6_falls_56 ?_
        refine aw_iret C rfl dX6_falls_59 (Nat.le_refl _) (Nat.le_refl _) ?_
        unfold spFall
        first
          | (rw [if_pos (show isV b v = false from gV)]; exact ⟨rfl, _, _, rfl, rfl, tsf_at _ _ _, rfl, hu, hA, to_put7 hT _⟩)
          | (rw [e1, if_neg (by rw [hV]; decide), if_pos (show fr b v1 = false from gF)]; exact ⟨rfl, _, _, rfl, rfl, tsf_at _ _ _, rfl, hu, hA, to_put7 hT _⟩)
          | (rw [e1, if_neg (by rw [hV]; decide), if_neg (by rw [gF]; decide)]; exact ⟨rfl, _, _, rfl, rfl, h7, rfl, hu, hA, hT⟩)
      · exact absurd (by decide) g2
  · refine aw_iconst C (v := nI 1) (by decide) dX6_falls_9 ?_
    refine aw_goto C (tgt := 26) dX6_falls_10 (by decide) ?_
    refine tw_put C 7 (by decide) q1825 rfl rfl rfl dX6_falls_26 ?_
    refine aw_aload_n C rfl rfl dX6_falls_29 ?_
    refine tw_get C 7 (by decide) q1825 rfl dX6_falls_30 ?_
    refine aw_top (tsf_at _ _ _) ?_
    refine aw_if_le C (tgt := 40) dX6_falls_33 (by decide) (fun g3 => ?_) (fun g3 => ?_)
    · exact absurd g3 (by decide)
    · refine aw_iconst C (v := nI 0) (by decide) dX6_falls_36 ?_
      refine aw_goto C (tgt := 59) dX6_falls_37 (by decide) ?_
      refine aw_iret C rfl dX6_falls_59 (Nat.le_refl _) (Nat.le_refl _) ?_
      unfold spFall
      first
        | (rw [if_pos (show isV b v = false from gV)]; exact ⟨rfl, _, _, rfl, rfl, tsf_at _ _ _, rfl, hu, hA, to_put7 hT _⟩)
        | (rw [e1, if_neg (by rw [hV]; decide), if_pos (show fr b v1 = false from gF)]; exact ⟨rfl, _, _, rfl, rfl, tsf_at _ _ _, rfl, hu, hA, to_put7 hT _⟩)
        | (rw [e1, if_neg (by rw [hV]; decide), if_neg (by rw [gF]; decide)]; exact ⟨rfl, _, _, rfl, rfl, h7, rfl, hu, hA, hT⟩)
