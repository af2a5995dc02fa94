/-! THE SEARCH: a part of a board, all parts together -/
set_option maxRecDepth 100000 in
theorem se_part {γ : Gm} (hG : GF γ) (l : Launch) {o : Nat} {u : CU} {g : AH} {sz : Nat}  {gr a : Nat} {b : BT} (hSp : Sep o g) (hb : BRD g a gr b) (hW : WB b) (hY : SY b) {K S m : Nat} (hK : K + 1 < 2 ^ 30) (hS : S < 2 ^ b 0) (hS0 : 0 < S) (hfr : ∀ v, S.testBit v = true → fr b v = true) (hm : m ≤ 3) (hR : SR g u K gr b) : MX γ l yX2_part cX2_part 4 (some .int) 38 1328 0 0 [.ref (o + 1), .ref a, .int (nI S), .int (nI m - nI 1)] (ch o u g) sz (RCi o sz g (fun r u' => r = nI (pq (G b S m)) ∧ SX u u' ∧ SQ u' (K + 1) gr b)) NX := by
  obtain ⟨ca, ba, v3, v4, fc, fb, eb, eca, eba, hg, hfc, hfb⟩ := id hb
  obtain ⟨gl, gn, fl, fn, eg, egl, egn, hgl, hgn⟩ := id hg
  refine mx_start hG (by decide) (Nat.le_of_ble_eq_true rfl) (fun x C => ?_)
  have hN := hW.2.1
  have hS9 : S < 512 := Nat.lt_of_lt_of_le hS (Nat.pow_le_pow_right (by omega) hN)
  have hp9 := pop_le S hS9
  refine aw_aload_n C rfl rfl dX2_part_0 ?_
  refine aw_aload_n C rfl rfl dX2_part_1 ?_
  refine aw_getfN C ck2 0 (by decide) q611 (fun _ z => z) (ch_le hSp _ _ eb) rfl dX2_part_2 ?_
  refine aw_callVV C ck1 (se_begin hG l (b := b) hK hg hW hR) q733 q735 qs2 q96 q736 (ch_at (i := 1) rfl) (n9 := 1) (by decide +kernel) rfl (Nat.le_of_ble_eq_true rfl) (Nat.le_of_ble_eq_true rfl) (Nat.zero_le _) (Nat.zero_le _) rfl (Nat.le_of_ble_eq_true rfl) dX2_part_5 (fun u1 hp => ?_)
  obtain ⟨hx1, hq1, k, hk, hT⟩ := hp
  refine aw_aload_n C rfl rfl dX2_part_8 ?_
  refine aw_iload_n C rfl rfl dX2_part_9 ?_
  refine aw_aload_n C rfl rfl dX2_part_10 ?_
  refine aw_iload_n C rfl rfl dX2_part_11 ?_
  refine aw_callVRR C ck2 (bd_masks hG l (hb.le (ch_le hSp)) hW hS9) q737 q738 q739 q97 q740 (Or.inl (ch_le hSp _ _ eb)) (n9 := 1) (by decide +kernel) rfl (Nat.le_of_ble_eq_true rfl) (Nat.le_of_ble_eq_true rfl) (Nat.zero_le _) (Nat.zero_le _) rfl (Nat.le_of_ble_eq_true rfl) dX2_part_12 ?_
  refine aw_iload_n C rfl rfl dX2_part_15 ?_
  refine aw_iload_n C rfl rfl dX2_part_16 ?_
  refine aw_callSNR C (cp_counting hG l (m := m) hS9) q746 q747 q95 q748 (n9 := 2) (by decide +kernel) rfl (Nat.le_of_ble_eq_true rfl) (Nat.le_of_ble_eq_true rfl) (Nat.zero_le _) (Nat.zero_le _) rfl (Nat.le_of_ble_eq_true rfl) dX2_part_17 ?_
  refine aw_iconst C (v := nI 0) (by decide) dX2_part_20 ?_
  refine aw_callVI C ck1 (so_all hG l hSp 9 u1 b S (cnt S m) 0 k hg hW hY hS hS0 hfr hp9 (by decide) (cnt_le hm) (cnt_cnt _ _) hq1 hT) q755 q757 qs3 q96 q758 (ch_at (i := 1) rfl) (n9 := 4) (by decide +kernel) rfl (Nat.le_of_ble_eq_true rfl) (Nat.le_of_ble_eq_true rfl) (Nat.zero_le _) (Nat.zero_le _) rfl (Nat.le_of_ble_eq_true rfl) dX2_part_21 (fun r u2 hp => ?_)
  obtain ⟨rfl, hk2, hT2⟩ := hp
  refine aw_iret C rfl dX2_part_24 (Nat.le_refl _) (Nat.le_refl _) ?_
  refine ⟨rfl, _, u2, rfl, rfl, by rw [G_cnt], hx1.tr hk2.sx, SQ.sk ⟨hq1, k, hk, hT⟩ hk2 hk hT2⟩
set_option maxRecDepth 100000 in
theorem se_together {γ : Gm} (hG : GF γ) (l : Launch) {o : Nat} {u : CU} {g : AH} {sz : Nat}  {gr a : Nat} {b : BT} (hSp : Sep o g) (hb : BRD g a gr b) (hW : WB b) (hY : SY b) {K S : Nat} (hK : K + 1 < 2 ^ 30) (hS : S < 2 ^ b 0) (hfr : ∀ v, S.testBit v = true → fr b v = true) (hR : SR g u K gr b) : MX γ l yX2_together cX2_together 9 (some .int) 39 1351 0 0 [.ref (o + 1), .ref a, .int (nI S)] (ch o u g) sz (RCi o sz g (fun r u' => r = nI (pq (tgF (fun p => G b p (b (31 + low p))) (pts b S S))) ∧ SX u u' ∧ SR g u' K gr b)) NX := by
  obtain ⟨ca, ba, v3, v4, fc, fb, eb, eca, eba, hg, hfc, hfb⟩ := id hb
  obtain ⟨gl, gn, fl, fn, eg, egl, egn, hgl, hgn⟩ := id hg
  refine mx_start hG (by decide) (Nat.le_of_ble_eq_true rfl) (fun x C => ?_)
  have hN := hW.2.1
  have hS9 : S < 512 := Nat.lt_of_lt_of_le hS (Nat.pow_le_pow_right (by omega) hN)
  have key : ∀ j left a9 u1, left + 1 ≤ j → left < 512 → Rcl b S left → tgA (fun p => G b p (b (31 + low p))) a9 (pts b S left) = tgF (fun p => G b p (b (31 + low p))) (pts b S S) → SX u u1 → SR g u1 K gr b → AW γ l x (QX γ x 0 0 (RCi o sz g (fun r u' => r = nI (pq (tgF (fun p => G b p (b (31 + low p))) (pts b S S))) ∧ SX u u' ∧ SR g u' K gr b)) NX) 9 (ch o u1 g) sz 0 0 11 [(0, .ref (o + 1)), (1, .ref a), (2, .int (nI S)), (3, .int (nI a9.1)), (4, .int (nI a9.2.1)), (5, .int (nI a9.2.2)), (6, .int (nI left))] [] := by
    intro j
    induction j with
    | zero => intro left a9 u1 h2 h3 hRc ha hx hR1; exact absurd h2 (by omega)
    | succ j ih =>
      intro left a9 u1 h2 h3 hRc ha hx hR1
      refine aw_iload C rfl dX2_together_11 ?_
      refine aw_ifN_eq C (tgt := 86) (by omega) dX2_together_13 (by decide) (fun g0 => ?_) (fun g0 => ?_)
      · refine aw_iload_n C rfl rfl dX2_together_86 ?_
        refine aw_iload C rfl dX2_together_87 ?_
        refine aw_iload C rfl dX2_together_89 ?_
        refine aw_callSNR C (cp_packed hG l (i := a9)) q790 q791 q95 q792 (n9 := 3) (by decide +kernel) rfl (Nat.le_of_ble_eq_true rfl) (Nat.le_of_ble_eq_true rfl) (Nat.zero_le _) (Nat.zero_le _) rfl (Nat.le_of_ble_eq_true rfl) dX2_together_91 ?_
        refine aw_iret C rfl dX2_together_94 (Nat.le_refl _) (Nat.le_refl _) ?_
        have hae : a9 = tgF (fun p => G b p (b (31 + low p))) (pts b S S) := by
          rw [← ha, g0]
          rfl
        exact ⟨rfl, _, u1, rfl, rfl, by rw [hae], hx, hR1⟩
      · have h0 : 0 < left := by omega
        obtain ⟨hl1, hl2, hl3⟩ := low_bit left h3 h0
        have hq := nd_rest hRc hN hS h0 h3
        have hd9 := nd_lt_of hl1 (rch_self b (low left) S)
        have hR2 := rcl_nd hRc hY hS hN hl1
        rw [pts_s b S h0 h3] at ha
        have hps : ∀ i, (rch b (low left) S).testBit i = true → S.testBit i = true := fun i hi => hRc.1 i (rcl_rch hRc hl1 hi)
        have hp1 : rch b (low left) S < 2 ^ b 0 := lt_of_sub hS hps
        have hp0 : 0 < rch b (low left) S := by
          rcases Nat.eq_zero_or_pos (rch b (low left) S) with e | e
          · have := rch_self b (low left) S
            rw [e] at this
            simp at this
          · exact e
        have ha2 : tgA (fun p => G b p (b (31 + low p))) (gadd a9 (G b (rch b (low left) S) (b (31 + low (rch b (low left) S))))) (pts b S (nd left (rch b (low left) S))) = tgF (fun p => G b p (b (31 + low p))) (pts b S S) := ha
        refine aw_aload_n C rfl rfl dX2_together_16 ?_
        refine aw_getfN C ck2 0 (by decide) q611 (fun _ z => z) (ch_le hSp _ _ eb) rfl dX2_together_17 ?_
        refine aw_iload C rfl dX2_together_20 ?_
        refine aw_callVRR C ck3 (bd_firstPart hG l (hg.le (ch_le hSp)) hN h3 h0) q713 q714 q715 q98 q716 (Or.inl (ch_le hSp _ _ eg)) (n9 := 1) (by decide +kernel) rfl (Nat.le_of_ble_eq_true rfl) (Nat.le_of_ble_eq_true rfl) (Nat.zero_le _) (Nat.zero_le _) rfl (Nat.le_of_ble_eq_true rfl) dX2_together_22 ?_
        rw [hq]
        clear hq ha
        generalize hpp : rch b (low left) S = p at *
        have hp9 : p < 512 := Nat.lt_of_lt_of_le hp1 (Nat.pow_le_pow_right (by omega) hN)
        obtain ⟨hlq, hlp, -⟩ := low_bit p hp9 hp0
        have hpf : ∀ v, p.testBit v = true → fr b v = true := fun v hv => hfr v (hps v hv)
        refine aw_istore C (by decide) rfl dX2_together_25 ?_
        refine aw_aload_n C rfl rfl dX2_together_27 ?_
        refine aw_aload_n C rfl rfl dX2_together_28 ?_
        refine aw_iload C rfl dX2_together_29 ?_
        refine aw_aload_n C rfl rfl dX2_together_31 ?_
        refine aw_getfN C ck2 2 (by decide) q618 (fun _ z => z) (ch_le hSp _ _ eb) rfl dX2_together_32 ?_
        refine aw_iload C rfl dX2_together_35 ?_
        refine aw_callSRR C (cp_ntz hG l hp9 hp0) q725 q726 q118 q727 (n9 := 1) (by decide +kernel) rfl (Nat.le_of_ble_eq_true rfl) (Nat.le_of_ble_eq_true rfl) (Nat.zero_le _) (Nat.zero_le _) rfl (Nat.le_of_ble_eq_true rfl) dX2_together_37 ?_
        refine aw_ialdN C (ch_le hSp _ _ eba) (by omega) (by decide) dX2_together_40 ?_
        refine aw_top ((hfb _ hlp (hpf _ hlq))) ?_
        refine aw_callVI C ck1 (se_part hG l hSp hb hW hY hK hp1 hp0 hpf (hW.b3 hlp) hR1) q729 q730 q731 q96 q732 (ch_at (i := 1) rfl) (n9 := 3) (by decide +kernel) rfl (Nat.le_of_ble_eq_true rfl) (Nat.le_of_ble_eq_true rfl) (Nat.zero_le _) (Nat.zero_le _) rfl (Nat.le_of_ble_eq_true rfl) dX2_together_41 (fun r u2 hp => ?_)
        obtain ⟨rfl, hx2, hq2⟩ := hp
        obtain ⟨hi1, hi2, hi3⟩ := G_gb hY hW hp1 (b (31 + low p))
        generalize hi : G b p (b (31 + low p)) = i at *
        have hil := pq_lt (i := i) hi1 (by omega) (by omega)
        refine aw_istore C (by decide) rfl dX2_together_44 ?_
        refine aw_iload_n C rfl rfl dX2_together_46 ?_
        refine aw_iload C rfl dX2_together_47 ?_
        refine aw_callSNR C (cp_value hG l (p := pq i) (by omega)) q781 q782 q95 q783 (n9 := 1) (by decide +kernel) rfl (Nat.le_of_ble_eq_true rfl) (Nat.le_of_ble_eq_true rfl) (Nat.zero_le _) (Nat.zero_le _) rfl (Nat.le_of_ble_eq_true rfl) dX2_together_49 ?_
        refine aw_top (show _ = nI i.1 from by rw [pq_v (by omega) (by omega)]) ?_
        refine aw_ixorN C dX2_together_52 ?_
        refine aw_istore_n C rfl (by decide) rfl dX2_together_53 ?_
        refine aw_iload C rfl dX2_together_54 ?_
        refine aw_iload C rfl dX2_together_56 ?_
        refine aw_callSNR C (cp_longest hG l (p := pq i) (by omega)) q784 q785 q95 q786 (n9 := 1) (by decide +kernel) rfl (Nat.le_of_ble_eq_true rfl) (Nat.le_of_ble_eq_true rfl) (Nat.zero_le _) (Nat.zero_le _) rfl (Nat.le_of_ble_eq_true rfl) dX2_together_58 ?_
        refine aw_top (show _ = nI i.2.1 from by rw [pq_l (by omega) (by omega)]) ?_
        refine aw_iaddN C dX2_together_61 ?_
        refine aw_istore C (by decide) rfl dX2_together_62 ?_
        refine aw_iload C rfl dX2_together_64 ?_
        refine aw_iload C rfl dX2_together_66 ?_
        refine aw_callSNR C (cp_shortest hG l (p := pq i)) q787 q788 q95 q789 (n9 := 1) (by decide +kernel) rfl (Nat.le_of_ble_eq_true rfl) (Nat.le_of_ble_eq_true rfl) (Nat.zero_le _) (Nat.zero_le _) rfl (Nat.le_of_ble_eq_true rfl) dX2_together_68 ?_
        refine aw_top (show _ = nI i.2.2 from by rw [pq_s (by omega) (by omega)]) ?_
        refine aw_iaddN C dX2_together_71 ?_
        refine aw_istore C (by decide) rfl dX2_together_72 ?_
        refine aw_iload C rfl dX2_together_74 ?_
        refine aw_iload C rfl dX2_together_76 ?_
        refine aw_iconst C (v := -1) (by decide) dX2_together_78 ?_
        refine aw_ixor C dX2_together_79 ?_
        refine aw_iandNot C dX2_together_80 ?_
        refine aw_istore C (by decide) rfl dX2_together_81 ?_
        refine aw_goto C (tgt := 11) dX2_together_83 (by decide) ?_
        exact aw_lo (ih (nd left p) (gadd a9 i) u2 (by omega) (by omega) hR2 ha2 (hx.tr hx2) (Or.inr hq2)) ⟨rfl, rfl, rfl, rfl, rfl, rfl, rfl, trivial⟩
  refine aw_iconst C (v := nI 0) (by decide) dX2_together_0 ?_
  refine aw_istore_n C rfl (by decide) rfl dX2_together_1 ?_
  refine aw_iconst C (v := nI 0) (by decide) dX2_together_2 ?_
  refine aw_istore C (by decide) rfl dX2_together_3 ?_
  refine aw_iconst C (v := nI 0) (by decide) dX2_together_5 ?_
  refine aw_istore C (by decide) rfl dX2_together_6 ?_
  refine aw_iload_n C rfl rfl dX2_together_8 ?_
  refine aw_istore C (by decide) rfl dX2_together_9 ?_
  exact aw_lo (key (S + 1) S (0, 0, 0) u (by omega) hS9 (rcl_self b S) rfl (SX.rf u) hR) ⟨rfl, rfl, rfl, rfl, rfl, rfl, rfl, trivial⟩
