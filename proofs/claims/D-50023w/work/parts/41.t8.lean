/-! the twin: calls that change it -/
theorem fg_tj {u u2 : TU} {g : Nat → Int32} (h : u2 = tsa u 18 g) : TJ u u2 := by rw [h]; exact tj_up g (by omega)
set_option maxRecDepth 100000 in
theorem t6_undo {γ : Gm} (hG : GF γ) (l : Launch) (o sz : Nat) (u : TU) {b : BT} {ks : List BT} {sl : Nat → Option BT} {bf : List Nat} {ea : Int32} {wr : List Nat} (hu : BD u b) (hA : WA b) (hT : TO u ks sl bf ea wr)  : MX γ l yX6_undo cX6_undo 1 (some .int) 1 24 0 0 [.ref o] (th o u) sz (PS o sz (spUndo (b, ks, sl, bf, ea, wr))) NX := by
  refine mx_start hG (by decide) (Nat.le_of_ble_eq_true rfl) (fun x C => ?_)
  have hW := hA.w
  have hN := hW.2.1
  have hC3 := hW.2.2.2.1
  have hL9 := hA.l
  have hl8 := hT.1.2.1.1
  refine aw_aload_n C rfl rfl dX6_undo_0 ?_
  refine aw_aload_n C rfl rfl dX6_undo_1 ?_
  refine tw_get C 6 (by decide) q1824 rfl dX6_undo_2 ?_
  refine aw_top (hT.1.1) ?_
  refine aw_ifN_ne C (tgt := 12) (by omega) dX6_undo_5 (by decide) (fun gK => ?_) (fun gK => ?_)
  · refine aw_iconst C (v := nI 0) (by decide) dX6_undo_12 ?_
    refine tw_put C 7 (by decide) q1825 rfl rfl rfl dX6_undo_13 ?_
    refine aw_aload_n C rfl rfl dX6_undo_16 ?_
    refine tw_get C 7 (by decide) q1825 rfl dX6_undo_17 ?_
    refine aw_top (tsf_at _ _ _) ?_
    refine aw_if_le C (tgt := 25) dX6_undo_20 (by decide) (fun g1 => ?_) (fun g1 => ?_)
    · have hT := to_put7 hT (nI 0)
      have hu := bd_tsf hu 7 (nI 0)
      have hlt : ks.length - 1 < ks.length := by omega
      have hA2 := hT.1.2.1.2 _ (getD_mem hlt)
      refine aw_aload_n C rfl rfl dX6_undo_25 ?_
      refine aw_dup C rfl dX6_undo_26 ?_
      refine tw_get C 6 (by decide) q1824 rfl dX6_undo_27 ?_
      refine aw_top (hT.1.1) ?_
      refine aw_iconst C (v := nI 1) (by decide) dX6_undo_30 ?_
      refine aw_isubN C (by omega) dX6_undo_31 ?_
      refine tw_put C 6 (by decide) q1824 rfl rfl rfl dX6_undo_32 ?_
      refine aw_aload_n C rfl rfl dX6_undo_35 ?_
      refine tw_get C 0 (by decide) q1818 rfl dX6_undo_36 ?_
      refine aw_iconst C (v := nI 0) (by decide) dX6_undo_39 ?_
      refine aw_aload_n C rfl rfl dX6_undo_40 ?_
      refine tw_get C 3 (by decide) q1821 rfl dX6_undo_41 ?_
      refine aw_sipush C (v := nI 4136) (by decide) dX6_undo_44 ?_
      refine aw_aload_n C rfl rfl dX6_undo_47 ?_
      refine tw_get C 6 (by decide) q1824 rfl dX6_undo_48 ?_
      refine aw_top (tsf_at _ _ _) ?_
      refine aw_imulN C dX6_undo_51 ?_
      refine tw_callSV C (t6_sets_0_3 hG l o sz _ (ta := 0) (fa := 4136 * (ks.length - 1)) (by omega) (by omega)) q1894 q1895 q120 q1896 (n9 := 4) (by decide +kernel) rfl (Nat.le_of_ble_eq_true rfl) (Nat.le_of_ble_eq_true rfl) (Nat.zero_le _) (Nat.zero_le _) rfl (Nat.le_of_ble_eq_true rfl) dX6_undo_52 (fun u2 hp => ?_)
      subst hp
      refine aw_aload_n C rfl rfl dX6_undo_55 ?_
      refine tw_get C 6 (by decide) q1824 rfl dX6_undo_56 ?_
      refine aw_top (show (tsf (tsf u 7 (nI 0)) 6 (nI (ks.length - 1))).1 6 = _ from tsf_at _ _ _) ?_
      refine aw_iret C rfl dX6_undo_59 (Nat.le_refl _) (Nat.le_refl _) ?_
      unfold spUndo
      rw [if_neg (show ¬ ks.length = 0 by omega)]
      have h7 : (tsf (tsf u 7 (nI 0)) 6 (nI (ks.length - 1))).1 7 = nI 0 := (tsf_ne (by decide)).trans (tsf_at u 7 (nI 0))
      refine ⟨rfl, _, _, rfl, rfl, h7, rfl, ?_, hA2, ?_⟩
      · exact bd_cpy (u := tsf (tsf u 7 (nI 0)) 6 (nI (ks.length - 1))) hu hA hA2 (fun j hj => hT.1.2.2 (ks.length - 1) j hlt hj)
      · obtain ⟨⟨a1, a2, a3⟩, a4, ⟨a5, a6, a7⟩, a8, a9, a10, a11⟩ := hT
        refine ⟨⟨?_, ⟨?_, fun k hk => a2.2 k (List.mem_of_mem_take hk)⟩, fun i j hi hj => ?_⟩, a4, ⟨a5, a6, a7⟩, a8, a9, a10, a11⟩
        · show (tsf (tsf u 7 (nI 0)) 6 (nI (ks.length - 1))).1 6 = nI (ks.take (ks.length - 1)).length
          rw [tsf_at, List.length_take, Nat.min_eq_left (by omega)]
        · show (ks.take (ks.length - 1)).length ≤ 8
          rw [List.length_take]
          omega
        · change i < (ks.take (ks.length - 1)).length at hi
          rw [List.length_take] at hi
          show _ = nI ((ks.take (ks.length - 1)).getD i kzero j)
          rw [take_getD (by omega)]
          exact a3 i j (by omega) hj
    · exact absurd (by decide) g1
  · refine aw_iconst C (v := nI 1) (by decide) dX6_undo_8 ?_
    refine aw_goto C (tgt := 13) dX6_undo_9 (by decide) ?_
    refine tw_put C 7 (by decide) q1825 rfl rfl rfl dX6_undo_13 ?_
    refine aw_aload_n C rfl rfl dX6_undo_16 ?_
    refine tw_get C 7 (by decide) q1825 rfl dX6_undo_17 ?_
    refine aw_top (tsf_at _ _ _) ?_
    refine aw_if_le C (tgt := 25) dX6_undo_20 (by decide) (fun g2 => ?_) (fun g2 => ?_)
    · exact absurd g2 (by decide)
    · refine aw_iconst C (v := nI 0) (by decide) dX6_undo_23 ?_
      refine aw_iret C rfl dX6_undo_24 (Nat.le_refl _) (Nat.le_refl _) ?_
      unfold spUndo
      rw [if_pos (show ks.length = 0 by omega)]
      exact ⟨rfl, _, _, rfl, rfl, tsf_at _ _ _, rfl, hu, hA, to_put7 hT _⟩
set_option maxRecDepth 100000 in
theorem t6_lay {γ : Gm} (hG : GF γ) (l : Launch) (o sz : Nat) (u : TU) {b : BT} {ks : List BT} {sl : Nat → Option BT} {bf : List Nat} {ea : Int32} {wr : List Nat} (hu : BD u b) (hA : WA b) (hT : TO u ks sl bf ea wr) (v c : Int32) (hm : b 3 < 4096) : MX γ l yX6_lay cX6_lay 3 (some .int) 5 112 0 0 [.ref o, .int v, .int c] (th o u) sz (PS o sz (spLay (b, ks, sl, bf, ea, wr) v c)) NX := by
  refine mx_start hG (by decide) (Nat.le_of_ble_eq_true rfl) (fun x C => ?_)
  have hW := hA.w
  have hN := hW.2.1
  have hC3 := hW.2.2.2.1
  have hL9 := hA.l
  refine aw_aload_n C rfl rfl dX6_lay_0 ?_
  refine aw_aload_n C rfl rfl dX6_lay_1 ?_
  refine aw_iload_n C rfl rfl dX6_lay_2 ?_
  refine tw_callR C (t6_isVertex hG l o sz _ hu _ hW.1) q2070 q2072 qs75 q120 q2073 (n9 := 1) (by decide +kernel) rfl (Nat.le_of_ble_eq_true rfl) (Nat.le_of_ble_eq_true rfl) (Nat.zero_le _) (Nat.zero_le _) rfl (Nat.le_of_ble_eq_true rfl) dX6_lay_3 ?_
  refine aw_bit_eq0 C (tgt := 17) dX6_lay_6 (by decide) (fun gV => ?_) (fun gV => ?_)
  · refine aw_iconst C (v := nI 1) (by decide) dX6_lay_17 ?_
    refine aw_goto C (tgt := 35) dX6_lay_18 (by decide) ?_
    refine tw_put C 7 (by decide) q1825 rfl rfl rfl dX6_lay_35 ?_
    refine aw_aload_n C rfl rfl dX6_lay_38 ?_
    refine tw_get C 7 (by decide) q1825 rfl dX6_lay_39 ?_
    refine aw_top (tsf_at _ _ _) ?_
    refine aw_if_le C (tgt := 47) dX6_lay_42 (by decide) (fun g1 => ?_) (fun g1 => ?_)
    · exact absurd g1 (by decide)
    · refine aw_iconst C (v := nI 0) (by decide) dX6_lay_45 ?_
      refine aw_iret C rfl dX6_lay_46 (Nat.le_refl _) (Nat.le_refl _) ?_
      unfold spLay
      first
        | (have z1 : isV b v = false := gV; rw [if_pos (by simp [z1])]; exact ⟨rfl, _, _, rfl, rfl, tsf_at _ _ _, rfl, hu, hA, to_put7 hT _⟩)
        | (have z2 : isC b c = false := gC; rw [if_pos (by simp [z2])]; exact ⟨rfl, _, _, rfl, rfl, tsf_at _ _ _, rfl, hu, hA, to_put7 hT _⟩)
        | (rw [if_neg (by simp [hV, hC]), if_pos (by simp only [e1, e2]; omega)]; exact ⟨rfl, _, _, rfl, rfl, tsf_at _ _ _, rfl, hu, hA, to_put7 hT _⟩)
  · refine aw_aload_n C rfl rfl dX6_lay_9 ?_
    refine aw_iload_n C rfl rfl dX6_lay_10 ?_
    refine tw_callR C (t6_isColour hG l o sz _ hu _ hW.2.2.1) q2082 q2084 qs77 q120 q2085 (n9 := 1) (by decide +kernel) rfl (Nat.le_of_ble_eq_true rfl) (Nat.le_of_ble_eq_true rfl) (Nat.zero_le _) (Nat.zero_le _) rfl (Nat.le_of_ble_eq_true rfl) dX6_lay_11 ?_
    refine aw_bit_ne0 C (tgt := 21) dX6_lay_14 (by decide) (fun gC => ?_) (fun gC => ?_)
    · obtain ⟨v1, rfl, hv⟩ := isV_ex hN hW.1 gV
      obtain ⟨c1, rfl, hc⟩ := isC_ex hC3 hW.2.2.1 gC
      have hV := isV_n hN hv
      have hC := isC_n hC3 hc
      have e1 := nt_n (k := v1) (by omega)
      have e2 := nt_n (k := c1) (by omega)
      have hwl : why b v1 c1 < 5 := by unfold why; (repeat' split) <;> decide
      refine aw_aload_n C rfl rfl dX6_lay_21 ?_
      refine aw_iload_n C rfl rfl dX6_lay_22 ?_
      refine aw_iload_n C rfl rfl dX6_lay_23 ?_
      refine tw_callR C (t6_whyNot hG l o sz _ hu hW (by omega) (by omega)) q1972 q1974 qs55 q120 q1975 (n9 := 2) (by decide +kernel) rfl (Nat.le_of_ble_eq_true rfl) (Nat.le_of_ble_eq_true rfl) (Nat.zero_le _) (Nat.zero_le _) rfl (Nat.le_of_ble_eq_true rfl) dX6_lay_24 ?_
      refine aw_ifN_le C (tgt := 34) (by omega) dX6_lay_27 (by decide) (fun gW => ?_) (fun gW => ?_)
      · refine aw_iconst C (v := nI 0) (by decide) dX6_lay_34 ?_
        refine tw_put C 7 (by decide) q1825 rfl rfl rfl dX6_lay_35 ?_
        refine aw_aload_n C rfl rfl dX6_lay_38 ?_
        refine tw_get C 7 (by decide) q1825 rfl dX6_lay_39 ?_
        refine aw_top (tsf_at _ _ _) ?_
        refine aw_if_le C (tgt := 47) dX6_lay_42 (by decide) (fun g2 => ?_) (fun g2 => ?_)
        · have hT := to_put7 hT (nI 0)
          have hu := bd_tsf hu 7 (nI 0)
          refine aw_aload_n C rfl rfl dX6_lay_47 ?_
          refine tw_callV C (t6_keeps hG l o sz _ hu hT.1.1 hT.1.2.1.1 hT.1.2.2) q2038 q2040 qs70 q120 q2041 (n9 := 0) (by decide +kernel) rfl (Nat.le_of_ble_eq_true rfl) (Nat.le_of_ble_eq_true rfl) (Nat.zero_le _) (Nat.zero_le _) rfl (Nat.le_of_ble_eq_true rfl) dX6_lay_48 (fun u2 hp => ?_)
          obtain ⟨q1, q2, q3, q4⟩ := hp
          have hT := to_keep hT hA q1 q2 q3 q4
          have hu := bd_of hu (q2 0 (by decide))
          have h7 := (q1 7 (by decide)).trans (tsf_at _ 7 (nI 0))
          refine aw_aload_n C rfl rfl dX6_lay_51 ?_
          refine aw_iload_n C rfl rfl dX6_lay_52 ?_
          refine aw_iload_n C rfl rfl dX6_lay_53 ?_
          refine tw_callV C (t6_lays hG l o sz _ hu hA (v := v1) (c := c1) (by omega) (by omega) (by omega)) q2011 q2013 qs64 q120 q2014 (n9 := 2) (by decide +kernel) rfl (Nat.le_of_ble_eq_true rfl) (Nat.le_of_ble_eq_true rfl) (Nat.zero_le _) (Nat.zero_le _) rfl (Nat.le_of_ble_eq_true rfl) dX6_lay_54 (fun u2 hp => ?_)
          obtain ⟨hj2, hu, k18, k19⟩ := hp
          have hT := hT.j2 hj2.two
          have h7 := hj2.th.trans h7
          have hA2 := wa_layM hA (v := v1) (c := c1) hm hv hc
          have hF := freeS_lt hA2.w.2.1
          refine aw_aload_n C rfl rfl dX6_lay_57 ?_
          refine aw_aload_n C rfl rfl dX6_lay_58 ?_
          refine tw_callR C (t6_freeSet hG l o sz _ hu hA2.w) q1992 q1994 qs60 q120 q1995 (n9 := 0) (by decide +kernel) rfl (Nat.le_of_ble_eq_true rfl) (Nat.le_of_ble_eq_true rfl) (Nat.zero_le _) (Nat.zero_le _) rfl (Nat.le_of_ble_eq_true rfl) dX6_lay_59 ?_
          refine tw_callR C (t6_partsIn hG l o sz _ hu hA2.w (by omega)) q2015 q2017 qs65 q120 q2018 (n9 := 1) (by decide +kernel) rfl (Nat.le_of_ble_eq_true rfl) (Nat.le_of_ble_eq_true rfl) (Nat.zero_le _) (Nat.zero_le _) rfl (Nat.le_of_ble_eq_true rfl) dX6_lay_62 ?_
          refine aw_iret C rfl dX6_lay_65 (Nat.le_refl _) (Nat.le_refl _) ?_
          unfold spLay
          rw [e1, e2, if_neg (by simp [hV, hC]), if_neg (by dsimp only; omega)]
          exact ⟨rfl, _, _, rfl, rfl, h7, rfl, hu, hA2, hT⟩
        · exact absurd (by decide) g2
      · refine aw_iconst C (v := nI 2) (by decide) dX6_lay_30 ?_
        refine aw_goto C (tgt := 35) dX6_lay_31 (by decide) ?_
        refine tw_put C 7 (by decide) q1825 rfl rfl rfl dX6_lay_35 ?_
        refine aw_aload_n C rfl rfl dX6_lay_38 ?_
        refine tw_get C 7 (by decide) q1825 rfl dX6_lay_39 ?_
        refine aw_top (tsf_at _ _ _) ?_
        refine aw_if_le C (tgt := 47) dX6_lay_42 (by decide) (fun g3 => ?_) (fun g3 => ?_)
        · exact absurd g3 (by decide)
        · refine aw_iconst C (v := nI 0) (by decide) dX6_lay_45 ?_
          refine aw_iret C rfl dX6_lay_46 (Nat.le_refl _) (Nat.le_refl _) ?_
          unfold spLay
          first
            | (have z1 : isV b v = false := gV; rw [if_pos (by simp [z1])]; exact ⟨rfl, _, _, rfl, rfl, tsf_at _ _ _, rfl, hu, hA, to_put7 hT _⟩)
            | (have z2 : isC b c = false := gC; rw [if_pos (by simp [z2])]; exact ⟨rfl, _, _, rfl, rfl, tsf_at _ _ _, rfl, hu, hA, to_put7 hT _⟩)
            | (rw [if_neg (by simp [hV, hC]), if_pos (by simp only [e1, e2]; omega)]; exact ⟨rfl, _, _, rfl, rfl, tsf_at _ _ _, rfl, hu, hA, to_put7 hT _⟩)
    · refine aw_iconst C (v := nI 1) (by decide) dX6_lay_17 ?_
      refine aw_goto C (tgt := 35) dX6_lay_18 (by decide) ?_
      refine tw_put C 7 (by decide) q1825 rfl rfl rfl dX6_lay_35 ?_
      refine aw_aload_n C rfl rfl dX6_lay_38 ?_
      refine tw_get C 7 (by decide) q1825 rfl dX6_lay_39 ?_
      refine aw_top (tsf_at _ _ _) ?_
      refine aw_if_le C (tgt := 47) dX6_lay_42 (by decide) (fun g4 => ?_) (fun g4 => ?_)
      · exact absurd g4 (by decide)
      · refine aw_iconst C (v := nI 0) (by decide) dX6_lay_45 ?_
        refine aw_iret C rfl dX6_lay_46 (Nat.le_refl _) (Nat.le_refl _) ?_
        unfold spLay
        first
          | (have z1 : isV b v = false := gV; rw [if_pos (by simp [z1])]; exact ⟨rfl, _, _, rfl, rfl, tsf_at _ _ _, rfl, hu, hA, to_put7 hT _⟩)
          | (have z2 : isC b c = false := gC; rw [if_pos (by simp [z2])]; exact ⟨rfl, _, _, rfl, rfl, tsf_at _ _ _, rfl, hu, hA, to_put7 hT _⟩)
          | (rw [if_neg (by simp [hV, hC]), if_pos (by simp only [e1, e2]; omega)]; exact ⟨rfl, _, _, rfl, rfl, tsf_at _ _ _, rfl, hu, hA, to_put7 hT _⟩)
set_option maxRecDepth 100000 in
theorem t6_pass {γ : Gm} (hG : GF γ) (l : Launch) (o sz : Nat) (u : TU) {b : BT} {ks : List BT} {sl : Nat → Option BT} {bf : List Nat} {ea : Int32} {wr : List Nat} (hu : BD u b) (hA : WA b) (hT : TO u ks sl bf ea wr) (hm : b 3 < 4096) : MX γ l yX6_pass cX6_pass 1 (some .int) 4 92 0 0 [.ref o] (th o u) sz (PS o sz (spPass (b, ks, sl, bf, ea, wr))) NX := by
  refine mx_start hG (by decide) (Nat.le_of_ble_eq_true rfl) (fun x C => ?_)
  have hW := hA.w
  have hN := hW.2.1
  have hC3 := hW.2.2.2.1
  have hL9 := hA.l
  refine aw_aload_n C rfl rfl dX6_pass_0 ?_
  refine aw_aload_n C rfl rfl dX6_pass_1 ?_
  refine tw_get C 0 (by decide) q1818 rfl dX6_pass_2 ?_
  refine aw_iconst C (v := nI 2) (by decide) dX6_pass_5 ?_
  refine tw_ld0 C (by omega) dX6_pass_6 ?_
  refine aw_top ((hu _)) ?_
  refine aw_ifN_ne C (tgt := 14) (by omega) dX6_pass_7 (by decide) (fun gL => ?_) (fun gL => ?_)
  · refine aw_iconst C (v := nI 0) (by decide) dX6_pass_14 ?_
    refine tw_put C 7 (by decide) q1825 rfl rfl rfl dX6_pass_15 ?_
    refine aw_aload_n C rfl rfl dX6_pass_18 ?_
    refine tw_get C 7 (by decide) q1825 rfl dX6_pass_19 ?_
    refine aw_top (tsf_at _ _ _) ?_
    refine aw_if_le C (tgt := 27) dX6_pass_22 (by decide) (fun g1 => ?_) (fun g1 => ?_)
    · have hT := to_put7 hT (nI 0)
      have hu := bd_tsf hu 7 (nI 0)
      refine aw_aload_n C rfl rfl dX6_pass_27 ?_
      refine tw_callV C (t6_keeps hG l o sz _ hu hT.1.1 hT.1.2.1.1 hT.1.2.2) q2038 q2040 qs70 q120 q2041 (n9 := 0) (by decide +kernel) rfl (Nat.le_of_ble_eq_true rfl) (Nat.le_of_ble_eq_true rfl) (Nat.zero_le _) (Nat.zero_le _) rfl (Nat.le_of_ble_eq_true rfl) dX6_pass_28 (fun u2 hp => ?_)
      obtain ⟨q1, q2, q3, q4⟩ := hp
      have hT := to_keep hT hA q1 q2 q3 q4
      have hu := bd_of hu (q2 0 (by decide))
      have h7 := (q1 7 (by decide)).trans (tsf_at _ 7 (nI 0))
      refine aw_aload_n C rfl rfl dX6_pass_31 ?_
      refine tw_callV C (t6_passes hG l o sz _ hu hA (by omega) (by omega)) q2034 q2036 qs69 q120 q2037 (n9 := 0) (by decide +kernel) rfl (Nat.le_of_ble_eq_true rfl) (Nat.le_of_ble_eq_true rfl) (Nat.zero_le _) (Nat.zero_le _) rfl (Nat.le_of_ble_eq_true rfl) dX6_pass_32 (fun u2 hp => ?_)
      obtain ⟨hj2, hu, k18, k19⟩ := hp
      have hT := hT.j2 hj2.two
      have h7 := hj2.th.trans h7
      have hA2 := wa_passM hA hm
      have e2 : passM b 2 = b 2 - 1 := by unfold passM; rw [noteB_n _ _ _ _ (by decide) (by decide)]; exact if_pos rfl
      refine aw_aload_n C rfl rfl dX6_pass_35 ?_
      refine tw_get C 0 (by decide) q1818 rfl dX6_pass_36 ?_
      refine aw_iconst C (v := nI 2) (by decide) dX6_pass_39 ?_
      refine tw_ld0 C (by omega) dX6_pass_40 ?_
      refine aw_top ((hu _)) ?_
      refine aw_top (congrArg nI e2) ?_
      refine aw_iret C rfl dX6_pass_41 (Nat.le_refl _) (Nat.le_refl _) ?_
      unfold spPass
      rw [if_neg (by dsimp only; omega)]
      exact ⟨rfl, _, _, rfl, rfl, h7, rfl, hu, hA2, hT⟩
    · exact absurd (by decide) g1
  · refine aw_iconst C (v := nI 1) (by decide) dX6_pass_10 ?_
    refine aw_goto C (tgt := 15) dX6_pass_11 (by decide) ?_
    refine tw_put C 7 (by decide) q1825 rfl rfl rfl dX6_pass_15 ?_
    refine aw_aload_n C rfl rfl dX6_pass_18 ?_
    refine tw_get C 7 (by decide) q1825 rfl dX6_pass_19 ?_
    refine aw_top (tsf_at _ _ _) ?_
    refine aw_if_le C (tgt := 27) dX6_pass_22 (by decide) (fun g2 => ?_) (fun g2 => ?_)
    · exact absurd g2 (by decide)
    · refine aw_iconst C (v := nI 0) (by decide) dX6_pass_25 ?_
      refine aw_iret C rfl dX6_pass_26 (Nat.le_refl _) (Nat.le_refl _) ?_
      unfold spPass
      first
        | (rw [if_pos (by dsimp only; omega)]; exact ⟨rfl, _, _, rfl, rfl, tsf_at _ _ _, rfl, hu, hA, to_put7 hT _⟩)
set_option maxRecDepth 100000 in
theorem t6_setPasses {γ : Gm} (hG : GF γ) (l : Launch) (o sz : Nat) (u : TU) {b : BT} {ks : List BT} {sl : Nat → Option BT} {bf : List Nat} {ea : Int32} {wr : List Nat} (hu : BD u b) (hA : WA b) (hT : TO u ks sl bf ea wr) (p : Int32) : MX γ l yX6_setPasses cX6_setPasses 3 (some .int) 2 45 0 0 [.ref o, .int p] (th o u) sz (PS o sz (spSet (b, ks, sl, bf, ea, wr) p)) NX := by
  refine mx_start hG (by decide) (Nat.le_of_ble_eq_true rfl) (fun x C => ?_)
  have hW := hA.w
  have hN := hW.2.1
  have hC3 := hW.2.2.2.1
  have hL9 := hA.l
  refine aw_aload_n C rfl rfl dX6_setPasses_0 ?_
  refine aw_iload_n C rfl rfl dX6_setPasses_1 ?_
  refine aw_iconst C (v := nI 0) (by decide) dX6_setPasses_2 ?_
  refine aw_bipush C (v := nI 9) (by decide) dX6_setPasses_3 ?_
  refine tw_callSR C (t6_isIn hG l o sz _ _ _ _) q1905 q1906 q120 q1907 (n9 := 3) (by decide +kernel) rfl (Nat.le_of_ble_eq_true rfl) (Nat.le_of_ble_eq_true rfl) (Nat.zero_le _) (Nat.zero_le _) rfl (Nat.le_of_ble_eq_true rfl) dX6_setPasses_5 ?_
  refine aw_bit_eq0 C (tgt := 15) dX6_setPasses_8 (by decide) (fun gI => ?_) (fun gI => ?_)
  · refine aw_iconst C (v := nI 1) (by decide) dX6_setPasses_15 ?_
    refine tw_put C 7 (by decide) q1825 rfl rfl rfl dX6_setPasses_16 ?_
    refine aw_aload_n C rfl rfl dX6_setPasses_19 ?_
    refine tw_get C 7 (by decide) q1825 rfl dX6_setPasses_20 ?_
    refine aw_top (tsf_at _ _ _) ?_
    refine aw_if_le C (tgt := 28) dX6_setPasses_23 (by decide) (fun g1 => ?_) (fun g1 => ?_)
    · exact absurd g1 (by decide)
    · refine aw_iconst C (v := nI 0) (by decide) dX6_setPasses_26 ?_
      refine aw_iret C rfl dX6_setPasses_27 (Nat.le_refl _) (Nat.le_refl _) ?_
      unfold spSet
      first
        | (rw [if_pos (show isI p (nI 0) (nI 9) = false from gI)]; exact ⟨rfl, _, _, rfl, rfl, tsf_at _ _ _, rfl, hu, hA, to_put7 hT _⟩)
  · refine aw_iconst C (v := nI 0) (by decide) dX6_setPasses_11 ?_
    refine aw_goto C (tgt := 16) dX6_setPasses_12 (by decide) ?_
    refine tw_put C 7 (by decide) q1825 rfl rfl rfl dX6_setPasses_16 ?_
    refine aw_aload_n C rfl rfl dX6_setPasses_19 ?_
    refine tw_get C 7 (by decide) q1825 rfl dX6_setPasses_20 ?_
    refine aw_top (tsf_at _ _ _) ?_
    refine aw_if_le C (tgt := 28) dX6_setPasses_23 (by decide) (fun g2 => ?_) (fun g2 => ?_)
    · obtain ⟨k1, rfl, hk0, hk1⟩ := isI_ex (lo := 0) (hi := 9) (by decide) (by decide) gI
      have en := nt_n (k := k1) (by omega)
      have hI := isI_n (k := k1) (lo := 0) (hi := 9) (by decide) (by omega) (by omega)
      have hT := to_put7 hT (nI 0)
      have hu := bd_tsf hu 7 (nI 0)
      refine aw_aload_n C rfl rfl dX6_setPasses_28 ?_
      refine tw_callV C (t6_keeps hG l o sz _ hu hT.1.1 hT.1.2.1.1 hT.1.2.2) q2038 q2040 qs70 q120 q2041 (n9 := 0) (by decide +kernel) rfl (Nat.le_of_ble_eq_true rfl) (Nat.le_of_ble_eq_true rfl) (Nat.zero_le _) (Nat.zero_le _) rfl (Nat.le_of_ble_eq_true rfl) dX6_setPasses_29 (fun u2 hp => ?_)
      obtain ⟨q1, q2, q3, q4⟩ := hp
      have hT := to_keep hT hA q1 q2 q3 q4
      have hu := bd_of hu (q2 0 (by decide))
      have h7 := (q1 7 (by decide)).trans (tsf_at _ 7 (nI 0))
      refine aw_aload_n C rfl rfl dX6_setPasses_32 ?_
      refine tw_get C 0 (by decide) q1818 rfl dX6_setPasses_33 ?_
      refine aw_iconst C (v := nI 2) (by decide) dX6_setPasses_36 ?_
      refine tw_ld0 C (by omega) dX6_setPasses_37 ?_
      refine aw_top ((hu _)) ?_
      refine aw_istore_n C rfl (by decide) rfl dX6_setPasses_38 ?_
      refine aw_aload_n C rfl rfl dX6_setPasses_39 ?_
      refine tw_get C 0 (by decide) q1818 rfl dX6_setPasses_40 ?_
      refine aw_iconst C (v := nI 2) (by decide) dX6_setPasses_43 ?_
      refine aw_iload_n C rfl rfl dX6_setPasses_44 ?_
      refine tw_st0 C (by omega) dX6_setPasses_45 ?_
      refine aw_iload_n C rfl rfl dX6_setPasses_46 ?_
      refine aw_iret C rfl dX6_setPasses_47 (Nat.le_refl _) (Nat.le_refl _) ?_
      unfold spSet
      rw [en, if_neg (by rw [hI]; decide)]
      exact ⟨rfl, _, _, rfl, rfl, h7, rfl, bd_upd hu 2 k1, wa_up2 hA hk1, hT.j2 (tj_up _ (by omega)).two⟩
    · exact absurd (by decide) g2
set_option maxRecDepth 100000 in
theorem t6_save {γ : Gm} (hG : GF γ) (l : Launch) (o sz : Nat) (u : TU) {b : BT} {ks : List BT} {sl : Nat → Option BT} {bf : List Nat} {ea : Int32} {wr : List Nat} (hu : BD u b) (hA : WA b) (hT : TO u ks sl bf ea wr) (p : Int32) : MX γ l yX6_save cX6_save 2 (some .int) 1 24 0 0 [.ref o, .int p] (th o u) sz (PS o sz (spSave (b, ks, sl, bf, ea, wr) p)) NX := by
  refine mx_start hG (by decide) (Nat.le_of_ble_eq_true rfl) (fun x C => ?_)
  have hW := hA.w
  have hN := hW.2.1
  have hC3 := hW.2.2.2.1
  have hL9 := hA.l
  refine aw_aload_n C rfl rfl dX6_save_0 ?_
  refine aw_iload_n C rfl rfl dX6_save_1 ?_
  refine aw_iconst C (v := nI 0) (by decide) dX6_save_2 ?_
  refine aw_iconst C (v := nI 1) (by decide) dX6_save_3 ?_
  refine tw_callSR C (t6_isIn hG l o sz _ _ _ _) q1905 q1906 q120 q1907 (n9 := 3) (by decide +kernel) rfl (Nat.le_of_ble_eq_true rfl) (Nat.le_of_ble_eq_true rfl) (Nat.zero_le _) (Nat.zero_le _) rfl (Nat.le_of_ble_eq_true rfl) dX6_save_4 ?_
  refine aw_bit_eq0 C (tgt := 14) dX6_save_7 (by decide) (fun gI => ?_) (fun gI => ?_)
  · refine aw_iconst C (v := nI 1) (by decide) dX6_save_14 ?_
    refine tw_put C 7 (by decide) q1825 rfl rfl rfl dX6_save_15 ?_
    refine aw_aload_n C rfl rfl dX6_save_18 ?_
    refine tw_get C 7 (by decide) q1825 rfl dX6_save_19 ?_
    refine aw_top (tsf_at _ _ _) ?_
    refine aw_if_le C (tgt := 27) dX6_save_22 (by decide) (fun g1 => ?_) (fun g1 => ?_)
    · exact absurd g1 (by decide)
    · refine aw_iconst C (v := nI 0) (by decide) dX6_save_25 ?_
      refine aw_iret C rfl dX6_save_26 (Nat.le_refl _) (Nat.le_refl _) ?_
      unfold spSave
      first
        | (rw [if_pos (show isI p (nI 0) (nI 1) = false from gI)]; exact ⟨rfl, _, _, rfl, rfl, tsf_at _ _ _, rfl, hu, hA, to_put7 hT _⟩)
  · refine aw_iconst C (v := nI 0) (by decide) dX6_save_10 ?_
    refine aw_goto C (tgt := 15) dX6_save_11 (by decide) ?_
    refine tw_put C 7 (by decide) q1825 rfl rfl rfl dX6_save_15 ?_
    refine aw_aload_n C rfl rfl dX6_save_18 ?_
    refine tw_get C 7 (by decide) q1825 rfl dX6_save_19 ?_
    refine aw_top (tsf_at _ _ _) ?_
    refine aw_if_le C (tgt := 27) dX6_save_22 (by decide) (fun g2 => ?_) (fun g2 => ?_)
    · obtain ⟨k1, rfl, hk0, hk1⟩ := isI_ex (lo := 0) (hi := 1) (by decide) (by decide) gI
      have en := nt_n (k := k1) (by omega)
      have hI := isI_n (k := k1) (lo := 0) (hi := 1) (by decide) (by omega) (by omega)
      have hT := to_put7 hT (nI 0)
      have hu := bd_tsf hu 7 (nI 0)
      refine aw_aload_n C rfl rfl dX6_save_27 ?_
      refine tw_get C 5 (by decide) q1823 rfl dX6_save_28 ?_
      refine aw_iload_n C rfl rfl dX6_save_31 ?_
      refine aw_iconst C (v := nI 1) (by decide) dX6_save_32 ?_
      refine tw_st5 C (by omega) dX6_save_33 ?_
      refine aw_aload_n C rfl rfl dX6_save_34 ?_
      refine tw_get C 4 (by decide) q1822 rfl dX6_save_35 ?_
      refine aw_sipush C (v := nI 4136) (by decide) dX6_save_38 ?_
      refine aw_iload_n C rfl rfl dX6_save_41 ?_
      refine aw_imulN C dX6_save_42 ?_
      refine aw_aload_n C rfl rfl dX6_save_43 ?_
      refine tw_get C 0 (by decide) q1818 rfl dX6_save_44 ?_
      refine aw_iconst C (v := nI 0) (by decide) dX6_save_47 ?_
      refine tw_callSV C (t6_sets_4_0 hG l o sz _ (ta := 4136 * k1) (fa := 0) (by omega) (by omega)) q1894 q1895 q120 q1896 (n9 := 4) (by decide +kernel) rfl (Nat.le_of_ble_eq_true rfl) (Nat.le_of_ble_eq_true rfl) (Nat.zero_le _) (Nat.zero_le _) rfl (Nat.le_of_ble_eq_true rfl) dX6_save_48 (fun u2 hp => ?_)
      subst hp
      refine aw_aload_n C rfl rfl dX6_save_51 ?_
      refine tw_get C 0 (by decide) q1818 rfl dX6_save_52 ?_
      refine aw_iconst C (v := nI 3) (by decide) dX6_save_55 ?_
      refine tw_ld0 C (by omega) dX6_save_56 ?_
      refine aw_top ((hu _)) ?_
      refine aw_iret C rfl dX6_save_57 (Nat.le_refl _) (Nat.le_refl _) ?_
      unfold spSave
      rw [en, if_neg (by rw [hI]; decide)]
      refine ⟨rfl, _, _, rfl, rfl, tsf_at u 7 (nI 0), rfl, hu, hA, ?_⟩
      obtain ⟨a0, a4, a12⟩ := hT
      refine ⟨a0, fun i hi => ?_, a12⟩
      show upd (u.2 5) k1 (nI 1) i = nI (if (slU sl k1 b i).isSome = true then 1 else 0) ∧ ∀ s, slU sl k1 b i = some s → WA s ∧ ∀ j, j < 4136 → cpy (u.2 4) (4136 * k1) (u.2 0) 0 4136 (4136 * i + j) = nI (s j)
      unfold slU
      by_cases e : i = k1
      · subst e
        rw [pk_us]
        simp only [if_true]
        refine ⟨rfl, fun s hs => ?_⟩
        rw [← Option.some.inj hs]
        refine ⟨hA, fun j hj => ?_⟩
        rw [cpy_in hj, Nat.zero_add]
        exact hu j
      · rw [pk_un e]
        simp only [e, if_false]
        refine ⟨(a4 i hi).1, fun s hs => ⟨((a4 i hi).2 s hs).1, fun j hj => ?_⟩⟩
        rw [cpy_out (by omega)]
        exact ((a4 i hi).2 s hs).2 j hj
    · exact absurd (by decide) g2
set_option maxRecDepth 100000 in
theorem t6_restore {γ : Gm} (hG : GF γ) (l : Launch) (o sz : Nat) (u : TU) {b : BT} {ks : List BT} {sl : Nat → Option BT} {bf : List Nat} {ea : Int32} {wr : List Nat} (hu : BD u b) (hA : WA b) (hT : TO u ks sl bf ea wr) (p : Int32) : MX γ l yX6_restore cX6_restore 2 (some .int) 2 45 0 0 [.ref o, .int p] (th o u) sz (PS o sz (spRest (b, ks, sl, bf, ea, wr) p)) NX := by
  refine mx_start hG (by decide) (Nat.le_of_ble_eq_true rfl) (fun x C => ?_)
  have hW := hA.w
  have hN := hW.2.1
  have hC3 := hW.2.2.2.1
  have hL9 := hA.l
  refine aw_aload_n C rfl rfl dX6_restore_0 ?_
  refine aw_iload_n C rfl rfl dX6_restore_1 ?_
  refine aw_iconst C (v := nI 0) (by decide) dX6_restore_2 ?_
  refine aw_iconst C (v := nI 1) (by decide) dX6_restore_3 ?_
  refine tw_callSR C (t6_isIn hG l o sz _ _ _ _) q1905 q1906 q120 q1907 (n9 := 3) (by decide +kernel) rfl (Nat.le_of_ble_eq_true rfl) (Nat.le_of_ble_eq_true rfl) (Nat.zero_le _) (Nat.zero_le _) rfl (Nat.le_of_ble_eq_true rfl) dX6_restore_4 ?_
  refine aw_bit_ne0 C (tgt := 14) dX6_restore_7 (by decide) (fun gI => ?_) (fun gI => ?_)
  · obtain ⟨k1, rfl, hk0, hk1⟩ := isI_ex (lo := 0) (hi := 1) (by decide) (by decide) gI
    have en := nt_n (k := k1) (by omega)
    have hI := isI_n (k := k1) (lo := 0) (hi := 1) (by decide) (by omega) (by omega)
    refine aw_aload_n C rfl rfl dX6_restore_14 ?_
    refine tw_get C 5 (by decide) q1823 rfl dX6_restore_15 ?_
    refine aw_iload_n C rfl rfl dX6_restore_18 ?_
    refine tw_ld5 C (by omega) dX6_restore_19 ?_
    have hsl := hT.2.1 k1 (by omega)
    refine aw_top hsl.1 ?_
    refine aw_bit_eq0 C (tgt := 27) dX6_restore_20 (by decide) (fun gS => ?_) (fun gS => ?_)
    · refine aw_iconst C (v := nI 2) (by decide) dX6_restore_27 ?_
      refine tw_put C 7 (by decide) q1825 rfl rfl rfl dX6_restore_28 ?_
      refine aw_aload_n C rfl rfl dX6_restore_31 ?_
      refine tw_get C 7 (by decide) q1825 rfl dX6_restore_32 ?_
      refine aw_top (tsf_at _ _ _) ?_
      refine aw_if_le C (tgt := 40) dX6_restore_35 (by decide) (fun g1 => ?_) (fun g1 => ?_)
      · exact absurd g1 (by decide)
      · refine aw_iconst C (v := nI 0) (by decide) dX6_restore_38 ?_
        refine aw_iret C rfl dX6_restore_39 (Nat.le_refl _) (Nat.le_refl _) ?_
        unfold spRest
        first
          | (rw [if_pos (show isI p (nI 0) (nI 1) = false from gI)]; exact ⟨rfl, _, _, rfl, rfl, tsf_at _ _ _, rfl, hu, hA, to_put7 hT _⟩)
          | (rw [en, if_neg (by rw [hI]; decide), if_pos gS]; exact ⟨rfl, _, _, rfl, rfl, tsf_at _ _ _, rfl, hu, hA, to_put7 hT _⟩)
    · refine aw_iconst C (v := nI 0) (by decide) dX6_restore_23 ?_
      refine aw_goto C (tgt := 28) dX6_restore_24 (by decide) ?_
      refine tw_put C 7 (by decide) q1825 rfl rfl rfl dX6_restore_28 ?_
      refine aw_aload_n C rfl rfl dX6_restore_31 ?_
      refine tw_get C 7 (by decide) q1825 rfl dX6_restore_32 ?_
      refine aw_top (tsf_at _ _ _) ?_
      refine aw_if_le C (tgt := 40) dX6_restore_35 (by decide) (fun g2 => ?_) (fun g2 => ?_)
      · have hT := to_put7 hT (nI 0)
        have hu := bd_tsf hu 7 (nI 0)
        have hss : (sl k1).isSome = true := gS
        obtain ⟨s1, hs1⟩ := Option.isSome_iff_exists.mp hss
        obtain ⟨hA2, hs2⟩ := hsl.2 s1 hs1
        refine aw_aload_n C rfl rfl dX6_restore_40 ?_
        refine tw_callV C (t6_keeps hG l o sz _ hu hT.1.1 hT.1.2.1.1 hT.1.2.2) q2038 q2040 qs70 q120 q2041 (n9 := 0) (by decide +kernel) rfl (Nat.le_of_ble_eq_true rfl) (Nat.le_of_ble_eq_true rfl) (Nat.zero_le _) (Nat.zero_le _) rfl (Nat.le_of_ble_eq_true rfl) dX6_restore_41 (fun u2 hp => ?_)
        obtain ⟨q1, q2, q3, q4⟩ := hp
        have hT := to_keep hT hA q1 q2 q3 q4
        have hu := bd_of hu (q2 0 (by decide))
        have h7 := (q1 7 (by decide)).trans (tsf_at _ 7 (nI 0))
        refine aw_aload_n C rfl rfl dX6_restore_44 ?_
        refine tw_get C 0 (by decide) q1818 rfl dX6_restore_45 ?_
        refine aw_iconst C (v := nI 0) (by decide) dX6_restore_48 ?_
        refine aw_aload_n C rfl rfl dX6_restore_49 ?_
        refine tw_get C 4 (by decide) q1822 rfl dX6_restore_50 ?_
        refine aw_sipush C (v := nI 4136) (by decide) dX6_restore_53 ?_
        refine aw_iload_n C rfl rfl dX6_restore_56 ?_
        refine aw_imulN C dX6_restore_57 ?_
        refine tw_callSV C (t6_sets_0_4 hG l o sz _ (ta := 0) (fa := 4136 * k1) (by omega) (by omega)) q1894 q1895 q120 q1896 (n9 := 4) (by decide +kernel) rfl (Nat.le_of_ble_eq_true rfl) (Nat.le_of_ble_eq_true rfl) (Nat.zero_le _) (Nat.zero_le _) rfl (Nat.le_of_ble_eq_true rfl) dX6_restore_58 (fun u2 hp => ?_)
        subst hp
        have hu := bd_cpy hu hA hA2 (fun j hj => (congrFun (q2 4 (by decide)) _).trans (hs2 j hj))
        refine aw_aload_n C rfl rfl dX6_restore_61 ?_
        refine tw_get C 0 (by decide) q1818 rfl dX6_restore_62 ?_
        refine aw_iconst C (v := nI 3) (by decide) dX6_restore_65 ?_
        refine tw_ld0 C (by omega) dX6_restore_66 ?_
        refine aw_top ((hu _)) ?_
        refine aw_iret C rfl dX6_restore_67 (Nat.le_refl _) (Nat.le_refl _) ?_
        unfold spRest
        rw [en, if_neg (by rw [hI]; decide), if_neg (by rw [hss]; decide)]
        dsimp only
        rw [hs1]
        exact ⟨rfl, _, _, rfl, rfl, h7, rfl, hu, hA2, hT.j2 (tj_up _ (by omega)).two⟩
      · exact absurd (by decide) g2
  · refine aw_iconst C (v := nI 1) (by decide) dX6_restore_10 ?_
    refine aw_goto C (tgt := 28) dX6_restore_11 (by decide) ?_
    refine tw_put C 7 (by decide) q1825 rfl rfl rfl dX6_restore_28 ?_
    refine aw_aload_n C rfl rfl dX6_restore_31 ?_
    refine tw_get C 7 (by decide) q1825 rfl dX6_restore_32 ?_
    refine aw_top (tsf_at _ _ _) ?_
    refine aw_if_le C (tgt := 40) dX6_restore_35 (by decide) (fun g3 => ?_) (fun g3 => ?_)
    · exact absurd g3 (by decide)
    · refine aw_iconst C (v := nI 0) (by decide) dX6_restore_38 ?_
      refine aw_iret C rfl dX6_restore_39 (Nat.le_refl _) (Nat.le_refl _) ?_
      unfold spRest
      first
        | (rw [if_pos (show isI p (nI 0) (nI 1) = false from gI)]; exact ⟨rfl, _, _, rfl, rfl, tsf_at _ _ _, rfl, hu, hA, to_put7 hT _⟩)
        | (rw [en, if_neg (by rw [hI]; decide), if_pos gS]; exact ⟨rfl, _, _, rfl, rfl, tsf_at _ _ _, rfl, hu, hA, to_put7 hT _⟩)
set_option maxRecDepth 100000 in
theorem t6_playOut {γ : Gm} (hG : GF γ) (l : Launch) (o sz : Nat) (u : TU) {b : BT} {ks : List BT} {sl : Nat → Option BT} {bf : List Nat} {ea : Int32} {wr : List Nat} (hu : BD u b) (hA : WA b) (hT : TO u ks sl bf ea wr) (p : Int32) (hm : b 3 + 20 ≤ 4096) : MX γ l yX6_playOut cX6_playOut 4 (some .int) 27 874 0 0 [.ref o, .int p] (th o u) sz (PS o sz (spPlay (b, ks, sl, bf, ea, wr) p)) NX := by
  refine mx_start hG (by decide) (Nat.le_of_ble_eq_true rfl) (fun x C => ?_)
  have hW := hA.w
  have hN := hW.2.1
  have hC3 := hW.2.2.2.1
  have hL9 := hA.l
  refine aw_aload_n C rfl rfl dX6_playOut_0 ?_
  refine aw_iload_n C rfl rfl dX6_playOut_1 ?_
  refine aw_iconst C (v := nI 1) (by decide) dX6_playOut_2 ?_
  refine aw_bipush C (v := nI 20) (by decide) dX6_playOut_3 ?_
  refine tw_callSR C (t6_isIn hG l o sz _ _ _ _) q1905 q1906 q120 q1907 (n9 := 3) (by decide +kernel) rfl (Nat.le_of_ble_eq_true rfl) (Nat.le_of_ble_eq_true rfl) (Nat.zero_le _) (Nat.zero_le _) rfl (Nat.le_of_ble_eq_true rfl) dX6_playOut_5 ?_
  refine aw_bit_eq0 C (tgt := 15) dX6_playOut_8 (by decide) (fun gI => ?_) (fun gI => ?_)
  · refine aw_iconst C (v := nI 1) (by decide) dX6_playOut_15 ?_
    refine tw_put C 7 (by decide) q1825 rfl rfl rfl dX6_playOut_16 ?_
    refine aw_aload_n C rfl rfl dX6_playOut_19 ?_
    refine tw_get C 7 (by decide) q1825 rfl dX6_playOut_20 ?_
    refine aw_top (tsf_at _ _ _) ?_
    refine aw_if_le C (tgt := 28) dX6_playOut_23 (by decide) (fun g1 => ?_) (fun g1 => ?_)
    · exact absurd g1 (by decide)
    · refine aw_iconst C (v := nI 0) (by decide) dX6_playOut_26 ?_
      refine aw_iret C rfl dX6_playOut_27 (Nat.le_refl _) (Nat.le_refl _) ?_
      unfold spPlay
      first
        | (rw [if_pos (show isI p (nI 1) (nI 20) = false from gI)]; exact ⟨rfl, _, _, rfl, rfl, tsf_at _ _ _, rfl, hu, hA, to_put7 hT _⟩)
  · refine aw_iconst C (v := nI 0) (by decide) dX6_playOut_11 ?_
    refine aw_goto C (tgt := 16) dX6_playOut_12 (by decide) ?_
    refine tw_put C 7 (by decide) q1825 rfl rfl rfl dX6_playOut_16 ?_
    refine aw_aload_n C rfl rfl dX6_playOut_19 ?_
    refine tw_get C 7 (by decide) q1825 rfl dX6_playOut_20 ?_
    refine aw_top (tsf_at _ _ _) ?_
    refine aw_if_le C (tgt := 28) dX6_playOut_23 (by decide) (fun g2 => ?_) (fun g2 => ?_)
    · obtain ⟨k1, rfl, hk0, hk1⟩ := isI_ex (lo := 1) (hi := 20) (by decide) (by decide) gI
      have en := nt_n (k := k1) (by omega)
      have hI := isI_n (k := k1) (lo := 1) (hi := 20) (by decide) (by omega) (by omega)
      have key : ∀ f bb n u1, WA bb → BD u1 bb → KT u1 bb → bb 3 + f ≤ 4096 → n + f = k1 → plG f bb n = plG k1 b 0 → TO u1 (keepS b ks) sl bf ea wr → u1.1 7 = nI 0 → AW γ l x (QX γ x 0 0 (PS o sz (spPlay (b, ks, sl, bf, ea, wr) (nI k1))) NX) 4 (th o u1) sz 0 0 38 [(0, .ref o), (1, .int (nI k1)), (2, .int (nI n))] [] := by
        intro f
        induction f with
        | zero =>
          intro bb n u1 hA hu hkt hm hn hp hT h7
          refine aw_iload_n C rfl rfl dX6_playOut_38 ?_
          refine aw_iload_n C rfl rfl dX6_playOut_39 ?_
          refine aw_icmpN_ge C (tgt := 84) (by omega) (by omega) dX6_playOut_40 (by decide) (fun gM => ?_) (fun gM => ?_)
          · refine aw_iload_n C rfl rfl dX6_playOut_84 ?_
            refine aw_iret C rfl dX6_playOut_85 (Nat.le_refl _) (Nat.le_refl _) ?_
            unfold spPlay
            rw [en, if_neg (by rw [hI]; decide)]
            dsimp only
            rw [← hp]
            exact ⟨rfl, _, _, rfl, rfl, h7, rfl, hu, hA, hT⟩
          · exact absurd gM (by omega)
        | succ f ih =>
          intro bb n u1 hA hu hkt hm hn hp hT h7
          have hW := hA.w
          have hN := hW.2.1
          have hC3 := hW.2.2.2.1
          have hL9 := hA.l
          have hj := TJ.rf u1
          refine aw_iload_n C rfl rfl dX6_playOut_38 ?_
          refine aw_iload_n C rfl rfl dX6_playOut_39 ?_
          refine aw_icmpN_ge C (tgt := 84) (by omega) (by omega) dX6_playOut_40 (by decide) (fun gM => ?_) (fun gM => ?_)
          · exact absurd gM (by omega)
          · refine aw_aload_n C rfl rfl dX6_playOut_43 ?_
            refine tw_callR C (t6_isOver hG l o sz _ hu hW hL9) q2054 q2056 qs72 q120 q2057 (n9 := 0) (by decide +kernel) rfl (Nat.le_of_ble_eq_true rfl) (Nat.le_of_ble_eq_true rfl) (Nat.zero_le _) (Nat.zero_le _) rfl (Nat.le_of_ble_eq_true rfl) dX6_playOut_44 ?_
            refine aw_bit_ne0 C (tgt := 84) dX6_playOut_47 (by decide) (fun gO => ?_) (fun gO => ?_)
            · refine aw_iload_n C rfl rfl dX6_playOut_84 ?_
              refine aw_iret C rfl dX6_playOut_85 (Nat.le_refl _) (Nat.le_refl _) ?_
              unfold spPlay
              rw [en, if_neg (by rw [hI]; decide)]
              dsimp only
              rw [← hp, plG, if_pos (show over bb = true from gO)]
              exact ⟨rfl, _, _, rfl, rfl, h7, rfl, hu, hA, hT⟩
            · refine aw_aload_n C rfl rfl dX6_playOut_50 ?_
              refine tw_callI C (t6_best hG l o sz _ hu hA hkt) q2158 q2160 qs90 q120 q2161 (n9 := 0) (by decide +kernel) rfl (Nat.le_of_ble_eq_true rfl) (Nat.le_of_ble_eq_true rfl) (Nat.zero_le _) (Nat.zero_le _) rfl (Nat.le_of_ble_eq_true rfl) dX6_playOut_51 (fun r u2 hp2 => ?_)
              obtain ⟨rfl, hj2, hu, hkt⟩ := hp2
              have hT := hT.j2 hj2.two
              have h7 := hj2.th.trans h7
              have hO : ¬ over bb = true := by unfold over; rw [gO]; decide
              have hmv := bestN_ok hA hO
              have hmb := mvOk_lt hA hmv
              have hst := stepM_ok hA (by omega) hO
              refine aw_top (pk_sub (show 1 ≤ bestN bb by omega)) ?_
              refine aw_istore_n C rfl (by decide) rfl dX6_playOut_54 ?_
              refine aw_iload_n C rfl rfl dX6_playOut_55 ?_
              refine aw_bipush C (v := nI 100) (by decide) dX6_playOut_56 ?_
              refine aw_icmpN_ne C (tgt := 68) (by omega) (by omega) dX6_playOut_58 (by decide) (fun gP => ?_) (fun gP => ?_)
              · have hvc : (bestN bb - 1) / 4 < bb 0 ∧ (bestN bb - 1) % 4 < bb 1 := by
                  rcases hmv with ⟨e, _⟩ | ⟨v, c, q1, q2, q3, e⟩
                  · omega
                  · rw [e]; constructor <;> omega
                refine aw_aload_n C rfl rfl dX6_playOut_68 ?_
                refine aw_iload_n C rfl rfl dX6_playOut_69 ?_
                refine aw_iconst C (v := nI 4) (by decide) dX6_playOut_70 ?_
                refine aw_idivN C (by omega) (by omega) (by omega) dX6_playOut_71 ?_
                refine aw_iload_n C rfl rfl dX6_playOut_72 ?_
                refine aw_iconst C (v := nI 4) (by decide) dX6_playOut_73 ?_
                refine aw_iremN C (by omega) (by omega) (by omega) dX6_playOut_74 ?_
                refine tw_callV C (t6_lays hG l o sz _ hu hA (v := (bestN bb - 1) / 4) (c := (bestN bb - 1) % 4) hvc.1 hvc.2 (by omega)) q2011 q2013 qs64 q120 q2014 (n9 := 2) (by decide +kernel) rfl (Nat.le_of_ble_eq_true rfl) (Nat.le_of_ble_eq_true rfl) (Nat.zero_le _) (Nat.zero_le _) rfl (Nat.le_of_ble_eq_true rfl) dX6_playOut_75 (fun u3 hp3 => ?_)
                obtain ⟨hj3, hu, k18, k19⟩ := hp3
                have hT := hT.j2 hj3.two
                have h7 := hj3.th.trans h7
                have es : stepM bb = layM bb ((bestN bb - 1) / 4) ((bestN bb - 1) % 4) := by unfold stepM; rw [if_neg (by omega)]
                refine aw_iinc1 C rfl (by decide) rfl dX6_playOut_78 ?_
                refine aw_goto C (tgt := 38) dX6_playOut_81 (by decide) ?_
                rw [← es] at hu
                exact aw_lo (ih (stepM bb) (n + 1) _ hst.1 hu (kt_st hst.2.1 (kt_of hkt k18)) (by rw [hst.2.2]; omega) (by omega) (by rw [← hp, plG, if_neg hO]) hT h7) ⟨rfl, rfl, rfl, trivial⟩
              · have hvp : 0 < bb 2 := by
                  rcases hmv with ⟨_, e⟩ | ⟨v, c, q1, q2, q3, e⟩
                  · exact e
                  · omega
                refine aw_aload_n C rfl rfl dX6_playOut_61 ?_
                refine tw_callV C (t6_passes hG l o sz _ hu hA hvp (by omega)) q2034 q2036 qs69 q120 q2037 (n9 := 0) (by decide +kernel) rfl (Nat.le_of_ble_eq_true rfl) (Nat.le_of_ble_eq_true rfl) (Nat.zero_le _) (Nat.zero_le _) rfl (Nat.le_of_ble_eq_true rfl) dX6_playOut_62 (fun u3 hp3 => ?_)
                obtain ⟨hj3, hu, k18, k19⟩ := hp3
                have hT := hT.j2 hj3.two
                have h7 := hj3.th.trans h7
                have es : stepM bb = passM bb := by unfold stepM; rw [if_pos (by omega)]
                refine aw_goto C (tgt := 78) dX6_playOut_65 (by decide) ?_
                refine aw_iinc1 C rfl (by decide) rfl dX6_playOut_78 ?_
                refine aw_goto C (tgt := 38) dX6_playOut_81 (by decide) ?_
                rw [← es] at hu
                exact aw_lo (ih (stepM bb) (n + 1) _ hst.1 hu (kt_st hst.2.1 (kt_of hkt k18)) (by rw [hst.2.2]; omega) (by omega) (by rw [← hp, plG, if_neg hO]) hT h7) ⟨rfl, rfl, rfl, trivial⟩
      have hT := to_put7 hT (nI 0)
      have hu := bd_tsf hu 7 (nI 0)
      refine aw_aload_n C rfl rfl dX6_playOut_28 ?_
      refine tw_callV C (t6_keeps hG l o sz _ hu hT.1.1 hT.1.2.1.1 hT.1.2.2) q2038 q2040 qs70 q120 q2041 (n9 := 0) (by decide +kernel) rfl (Nat.le_of_ble_eq_true rfl) (Nat.le_of_ble_eq_true rfl) (Nat.zero_le _) (Nat.zero_le _) rfl (Nat.le_of_ble_eq_true rfl) dX6_playOut_29 (fun u2 hp => ?_)
      obtain ⟨q1, q2, q3, q4⟩ := hp
      have hT := to_keep hT hA q1 q2 q3 q4
      have hu := bd_of hu (q2 0 (by decide))
      have h7 := (q1 7 (by decide)).trans (tsf_at _ 7 (nI 0))
      refine aw_aload_n C rfl rfl dX6_playOut_32 ?_
      refine tw_callV C (t6_forgets hG l o sz _) q2102 q2104 qs81 q120 q2105 (n9 := 0) (by decide +kernel) rfl (Nat.le_of_ble_eq_true rfl) (Nat.le_of_ble_eq_true rfl) (Nat.zero_le _) (Nat.zero_le _) rfl (Nat.le_of_ble_eq_true rfl) dX6_playOut_33 (fun u2 hp => ?_)
      obtain ⟨g, hgu, hg⟩ := hp
      have hkt : KT u2 b := kt_none (by rw [hgu]; exact hg) hA.p
      have hu : BD u2 b := bd_of hu (by rw [hgu]; rfl)
      have hj3 := fg_tj hgu
      have hT := hT.j2 hj3.two
      have h7 := hj3.th.trans h7
      refine aw_iconst C (v := nI 0) (by decide) dX6_playOut_36 ?_
      refine aw_istore_n C rfl (by decide) rfl dX6_playOut_37 ?_
      exact aw_lo (key k1 b 0 _ hA hu hkt (by omega) (by omega) rfl hT h7) ⟨rfl, rfl, rfl, trivial⟩
    · exact absurd (by decide) g2
