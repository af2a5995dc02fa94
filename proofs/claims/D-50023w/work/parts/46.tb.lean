/-! the twin: written, appended -/
set_option maxRecDepth 100000 in
theorem t6_says {γ : Gm} (hG : GF γ) (l : Launch) (o sz : Nat) (u : TU)  {wr : List Nat} (hw : WRp u wr) {c : Nat} (hl : wr.length < 14) : MX γ l yX6_says cX6_says 2 none 0 0 0 0 [.ref o, .int (nI c)] (th o u) sz (RUv o sz (fun u' => WRp u' (wr ++ [c]) ∧ (∀ i, i ≠ 21 → u'.1 i = u.1 i) ∧ ∀ i, i ≠ 20 → u'.2 i = u.2 i)) NX := by
  refine mx_start hG (by decide) (Nat.le_of_ble_eq_true rfl) (fun x C => ?_)
  refine aw_aload_n C rfl rfl dX6_says_0 ?_
  refine tw_get C 20 (by decide) q1838 rfl dX6_says_1 ?_
  refine aw_aload_n C rfl rfl dX6_says_4 ?_
  refine tw_get C 21 (by decide) q1839 rfl dX6_says_5 ?_
  refine aw_top (hw.1) ?_
  refine aw_iload_n C rfl rfl dX6_says_8 ?_
  refine tw_st20 C (by omega) dX6_says_9 ?_
  refine aw_aload_n C rfl rfl dX6_says_10 ?_
  refine aw_dup C rfl dX6_says_11 ?_
  refine tw_get C 21 (by decide) q1839 rfl dX6_says_12 ?_
  refine aw_top (hw.1) ?_
  refine aw_iconst C (v := nI 1) (by decide) dX6_says_15 ?_
  refine aw_iaddN C dX6_says_16 ?_
  refine tw_put C 21 (by decide) q1839 rfl rfl rfl dX6_says_17 ?_
  exact aw_vret C rfl dX6_says_20 (Nat.le_refl _) (Nat.le_refl _) ⟨rfl, rfl, _, rfl, wrp_add hw c, fun i hi => if_neg hi, fun i hi => if_neg hi⟩
set_option maxRecDepth 100000 in
theorem t6_writeBoard {γ : Gm} (hG : GF γ) (l : Launch) (o sz : Nat) (u : TU) {b : BT} {ks : List BT} {sl : Nat → Option BT} {bf : List Nat} {ea : Int32} {wr : List Nat} (hu : BD u b) (hA : WA b) (hT : TO u ks sl bf ea wr)  : MX γ l yX6_writeBoard cX6_writeBoard 2 (some .int) 1 21 0 0 [.ref o] (th o u) sz (PS o sz (spWb (b, ks, sl, bf, ea, wr))) NX := by
  refine mx_start hG (by decide) (Nat.le_of_ble_eq_true rfl) (fun x C => ?_)
  have hW := hA.w
  have hN := hW.2.1
  have hC3 := hW.2.2.2.1
  have hL9 := hA.l
  have hm3 := hA.m
  have hT0 := to_put7 hT (nI 0)
  have key : ∀ j v u1, v ≤ b 0 → b 0 + 1 ≤ v + j → WRp u1 (wrV b v) → BD u1 b → (∀ i, i ≠ 21 → u1.1 i = (tsf u 7 (nI 0)).1 i) → (∀ i, i ≠ 20 → u1.2 i = (tsf u 7 (nI 0)).2 i) → AW γ l x (QX γ x 0 0 (PS o sz (spWb (b, ks, sl, bf, ea, wr))) NX) 2 (th o u1) sz 0 0 12 [(0, .ref o), (1, .int (nI v))] [] := by
    intro j
    induction j with
    | zero => intro v u1 h1 h2 hw hu hf ha; exact absurd h2 (by omega)
    | succ j ih =>
      intro v u1 h1 h2 hw hu hf ha
      refine aw_iload_n C rfl rfl dX6_writeBoard_12 ?_
      refine aw_aload_n C rfl rfl dX6_writeBoard_13 ?_
      refine tw_get C 0 (by decide) q1818 rfl dX6_writeBoard_14 ?_
      refine aw_iconst C (v := nI 0) (by decide) dX6_writeBoard_17 ?_
      refine tw_ld0 C (by omega) dX6_writeBoard_18 ?_
      refine aw_top ((hu _)) ?_
      refine aw_icmpN_ge C (tgt := 53) (by omega) (by omega) dX6_writeBoard_19 (by decide) (fun gN => ?_) (fun gN => ?_)
      · have hve : v = b 0 := by omega
        subst hve
        refine aw_aload_n C rfl rfl dX6_writeBoard_53 ?_
        refine aw_bipush C (v := nI 47) (by decide) dX6_writeBoard_54 ?_
        refine tw_callV C (t6_says hG l o sz _ (wr := wrV b (b 0)) hw (c := 47) (by simp [wrV_len]; try omega)) q2218 q2220 qs93 q120 q2221 (n9 := 1) (by decide +kernel) rfl (Nat.le_of_ble_eq_true rfl) (Nat.le_of_ble_eq_true rfl) (Nat.zero_le _) (Nat.zero_le _) rfl (Nat.le_of_ble_eq_true rfl) dX6_writeBoard_56 (fun u2 hp => ?_)
        obtain ⟨hw, q1, q2⟩ := hp
        have hf := fun i hi => (q1 i hi).trans (hf i hi)
        have ha := fun i hi => (q2 i hi).trans (ha i hi)
        have hu : BD u2 b := bd_of hu (q2 0 (by decide))
        refine aw_aload_n C rfl rfl dX6_writeBoard_59 ?_
        refine aw_bipush C (v := nI 48) (by decide) dX6_writeBoard_60 ?_
        refine aw_aload_n C rfl rfl dX6_writeBoard_62 ?_
        refine tw_callR C (t6_turn hG l o sz _ hu (by have := hA.m; omega)) q2026 q2028 qs67 q120 q2029 (n9 := 0) (by decide +kernel) rfl (Nat.le_of_ble_eq_true rfl) (Nat.le_of_ble_eq_true rfl) (Nat.zero_le _) (Nat.zero_le _) rfl (Nat.le_of_ble_eq_true rfl) dX6_writeBoard_63 ?_
        refine aw_iaddN C dX6_writeBoard_66 ?_
        refine tw_callV C (t6_says hG l o sz _ (wr := wrV b (b 0) ++ [47]) hw (c := 48 + b 3 % 2) (by simp [wrV_len]; try omega)) q2218 q2220 qs93 q120 q2221 (n9 := 1) (by decide +kernel) rfl (Nat.le_of_ble_eq_true rfl) (Nat.le_of_ble_eq_true rfl) (Nat.zero_le _) (Nat.zero_le _) rfl (Nat.le_of_ble_eq_true rfl) dX6_writeBoard_67 (fun u2 hp => ?_)
        obtain ⟨hw, q1, q2⟩ := hp
        have hf := fun i hi => (q1 i hi).trans (hf i hi)
        have ha := fun i hi => (q2 i hi).trans (ha i hi)
        have hu : BD u2 b := bd_of hu (q2 0 (by decide))
        refine aw_aload_n C rfl rfl dX6_writeBoard_70 ?_
        refine aw_bipush C (v := nI 47) (by decide) dX6_writeBoard_71 ?_
        refine tw_callV C (t6_says hG l o sz _ (wr := wrV b (b 0) ++ [47] ++ [48 + b 3 % 2]) hw (c := 47) (by simp [wrV_len]; try omega)) q2218 q2220 qs93 q120 q2221 (n9 := 1) (by decide +kernel) rfl (Nat.le_of_ble_eq_true rfl) (Nat.le_of_ble_eq_true rfl) (Nat.zero_le _) (Nat.zero_le _) rfl (Nat.le_of_ble_eq_true rfl) dX6_writeBoard_73 (fun u2 hp => ?_)
        obtain ⟨hw, q1, q2⟩ := hp
        have hf := fun i hi => (q1 i hi).trans (hf i hi)
        have ha := fun i hi => (q2 i hi).trans (ha i hi)
        have hu : BD u2 b := bd_of hu (q2 0 (by decide))
        refine aw_aload_n C rfl rfl dX6_writeBoard_76 ?_
        refine aw_bipush C (v := nI 48) (by decide) dX6_writeBoard_77 ?_
        refine aw_aload_n C rfl rfl dX6_writeBoard_79 ?_
        refine tw_get C 0 (by decide) q1818 rfl dX6_writeBoard_80 ?_
        refine aw_iconst C (v := nI 2) (by decide) dX6_writeBoard_83 ?_
        refine tw_ld0 C (by omega) dX6_writeBoard_84 ?_
        refine aw_top ((hu _)) ?_
        refine aw_iaddN C dX6_writeBoard_85 ?_
        refine tw_callV C (t6_says hG l o sz _ (wr := wrV b (b 0) ++ [47] ++ [48 + b 3 % 2] ++ [47]) hw (c := 48 + b 2) (by simp [wrV_len]; try omega)) q2218 q2220 qs93 q120 q2221 (n9 := 1) (by decide +kernel) rfl (Nat.le_of_ble_eq_true rfl) (Nat.le_of_ble_eq_true rfl) (Nat.zero_le _) (Nat.zero_le _) rfl (Nat.le_of_ble_eq_true rfl) dX6_writeBoard_86 (fun u2 hp => ?_)
        obtain ⟨hw, q1, q2⟩ := hp
        have hf := fun i hi => (q1 i hi).trans (hf i hi)
        have ha := fun i hi => (q2 i hi).trans (ha i hi)
        have hu : BD u2 b := bd_of hu (q2 0 (by decide))
        refine aw_aload_n C rfl rfl dX6_writeBoard_89 ?_
        refine tw_get C 21 (by decide) q1839 rfl dX6_writeBoard_90 ?_
        refine aw_top (hw.1) ?_
        refine aw_iret C rfl dX6_writeBoard_93 (Nat.le_refl _) (Nat.le_refl _) ?_
        have hwe : wrV b (b 0) ++ [47] ++ [48 + b 3 % 2] ++ [47] ++ [48 + b 2] = wrB b := by simp [wrB]
        rw [hwe] at hw ⊢
        exact ⟨rfl, _, _, rfl, rfl, (hf 7 (by decide)).trans (tsf_at u 7 (nI 0)), rfl, hu, hA, to_wr hT0 hf ha hw (by show (wrB b).length ≤ 14; rw [wrB_len]; omega)⟩
      · refine aw_aload_n C rfl rfl dX6_writeBoard_22 ?_
        refine aw_aload_n C rfl rfl dX6_writeBoard_23 ?_
        refine aw_iload_n C rfl rfl dX6_writeBoard_24 ?_
        refine tw_callR C (t6_isFree hG l o sz _ hu (by omega) (hW.o3 (by omega))) q1976 q1978 qs56 q120 q1979 (n9 := 1) (by decide +kernel) rfl (Nat.le_of_ble_eq_true rfl) (Nat.le_of_ble_eq_true rfl) (Nat.zero_le _) (Nat.zero_le _) rfl (Nat.le_of_ble_eq_true rfl) dX6_writeBoard_25 ?_
        refine aw_bit_eq0 C (tgt := 36) dX6_writeBoard_28 (by decide) (fun gF => ?_) (fun gF => ?_)
        · refine aw_bipush C (v := nI 97) (by decide) dX6_writeBoard_36 ?_
          refine aw_aload_n C rfl rfl dX6_writeBoard_38 ?_
          refine aw_iload_n C rfl rfl dX6_writeBoard_39 ?_
          refine tw_callR C (t6_colourOf hG l o sz _ hu (by omega)) q1984 q1986 qs58 q120 q1987 (n9 := 1) (by decide +kernel) rfl (Nat.le_of_ble_eq_true rfl) (Nat.le_of_ble_eq_true rfl) (Nat.zero_le _) (Nat.zero_le _) rfl (Nat.le_of_ble_eq_true rfl) dX6_writeBoard_40 ?_
          have gF2 := fr_f.mp gF
          have gF3 := hW.o3 (v := v) (by omega)
          refine aw_top (pk_sub (show 1 ≤ b (22 + v) by omega)) ?_
          refine aw_iaddN C dX6_writeBoard_43 ?_
          refine aw_top (show _ = nI (if fr b v = true then 46 else 96 + b (22 + v)) from by first | (rw [if_pos gF]; done) | (rw [if_neg (by rw [gF]; decide)]; congr 1; omega)) ?_
          refine tw_callV C (t6_says hG l o sz _ (wr := wrV b v) hw (c := if fr b v = true then 46 else 96 + b (22 + v)) (by simp [wrV_len]; try omega)) q2218 q2220 qs93 q120 q2221 (n9 := 1) (by decide +kernel) rfl (Nat.le_of_ble_eq_true rfl) (Nat.le_of_ble_eq_true rfl) (Nat.zero_le _) (Nat.zero_le _) rfl (Nat.le_of_ble_eq_true rfl) dX6_writeBoard_44 (fun u2 hp => ?_)
          obtain ⟨hw, q1, q2⟩ := hp
          have hf := fun i hi => (q1 i hi).trans (hf i hi)
          have ha := fun i hi => (q2 i hi).trans (ha i hi)
          have hu : BD u2 b := bd_of hu (q2 0 (by decide))
          refine aw_iinc1 C rfl (by decide) rfl dX6_writeBoard_47 ?_
          refine aw_goto C (tgt := 12) dX6_writeBoard_50 (by decide) ?_
          exact aw_lo (ih (v + 1) _ (by omega) (by omega) (by rw [wrV_s]; exact hw) hu hf ha) ⟨rfl, rfl, trivial⟩
        · refine aw_bipush C (v := nI 46) (by decide) dX6_writeBoard_31 ?_
          refine aw_goto C (tgt := 44) dX6_writeBoard_33 (by decide) ?_
          refine aw_top (show _ = nI (if fr b v = true then 46 else 96 + b (22 + v)) from by first | (rw [if_pos gF]; done) | (rw [if_neg (by rw [gF]; decide)]; congr 1; omega)) ?_
          refine tw_callV C (t6_says hG l o sz _ (wr := wrV b v) hw (c := if fr b v = true then 46 else 96 + b (22 + v)) (by simp [wrV_len]; try omega)) q2218 q2220 qs93 q120 q2221 (n9 := 1) (by decide +kernel) rfl (Nat.le_of_ble_eq_true rfl) (Nat.le_of_ble_eq_true rfl) (Nat.zero_le _) (Nat.zero_le _) rfl (Nat.le_of_ble_eq_true rfl) dX6_writeBoard_44 (fun u2 hp => ?_)
          obtain ⟨hw, q1, q2⟩ := hp
          have hf := fun i hi => (q1 i hi).trans (hf i hi)
          have ha := fun i hi => (q2 i hi).trans (ha i hi)
          have hu : BD u2 b := bd_of hu (q2 0 (by decide))
          refine aw_iinc1 C rfl (by decide) rfl dX6_writeBoard_47 ?_
          refine aw_goto C (tgt := 12) dX6_writeBoard_50 (by decide) ?_
          exact aw_lo (ih (v + 1) _ (by omega) (by omega) (by rw [wrV_s]; exact hw) hu hf ha) ⟨rfl, rfl, trivial⟩
  refine aw_aload_n C rfl rfl dX6_writeBoard_0 ?_
  refine aw_iconst C (v := nI 0) (by decide) dX6_writeBoard_1 ?_
  refine tw_put C 7 (by decide) q1825 rfl rfl rfl dX6_writeBoard_2 ?_
  refine aw_aload_n C rfl rfl dX6_writeBoard_5 ?_
  refine aw_iconst C (v := nI 0) (by decide) dX6_writeBoard_6 ?_
  refine tw_put C 21 (by decide) q1839 rfl rfl rfl dX6_writeBoard_7 ?_
  refine aw_iconst C (v := nI 0) (by decide) dX6_writeBoard_10 ?_
  refine aw_istore_n C rfl (by decide) rfl dX6_writeBoard_11 ?_
  exact aw_lo (key (b 0 + 1) 0 _ (Nat.zero_le _) (by omega) ⟨tsf_at _ _ _, fun i hi => absurd hi (Nat.not_lt_zero i)⟩ hu (fun i hi => if_neg hi) (fun _ _ => rfl)) ⟨rfl, rfl, trivial⟩
set_option maxRecDepth 100000 in
theorem t6_writtenByte {γ : Gm} (hG : GF γ) (l : Launch) (o sz : Nat) (u : TU) {b : BT} {ks : List BT} {sl : Nat → Option BT} {bf : List Nat} {ea : Int32} {wr : List Nat} (hu : BD u b) (hA : WA b) (hT : TO u ks sl bf ea wr) (p : Int32) : MX γ l yX6_writtenByte cX6_writtenByte 2 (some .int) 1 22 0 0 [.ref o, .int p] (th o u) sz (PS o sz (spWby wr p, (b, ks, sl, bf, ea, wr))) NX := by
  refine mx_start hG (by decide) (Nat.le_of_ble_eq_true rfl) (fun x C => ?_)
  have hW := hA.w
  have hN := hW.2.1
  have hC3 := hW.2.2.2.1
  have hL9 := hA.l
  have hl14 := hT.2.2.2.2.2.1
  refine aw_aload_n C rfl rfl dX6_writtenByte_0 ?_
  refine aw_iload_n C rfl rfl dX6_writtenByte_1 ?_
  refine aw_iconst C (v := nI 0) (by decide) dX6_writtenByte_2 ?_
  refine aw_aload_n C rfl rfl dX6_writtenByte_3 ?_
  refine tw_get C 21 (by decide) q1839 rfl dX6_writtenByte_4 ?_
  refine aw_top (hT.2.2.2.2.1) ?_
  refine aw_iconst C (v := nI 1) (by decide) dX6_writtenByte_7 ?_
  refine aw_isub C dX6_writtenByte_8 ?_
  refine tw_callSR C (t6_isIn hG l o sz _ _ _ _) q1905 q1906 q120 q1907 (n9 := 3) (by decide +kernel) rfl (Nat.le_of_ble_eq_true rfl) (Nat.le_of_ble_eq_true rfl) (Nat.zero_le _) (Nat.zero_le _) rfl (Nat.le_of_ble_eq_true rfl) dX6_writtenByte_9 ?_
  refine aw_bit_eq0 C (tgt := 19) dX6_writtenByte_12 (by decide) (fun gM => ?_) (fun gM => ?_)
  · refine aw_iconst C (v := nI 1) (by decide) dX6_writtenByte_19 ?_
    refine tw_put C 7 (by decide) q1825 rfl rfl rfl dX6_writtenByte_20 ?_
    refine aw_aload_n C rfl rfl dX6_writtenByte_23 ?_
    refine tw_get C 7 (by decide) q1825 rfl dX6_writtenByte_24 ?_
    refine aw_top (tsf_at _ _ _) ?_
    refine aw_if_le C (tgt := 34) dX6_writtenByte_27 (by decide) (fun g1 => ?_) (fun g1 => ?_)
    · first | exact absurd g1 (by decide) | exact absurd (by decide) g1
    · refine aw_iconst C (v := nI 0) (by decide) dX6_writtenByte_30 ?_
      refine aw_goto C (tgt := 40) dX6_writtenByte_31 (by decide) ?_
      try refine aw_top (hT.2.2.2.2.2.2 m1 hm1) ?_
      refine aw_iret C rfl dX6_writtenByte_40 (Nat.le_refl _) (Nat.le_refl _) ?_
      unfold spWby
      first
        | (rw [if_pos (show isI p (nI 0) (nI wr.length - nI 1) = false from gM)]; exact ⟨rfl, _, _, rfl, rfl, tsf_at _ _ _, rfl, hu, hA, to_put7 hT _⟩)
        | (rw [em, if_neg (by rw [hM]; decide)]; exact ⟨rfl, _, _, rfl, rfl, h7, rfl, hu, hA, hT⟩)
  · obtain ⟨m1, rfl, hm1⟩ := isM_ex (n := wr.length) (by omega) gM
    have hM := isM_n (n := wr.length) (by omega) hm1
    have em := nt_n (k := m1) (by omega)
    refine aw_iconst C (v := nI 0) (by decide) dX6_writtenByte_15 ?_
    refine aw_goto C (tgt := 20) dX6_writtenByte_16 (by decide) ?_
    refine tw_put C 7 (by decide) q1825 rfl rfl rfl dX6_writtenByte_20 ?_
    refine aw_aload_n C rfl rfl dX6_writtenByte_23 ?_
    refine tw_get C 7 (by decide) q1825 rfl dX6_writtenByte_24 ?_
    refine aw_top (tsf_at _ _ _) ?_
    refine aw_if_le C (tgt := 34) dX6_writtenByte_27 (by decide) (fun g2 => ?_) (fun g2 => ?_)
    · have hT := to_put7 hT (nI 0)
      have hu := bd_tsf hu 7 (nI 0)
      have h7 : (tsf u 7 (nI 0)).1 7 = nI 0 := tsf_at _ _ _
      refine aw_aload_n C rfl rfl dX6_writtenByte_34 ?_
      refine tw_get C 20 (by decide) q1838 rfl dX6_writtenByte_35 ?_
      refine aw_iload_n C rfl rfl dX6_writtenByte_38 ?_
      refine tw_ld20 C (by omega) dX6_writtenByte_39 ?_
      try refine aw_top (hT.2.2.2.2.2.2 m1 hm1) ?_
      refine aw_iret C rfl dX6_writtenByte_40 (Nat.le_refl _) (Nat.le_refl _) ?_
      unfold spWby
      first
        | (rw [if_pos (show isI p (nI 0) (nI wr.length - nI 1) = false from gM)]; exact ⟨rfl, _, _, rfl, rfl, tsf_at _ _ _, rfl, hu, hA, to_put7 hT _⟩)
        | (rw [em, if_neg (by rw [hM]; decide)]; exact ⟨rfl, _, _, rfl, rfl, h7, rfl, hu, hA, hT⟩)
    · first | exact absurd (by decide) g2 | exact absurd g2 (by decide)
set_option maxRecDepth 100000 in
theorem t6_append {γ : Gm} (hG : GF γ) (l : Launch) (o sz : Nat) (u : TU) {b : BT} {ks : List BT} {sl : Nat → Option BT} {bf : List Nat} {ea : Int32} {wr : List Nat} (hu : BD u b) (hA : WA b) (hT : TO u ks sl bf ea wr) (v0 v1 v2 v3 v4 : Int32) : MX γ l yX6_append cX6_append 8 (some .int) 0 0 0 0 [.ref o, .int v0, .int v1, .int v2, .int v3, .int v4] (th o u) sz (PS o sz (spApp (b, ks, sl, bf, ea, wr) v0 v1 v2 v3 v4)) NX := by
  refine mx_start hG (by decide) (Nat.le_of_ble_eq_true rfl) (fun x C => ?_)
  have hW := hA.w
  have hN := hW.2.1
  have hC3 := hW.2.2.2.1
  have hL9 := hA.l
  have hb5 := hT.2.2.1.2.1
  have key : bf.length + 20 ≤ 500 → ∀ j k u1, k ≤ 20 → 21 ≤ k + j → BFp u1 (bf ++ apB v0 v1 v2 v3 v4 k) → (∀ i, i ≠ 9 → u1.1 i = (tsf u 7 (nI 0)).1 i) → (∀ i, i ≠ 8 → u1.2 i = (tsf u 7 (nI 0)).2 i) → AW γ l x (QX γ x 0 0 (PS o sz (spApp (b, ks, sl, bf, ea, wr) v0 v1 v2 v3 v4)) NX) 8 (th o u1) sz 0 0 34 [(0, .ref o), (1, .int v0), (2, .int v1), (3, .int v2), (4, .int v3), (5, .int v4), (6, .int (nI k))] [] := by
    intro hlb j
    induction j with
    | zero => intro k u1 h1 h2 hw hf ha; exact absurd h2 (by omega)
    | succ j ih =>
      intro k u1 h1 h2 hw hf ha
      have hlen : (bf ++ apB v0 v1 v2 v3 v4 k).length = bf.length + k := by rw [List.length_append, apB_len]
      refine aw_iload C rfl dX6_append_34 ?_
      refine aw_bipush C (v := nI 20) (by decide) dX6_append_36 ?_
      refine aw_icmpN_ge C (tgt := 131) (by omega) (by omega) dX6_append_38 (by decide) (fun gN => ?_) (fun gN => ?_)
      · refine aw_aload_n C rfl rfl dX6_append_131 ?_
        refine tw_get C 9 (by decide) q1827 rfl dX6_append_132 ?_
        refine aw_top (hw.1) ?_
        refine aw_iret C rfl dX6_append_135 (Nat.le_refl _) (Nat.le_refl _) ?_
        unfold spApp
        rw [if_neg (by dsimp only; omega)]
        rw [show k = 20 by omega] at hw hlen ⊢
        refine ⟨rfl, _, _, rfl, rfl, (hf 7 (by decide)).trans (tsf_at u 7 (nI 0)), congrArg nI hlen, bd_of hu (ha 0 (by decide)), hA, to_bf (to_put7 hT (nI 0)) hf ha hw (by dsimp only; omega)⟩
      · refine aw_iload C rfl dX6_append_41 ?_
        refine aw_iconst C (v := nI 4) (by decide) dX6_append_43 ?_
        refine aw_icmpN_ge C (tgt := 51) (by omega) (by omega) dX6_append_44 (by decide) (fun k4 => ?_) (fun k4 => ?_)
        · refine aw_iload C rfl dX6_append_51 ?_
          refine aw_bipush C (v := nI 8) (by decide) dX6_append_53 ?_
          refine aw_icmpN_ge C (tgt := 62) (by omega) (by omega) dX6_append_55 (by decide) (fun k8 => ?_) (fun k8 => ?_)
          · refine aw_iload C rfl dX6_append_62 ?_
            refine aw_bipush C (v := nI 12) (by decide) dX6_append_64 ?_
            refine aw_icmpN_ge C (tgt := 73) (by omega) (by omega) dX6_append_66 (by decide) (fun k12 => ?_) (fun k12 => ?_)
            · refine aw_iload C rfl dX6_append_73 ?_
              refine aw_bipush C (v := nI 16) (by decide) dX6_append_75 ?_
              refine aw_icmpN_ge C (tgt := 85) (by omega) (by omega) dX6_append_77 (by decide) (fun k16 => ?_) (fun k16 => ?_)
              · refine aw_iload C rfl dX6_append_85 ?_
                refine aw_top (show _ = sel5 v0 v1 v2 v3 v4 k from by unfold sel5; first | (rw [if_pos (by omega)]; done) | (rw [if_neg (by omega), if_pos (by omega)]; done) | (rw [if_neg (by omega), if_neg (by omega), if_pos (by omega)]; done) | (rw [if_neg (by omega), if_neg (by omega), if_neg (by omega), if_pos (by omega)]; done) | (rw [if_neg (by omega), if_neg (by omega), if_neg (by omega), if_neg (by omega)]; done)) ?_
                refine aw_istore C (by decide) rfl dX6_append_87 ?_
                refine aw_aload_n C rfl rfl dX6_append_89 ?_
                refine tw_get C 8 (by decide) q1826 rfl dX6_append_90 ?_
                refine aw_aload_n C rfl rfl dX6_append_93 ?_
                refine tw_get C 9 (by decide) q1827 rfl dX6_append_94 ?_
                refine aw_top (hw.1) ?_
                refine aw_iload C rfl dX6_append_97 ?_
                refine aw_bipush C (v := nI 24) (by decide) dX6_append_99 ?_
                refine aw_bipush C (v := nI 8) (by decide) dX6_append_101 ?_
                refine aw_iload C rfl dX6_append_103 ?_
                refine aw_iconst C (v := nI 4) (by decide) dX6_append_105 ?_
                refine aw_iremN C (by omega) (by omega) (by omega) dX6_append_106 ?_
                refine aw_imulN C dX6_append_107 ?_
                refine aw_isubN C (by omega) dX6_append_108 ?_
                refine aw_ishr C dX6_append_109 ?_
                refine aw_sipush C (v := nI 255) (by decide) dX6_append_110 ?_
                refine aw_iand C dX6_append_113 ?_
                refine aw_top (show _ = nI (byN (sel5 v0 v1 v2 v3 v4 k) (k % 4)) from (byN_eq (sel5 v0 v1 v2 v3 v4 k) (k % 4)).1) ?_
                refine tw_st8 C (by omega) dX6_append_114 ?_
                refine aw_aload_n C rfl rfl dX6_append_115 ?_
                refine aw_dup C rfl dX6_append_116 ?_
                refine tw_get C 9 (by decide) q1827 rfl dX6_append_117 ?_
                refine aw_top (hw.1) ?_
                refine aw_iconst C (v := nI 1) (by decide) dX6_append_120 ?_
                refine aw_iaddN C dX6_append_121 ?_
                refine tw_put C 9 (by decide) q1827 rfl rfl rfl dX6_append_122 ?_
                refine aw_iinc1 C rfl (by decide) rfl dX6_append_125 ?_
                refine aw_goto C (tgt := 34) dX6_append_128 (by decide) ?_
                exact aw_lo (ih (k + 1) _ (by omega) (by omega) (by rw [apB_s, ← List.append_assoc]; exact bfp_add hw (byN_eq _ _).2) (fun i hi => (tsf_ne hi).trans (hf i hi)) (fun i hi => (if_neg hi).trans (ha i hi))) ⟨rfl, rfl, rfl, rfl, rfl, rfl, rfl, trivial⟩
              · refine aw_iload C rfl dX6_append_80 ?_
                refine aw_goto C (tgt := 87) dX6_append_82 (by decide) ?_
                refine aw_top (show _ = sel5 v0 v1 v2 v3 v4 k from by unfold sel5; first | (rw [if_pos (by omega)]; done) | (rw [if_neg (by omega), if_pos (by omega)]; done) | (rw [if_neg (by omega), if_neg (by omega), if_pos (by omega)]; done) | (rw [if_neg (by omega), if_neg (by omega), if_neg (by omega), if_pos (by omega)]; done) | (rw [if_neg (by omega), if_neg (by omega), if_neg (by omega), if_neg (by omega)]; done)) ?_
                refine aw_istore C (by decide) rfl dX6_append_87 ?_
                refine aw_aload_n C rfl rfl dX6_append_89 ?_
                refine tw_get C 8 (by decide) q1826 rfl dX6_append_90 ?_
                refine aw_aload_n C rfl rfl dX6_append_93 ?_
                refine tw_get C 9 (by decide) q1827 rfl dX6_append_94 ?_
                refine aw_top (hw.1) ?_
                refine aw_iload C rfl dX6_append_97 ?_
                refine aw_bipush C (v := nI 24) (by decide) dX6_append_99 ?_
                refine aw_bipush C (v := nI 8) (by decide) dX6_append_101 ?_
                refine aw_iload C rfl dX6_append_103 ?_
                refine aw_iconst C (v := nI 4) (by decide) dX6_append_105 ?_
                refine aw_iremN C (by omega) (by omega) (by omega) dX6_append_106 ?_
                refine aw_imulN C dX6_append_107 ?_
                refine aw_isubN C (by omega) dX6_append_108 ?_
                refine aw_ishr C dX6_append_109 ?_
                refine aw_sipush C (v := nI 255) (by decide) dX6_append_110 ?_
                refine aw_iand C dX6_append_113 ?_
                refine aw_top (show _ = nI (byN (sel5 v0 v1 v2 v3 v4 k) (k % 4)) from (byN_eq (sel5 v0 v1 v2 v3 v4 k) (k % 4)).1) ?_
                refine tw_st8 C (by omega) dX6_append_114 ?_
                refine aw_aload_n C rfl rfl dX6_append_115 ?_
                refine aw_dup C rfl dX6_append_116 ?_
                refine tw_get C 9 (by decide) q1827 rfl dX6_append_117 ?_
                refine aw_top (hw.1) ?_
                refine aw_iconst C (v := nI 1) (by decide) dX6_append_120 ?_
                refine aw_iaddN C dX6_append_121 ?_
                refine tw_put C 9 (by decide) q1827 rfl rfl rfl dX6_append_122 ?_
                refine aw_iinc1 C rfl (by decide) rfl dX6_append_125 ?_
                refine aw_goto C (tgt := 34) dX6_append_128 (by decide) ?_
                exact aw_lo (ih (k + 1) _ (by omega) (by omega) (by rw [apB_s, ← List.append_assoc]; exact bfp_add hw (byN_eq _ _).2) (fun i hi => (tsf_ne hi).trans (hf i hi)) (fun i hi => (if_neg hi).trans (ha i hi))) ⟨rfl, rfl, rfl, rfl, rfl, rfl, rfl, trivial⟩
            · refine aw_iload_n C rfl rfl dX6_append_69 ?_
              refine aw_goto C (tgt := 87) dX6_append_70 (by decide) ?_
              refine aw_top (show _ = sel5 v0 v1 v2 v3 v4 k from by unfold sel5; first | (rw [if_pos (by omega)]; done) | (rw [if_neg (by omega), if_pos (by omega)]; done) | (rw [if_neg (by omega), if_neg (by omega), if_pos (by omega)]; done) | (rw [if_neg (by omega), if_neg (by omega), if_neg (by omega), if_pos (by omega)]; done) | (rw [if_neg (by omega), if_neg (by omega), if_neg (by omega), if_neg (by omega)]; done)) ?_
              refine aw_istore C (by decide) rfl dX6_append_87 ?_
              refine aw_aload_n C rfl rfl dX6_append_89 ?_
              refine tw_get C 8 (by decide) q1826 rfl dX6_append_90 ?_
              refine aw_aload_n C rfl rfl dX6_append_93 ?_
              refine tw_get C 9 (by decide) q1827 rfl dX6_append_94 ?_
              refine aw_top (hw.1) ?_
              refine aw_iload C rfl dX6_append_97 ?_
              refine aw_bipush C (v := nI 24) (by decide) dX6_append_99 ?_
              refine aw_bipush C (v := nI 8) (by decide) dX6_append_101 ?_
              refine aw_iload C rfl dX6_append_103 ?_
              refine aw_iconst C (v := nI 4) (by decide) dX6_append_105 ?_
              refine aw_iremN C (by omega) (by omega) (by omega) dX6_append_106 ?_
              refine aw_imulN C dX6_append_107 ?_
              refine aw_isubN C (by omega) dX6_append_108 ?_
              refine aw_ishr C dX6_append_109 ?_
              refine aw_sipush C (v := nI 255) (by decide) dX6_append_110 ?_
              refine aw_iand C dX6_append_113 ?_
              refine aw_top (show _ = nI (byN (sel5 v0 v1 v2 v3 v4 k) (k % 4)) from (byN_eq (sel5 v0 v1 v2 v3 v4 k) (k % 4)).1) ?_
              refine tw_st8 C (by omega) dX6_append_114 ?_
              refine aw_aload_n C rfl rfl dX6_append_115 ?_
              refine aw_dup C rfl dX6_append_116 ?_
              refine tw_get C 9 (by decide) q1827 rfl dX6_append_117 ?_
              refine aw_top (hw.1) ?_
              refine aw_iconst C (v := nI 1) (by decide) dX6_append_120 ?_
              refine aw_iaddN C dX6_append_121 ?_
              refine tw_put C 9 (by decide) q1827 rfl rfl rfl dX6_append_122 ?_
              refine aw_iinc1 C rfl (by decide) rfl dX6_append_125 ?_
              refine aw_goto C (tgt := 34) dX6_append_128 (by decide) ?_
              exact aw_lo (ih (k + 1) _ (by omega) (by omega) (by rw [apB_s, ← List.append_assoc]; exact bfp_add hw (byN_eq _ _).2) (fun i hi => (tsf_ne hi).trans (hf i hi)) (fun i hi => (if_neg hi).trans (ha i hi))) ⟨rfl, rfl, rfl, rfl, rfl, rfl, rfl, trivial⟩
          · refine aw_iload_n C rfl rfl dX6_append_58 ?_
            refine aw_goto C (tgt := 87) dX6_append_59 (by decide) ?_
            refine aw_top (show _ = sel5 v0 v1 v2 v3 v4 k from by unfold sel5; first | (rw [if_pos (by omega)]; done) | (rw [if_neg (by omega), if_pos (by omega)]; done) | (rw [if_neg (by omega), if_neg (by omega), if_pos (by omega)]; done) | (rw [if_neg (by omega), if_neg (by omega), if_neg (by omega), if_pos (by omega)]; done) | (rw [if_neg (by omega), if_neg (by omega), if_neg (by omega), if_neg (by omega)]; done)) ?_
            refine aw_istore C (by decide) rfl dX6_append_87 ?_
            refine aw_aload_n C rfl rfl dX6_append_89 ?_
            refine tw_get C 8 (by decide) q1826 rfl dX6_append_90 ?_
            refine aw_aload_n C rfl rfl dX6_append_93 ?_
            refine tw_get C 9 (by decide) q1827 rfl dX6_append_94 ?_
            refine aw_top (hw.1) ?_
            refine aw_iload C rfl dX6_append_97 ?_
            refine aw_bipush C (v := nI 24) (by decide) dX6_append_99 ?_
            refine aw_bipush C (v := nI 8) (by decide) dX6_append_101 ?_
            refine aw_iload C rfl dX6_append_103 ?_
            refine aw_iconst C (v := nI 4) (by decide) dX6_append_105 ?_
            refine aw_iremN C (by omega) (by omega) (by omega) dX6_append_106 ?_
            refine aw_imulN C dX6_append_107 ?_
            refine aw_isubN C (by omega) dX6_append_108 ?_
            refine aw_ishr C dX6_append_109 ?_
            refine aw_sipush C (v := nI 255) (by decide) dX6_append_110 ?_
            refine aw_iand C dX6_append_113 ?_
            refine aw_top (show _ = nI (byN (sel5 v0 v1 v2 v3 v4 k) (k % 4)) from (byN_eq (sel5 v0 v1 v2 v3 v4 k) (k % 4)).1) ?_
            refine tw_st8 C (by omega) dX6_append_114 ?_
            refine aw_aload_n C rfl rfl dX6_append_115 ?_
            refine aw_dup C rfl dX6_append_116 ?_
            refine tw_get C 9 (by decide) q1827 rfl dX6_append_117 ?_
            refine aw_top (hw.1) ?_
            refine aw_iconst C (v := nI 1) (by decide) dX6_append_120 ?_
            refine aw_iaddN C dX6_append_121 ?_
            refine tw_put C 9 (by decide) q1827 rfl rfl rfl dX6_append_122 ?_
            refine aw_iinc1 C rfl (by decide) rfl dX6_append_125 ?_
            refine aw_goto C (tgt := 34) dX6_append_128 (by decide) ?_
            exact aw_lo (ih (k + 1) _ (by omega) (by omega) (by rw [apB_s, ← List.append_assoc]; exact bfp_add hw (byN_eq _ _).2) (fun i hi => (tsf_ne hi).trans (hf i hi)) (fun i hi => (if_neg hi).trans (ha i hi))) ⟨rfl, rfl, rfl, rfl, rfl, rfl, rfl, trivial⟩
        · refine aw_iload_n C rfl rfl dX6_append_47 ?_
          refine aw_goto C (tgt := 87) dX6_append_48 (by decide) ?_
          refine aw_top (show _ = sel5 v0 v1 v2 v3 v4 k from by unfold sel5; first | (rw [if_pos (by omega)]; done) | (rw [if_neg (by omega), if_pos (by omega)]; done) | (rw [if_neg (by omega), if_neg (by omega), if_pos (by omega)]; done) | (rw [if_neg (by omega), if_neg (by omega), if_neg (by omega), if_pos (by omega)]; done) | (rw [if_neg (by omega), if_neg (by omega), if_neg (by omega), if_neg (by omega)]; done)) ?_
          refine aw_istore C (by decide) rfl dX6_append_87 ?_
          refine aw_aload_n C rfl rfl dX6_append_89 ?_
          refine tw_get C 8 (by decide) q1826 rfl dX6_append_90 ?_
          refine aw_aload_n C rfl rfl dX6_append_93 ?_
          refine tw_get C 9 (by decide) q1827 rfl dX6_append_94 ?_
          refine aw_top (hw.1) ?_
          refine aw_iload C rfl dX6_append_97 ?_
          refine aw_bipush C (v := nI 24) (by decide) dX6_append_99 ?_
          refine aw_bipush C (v := nI 8) (by decide) dX6_append_101 ?_
          refine aw_iload C rfl dX6_append_103 ?_
          refine aw_iconst C (v := nI 4) (by decide) dX6_append_105 ?_
          refine aw_iremN C (by omega) (by omega) (by omega) dX6_append_106 ?_
          refine aw_imulN C dX6_append_107 ?_
          refine aw_isubN C (by omega) dX6_append_108 ?_
          refine aw_ishr C dX6_append_109 ?_
          refine aw_sipush C (v := nI 255) (by decide) dX6_append_110 ?_
          refine aw_iand C dX6_append_113 ?_
          refine aw_top (show _ = nI (byN (sel5 v0 v1 v2 v3 v4 k) (k % 4)) from (byN_eq (sel5 v0 v1 v2 v3 v4 k) (k % 4)).1) ?_
          refine tw_st8 C (by omega) dX6_append_114 ?_
          refine aw_aload_n C rfl rfl dX6_append_115 ?_
          refine aw_dup C rfl dX6_append_116 ?_
          refine tw_get C 9 (by decide) q1827 rfl dX6_append_117 ?_
          refine aw_top (hw.1) ?_
          refine aw_iconst C (v := nI 1) (by decide) dX6_append_120 ?_
          refine aw_iaddN C dX6_append_121 ?_
          refine tw_put C 9 (by decide) q1827 rfl rfl rfl dX6_append_122 ?_
          refine aw_iinc1 C rfl (by decide) rfl dX6_append_125 ?_
          refine aw_goto C (tgt := 34) dX6_append_128 (by decide) ?_
          exact aw_lo (ih (k + 1) _ (by omega) (by omega) (by rw [apB_s, ← List.append_assoc]; exact bfp_add hw (byN_eq _ _).2) (fun i hi => (tsf_ne hi).trans (hf i hi)) (fun i hi => (if_neg hi).trans (ha i hi))) ⟨rfl, rfl, rfl, rfl, rfl, rfl, rfl, trivial⟩
  refine aw_aload_n C rfl rfl dX6_append_0 ?_
  refine aw_aload_n C rfl rfl dX6_append_1 ?_
  refine tw_get C 9 (by decide) q1827 rfl dX6_append_2 ?_
  refine aw_top (hT.2.2.1.1) ?_
  refine aw_bipush C (v := nI 20) (by decide) dX6_append_5 ?_
  refine aw_iaddN C dX6_append_7 ?_
  refine aw_sipush C (v := nI 500) (by decide) dX6_append_8 ?_
  refine aw_icmpN_le C (tgt := 18) (by omega) (by omega) dX6_append_11 (by decide) (fun gB => ?_) (fun gB => ?_)
  · refine aw_iconst C (v := nI 0) (by decide) dX6_append_18 ?_
    refine tw_put C 7 (by decide) q1825 rfl rfl rfl dX6_append_19 ?_
    refine aw_aload_n C rfl rfl dX6_append_22 ?_
    refine tw_get C 7 (by decide) q1825 rfl dX6_append_23 ?_
    refine aw_top (tsf_at _ _ _) ?_
    refine aw_if_le C (tgt := 31) dX6_append_26 (by decide) (fun g1 => ?_) (fun g1 => ?_)
    · refine aw_iconst C (v := nI 0) (by decide) dX6_append_31 ?_
      refine aw_istore C (by decide) rfl dX6_append_32 ?_
      exact aw_lo (key (by omega) 21 0 _ (Nat.zero_le _) (by omega) (by rw [show apB v0 v1 v2 v3 v4 0 = [] from rfl, List.append_nil]; exact ⟨hT.2.2.1.1, hT.2.2.1.2.2⟩) (fun _ _ => rfl) (fun _ _ => rfl)) ⟨rfl, rfl, rfl, rfl, rfl, rfl, rfl, trivial⟩
    · first | exact absurd (by decide) g1 | exact absurd g1 (by decide)
  · refine aw_iconst C (v := nI 1) (by decide) dX6_append_14 ?_
    refine aw_goto C (tgt := 19) dX6_append_15 (by decide) ?_
    refine tw_put C 7 (by decide) q1825 rfl rfl rfl dX6_append_19 ?_
    refine aw_aload_n C rfl rfl dX6_append_22 ?_
    refine tw_get C 7 (by decide) q1825 rfl dX6_append_23 ?_
    refine aw_top (tsf_at _ _ _) ?_
    refine aw_if_le C (tgt := 31) dX6_append_26 (by decide) (fun g2 => ?_) (fun g2 => ?_)
    · first | exact absurd g2 (by decide) | exact absurd (by decide) g2
    · refine aw_iconst C (v := nI 0) (by decide) dX6_append_29 ?_
      refine aw_iret C rfl dX6_append_30 (Nat.le_refl _) (Nat.le_refl _) ?_
      unfold spApp
      first
        | (rw [if_pos (by dsimp only; omega)]; exact ⟨rfl, _, _, rfl, rfl, tsf_at _ _ _, rfl, hu, hA, to_put7 hT _⟩)
set_option maxRecDepth 100000 in
theorem t6_errorPosition {γ : Gm} (hG : GF γ) (l : Launch) (o sz : Nat) (u : TU) {b : BT} {ks : List BT} {sl : Nat → Option BT} {bf : List Nat} {ea : Int32} {wr : List Nat} (hu : BD u b) (hA : WA b) (hT : TO u ks sl bf ea wr)  : MX γ l yX6_errorPosition cX6_errorPosition 1 (some .int) 0 0 0 0 [.ref o] (th o u) sz (PS o sz (spErr (b, ks, sl, bf, ea, wr))) NX := by
  refine mx_start hG (by decide) (Nat.le_of_ble_eq_true rfl) (fun x C => ?_)
  have hW := hA.w
  have hN := hW.2.1
  have hC3 := hW.2.2.2.1
  have hL9 := hA.l
  refine aw_aload_n C rfl rfl dX6_errorPosition_0 ?_
  refine aw_iconst C (v := nI 0) (by decide) dX6_errorPosition_1 ?_
  refine tw_put C 7 (by decide) q1825 rfl rfl rfl dX6_errorPosition_2 ?_
  refine aw_aload_n C rfl rfl dX6_errorPosition_5 ?_
  refine tw_get C 17 (by decide) q1835 rfl dX6_errorPosition_6 ?_
  exact aw_iret C rfl dX6_errorPosition_9 (Nat.le_refl _) (Nat.le_refl _) ⟨rfl, _, _, rfl, rfl, tsf_at _ _ _, hT.2.2.2.1, hu, hA, to_put7 hT _⟩
set_option maxRecDepth 100000 in
theorem t6_thrown {γ : Gm} (hG : GF γ) (l : Launch) (o sz : Nat) (u : TU)  {t : Nat} (h7 : u.1 7 = nI t) : MX γ l yX6_thrown cX6_thrown 1 (some .int) 0 0 0 0 [.ref o] (th o u) sz (RI (th o u) sz (nI t)) NX := by
  refine mx_start hG (by decide) (Nat.le_of_ble_eq_true rfl) (fun x C => ?_)
  refine aw_aload_n C rfl rfl dX6_thrown_0 ?_
  refine tw_get C 7 (by decide) q1825 rfl dX6_thrown_1 ?_
  exact aw_iret C rfl dX6_thrown_4 (Nat.le_refl _) (Nat.le_refl _) ⟨by rw [← h7], rfl, rfl⟩
