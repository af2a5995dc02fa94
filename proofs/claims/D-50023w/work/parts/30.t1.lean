/-! the twin: readers of the board -/
set_option maxRecDepth 100000 in
theorem t6_isFree {γ : Gm} (hG : GF γ) (l : Launch) (o sz : Nat) (u : TU) {b : Nat → Nat} (hu : BD u b) {v : Nat} (hv : v < 9) (hb : b (22 + v) ≤ 3) : MX γ l yX6_isFree cX6_isFree 2 (some .boolean) 0 0 0 0 [.ref o, .int (nI v)] (th o u) sz (RI (th o u) sz (nI (if fr b v then 1 else 0))) NX := by
  refine mx_start hG (by decide) (Nat.le_of_ble_eq_true rfl) (fun x C => ?_)
  refine aw_aload_n C rfl rfl dX6_isFree_0 ?_
  refine tw_get C 0 (by decide) q1818 rfl dX6_isFree_1 ?_
  refine aw_bipush C (v := nI 22) (by decide) dX6_isFree_4 ?_
  refine aw_iload_n C rfl rfl dX6_isFree_6 ?_
  refine aw_iaddN C dX6_isFree_7 ?_
  refine tw_ld0 C (by omega) dX6_isFree_8 ?_
  refine aw_top (hu _) ?_
  refine aw_ifN_ne C (tgt := 16) (by omega) dX6_isFree_9 (by decide) (fun g1 => ?_) (fun g1 => ?_)
  · refine aw_iconst C (v := nI 0) (by decide) dX6_isFree_16 ?_
    exact aw_zret C rfl (by decide) dX6_isFree_17 (Nat.le_refl _) (Nat.le_refl _) ⟨by simp [fr, g1], rfl, rfl⟩
  · refine aw_iconst C (v := nI 1) (by decide) dX6_isFree_12 ?_
    refine aw_goto C (tgt := 17) dX6_isFree_13 (by decide) ?_
    exact aw_zret C rfl (by decide) dX6_isFree_17 (Nat.le_refl _) (Nat.le_refl _) ⟨by simp [fr, g1], rfl, rfl⟩
set_option maxRecDepth 100000 in
theorem t6_colourOf {γ : Gm} (hG : GF γ) (l : Launch) (o sz : Nat) (u : TU) {b : Nat → Nat} (hu : BD u b) {v : Nat} (hv : v < 9) : MX γ l yX6_colourOf cX6_colourOf 2 (some .int) 0 0 0 0 [.ref o, .int (nI v)] (th o u) sz (RI (th o u) sz (nI (b (22 + v)) - nI 1)) NX := by
  refine mx_start hG (by decide) (Nat.le_of_ble_eq_true rfl) (fun x C => ?_)
  refine aw_aload_n C rfl rfl dX6_colourOf_0 ?_
  refine tw_get C 0 (by decide) q1818 rfl dX6_colourOf_1 ?_
  refine aw_bipush C (v := nI 22) (by decide) dX6_colourOf_4 ?_
  refine aw_iload_n C rfl rfl dX6_colourOf_6 ?_
  refine aw_iaddN C dX6_colourOf_7 ?_
  refine tw_ld0 C (by omega) dX6_colourOf_8 ?_
  refine aw_top (hu _) ?_
  refine aw_iconst C (v := nI 1) (by decide) dX6_colourOf_9 ?_
  refine aw_isub C dX6_colourOf_10 ?_
  exact aw_iret C rfl dX6_colourOf_11 (Nat.le_refl _) (Nat.le_refl _) ⟨rfl, rfl, rfl⟩
set_option maxRecDepth 100000 in
theorem t6_banOf {γ : Gm} (hG : GF γ) (l : Launch) (o sz : Nat) (u : TU) {b : Nat → Nat} (hu : BD u b) {v : Nat} (hv : v < 9) : MX γ l yX6_banOf cX6_banOf 2 (some .int) 0 0 0 0 [.ref o, .int (nI v)] (th o u) sz (RI (th o u) sz (nI (b (31 + v)) - nI 1)) NX := by
  refine mx_start hG (by decide) (Nat.le_of_ble_eq_true rfl) (fun x C => ?_)
  refine aw_aload_n C rfl rfl dX6_banOf_0 ?_
  refine tw_get C 0 (by decide) q1818 rfl dX6_banOf_1 ?_
  refine aw_bipush C (v := nI 31) (by decide) dX6_banOf_4 ?_
  refine aw_iload_n C rfl rfl dX6_banOf_6 ?_
  refine aw_iaddN C dX6_banOf_7 ?_
  refine tw_ld0 C (by omega) dX6_banOf_8 ?_
  refine aw_top (hu _) ?_
  refine aw_iconst C (v := nI 1) (by decide) dX6_banOf_9 ?_
  refine aw_isub C dX6_banOf_10 ?_
  exact aw_iret C rfl dX6_banOf_11 (Nat.le_refl _) (Nat.le_refl _) ⟨rfl, rfl, rfl⟩
set_option maxRecDepth 100000 in
theorem t6_areNext {γ : Gm} (hG : GF γ) (l : Launch) (o sz : Nat) (u : TU) {b : Nat → Nat} (hu : BD u b) {v w : Nat} (hv : v < 9) (hw : w < 9) (hb : b (13 + v) < 512) : MX γ l yX6_areNext cX6_areNext 3 (some .boolean) 0 0 0 0 [.ref o, .int (nI v), .int (nI w)] (th o u) sz (RI (th o u) sz (nI (if (b (13 + v)).testBit w then 1 else 0))) NX := by
  refine mx_start hG (by decide) (Nat.le_of_ble_eq_true rfl) (fun x C => ?_)
  refine aw_aload_n C rfl rfl dX6_areNext_0 ?_
  refine tw_get C 0 (by decide) q1818 rfl dX6_areNext_1 ?_
  refine aw_bipush C (v := nI 13) (by decide) dX6_areNext_4 ?_
  refine aw_iload_n C rfl rfl dX6_areNext_6 ?_
  refine aw_iaddN C dX6_areNext_7 ?_
  refine tw_ld0 C (by omega) dX6_areNext_8 ?_
  refine aw_top (hu _) ?_
  refine aw_iload_n C rfl rfl dX6_areNext_9 ?_
  refine aw_ishrN C (by omega) (by omega) dX6_areNext_10 ?_
  refine aw_iconst C (v := nI 1) (by decide) dX6_areNext_11 ?_
  refine aw_iandBit C dX6_areNext_12 ?_
  refine aw_iconst C (v := nI 1) (by decide) dX6_areNext_13 ?_
  refine aw_bit_ne1 C (tgt := 21) dX6_areNext_14 (by decide) (fun g1 => ?_) (fun g1 => ?_)
  · refine aw_iconst C (v := nI 0) (by decide) dX6_areNext_21 ?_
    exact aw_zret C rfl (by decide) dX6_areNext_22 (Nat.le_refl _) (Nat.le_refl _) ⟨by simp [g1], rfl, rfl⟩
  · refine aw_iconst C (v := nI 1) (by decide) dX6_areNext_17 ?_
    refine aw_goto C (tgt := 22) dX6_areNext_18 (by decide) ?_
    exact aw_zret C rfl (by decide) dX6_areNext_22 (Nat.le_refl _) (Nat.le_refl _) ⟨by simp [g1], rfl, rfl⟩
set_option maxRecDepth 100000 in
theorem t6_isIn {γ : Gm} (hG : GF γ) (l : Launch) (o sz : Nat) (u : TU)  (v lo hi : Int32) : MX γ l yX6_isIn cX6_isIn 3 (some .boolean) 0 0 0 0 [.int v, .int lo, .int hi] (th o u) sz (RI (th o u) sz (nI (if decide (lo ≤ v ∧ v ≤ hi) then 1 else 0))) NX := by
  refine mx_start hG (by decide) (Nat.le_of_ble_eq_true rfl) (fun x C => ?_)
  refine aw_iload_n C rfl rfl dX6_isIn_0 ?_
  refine aw_iload_n C rfl rfl dX6_isIn_1 ?_
  refine aw_icmp_lt C (tgt := 14) dX6_isIn_2 (by decide) (fun g1 => ?_) (fun g1 => ?_)
  · refine aw_iconst C (v := nI 0) (by decide) dX6_isIn_14 ?_
    exact aw_zret C rfl (by decide) dX6_isIn_15 (Nat.le_refl _) (Nat.le_refl _) ⟨by simp; try (first | (simp_all [Int32.not_lt]; done) | (intro z; simp_all [Int32.not_lt]) | grind), rfl, rfl⟩
  · refine aw_iload_n C rfl rfl dX6_isIn_5 ?_
    refine aw_iload_n C rfl rfl dX6_isIn_6 ?_
    refine aw_icmp_gt C (tgt := 14) dX6_isIn_7 (by decide) (fun g2 => ?_) (fun g2 => ?_)
    · refine aw_iconst C (v := nI 0) (by decide) dX6_isIn_14 ?_
      exact aw_zret C rfl (by decide) dX6_isIn_15 (Nat.le_refl _) (Nat.le_refl _) ⟨by simp; try (first | (simp_all [Int32.not_lt]; done) | (intro z; simp_all [Int32.not_lt]) | grind), rfl, rfl⟩
    · refine aw_iconst C (v := nI 1) (by decide) dX6_isIn_10 ?_
      refine aw_goto C (tgt := 15) dX6_isIn_11 (by decide) ?_
      exact aw_zret C rfl (by decide) dX6_isIn_15 (Nat.le_refl _) (Nat.le_refl _) ⟨by simp; try (first | (simp_all [Int32.not_lt]; done) | (intro z; simp_all [Int32.not_lt]) | grind), rfl, rfl⟩
set_option maxRecDepth 100000 in
theorem t6_freeSet {γ : Gm} (hG : GF γ) (l : Launch) (o sz : Nat) (u : TU) {b : Nat → Nat} (hu : BD u b) (hW : WB b) : MX γ l yX6_freeSet cX6_freeSet 3 (some .int) 1 21 0 0 [.ref o] (th o u) sz (RI (th o u) sz (nI (freeS b))) NX := by
  refine mx_start hG (by decide) (Nat.le_of_ble_eq_true rfl) (fun x C => ?_)
  have key : ∀ j v s, v ≤ b 0 → b 0 + 1 ≤ v + j → s = bset (fr b) v → AW γ l x (QX γ x 0 0 (RI (th o u) sz (nI (freeS b))) NX) 3 (th o u) sz 0 0 4 [(0, .ref o), (1, .int (nI s)), (2, .int (nI v))] [] := by
    intro j
    induction j with
    | zero => intro v s h1 h2 hs; exact absurd h2 (by omega)
    | succ j ih =>
      intro v s h1 h2 hs
      have hN := hW.2.1
      refine aw_iload_n C rfl rfl dX6_freeSet_4 ?_
      refine aw_aload_n C rfl rfl dX6_freeSet_5 ?_
      refine tw_get C 0 (by decide) q1818 rfl dX6_freeSet_6 ?_
      refine aw_iconst C (v := nI 0) (by decide) dX6_freeSet_9 ?_
      refine tw_ld0 C (by omega) dX6_freeSet_10 ?_
      refine aw_top (hu _) ?_
      refine aw_icmpN_ge C (tgt := 38) (by omega) (by omega) dX6_freeSet_11 (by decide) (fun gN => ?_) (fun gN => ?_)
      · refine aw_iload_n C rfl rfl dX6_freeSet_38 ?_
        exact aw_iret C rfl dX6_freeSet_39 (Nat.le_refl _) (Nat.le_refl _) ⟨by rw [hs, show v = b 0 by omega]; rfl, rfl, rfl⟩
      · refine aw_iload_n C rfl rfl dX6_freeSet_14 ?_
        refine aw_aload_n C rfl rfl dX6_freeSet_15 ?_
        refine aw_iload_n C rfl rfl dX6_freeSet_16 ?_
        refine tw_callR C (t6_isFree hG l o sz u hu (by omega) (hW.o3 (by omega))) q1976 q1978 qs56 q120 q1979 (n9 := 1) (by decide +kernel) rfl (Nat.le_of_ble_eq_true rfl) (Nat.le_of_ble_eq_true rfl) (Nat.zero_le _) (Nat.zero_le _) rfl (Nat.le_of_ble_eq_true rfl) dX6_freeSet_17 ?_
        refine aw_bit_eq0 C (tgt := 29) dX6_freeSet_20 (by decide) (fun gF => ?_) (fun gF => ?_)
        · refine aw_iconst C (v := nI 0) (by decide) dX6_freeSet_29 ?_
          refine aw_iorN C dX6_freeSet_30 ?_
          refine aw_istore_n C rfl (by decide) rfl dX6_freeSet_31 ?_
          refine aw_iinc1 C rfl (by decide) rfl dX6_freeSet_32 ?_
          refine aw_goto C (tgt := 4) dX6_freeSet_35 (by decide) ?_
          exact aw_lo (ih (v + 1) _ (by omega) (by omega) (by rw [bset, hs]; simp [gF])) ⟨rfl, rfl, rfl, trivial⟩
        · refine aw_iconst C (v := nI 1) (by decide) dX6_freeSet_23 ?_
          refine aw_iload_n C rfl rfl dX6_freeSet_24 ?_
          refine aw_ishlN C (by omega) dX6_freeSet_25 ?_
          refine aw_goto C (tgt := 30) dX6_freeSet_26 (by decide) ?_
          refine aw_iorN C dX6_freeSet_30 ?_
          refine aw_istore_n C rfl (by decide) rfl dX6_freeSet_31 ?_
          refine aw_iinc1 C rfl (by decide) rfl dX6_freeSet_32 ?_
          refine aw_goto C (tgt := 4) dX6_freeSet_35 (by decide) ?_
          exact aw_lo (ih (v + 1) _ (by omega) (by omega) (by rw [bset, hs]; simp [gF])) ⟨rfl, rfl, rfl, trivial⟩
  refine aw_iconst C (v := nI 0) (by decide) dX6_freeSet_0 ?_
  refine aw_istore_n C rfl (by decide) rfl dX6_freeSet_1 ?_
  refine aw_iconst C (v := nI 0) (by decide) dX6_freeSet_2 ?_
  refine aw_istore_n C rfl (by decide) rfl dX6_freeSet_3 ?_
  exact aw_lo (key (b 0 + 1) 0 0 (Nat.zero_le _) (by omega) rfl) ⟨rfl, rfl, rfl, trivial⟩
set_option maxRecDepth 100000 in
theorem t6_reached {γ : Gm} (hG : GF γ) (l : Launch) (o sz : Nat) (u : TU) {b : Nat → Nat} (hu : BD u b) (hW : WB b) {v set : Nat} (hv : v < 9) (hset : set < 512) : MX γ l yX6_reached cX6_reached 6 (some .int) 0 0 0 0 [.ref o, .int (nI v), .int (nI set)] (th o u) sz (RI (th o u) sz (nI (rch b v set))) NX := by
  refine mx_start hG (by decide) (Nat.le_of_ble_eq_true rfl) (fun x C => ?_)
  have hN := hW.2.1
  have hexit : ∀ I, I < 512 → rch b v set = I → AW γ l x (QX γ x 0 0 (RI (th o u) sz (nI (rch b v set))) NX) 6 (th o u) sz 0 0 7 [(0, .ref o), (1, .int (nI v)), (2, .int (nI set)), (3, .int (nI I)), (4, .int (nI I))] [] := by
    intro I hI hr
    refine aw_iload_n C rfl rfl dX6_reached_7 ?_
    refine aw_iload C rfl dX6_reached_8 ?_
    refine aw_icmpN_eq C (tgt := 69) (by omega) (by omega) dX6_reached_10 (by decide) (fun g1 => ?_) (fun g1 => ?_)
    · refine aw_iload_n C rfl rfl dX6_reached_69 ?_
      exact aw_iret C rfl dX6_reached_70 (Nat.le_refl _) (Nat.le_refl _) ⟨by rw [hr], rfl, rfl⟩
    · exact absurd rfl g1
  have key : ∀ j i I B, I < 512 → B < 512 → ¬ I = B → 512 ≤ I + j → rinv b (1 <<< v) set i I → AW γ l x (QX γ x 0 0 (RI (th o u) sz (nI (rch b v set))) NX) 6 (th o u) sz 0 0 7 [(0, .ref o), (1, .int (nI v)), (2, .int (nI set)), (3, .int (nI I)), (4, .int (nI B))] [] := by
    intro j
    induction j with
    | zero => intro i I B hI hB hne h2; exact absurd h2 (by omega)
    | succ j ih =>
      intro i I B hI hB hne h2 hi
      have key2 : ∀ j k s, k ≤ b 0 → b 0 + 1 ≤ k + j → s < 512 → s = grow b set I k → AW γ l x (QX γ x 0 0 (RI (th o u) sz (nI (rch b v set))) NX) 6 (th o u) sz 0 0 19 [(0, .ref o), (1, .int (nI v)), (2, .int (nI set)), (3, .int (nI s)), (4, .int (nI I)), (5, .int (nI k))] [] := by
        intro j
        induction j with
        | zero => intro k s h1 h2 hs5 hs; exact absurd h2 (by omega)
        | succ j ih2 =>
          intro k s h1 h2 hs5 hs
          refine aw_iload C rfl dX6_reached_19 ?_
          refine aw_aload_n C rfl rfl dX6_reached_21 ?_
          refine tw_get C 0 (by decide) q1818 rfl dX6_reached_22 ?_
          refine aw_iconst C (v := nI 0) (by decide) dX6_reached_25 ?_
          refine tw_ld0 C (by omega) dX6_reached_26 ?_
          refine aw_top (hu _) ?_
          refine aw_icmpN_ge C (tgt := 66) (by omega) (by omega) dX6_reached_27 (by decide) (fun gN => ?_) (fun gN => ?_)
          · refine aw_goto C (tgt := 7) dX6_reached_66 (by decide) ?_
            have hk : k = b 0 := by omega
            subst hk
            have hs' : s = gstep b set I := hs
            by_cases e : gstep b set I = I
            · rw [hs', e]
              exact aw_lo (hexit I hI (rinv_fix hi e)) ⟨rfl, rfl, rfl, rfl, rfl, trivial⟩
            · have hge := gstep_ge b set I
              rw [hs']
              exact aw_lo (ih (i + 1) (gstep b set I) I (gstep_lt hI hset) hI e (by omega) (rinv_s hi hset e)) ⟨rfl, rfl, rfl, rfl, rfl, trivial⟩
          · refine aw_iload_n C rfl rfl dX6_reached_30 ?_
            refine aw_iload C rfl dX6_reached_31 ?_
            refine aw_iload C rfl dX6_reached_33 ?_
            refine aw_ishrN C (by omega) (by omega) dX6_reached_35 ?_
            refine aw_iconst C (v := nI 1) (by decide) dX6_reached_36 ?_
            refine aw_iandBit C dX6_reached_37 ?_
            refine aw_iconst C (v := nI 1) (by decide) dX6_reached_38 ?_
            refine aw_bit_ne1 C (tgt := 57) dX6_reached_39 (by decide) (fun gB => ?_) (fun gB => ?_)
            · refine aw_iconst C (v := nI 0) (by decide) dX6_reached_57 ?_
              refine aw_iorN C dX6_reached_58 ?_
              refine aw_istore_n C rfl (by decide) rfl dX6_reached_59 ?_
              refine aw_iinc1 C rfl (by decide) rfl dX6_reached_60 ?_
              refine aw_goto C (tgt := 19) dX6_reached_63 (by decide) ?_
              exact aw_lo (ih2 (k + 1) _ (by omega) (by omega) (nb_lt_or (m := 9) hs5 (by first | exact hg | decide)) (by rw [grow, hs]; simp [gB])) ⟨rfl, rfl, rfl, rfl, rfl, rfl, trivial⟩
            · refine aw_aload_n C rfl rfl dX6_reached_42 ?_
              refine tw_get C 0 (by decide) q1818 rfl dX6_reached_43 ?_
              refine aw_bipush C (v := nI 13) (by decide) dX6_reached_46 ?_
              refine aw_iload C rfl dX6_reached_48 ?_
              refine aw_iaddN C dX6_reached_50 ?_
              refine tw_ld0 C (by omega) dX6_reached_51 ?_
              refine aw_top (hu _) ?_
              refine aw_iload_n C rfl rfl dX6_reached_52 ?_
              refine aw_iandN C dX6_reached_53 ?_
              have hg := Nat.lt_of_le_of_lt (Nat.and_le_right (n := b (13 + k)) (m := set)) hset
              refine aw_goto C (tgt := 58) dX6_reached_54 (by decide) ?_
              refine aw_iorN C dX6_reached_58 ?_
              refine aw_istore_n C rfl (by decide) rfl dX6_reached_59 ?_
              refine aw_iinc1 C rfl (by decide) rfl dX6_reached_60 ?_
              refine aw_goto C (tgt := 19) dX6_reached_63 (by decide) ?_
              exact aw_lo (ih2 (k + 1) _ (by omega) (by omega) (nb_lt_or (m := 9) hs5 (by first | exact hg | decide)) (by rw [grow, hs]; simp [gB])) ⟨rfl, rfl, rfl, rfl, rfl, rfl, trivial⟩
      refine aw_iload_n C rfl rfl dX6_reached_7 ?_
      refine aw_iload C rfl dX6_reached_8 ?_
      refine aw_icmpN_eq C (tgt := 69) (by omega) (by omega) dX6_reached_10 (by decide) (fun g1 => ?_) (fun g1 => ?_)
      · exact absurd g1 hne
      · refine aw_iload_n C rfl rfl dX6_reached_13 ?_
        refine aw_istore C (by decide) rfl dX6_reached_14 ?_
        refine aw_iconst C (v := nI 0) (by decide) dX6_reached_16 ?_
        refine aw_istore C (by decide) rfl dX6_reached_17 ?_
        exact aw_lo (key2 (b 0 + 1) 0 I (Nat.zero_le _) (by omega) hI rfl) ⟨rfl, rfl, rfl, rfl, rfl, rfl, trivial⟩
  have h1 := sh1_lt (m := 9) hv
  have h0 : 0 < 1 <<< v := by rw [Nat.shiftLeft_eq, Nat.one_mul]; exact Nat.two_pow_pos v
  refine aw_iconst C (v := nI 1) (by decide) dX6_reached_0 ?_
  refine aw_iload_n C rfl rfl dX6_reached_1 ?_
  refine aw_ishlN C (by omega) dX6_reached_2 ?_
  refine aw_istore_n C rfl (by decide) rfl dX6_reached_3 ?_
  refine aw_iconst C (v := nI 0) (by decide) dX6_reached_4 ?_
  refine aw_istore C (by decide) rfl dX6_reached_5 ?_
  exact aw_lo (key 512 0 (1 <<< v) 0 h1 (by decide) (by omega) (by omega) (rinv_0 h0 h1)) ⟨rfl, rfl, rfl, rfl, rfl, trivial⟩
