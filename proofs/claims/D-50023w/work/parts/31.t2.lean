/-! the twin: readers of the board, on -/
set_option maxRecDepth 100000 in
theorem t6_bits {γ : Gm} (hG : GF γ) (l : Launch) (o sz : Nat) (u : TU)  {S : Nat} (hS : S < 512) : MX γ l yX6_bits cX6_bits 3 (some .int) 0 0 0 0 [.int (nI S)] (th o u) sz (RI (th o u) sz (nI (pop S))) NX := by
  refine mx_start hG (by decide) (Nat.le_of_ble_eq_true rfl) (fun x C => ?_)
  have key : ∀ j s m, s + 1 ≤ j → s < 512 → m + pop s = pop S → AW γ l x (QX γ x 0 0 (RI (th o u) sz (nI (pop S))) NX) 3 (th o u) sz 0 0 4 [(0, .int (nI S)), (1, .int (nI m)), (2, .int (nI s))] [] := by
    intro j
    induction j with
    | zero => intro s m h2 h3 h4; exact absurd h2 (by omega)
    | succ j ih =>
      intro s m h2 h3 h4
      refine aw_iload_n C rfl rfl dX6_bits_4 ?_
      refine aw_ifN_le C (tgt := 20) (by omega) dX6_bits_5 (by decide) (fun g0 => ?_) (fun g0 => ?_)
      · refine aw_iload_n C rfl rfl dX6_bits_20 ?_
        exact aw_iret C rfl dX6_bits_21 (Nat.le_refl _) (Nat.le_refl _) ⟨by rw [show m = pop S by rw [← h4, g0]; rfl], rfl, rfl⟩
      · refine aw_iinc1 C rfl (by decide) rfl dX6_bits_8 ?_
        refine aw_iload_n C rfl rfl dX6_bits_11 ?_
        refine aw_iload_n C rfl rfl dX6_bits_12 ?_
        refine aw_iconst C (v := nI 1) (by decide) dX6_bits_13 ?_
        refine aw_isubN C (by omega) dX6_bits_14 ?_
        refine aw_iandN C dX6_bits_15 ?_
        refine aw_istore_n C rfl (by decide) rfl dX6_bits_16 ?_
        refine aw_goto C (tgt := 4) dX6_bits_17 (by decide) ?_
        have h5 := Nat.and_le_right (n := s) (m := s - 1)
        exact aw_lo (ih (s &&& (s - 1)) (m + 1) (by omega) (by omega) (by have := pop_step s h3 g0; omega)) ⟨rfl, rfl, rfl, trivial⟩
  refine aw_iconst C (v := nI 0) (by decide) dX6_bits_0 ?_
  refine aw_istore_n C rfl (by decide) rfl dX6_bits_1 ?_
  refine aw_iload_n C rfl rfl dX6_bits_2 ?_
  refine aw_istore_n C rfl (by decide) rfl dX6_bits_3 ?_
  exact aw_lo (key (S + 1) S 0 (by omega) hS (by omega)) ⟨rfl, rfl, rfl, trivial⟩
set_option maxRecDepth 100000 in
theorem t6_lowest {γ : Gm} (hG : GF γ) (l : Launch) (o sz : Nat) (u : TU)  {S : Nat} (hS : S < 512) (h0 : 0 < S) : MX γ l yX6_lowest cX6_lowest 2 (some .int) 0 0 0 0 [.int (nI S)] (th o u) sz (RI (th o u) sz (nI (low S))) NX := by
  refine mx_start hG (by decide) (Nat.le_of_ble_eq_true rfl) (fun x C => ?_)
  obtain ⟨hl1, hl2, hl3⟩ := low_bit S hS h0
  have key : ∀ j v, v ≤ low S → low S + 1 ≤ v + j → AW γ l x (QX γ x 0 0 (RI (th o u) sz (nI (low S))) NX) 2 (th o u) sz 0 0 2 [(0, .int (nI S)), (1, .int (nI v))] [] := by
    intro j
    induction j with
    | zero => intro v h1 h2; exact absurd h2 (by omega)
    | succ j ih =>
      intro v h1 h2
      refine aw_iload_n C rfl rfl dX6_lowest_2 ?_
      refine aw_iload_n C rfl rfl dX6_lowest_3 ?_
      refine aw_ishrN C (by omega) (by omega) dX6_lowest_4 ?_
      refine aw_iconst C (v := nI 1) (by decide) dX6_lowest_5 ?_
      refine aw_iandBit C dX6_lowest_6 ?_
      refine aw_bit_ne0 C (tgt := 16) dX6_lowest_7 (by decide) (fun gB => ?_) (fun gB => ?_)
      · refine aw_iload_n C rfl rfl dX6_lowest_16 ?_
        exact aw_iret C rfl dX6_lowest_17 (Nat.le_refl _) (Nat.le_refl _) ⟨by rw [show v = low S from Nat.le_antisymm h1 (Nat.not_lt.mp fun z => by rw [hl3 v z] at gB; cases gB)], rfl, rfl⟩
      · refine aw_iinc1 C rfl (by decide) rfl dX6_lowest_10 ?_
        refine aw_goto C (tgt := 2) dX6_lowest_13 (by decide) ?_
        have hne : ¬ v = low S := fun e => by rw [e, hl1] at gB; cases gB
        exact aw_lo (ih (v + 1) (by omega) (by omega)) ⟨rfl, rfl, trivial⟩
  refine aw_iconst C (v := nI 0) (by decide) dX6_lowest_0 ?_
  refine aw_istore_n C rfl (by decide) rfl dX6_lowest_1 ?_
  exact aw_lo (key (low S + 1) 0 (Nat.zero_le _) (by omega)) ⟨rfl, rfl, trivial⟩
set_option maxRecDepth 100000 in
theorem t6_around {γ : Gm} (hG : GF γ) (l : Launch) (o sz : Nat) (u : TU) {b : Nat → Nat} (hu : BD u b) (hW : WB b) {v : Nat} (hv : v < 9) : MX γ l yX6_around cX6_around 4 (some .int) 1 22 0 0 [.ref o, .int (nI v)] (th o u) sz (RI (th o u) sz (nI (arn b v))) NX := by
  refine mx_start hG (by decide) (Nat.le_of_ble_eq_true rfl) (fun x C => ?_)
  have hN := hW.2.1
  have key : ∀ j k s, k ≤ b 0 → b 0 + 1 ≤ k + j → s = arnF b v k → AW γ l x (QX γ x 0 0 (RI (th o u) sz (nI (arn b v))) NX) 4 (th o u) sz 0 0 4 [(0, .ref o), (1, .int (nI v)), (2, .int (nI s)), (3, .int (nI k))] [] := by
    intro j
    induction j with
    | zero => intro k s h1 h2 hs; exact absurd h2 (by omega)
    | succ j ih =>
      intro k s h1 h2 hs
      refine aw_iload_n C rfl rfl dX6_around_4 ?_
      refine aw_aload_n C rfl rfl dX6_around_5 ?_
      refine tw_get C 0 (by decide) q1818 rfl dX6_around_6 ?_
      refine aw_iconst C (v := nI 0) (by decide) dX6_around_9 ?_
      refine tw_ld0 C (by omega) dX6_around_10 ?_
      refine aw_top (hu _) ?_
      refine aw_icmpN_ge C (tgt := 47) (by omega) (by omega) dX6_around_11 (by decide) (fun gN => ?_) (fun gN => ?_)
      · refine aw_iload_n C rfl rfl dX6_around_47 ?_
        exact aw_iret C rfl dX6_around_48 (Nat.le_refl _) (Nat.le_refl _) ⟨by rw [hs, show k = b 0 by omega]; rfl, rfl, rfl⟩
      · refine aw_aload_n C rfl rfl dX6_around_14 ?_
        refine aw_iload_n C rfl rfl dX6_around_15 ?_
        refine aw_iload_n C rfl rfl dX6_around_16 ?_
        refine tw_callR C (t6_areNext hG l o sz u hu (by omega) (by omega) (hW.n9 (by omega))) q1962 q1964 qs53 q120 q1965 (n9 := 2) (by decide +kernel) rfl (Nat.le_of_ble_eq_true rfl) (Nat.le_of_ble_eq_true rfl) (Nat.zero_le _) (Nat.zero_le _) rfl (Nat.le_of_ble_eq_true rfl) dX6_around_17 ?_
        refine aw_bit_eq0 C (tgt := 41) dX6_around_20 (by decide) (fun gA => ?_) (fun gA => ?_)
        · refine aw_iinc1 C rfl (by decide) rfl dX6_around_41 ?_
          refine aw_goto C (tgt := 4) dX6_around_44 (by decide) ?_
          exact aw_lo (ih (k + 1) _ (by omega) (by omega) (by first | (rw [arnF, hs]; simp [gA, gF]; done) | (rw [arnF, hs]; simp [gA]; done))) ⟨rfl, rfl, rfl, rfl, trivial⟩
        · refine aw_aload_n C rfl rfl dX6_around_23 ?_
          refine aw_iload_n C rfl rfl dX6_around_24 ?_
          refine tw_callR C (t6_isFree hG l o sz u hu (by omega) (hW.o3 (by omega))) q1976 q1978 qs56 q120 q1979 (n9 := 1) (by decide +kernel) rfl (Nat.le_of_ble_eq_true rfl) (Nat.le_of_ble_eq_true rfl) (Nat.zero_le _) (Nat.zero_le _) rfl (Nat.le_of_ble_eq_true rfl) dX6_around_25 ?_
          refine aw_bit_ne0 C (tgt := 41) dX6_around_28 (by decide) (fun gF => ?_) (fun gF => ?_)
          · refine aw_iinc1 C rfl (by decide) rfl dX6_around_41 ?_
            refine aw_goto C (tgt := 4) dX6_around_44 (by decide) ?_
            exact aw_lo (ih (k + 1) _ (by omega) (by omega) (by first | (rw [arnF, hs]; simp [gA, gF]; done) | (rw [arnF, hs]; simp [gA]; done))) ⟨rfl, rfl, rfl, rfl, trivial⟩
          · refine aw_iload_n C rfl rfl dX6_around_31 ?_
            refine aw_iconst C (v := nI 1) (by decide) dX6_around_32 ?_
            refine aw_aload_n C rfl rfl dX6_around_33 ?_
            refine aw_iload_n C rfl rfl dX6_around_34 ?_
            refine tw_callR C (t6_colourOf hG l o sz u hu (by omega)) q1984 q1986 qs58 q120 q1987 (n9 := 1) (by decide +kernel) rfl (Nat.le_of_ble_eq_true rfl) (Nat.le_of_ble_eq_true rfl) (Nat.zero_le _) (Nat.zero_le _) rfl (Nat.le_of_ble_eq_true rfl) dX6_around_35 ?_
            have gF2 := fr_f.mp gF
            have gF3 := hW.o3 (v := k) (by omega)
            refine aw_top (pk_sub (show 1 ≤ b (22 + k) by omega)) ?_
            refine aw_ishlN C (by omega) dX6_around_38 ?_
            refine aw_iorN C dX6_around_39 ?_
            refine aw_istore_n C rfl (by decide) rfl dX6_around_40 ?_
            refine aw_iinc1 C rfl (by decide) rfl dX6_around_41 ?_
            refine aw_goto C (tgt := 4) dX6_around_44 (by decide) ?_
            exact aw_lo (ih (k + 1) _ (by omega) (by omega) (by first | (rw [arnF, hs]; simp [gA, gF]; done) | (rw [arnF, hs]; simp [gA]; done))) ⟨rfl, rfl, rfl, rfl, trivial⟩
  refine aw_iconst C (v := nI 0) (by decide) dX6_around_0 ?_
  refine aw_istore_n C rfl (by decide) rfl dX6_around_1 ?_
  refine aw_iconst C (v := nI 0) (by decide) dX6_around_2 ?_
  refine aw_istore_n C rfl (by decide) rfl dX6_around_3 ?_
  exact aw_lo (key (b 0 + 1) 0 0 (Nat.zero_le _) (by omega) rfl) ⟨rfl, rfl, rfl, rfl, trivial⟩
set_option maxRecDepth 100000 in
theorem t6_canLay {γ : Gm} (hG : GF γ) (l : Launch) (o sz : Nat) (u : TU) {b : Nat → Nat} (hu : BD u b) (hW : WB b) {v part m : Nat} (hv : v < 9) (hp : part < 512) (hm : m ≤ 3) : MX γ l yX6_canLay cX6_canLay 5 (some .int) 2 45 0 0 [.ref o, .int (nI v), .int (nI part), .int (nI m - nI 1)] (th o u) sz (RI (th o u) sz (nI (clay b v part m))) NX := by
  refine mx_start hG (by decide) (Nat.le_of_ble_eq_true rfl) (fun x C => ?_)
  have hpp := pop_le part hp
  refine aw_aload_n C rfl rfl dX6_canLay_0 ?_
  refine tw_get C 0 (by decide) q1818 rfl dX6_canLay_1 ?_
  refine aw_iconst C (v := nI 4) (by decide) dX6_canLay_4 ?_
  refine aw_iload_n C rfl rfl dX6_canLay_5 ?_
  refine aw_iaddN C dX6_canLay_6 ?_
  refine tw_ld0 C (by omega) dX6_canLay_7 ?_
  refine aw_top (hu _) ?_
  refine aw_aload_n C rfl rfl dX6_canLay_8 ?_
  refine aw_iload_n C rfl rfl dX6_canLay_9 ?_
  refine tw_callR C (t6_around hG l o sz u hu hW (by omega)) q1980 q1982 qs57 q120 q1983 (n9 := 1) (by decide +kernel) rfl (Nat.le_of_ble_eq_true rfl) (Nat.le_of_ble_eq_true rfl) (Nat.zero_le _) (Nat.zero_le _) rfl (Nat.le_of_ble_eq_true rfl) dX6_canLay_10 ?_
  refine aw_iconst C (v := -1) (by decide) dX6_canLay_13 ?_
  refine aw_ixor C dX6_canLay_14 ?_
  refine aw_iandNot C dX6_canLay_15 ?_
  refine aw_istore C (by decide) rfl dX6_canLay_16 ?_
  refine aw_iload_n C rfl rfl dX6_canLay_18 ?_
  refine aw_iconst C (v := -1) (by decide) dX6_canLay_19 ?_
  refine aw_icmp_eq C (tgt := 31) dX6_canLay_20 (by decide) (fun gM => ?_) (fun gM => ?_)
  · have hcl : clay b v part m = nd (b (4 + v)) (arn b v) := clay_a (by first | exact Or.inl ((ban_m1 m (by omega)).mp gM) | exact Or.inr gP)
    refine aw_iload C rfl dX6_canLay_31 ?_
    refine aw_goto C (tgt := 44) dX6_canLay_33 (by decide) ?_
    exact aw_iret C rfl dX6_canLay_44 (Nat.le_refl _) (Nat.le_refl _) ⟨by first | rw [hcl] | rw [clay_b gM2 gP], rfl, rfl⟩
  · have gM2 := mt (ban_m1 m (by omega)).mpr gM
    refine aw_iload_n C rfl rfl dX6_canLay_23 ?_
    refine tw_callSR C (t6_bits hG l o sz u (by omega)) q2008 q2009 q120 q2010 (n9 := 1) (by decide +kernel) rfl (Nat.le_of_ble_eq_true rfl) (Nat.le_of_ble_eq_true rfl) (Nat.zero_le _) (Nat.zero_le _) rfl (Nat.le_of_ble_eq_true rfl) dX6_canLay_24 ?_
    refine aw_iconst C (v := nI 1) (by decide) dX6_canLay_27 ?_
    refine aw_icmpN_ne C (tgt := 36) (by omega) (by omega) dX6_canLay_28 (by decide) (fun gP => ?_) (fun gP => ?_)
    · refine aw_iload C rfl dX6_canLay_36 ?_
      refine aw_iconst C (v := nI 1) (by decide) dX6_canLay_38 ?_
      refine aw_iload_n C rfl rfl dX6_canLay_39 ?_
      refine aw_top (pk_sub (show 1 ≤ m by omega)) ?_
      refine aw_ishlN C (by omega) dX6_canLay_40 ?_
      refine aw_iconst C (v := -1) (by decide) dX6_canLay_41 ?_
      refine aw_ixor C dX6_canLay_42 ?_
      refine aw_iandNot C dX6_canLay_43 ?_
      exact aw_iret C rfl dX6_canLay_44 (Nat.le_refl _) (Nat.le_refl _) ⟨by first | rw [hcl] | rw [clay_b gM2 gP], rfl, rfl⟩
    · have hcl : clay b v part m = nd (b (4 + v)) (arn b v) := clay_a (by first | exact Or.inl ((ban_m1 m (by omega)).mp gM) | exact Or.inr gP)
      refine aw_iload C rfl dX6_canLay_31 ?_
      refine aw_goto C (tgt := 44) dX6_canLay_33 (by decide) ?_
      exact aw_iret C rfl dX6_canLay_44 (Nat.le_refl _) (Nat.le_refl _) ⟨by first | rw [hcl] | rw [clay_b gM2 gP], rfl, rfl⟩
set_option maxRecDepth 100000 in
theorem t6_colours {γ : Gm} (hG : GF γ) (l : Launch) (o sz : Nat) (u : TU) {b : Nat → Nat} (hu : BD u b) (hW : WB b) {v : Nat} (hv : v < 9) : MX γ l yX6_colours cX6_colours 2 (some .int) 3 69 0 0 [.ref o, .int (nI v)] (th o u) sz (RI (th o u) sz (nI (cols b v))) NX := by
  refine mx_start hG (by decide) (Nat.le_of_ble_eq_true rfl) (fun x C => ?_)
  have hF := freeS_lt hW.2.1
  have hr := rch_lt (b := b) hv hF
  refine aw_aload_n C rfl rfl dX6_colours_0 ?_
  refine aw_iload_n C rfl rfl dX6_colours_1 ?_
  refine tw_callR C (t6_isFree hG l o sz u hu (by omega) (hW.o3 (by omega))) q1976 q1978 qs56 q120 q1979 (n9 := 1) (by decide +kernel) rfl (Nat.le_of_ble_eq_true rfl) (Nat.le_of_ble_eq_true rfl) (Nat.zero_le _) (Nat.zero_le _) rfl (Nat.le_of_ble_eq_true rfl) dX6_colours_2 ?_
  refine aw_bit_eq0 C (tgt := 30) dX6_colours_5 (by decide) (fun gF => ?_) (fun gF => ?_)
  · refine aw_iconst C (v := nI 0) (by decide) dX6_colours_30 ?_
    exact aw_iret C rfl dX6_colours_31 (Nat.le_refl _) (Nat.le_refl _) ⟨by simp [cols, gF], rfl, rfl⟩
  · refine aw_aload_n C rfl rfl dX6_colours_8 ?_
    refine aw_iload_n C rfl rfl dX6_colours_9 ?_
    refine aw_aload_n C rfl rfl dX6_colours_10 ?_
    refine aw_iload_n C rfl rfl dX6_colours_11 ?_
    refine aw_aload_n C rfl rfl dX6_colours_12 ?_
    refine tw_callR C (t6_freeSet hG l o sz u hu hW) q1992 q1994 qs60 q120 q1995 (n9 := 0) (by decide +kernel) rfl (Nat.le_of_ble_eq_true rfl) (Nat.le_of_ble_eq_true rfl) (Nat.zero_le _) (Nat.zero_le _) rfl (Nat.le_of_ble_eq_true rfl) dX6_colours_13 ?_
    refine tw_callR C (t6_reached hG l o sz u hu hW (by omega) (by omega)) q1996 q1998 qs61 q120 q1999 (n9 := 2) (by decide +kernel) rfl (Nat.le_of_ble_eq_true rfl) (Nat.le_of_ble_eq_true rfl) (Nat.zero_le _) (Nat.zero_le _) rfl (Nat.le_of_ble_eq_true rfl) dX6_colours_16 ?_
    refine aw_aload_n C rfl rfl dX6_colours_19 ?_
    refine aw_iload_n C rfl rfl dX6_colours_20 ?_
    refine tw_callR C (t6_banOf hG l o sz u hu (by omega)) q2000 q2002 qs62 q120 q2003 (n9 := 1) (by decide +kernel) rfl (Nat.le_of_ble_eq_true rfl) (Nat.le_of_ble_eq_true rfl) (Nat.zero_le _) (Nat.zero_le _) rfl (Nat.le_of_ble_eq_true rfl) dX6_colours_21 ?_
    refine tw_callR C (t6_canLay hG l o sz u hu hW (by omega) (by omega) (hW.b3 (by omega))) q2004 q2006 qs63 q120 q2007 (n9 := 3) (by decide +kernel) rfl (Nat.le_of_ble_eq_true rfl) (Nat.le_of_ble_eq_true rfl) (Nat.zero_le _) (Nat.zero_le _) rfl (Nat.le_of_ble_eq_true rfl) dX6_colours_24 ?_
    refine aw_goto C (tgt := 31) dX6_colours_27 (by decide) ?_
    exact aw_iret C rfl dX6_colours_31 (Nat.le_refl _) (Nat.le_refl _) ⟨by simp [cols, gF], rfl, rfl⟩
set_option maxRecDepth 100000 in
theorem t6_whyNot {γ : Gm} (hG : GF γ) (l : Launch) (o sz : Nat) (u : TU) {b : Nat → Nat} (hu : BD u b) (hW : WB b) {v c : Nat} (hv : v < 9) (hc : c < 3) : MX γ l yX6_whyNot cX6_whyNot 3 (some .int) 4 90 0 0 [.ref o, .int (nI v), .int (nI c)] (th o u) sz (RI (th o u) sz (nI (why b v c))) NX := by
  refine mx_start hG (by decide) (Nat.le_of_ble_eq_true rfl) (fun x C => ?_)
  have hl := hW.l8 hv
  have ha := arn_lt hW v
  have hk := cols_lt hW hv
  refine aw_aload_n C rfl rfl dX6_whyNot_0 ?_
  refine aw_iload_n C rfl rfl dX6_whyNot_1 ?_
  refine tw_callR C (t6_isFree hG l o sz u hu (by omega) (hW.o3 (by omega))) q1976 q1978 qs56 q120 q1979 (n9 := 1) (by decide +kernel) rfl (Nat.le_of_ble_eq_true rfl) (Nat.le_of_ble_eq_true rfl) (Nat.zero_le _) (Nat.zero_le _) rfl (Nat.le_of_ble_eq_true rfl) dX6_whyNot_2 ?_
  refine aw_bit_ne0 C (tgt := 10) dX6_whyNot_5 (by decide) (fun gF => ?_) (fun gF => ?_)
  · refine aw_aload_n C rfl rfl dX6_whyNot_10 ?_
    refine tw_get C 0 (by decide) q1818 rfl dX6_whyNot_11 ?_
    refine aw_iconst C (v := nI 4) (by decide) dX6_whyNot_14 ?_
    refine aw_iload_n C rfl rfl dX6_whyNot_15 ?_
    refine aw_iaddN C dX6_whyNot_16 ?_
    refine tw_ld0 C (by omega) dX6_whyNot_17 ?_
    refine aw_top (hu _) ?_
    refine aw_iload_n C rfl rfl dX6_whyNot_18 ?_
    refine aw_ishrN C (by omega) (by omega) dX6_whyNot_19 ?_
    refine aw_iconst C (v := nI 1) (by decide) dX6_whyNot_20 ?_
    refine aw_iandBit C dX6_whyNot_21 ?_
    refine aw_bit_ne0 C (tgt := 27) dX6_whyNot_22 (by decide) (fun gL => ?_) (fun gL => ?_)
    · refine aw_aload_n C rfl rfl dX6_whyNot_27 ?_
      refine aw_iload_n C rfl rfl dX6_whyNot_28 ?_
      refine tw_callR C (t6_around hG l o sz u hu hW (by omega)) q1980 q1982 qs57 q120 q1983 (n9 := 1) (by decide +kernel) rfl (Nat.le_of_ble_eq_true rfl) (Nat.le_of_ble_eq_true rfl) (Nat.zero_le _) (Nat.zero_le _) rfl (Nat.le_of_ble_eq_true rfl) dX6_whyNot_29 ?_
      refine aw_iload_n C rfl rfl dX6_whyNot_32 ?_
      refine aw_ishrN C (by omega) (by omega) dX6_whyNot_33 ?_
      refine aw_iconst C (v := nI 1) (by decide) dX6_whyNot_34 ?_
      refine aw_iandBit C dX6_whyNot_35 ?_
      refine aw_iconst C (v := nI 1) (by decide) dX6_whyNot_36 ?_
      refine aw_bit_ne1 C (tgt := 42) dX6_whyNot_37 (by decide) (fun gA => ?_) (fun gA => ?_)
      · refine aw_aload_n C rfl rfl dX6_whyNot_42 ?_
        refine aw_iload_n C rfl rfl dX6_whyNot_43 ?_
        refine tw_callR C (t6_colours hG l o sz u hu hW (by omega)) q1988 q1990 qs59 q120 q1991 (n9 := 1) (by decide +kernel) rfl (Nat.le_of_ble_eq_true rfl) (Nat.le_of_ble_eq_true rfl) (Nat.zero_le _) (Nat.zero_le _) rfl (Nat.le_of_ble_eq_true rfl) dX6_whyNot_44 ?_
        refine aw_iload_n C rfl rfl dX6_whyNot_47 ?_
        refine aw_ishrN C (by omega) (by omega) dX6_whyNot_48 ?_
        refine aw_iconst C (v := nI 1) (by decide) dX6_whyNot_49 ?_
        refine aw_iandBit C dX6_whyNot_50 ?_
        refine aw_iconst C (v := nI 1) (by decide) dX6_whyNot_51 ?_
        refine aw_bit_ne1 C (tgt := 59) dX6_whyNot_52 (by decide) (fun gC => ?_) (fun gC => ?_)
        · refine aw_iconst C (v := nI 4) (by decide) dX6_whyNot_59 ?_
          exact aw_iret C rfl dX6_whyNot_60 (Nat.le_refl _) (Nat.le_refl _) ⟨by simp [why, gF, gL, gA, gC], rfl, rfl⟩
        · refine aw_iconst C (v := nI 0) (by decide) dX6_whyNot_55 ?_
          refine aw_goto C (tgt := 60) dX6_whyNot_56 (by decide) ?_
          exact aw_iret C rfl dX6_whyNot_60 (Nat.le_refl _) (Nat.le_refl _) ⟨by simp [why, gF, gL, gA, gC], rfl, rfl⟩
      · refine aw_iconst C (v := nI 3) (by decide) dX6_whyNot_40 ?_
        exact aw_iret C rfl dX6_whyNot_41 (Nat.le_refl _) (Nat.le_refl _) ⟨by simp [why, gF, gL, gA], rfl, rfl⟩
    · refine aw_iconst C (v := nI 2) (by decide) dX6_whyNot_25 ?_
      exact aw_iret C rfl dX6_whyNot_26 (Nat.le_refl _) (Nat.le_refl _) ⟨by simp [why, gF, gL], rfl, rfl⟩
  · refine aw_iconst C (v := nI 1) (by decide) dX6_whyNot_8 ?_
    exact aw_iret C rfl dX6_whyNot_9 (Nat.le_refl _) (Nat.le_refl _) ⟨by simp [why, gF], rfl, rfl⟩
set_option maxRecDepth 100000 in
theorem t6_pairs {γ : Gm} (hG : GF γ) (l : Launch) (o sz : Nat) (u : TU) {b : Nat → Nat} (hu : BD u b) (hW : WB b) : MX γ l yX6_pairs cX6_pairs 3 (some .int) 4 90 0 0 [.ref o] (th o u) sz (RI (th o u) sz (nI (pairsB b))) NX := by
  refine mx_start hG (by decide) (Nat.le_of_ble_eq_true rfl) (fun x C => ?_)
  have hN := hW.2.1
  have key : ∀ j v s, v ≤ b 0 → b 0 + 1 ≤ v + j → s = sumF (fun v => pop (cols b v)) v → AW γ l x (QX γ x 0 0 (RI (th o u) sz (nI (pairsB b))) NX) 3 (th o u) sz 0 0 4 [(0, .ref o), (1, .int (nI s)), (2, .int (nI v))] [] := by
    intro j
    induction j with
    | zero => intro v s h1 h2 hs; exact absurd h2 (by omega)
    | succ j ih =>
      intro v s h1 h2 hs
      refine aw_iload_n C rfl rfl dX6_pairs_4 ?_
      refine aw_aload_n C rfl rfl dX6_pairs_5 ?_
      refine tw_get C 0 (by decide) q1818 rfl dX6_pairs_6 ?_
      refine aw_iconst C (v := nI 0) (by decide) dX6_pairs_9 ?_
      refine tw_ld0 C (by omega) dX6_pairs_10 ?_
      refine aw_top (hu _) ?_
      refine aw_icmpN_ge C (tgt := 31) (by omega) (by omega) dX6_pairs_11 (by decide) (fun gN => ?_) (fun gN => ?_)
      · refine aw_iload_n C rfl rfl dX6_pairs_31 ?_
        exact aw_iret C rfl dX6_pairs_32 (Nat.le_refl _) (Nat.le_refl _) ⟨by rw [hs, show v = b 0 by omega]; rfl, rfl, rfl⟩
      · refine aw_iload_n C rfl rfl dX6_pairs_14 ?_
        refine aw_aload_n C rfl rfl dX6_pairs_15 ?_
        refine aw_iload_n C rfl rfl dX6_pairs_16 ?_
        refine tw_callR C (t6_colours hG l o sz u hu hW (by omega)) q1988 q1990 qs59 q120 q1991 (n9 := 1) (by decide +kernel) rfl (Nat.le_of_ble_eq_true rfl) (Nat.le_of_ble_eq_true rfl) (Nat.zero_le _) (Nat.zero_le _) rfl (Nat.le_of_ble_eq_true rfl) dX6_pairs_17 ?_
        have hc9 := cols_lt hW (v := v) (by omega)
        refine tw_callSR C (t6_bits hG l o sz u (by omega)) q2008 q2009 q120 q2010 (n9 := 1) (by decide +kernel) rfl (Nat.le_of_ble_eq_true rfl) (Nat.le_of_ble_eq_true rfl) (Nat.zero_le _) (Nat.zero_le _) rfl (Nat.le_of_ble_eq_true rfl) dX6_pairs_20 ?_
        refine aw_iaddN C dX6_pairs_23 ?_
        refine aw_istore_n C rfl (by decide) rfl dX6_pairs_24 ?_
        refine aw_iinc1 C rfl (by decide) rfl dX6_pairs_25 ?_
        refine aw_goto C (tgt := 4) dX6_pairs_28 (by decide) ?_
        exact aw_lo (ih (v + 1) _ (by omega) (by omega) (by first | (rw [sumF, hs]; done) | (rw [sumF, hs]; simp [*]; done))) ⟨rfl, rfl, rfl, trivial⟩
  refine aw_iconst C (v := nI 0) (by decide) dX6_pairs_0 ?_
  refine aw_istore_n C rfl (by decide) rfl dX6_pairs_1 ?_
  refine aw_iconst C (v := nI 0) (by decide) dX6_pairs_2 ?_
  refine aw_istore_n C rfl (by decide) rfl dX6_pairs_3 ?_
  exact aw_lo (key (b 0 + 1) 0 0 (Nat.zero_le _) (by omega) rfl) ⟨rfl, rfl, rfl, trivial⟩
set_option maxRecDepth 100000 in
theorem t6_stuck {γ : Gm} (hG : GF γ) (l : Launch) (o sz : Nat) (u : TU) {b : Nat → Nat} (hu : BD u b) (hW : WB b) : MX γ l yX6_stuck cX6_stuck 3 (some .int) 4 90 0 0 [.ref o] (th o u) sz (RI (th o u) sz (nI (stuckB b))) NX := by
  refine mx_start hG (by decide) (Nat.le_of_ble_eq_true rfl) (fun x C => ?_)
  have hN := hW.2.1
  have key : ∀ j v s, v ≤ b 0 → b 0 + 1 ≤ v + j → s = sumF (fun v => if fr b v = true ∧ cols b v = 0 then 1 else 0) v → AW γ l x (QX γ x 0 0 (RI (th o u) sz (nI (stuckB b))) NX) 3 (th o u) sz 0 0 4 [(0, .ref o), (1, .int (nI s)), (2, .int (nI v))] [] := by
    intro j
    induction j with
    | zero => intro v s h1 h2 hs; exact absurd h2 (by omega)
    | succ j ih =>
      intro v s h1 h2 hs
      refine aw_iload_n C rfl rfl dX6_stuck_4 ?_
      refine aw_aload_n C rfl rfl dX6_stuck_5 ?_
      refine tw_get C 0 (by decide) q1818 rfl dX6_stuck_6 ?_
      refine aw_iconst C (v := nI 0) (by decide) dX6_stuck_9 ?_
      refine tw_ld0 C (by omega) dX6_stuck_10 ?_
      refine aw_top (hu _) ?_
      refine aw_icmpN_ge C (tgt := 44) (by omega) (by omega) dX6_stuck_11 (by decide) (fun gN => ?_) (fun gN => ?_)
      · refine aw_iload_n C rfl rfl dX6_stuck_44 ?_
        exact aw_iret C rfl dX6_stuck_45 (Nat.le_refl _) (Nat.le_refl _) ⟨by rw [hs, show v = b 0 by omega]; rfl, rfl, rfl⟩
      · refine aw_iload_n C rfl rfl dX6_stuck_14 ?_
        refine aw_aload_n C rfl rfl dX6_stuck_15 ?_
        refine aw_iload_n C rfl rfl dX6_stuck_16 ?_
        refine tw_callR C (t6_isFree hG l o sz u hu (by omega) (hW.o3 (by omega))) q1976 q1978 qs56 q120 q1979 (n9 := 1) (by decide +kernel) rfl (Nat.le_of_ble_eq_true rfl) (Nat.le_of_ble_eq_true rfl) (Nat.zero_le _) (Nat.zero_le _) rfl (Nat.le_of_ble_eq_true rfl) dX6_stuck_17 ?_
        refine aw_bit_eq0 C (tgt := 35) dX6_stuck_20 (by decide) (fun gF => ?_) (fun gF => ?_)
        · refine aw_iconst C (v := nI 0) (by decide) dX6_stuck_35 ?_
          refine aw_iaddN C dX6_stuck_36 ?_
          refine aw_istore_n C rfl (by decide) rfl dX6_stuck_37 ?_
          refine aw_iinc1 C rfl (by decide) rfl dX6_stuck_38 ?_
          refine aw_goto C (tgt := 4) dX6_stuck_41 (by decide) ?_
          exact aw_lo (ih (v + 1) _ (by omega) (by omega) (by first | (rw [sumF, hs]; done) | (rw [sumF, hs]; simp [*]; done))) ⟨rfl, rfl, rfl, trivial⟩
        · refine aw_aload_n C rfl rfl dX6_stuck_23 ?_
          refine aw_iload_n C rfl rfl dX6_stuck_24 ?_
          refine tw_callR C (t6_colours hG l o sz u hu hW (by omega)) q1988 q1990 qs59 q120 q1991 (n9 := 1) (by decide +kernel) rfl (Nat.le_of_ble_eq_true rfl) (Nat.le_of_ble_eq_true rfl) (Nat.zero_le _) (Nat.zero_le _) rfl (Nat.le_of_ble_eq_true rfl) dX6_stuck_25 ?_
          have hc9 := cols_lt hW (v := v) (by omega)
          refine aw_ifN_ne C (tgt := 35) (by omega) dX6_stuck_28 (by decide) (fun gC => ?_) (fun gC => ?_)
          · refine aw_iconst C (v := nI 0) (by decide) dX6_stuck_35 ?_
            refine aw_iaddN C dX6_stuck_36 ?_
            refine aw_istore_n C rfl (by decide) rfl dX6_stuck_37 ?_
            refine aw_iinc1 C rfl (by decide) rfl dX6_stuck_38 ?_
            refine aw_goto C (tgt := 4) dX6_stuck_41 (by decide) ?_
            exact aw_lo (ih (v + 1) _ (by omega) (by omega) (by first | (rw [sumF, hs]; done) | (rw [sumF, hs]; simp [*]; done))) ⟨rfl, rfl, rfl, trivial⟩
          · refine aw_iconst C (v := nI 1) (by decide) dX6_stuck_31 ?_
            refine aw_goto C (tgt := 36) dX6_stuck_32 (by decide) ?_
            refine aw_iaddN C dX6_stuck_36 ?_
            refine aw_istore_n C rfl (by decide) rfl dX6_stuck_37 ?_
            refine aw_iinc1 C rfl (by decide) rfl dX6_stuck_38 ?_
            refine aw_goto C (tgt := 4) dX6_stuck_41 (by decide) ?_
            exact aw_lo (ih (v + 1) _ (by omega) (by omega) (by first | (rw [sumF, hs]; done) | (rw [sumF, hs]; simp [*]; done))) ⟨rfl, rfl, rfl, trivial⟩
  refine aw_iconst C (v := nI 0) (by decide) dX6_stuck_0 ?_
  refine aw_istore_n C rfl (by decide) rfl dX6_stuck_1 ?_
  refine aw_iconst C (v := nI 0) (by decide) dX6_stuck_2 ?_
  refine aw_istore_n C rfl (by decide) rfl dX6_stuck_3 ?_
  exact aw_lo (key (b 0 + 1) 0 0 (Nat.zero_le _) (by omega) rfl) ⟨rfl, rfl, rfl, trivial⟩
set_option maxRecDepth 100000 in
theorem t6_edgesIn {γ : Gm} (hG : GF γ) (l : Launch) (o sz : Nat) (u : TU) {b : Nat → Nat} (hu : BD u b) (hW : WB b) {S : Nat} (hS : S < 512) : MX γ l yX6_edgesIn cX6_edgesIn 4 (some .int) 1 22 0 0 [.ref o, .int (nI S)] (th o u) sz (RI (th o u) sz (nI (edgeB b S / 2))) NX := by
  refine mx_start hG (by decide) (Nat.le_of_ble_eq_true rfl) (fun x C => ?_)
  have hN := hW.2.1
  have key : ∀ j v s, v ≤ b 0 → b 0 + 1 ≤ v + j → s = sumF (fun v => if S.testBit v = true then pop (b (13 + v) &&& S) else 0) v → AW γ l x (QX γ x 0 0 (RI (th o u) sz (nI (edgeB b S / 2))) NX) 4 (th o u) sz 0 0 4 [(0, .ref o), (1, .int (nI S)), (2, .int (nI s)), (3, .int (nI v))] [] := by
    intro j
    induction j with
    | zero => intro v s h1 h2 hs; exact absurd h2 (by omega)
    | succ j ih =>
      intro v s h1 h2 hs
      refine aw_iload_n C rfl rfl dX6_edgesIn_4 ?_
      refine aw_aload_n C rfl rfl dX6_edgesIn_5 ?_
      refine tw_get C 0 (by decide) q1818 rfl dX6_edgesIn_6 ?_
      refine aw_iconst C (v := nI 0) (by decide) dX6_edgesIn_9 ?_
      refine tw_ld0 C (by omega) dX6_edgesIn_10 ?_
      refine aw_top (hu _) ?_
      refine aw_icmpN_ge C (tgt := 50) (by omega) (by omega) dX6_edgesIn_11 (by decide) (fun gN => ?_) (fun gN => ?_)
      · refine aw_iload_n C rfl rfl dX6_edgesIn_50 ?_
        refine aw_iconst C (v := nI 2) (by decide) dX6_edgesIn_51 ?_
        have hsl : s ≤ v * 9 := by rw [hs]; exact sumF_le (fun i => by split; exact pop_le _ (Nat.lt_of_le_of_lt Nat.and_le_right hS); exact Nat.zero_le _) v
        have hv9 : v ≤ 9 := by omega
        refine aw_idivN C (by omega) (by omega) (by omega) dX6_edgesIn_52 ?_
        exact aw_iret C rfl dX6_edgesIn_53 (Nat.le_refl _) (Nat.le_refl _) ⟨by rw [hs, show v = b 0 by omega]; rfl, rfl, rfl⟩
      · refine aw_iload_n C rfl rfl dX6_edgesIn_14 ?_
        refine aw_iload_n C rfl rfl dX6_edgesIn_15 ?_
        refine aw_iload_n C rfl rfl dX6_edgesIn_16 ?_
        refine aw_ishrN C (by omega) (by omega) dX6_edgesIn_17 ?_
        refine aw_iconst C (v := nI 1) (by decide) dX6_edgesIn_18 ?_
        refine aw_iandBit C dX6_edgesIn_19 ?_
        refine aw_iconst C (v := nI 1) (by decide) dX6_edgesIn_20 ?_
        refine aw_bit_ne1 C (tgt := 41) dX6_edgesIn_21 (by decide) (fun gB => ?_) (fun gB => ?_)
        · refine aw_iconst C (v := nI 0) (by decide) dX6_edgesIn_41 ?_
          refine aw_iaddN C dX6_edgesIn_42 ?_
          refine aw_istore_n C rfl (by decide) rfl dX6_edgesIn_43 ?_
          refine aw_iinc1 C rfl (by decide) rfl dX6_edgesIn_44 ?_
          refine aw_goto C (tgt := 4) dX6_edgesIn_47 (by decide) ?_
          exact aw_lo (ih (v + 1) _ (by omega) (by omega) (by first | (rw [sumF, hs]; done) | (rw [sumF, hs]; simp [*]; done))) ⟨rfl, rfl, rfl, rfl, trivial⟩
        · refine aw_aload_n C rfl rfl dX6_edgesIn_24 ?_
          refine tw_get C 0 (by decide) q1818 rfl dX6_edgesIn_25 ?_
          refine aw_bipush C (v := nI 13) (by decide) dX6_edgesIn_28 ?_
          refine aw_iload_n C rfl rfl dX6_edgesIn_30 ?_
          refine aw_iaddN C dX6_edgesIn_31 ?_
          refine tw_ld0 C (by omega) dX6_edgesIn_32 ?_
          refine aw_top (hu _) ?_
          refine aw_iload_n C rfl rfl dX6_edgesIn_33 ?_
          refine aw_iandN C dX6_edgesIn_34 ?_
          have hg := Nat.lt_of_le_of_lt (Nat.and_le_right (n := b (13 + v)) (m := S)) hS
          refine tw_callSR C (t6_bits hG l o sz u (by omega)) q2008 q2009 q120 q2010 (n9 := 1) (by decide +kernel) rfl (Nat.le_of_ble_eq_true rfl) (Nat.le_of_ble_eq_true rfl) (Nat.zero_le _) (Nat.zero_le _) rfl (Nat.le_of_ble_eq_true rfl) dX6_edgesIn_35 ?_
          refine aw_goto C (tgt := 42) dX6_edgesIn_38 (by decide) ?_
          refine aw_iaddN C dX6_edgesIn_42 ?_
          refine aw_istore_n C rfl (by decide) rfl dX6_edgesIn_43 ?_
          refine aw_iinc1 C rfl (by decide) rfl dX6_edgesIn_44 ?_
          refine aw_goto C (tgt := 4) dX6_edgesIn_47 (by decide) ?_
          exact aw_lo (ih (v + 1) _ (by omega) (by omega) (by first | (rw [sumF, hs]; done) | (rw [sumF, hs]; simp [*]; done))) ⟨rfl, rfl, rfl, rfl, trivial⟩
  refine aw_iconst C (v := nI 0) (by decide) dX6_edgesIn_0 ?_
  refine aw_istore_n C rfl (by decide) rfl dX6_edgesIn_1 ?_
  refine aw_iconst C (v := nI 0) (by decide) dX6_edgesIn_2 ?_
  refine aw_istore_n C rfl (by decide) rfl dX6_edgesIn_3 ?_
  exact aw_lo (key (b 0 + 1) 0 0 (Nat.zero_le _) (by omega) rfl) ⟨rfl, rfl, rfl, rfl, trivial⟩
set_option maxRecDepth 100000 in
theorem t6_pairsIn {γ : Gm} (hG : GF γ) (l : Launch) (o sz : Nat) (u : TU) {b : Nat → Nat} (hu : BD u b) (hW : WB b) {S : Nat} (hS : S < 512) : MX γ l yX6_pairsIn cX6_pairsIn 4 (some .int) 4 90 0 0 [.ref o, .int (nI S)] (th o u) sz (RI (th o u) sz (nI (pairsI b S))) NX := by
  refine mx_start hG (by decide) (Nat.le_of_ble_eq_true rfl) (fun x C => ?_)
  have hN := hW.2.1
  have key : ∀ j v s, v ≤ b 0 → b 0 + 1 ≤ v + j → s = sumF (fun v => if S.testBit v = true then pop (cols b v) else 0) v → AW γ l x (QX γ x 0 0 (RI (th o u) sz (nI (pairsI b S))) NX) 4 (th o u) sz 0 0 4 [(0, .ref o), (1, .int (nI S)), (2, .int (nI s)), (3, .int (nI v))] [] := by
    intro j
    induction j with
    | zero => intro v s h1 h2 hs; exact absurd h2 (by omega)
    | succ j ih =>
      intro v s h1 h2 hs
      refine aw_iload_n C rfl rfl dX6_pairsIn_4 ?_
      refine aw_aload_n C rfl rfl dX6_pairsIn_5 ?_
      refine tw_get C 0 (by decide) q1818 rfl dX6_pairsIn_6 ?_
      refine aw_iconst C (v := nI 0) (by decide) dX6_pairsIn_9 ?_
      refine tw_ld0 C (by omega) dX6_pairsIn_10 ?_
      refine aw_top (hu _) ?_
      refine aw_icmpN_ge C (tgt := 44) (by omega) (by omega) dX6_pairsIn_11 (by decide) (fun gN => ?_) (fun gN => ?_)
      · refine aw_iload_n C rfl rfl dX6_pairsIn_44 ?_
        exact aw_iret C rfl dX6_pairsIn_45 (Nat.le_refl _) (Nat.le_refl _) ⟨by rw [hs, show v = b 0 by omega]; rfl, rfl, rfl⟩
      · refine aw_iload_n C rfl rfl dX6_pairsIn_14 ?_
        refine aw_iload_n C rfl rfl dX6_pairsIn_15 ?_
        refine aw_iload_n C rfl rfl dX6_pairsIn_16 ?_
        refine aw_ishrN C (by omega) (by omega) dX6_pairsIn_17 ?_
        refine aw_iconst C (v := nI 1) (by decide) dX6_pairsIn_18 ?_
        refine aw_iandBit C dX6_pairsIn_19 ?_
        refine aw_iconst C (v := nI 1) (by decide) dX6_pairsIn_20 ?_
        refine aw_bit_ne1 C (tgt := 35) dX6_pairsIn_21 (by decide) (fun gB => ?_) (fun gB => ?_)
        · refine aw_iconst C (v := nI 0) (by decide) dX6_pairsIn_35 ?_
          refine aw_iaddN C dX6_pairsIn_36 ?_
          refine aw_istore_n C rfl (by decide) rfl dX6_pairsIn_37 ?_
          refine aw_iinc1 C rfl (by decide) rfl dX6_pairsIn_38 ?_
          refine aw_goto C (tgt := 4) dX6_pairsIn_41 (by decide) ?_
          exact aw_lo (ih (v + 1) _ (by omega) (by omega) (by first | (rw [sumF, hs]; done) | (rw [sumF, hs]; simp [*]; done))) ⟨rfl, rfl, rfl, rfl, trivial⟩
        · refine aw_aload_n C rfl rfl dX6_pairsIn_24 ?_
          refine aw_iload_n C rfl rfl dX6_pairsIn_25 ?_
          refine tw_callR C (t6_colours hG l o sz u hu hW (by omega)) q1988 q1990 qs59 q120 q1991 (n9 := 1) (by decide +kernel) rfl (Nat.le_of_ble_eq_true rfl) (Nat.le_of_ble_eq_true rfl) (Nat.zero_le _) (Nat.zero_le _) rfl (Nat.le_of_ble_eq_true rfl) dX6_pairsIn_26 ?_
          have hc9 := cols_lt hW (v := v) (by omega)
          refine tw_callSR C (t6_bits hG l o sz u (by omega)) q2008 q2009 q120 q2010 (n9 := 1) (by decide +kernel) rfl (Nat.le_of_ble_eq_true rfl) (Nat.le_of_ble_eq_true rfl) (Nat.zero_le _) (Nat.zero_le _) rfl (Nat.le_of_ble_eq_true rfl) dX6_pairsIn_29 ?_
          refine aw_goto C (tgt := 36) dX6_pairsIn_32 (by decide) ?_
          refine aw_iaddN C dX6_pairsIn_36 ?_
          refine aw_istore_n C rfl (by decide) rfl dX6_pairsIn_37 ?_
          refine aw_iinc1 C rfl (by decide) rfl dX6_pairsIn_38 ?_
          refine aw_goto C (tgt := 4) dX6_pairsIn_41 (by decide) ?_
          exact aw_lo (ih (v + 1) _ (by omega) (by omega) (by first | (rw [sumF, hs]; done) | (rw [sumF, hs]; simp [*]; done))) ⟨rfl, rfl, rfl, rfl, trivial⟩
  refine aw_iconst C (v := nI 0) (by decide) dX6_pairsIn_0 ?_
  refine aw_istore_n C rfl (by decide) rfl dX6_pairsIn_1 ?_
  refine aw_iconst C (v := nI 0) (by decide) dX6_pairsIn_2 ?_
  refine aw_istore_n C rfl (by decide) rfl dX6_pairsIn_3 ?_
  exact aw_lo (key (b 0 + 1) 0 0 (Nat.zero_le _) (by omega) rfl) ⟨rfl, rfl, rfl, rfl, trivial⟩
set_option maxRecDepth 100000 in
theorem t6_isOver {γ : Gm} (hG : GF γ) (l : Launch) (o sz : Nat) (u : TU) {b : Nat → Nat} (hu : BD u b) (hW : WB b) (hL : b 2 ≤ 9) : MX γ l yX6_isOver cX6_isOver 1 (some .boolean) 5 112 0 0 [.ref o] (th o u) sz (RI (th o u) sz (nI (if decide (pairsB b = 0 ∧ b 2 = 0) then 1 else 0))) NX := by
  refine mx_start hG (by decide) (Nat.le_of_ble_eq_true rfl) (fun x C => ?_)
  have hN := hW.2.1
  have hp : pairsB b ≤ b 0 * 9 := sumF_leN (N := b 0) (fun v hv => pop_le _ (Nat.lt_trans (cols_lt hW (by omega)) (by decide))) _ (Nat.le_refl _)
  refine aw_aload_n C rfl rfl dX6_isOver_0 ?_
  refine tw_callR C (t6_pairs hG l o sz u hu hW) q2058 q2060 qs73 q120 q2061 (n9 := 0) (by decide +kernel) rfl (Nat.le_of_ble_eq_true rfl) (Nat.le_of_ble_eq_true rfl) (Nat.zero_le _) (Nat.zero_le _) rfl (Nat.le_of_ble_eq_true rfl) dX6_isOver_1 ?_
  refine aw_ifN_ne C (tgt := 20) (by omega) dX6_isOver_4 (by decide) (fun gP => ?_) (fun gP => ?_)
  · refine aw_iconst C (v := nI 0) (by decide) dX6_isOver_20 ?_
    exact aw_zret C rfl (by decide) dX6_isOver_21 (Nat.le_refl _) (Nat.le_refl _) ⟨by simp [gP, *], rfl, rfl⟩
  · refine aw_aload_n C rfl rfl dX6_isOver_7 ?_
    refine tw_get C 0 (by decide) q1818 rfl dX6_isOver_8 ?_
    refine aw_iconst C (v := nI 2) (by decide) dX6_isOver_11 ?_
    refine tw_ld0 C (by omega) dX6_isOver_12 ?_
    refine aw_top (hu _) ?_
    refine aw_ifN_ne C (tgt := 20) (by omega) dX6_isOver_13 (by decide) (fun gL => ?_) (fun gL => ?_)
    · refine aw_iconst C (v := nI 0) (by decide) dX6_isOver_20 ?_
      exact aw_zret C rfl (by decide) dX6_isOver_21 (Nat.le_refl _) (Nat.le_refl _) ⟨by simp [gP, *], rfl, rfl⟩
    · refine aw_iconst C (v := nI 1) (by decide) dX6_isOver_16 ?_
      refine aw_goto C (tgt := 21) dX6_isOver_17 (by decide) ?_
      exact aw_zret C rfl (by decide) dX6_isOver_21 (Nat.le_refl _) (Nat.le_refl _) ⟨by simp [gP, *], rfl, rfl⟩
set_option maxRecDepth 100000 in
theorem t6_turn {γ : Gm} (hG : GF γ) (l : Launch) (o sz : Nat) (u : TU) {b : Nat → Nat} (hu : BD u b) (hM : b 3 < 2 ^ 30) : MX γ l yX6_turn cX6_turn 1 (some .int) 0 0 0 0 [.ref o] (th o u) sz (RI (th o u) sz (nI (b 3 % 2))) NX := by
  refine mx_start hG (by decide) (Nat.le_of_ble_eq_true rfl) (fun x C => ?_)
  refine aw_aload_n C rfl rfl dX6_turn_0 ?_
  refine tw_get C 0 (by decide) q1818 rfl dX6_turn_1 ?_
  refine aw_iconst C (v := nI 3) (by decide) dX6_turn_4 ?_
  refine tw_ld0 C (by omega) dX6_turn_5 ?_
  refine aw_top (hu _) ?_
  refine aw_iconst C (v := nI 2) (by decide) dX6_turn_6 ?_
  refine aw_iremN C (by omega) (by omega) (by omega) dX6_turn_7 ?_
  exact aw_iret C rfl dX6_turn_8 (Nat.le_refl _) (Nat.le_refl _) ⟨rfl, rfl, rfl⟩
set_option maxRecDepth 100000 in
theorem t6_isVertex {γ : Gm} (hG : GF γ) (l : Launch) (o sz : Nat) (u : TU) {b : Nat → Nat} (hu : BD u b) (v : Int32) (h0 : 1 ≤ b 0) : MX γ l yX6_isVertex cX6_isVertex 2 (some .boolean) 1 22 0 0 [.ref o, .int v] (th o u) sz (RI (th o u) sz (nI (if decide (nI 0 ≤ v ∧ v ≤ nI (b 0 - 1)) then 1 else 0))) NX := by
  refine mx_start hG (by decide) (Nat.le_of_ble_eq_true rfl) (fun x C => ?_)
  refine aw_iload_n C rfl rfl dX6_isVertex_0 ?_
  refine aw_iconst C (v := nI 0) (by decide) dX6_isVertex_1 ?_
  refine aw_aload_n C rfl rfl dX6_isVertex_2 ?_
  refine tw_get C 0 (by decide) q1818 rfl dX6_isVertex_3 ?_
  refine aw_iconst C (v := nI 0) (by decide) dX6_isVertex_6 ?_
  refine tw_ld0 C (by omega) dX6_isVertex_7 ?_
  refine aw_top (hu _) ?_
  refine aw_iconst C (v := nI 1) (by decide) dX6_isVertex_8 ?_
  refine aw_isubN C (by omega) dX6_isVertex_9 ?_
  refine tw_callSR C (t6_isIn hG l o sz u v (nI 0) (nI (b 0 - 1))) q1905 q1906 q120 q1907 (n9 := 3) (by decide +kernel) rfl (Nat.le_of_ble_eq_true rfl) (Nat.le_of_ble_eq_true rfl) (Nat.zero_le _) (Nat.zero_le _) rfl (Nat.le_of_ble_eq_true rfl) dX6_isVertex_10 ?_
  exact aw_zret C rfl (by cases decide (nI 0 ≤ v ∧ v ≤ nI (b 0 - 1)) <;> decide) dX6_isVertex_13 (Nat.le_refl _) (Nat.le_refl _) ⟨rfl, rfl, rfl⟩
set_option maxRecDepth 100000 in
theorem t6_isColour {γ : Gm} (hG : GF γ) (l : Launch) (o sz : Nat) (u : TU) {b : Nat → Nat} (hu : BD u b) (v : Int32) (h0 : 1 ≤ b 1) : MX γ l yX6_isColour cX6_isColour 2 (some .boolean) 1 22 0 0 [.ref o, .int v] (th o u) sz (RI (th o u) sz (nI (if decide (nI 0 ≤ v ∧ v ≤ nI (b 1 - 1)) then 1 else 0))) NX := by
  refine mx_start hG (by decide) (Nat.le_of_ble_eq_true rfl) (fun x C => ?_)
  refine aw_iload_n C rfl rfl dX6_isColour_0 ?_
  refine aw_iconst C (v := nI 0) (by decide) dX6_isColour_1 ?_
  refine aw_aload_n C rfl rfl dX6_isColour_2 ?_
  refine tw_get C 0 (by decide) q1818 rfl dX6_isColour_3 ?_
  refine aw_iconst C (v := nI 1) (by decide) dX6_isColour_6 ?_
  refine tw_ld0 C (by omega) dX6_isColour_7 ?_
  refine aw_top (hu _) ?_
  refine aw_iconst C (v := nI 1) (by decide) dX6_isColour_8 ?_
  refine aw_isubN C (by omega) dX6_isColour_9 ?_
  refine tw_callSR C (t6_isIn hG l o sz u v (nI 0) (nI (b 1 - 1))) q1905 q1906 q120 q1907 (n9 := 3) (by decide +kernel) rfl (Nat.le_of_ble_eq_true rfl) (Nat.le_of_ble_eq_true rfl) (Nat.zero_le _) (Nat.zero_le _) rfl (Nat.le_of_ble_eq_true rfl) dX6_isColour_10 ?_
  exact aw_zret C rfl (by cases decide (nI 0 ≤ v ∧ v ≤ nI (b 1 - 1)) <;> decide) dX6_isColour_13 (Nat.le_refl _) (Nat.le_refl _) ⟨rfl, rfl, rfl⟩
set_option maxRecDepth 100000 in
theorem t6_partsIn {γ : Gm} (hG : GF γ) (l : Launch) (o sz : Nat) (u : TU) {b : Nat → Nat} (hu : BD u b) (hW : WB b) {S : Nat} (hS : S < 512) : MX γ l yX6_partsIn cX6_partsIn 4 (some .int) 1 25 0 0 [.ref o, .int (nI S)] (th o u) sz (RI (th o u) sz (nI (npts b S))) NX := by
  refine mx_start hG (by decide) (Nat.le_of_ble_eq_true rfl) (fun x C => ?_)
  have key : ∀ j left m, left + 1 ≤ j → left < 512 → m + (pts b S left).length = npts b S → AW γ l x (QX γ x 0 0 (RI (th o u) sz (nI (npts b S))) NX) 4 (th o u) sz 0 0 4 [(0, .ref o), (1, .int (nI S)), (2, .int (nI m)), (3, .int (nI left))] [] := by
    intro j
    induction j with
    | zero => intro left m h2 h3 h4; exact absurd h2 (by omega)
    | succ j ih =>
      intro left m h2 h3 h4
      refine aw_iload_n C rfl rfl dX6_partsIn_4 ?_
      refine aw_ifN_le C (tgt := 28) (by omega) dX6_partsIn_5 (by decide) (fun g0 => ?_) (fun g0 => ?_)
      · refine aw_iload_n C rfl rfl dX6_partsIn_28 ?_
        exact aw_iret C rfl dX6_partsIn_29 (Nat.le_refl _) (Nat.le_refl _) ⟨by rw [show m = npts b S by rw [← h4, g0]; rfl], rfl, rfl⟩
      · obtain ⟨hl1, hl2, hl3⟩ := low_bit left h3 g0
        have hd := nd_lt_of hl1 (rch_self b (low left) S)
        refine aw_iinc1 C rfl (by decide) rfl dX6_partsIn_8 ?_
        refine aw_iload_n C rfl rfl dX6_partsIn_11 ?_
        refine aw_aload_n C rfl rfl dX6_partsIn_12 ?_
        refine aw_iload_n C rfl rfl dX6_partsIn_13 ?_
        refine tw_callSR C (t6_lowest hG l o sz u (by omega) (by omega)) q2019 q2020 q120 q2021 (n9 := 1) (by decide +kernel) rfl (Nat.le_of_ble_eq_true rfl) (Nat.le_of_ble_eq_true rfl) (Nat.zero_le _) (Nat.zero_le _) rfl (Nat.le_of_ble_eq_true rfl) dX6_partsIn_14 ?_
        refine aw_iload_n C rfl rfl dX6_partsIn_17 ?_
        refine tw_callR C (t6_reached hG l o sz u hu hW (by omega) (by omega)) q1996 q1998 qs61 q120 q1999 (n9 := 2) (by decide +kernel) rfl (Nat.le_of_ble_eq_true rfl) (Nat.le_of_ble_eq_true rfl) (Nat.zero_le _) (Nat.zero_le _) rfl (Nat.le_of_ble_eq_true rfl) dX6_partsIn_18 ?_
        refine aw_iconst C (v := -1) (by decide) dX6_partsIn_21 ?_
        refine aw_ixor C dX6_partsIn_22 ?_
        refine aw_iandNot C dX6_partsIn_23 ?_
        refine aw_istore_n C rfl (by decide) rfl dX6_partsIn_24 ?_
        refine aw_goto C (tgt := 4) dX6_partsIn_25 (by decide) ?_
        exact aw_lo (ih (nd left (rch b (low left) S)) (m + 1) (by omega) (by omega) (by rw [pts_s b S g0 h3, List.length_cons] at h4; omega)) ⟨rfl, rfl, rfl, rfl, trivial⟩
  refine aw_iconst C (v := nI 0) (by decide) dX6_partsIn_0 ?_
  refine aw_istore_n C rfl (by decide) rfl dX6_partsIn_1 ?_
  refine aw_iload_n C rfl rfl dX6_partsIn_2 ?_
  refine aw_istore_n C rfl (by decide) rfl dX6_partsIn_3 ?_
  exact aw_lo (key (S + 1) S 0 (by omega) hS (Nat.zero_add _)) ⟨rfl, rfl, rfl, rfl, trivial⟩
set_option maxRecDepth 100000 in
theorem t6_partSet {γ : Gm} (hG : GF γ) (l : Launch) (o sz : Nat) (u : TU) {b : Nat → Nat} (hu : BD u b) (hW : WB b) {p : Nat} (hp : p < 2 ^ 31) : MX γ l yX6_partSet cX6_partSet 5 (some .int) 2 43 0 0 [.ref o, .int (nI p)] (th o u) sz (RI (th o u) sz (nI (partS b p))) NX := by
  refine mx_start hG (by decide) (Nat.le_of_ble_eq_true rfl) (fun x C => ?_)
  have hF := freeS_lt hW.2.1
  have key : ∀ j left i, left + 1 ≤ j → left < 512 → i ≤ p → (pts b (freeS b) left).getD (p - i) 0 = partS b p → AW γ l x (QX γ x 0 0 (RI (th o u) sz (nI (partS b p))) NX) 5 (th o u) sz 0 0 10 [(0, .ref o), (1, .int (nI p)), (2, .int (nI (freeS b))), (3, .int (nI left)), (4, .int (nI i))] [] := by
    intro j
    induction j with
    | zero => intro left i h2 h3 h5 h4; exact absurd h2 (by omega)
    | succ j ih =>
      intro left i h2 h3 h5 h4
      refine aw_iload C rfl dX6_partSet_10 ?_
      refine aw_iload_n C rfl rfl dX6_partSet_12 ?_
      refine aw_icmpN_ge C (tgt := 40) (by omega) (by omega) dX6_partSet_13 (by decide) (fun gi => ?_) (fun gi => ?_)
      · refine aw_iload_n C rfl rfl dX6_partSet_40 ?_
        refine aw_ifN_ne C (tgt := 48) (by omega) dX6_partSet_41 (by decide) (fun ge => ?_) (fun ge => ?_)
        · have g0 : 0 < left := by omega
          obtain ⟨hl1, hl2, hl3⟩ := low_bit left h3 g0
          refine aw_aload_n C rfl rfl dX6_partSet_48 ?_
          refine aw_iload_n C rfl rfl dX6_partSet_49 ?_
          refine tw_callSR C (t6_lowest hG l o sz u (by omega) (by omega)) q2019 q2020 q120 q2021 (n9 := 1) (by decide +kernel) rfl (Nat.le_of_ble_eq_true rfl) (Nat.le_of_ble_eq_true rfl) (Nat.zero_le _) (Nat.zero_le _) rfl (Nat.le_of_ble_eq_true rfl) dX6_partSet_50 ?_
          refine aw_iload_n C rfl rfl dX6_partSet_53 ?_
          refine tw_callR C (t6_reached hG l o sz u hu hW (by omega) (by omega)) q1996 q1998 qs61 q120 q1999 (n9 := 2) (by decide +kernel) rfl (Nat.le_of_ble_eq_true rfl) (Nat.le_of_ble_eq_true rfl) (Nat.zero_le _) (Nat.zero_le _) rfl (Nat.le_of_ble_eq_true rfl) dX6_partSet_54 ?_
          exact aw_iret C rfl dX6_partSet_57 (Nat.le_refl _) (Nat.le_refl _) ⟨by first | (rw [← h4, ge]; rfl) | (rw [← h4, pts_s b _ g0 h3, show p - i = 0 by omega]; rfl), rfl, rfl⟩
        · refine aw_iconst C (v := nI 0) (by decide) dX6_partSet_44 ?_
          refine aw_goto C (tgt := 57) dX6_partSet_45 (by decide) ?_
          exact aw_iret C rfl dX6_partSet_57 (Nat.le_refl _) (Nat.le_refl _) ⟨by first | (rw [← h4, ge]; rfl) | (rw [← h4, pts_s b _ g0 h3, show p - i = 0 by omega]; rfl), rfl, rfl⟩
      · refine aw_iload_n C rfl rfl dX6_partSet_16 ?_
        refine aw_ifN_le C (tgt := 40) (by omega) dX6_partSet_17 (by decide) (fun g0 => ?_) (fun g0 => ?_)
        · refine aw_iload_n C rfl rfl dX6_partSet_40 ?_
          refine aw_ifN_ne C (tgt := 48) (by omega) dX6_partSet_41 (by decide) (fun ge => ?_) (fun ge => ?_)
          · have g0 : 0 < left := by omega
            obtain ⟨hl1, hl2, hl3⟩ := low_bit left h3 g0
            refine aw_aload_n C rfl rfl dX6_partSet_48 ?_
            refine aw_iload_n C rfl rfl dX6_partSet_49 ?_
            refine tw_callSR C (t6_lowest hG l o sz u (by omega) (by omega)) q2019 q2020 q120 q2021 (n9 := 1) (by decide +kernel) rfl (Nat.le_of_ble_eq_true rfl) (Nat.le_of_ble_eq_true rfl) (Nat.zero_le _) (Nat.zero_le _) rfl (Nat.le_of_ble_eq_true rfl) dX6_partSet_50 ?_
            refine aw_iload_n C rfl rfl dX6_partSet_53 ?_
            refine tw_callR C (t6_reached hG l o sz u hu hW (by omega) (by omega)) q1996 q1998 qs61 q120 q1999 (n9 := 2) (by decide +kernel) rfl (Nat.le_of_ble_eq_true rfl) (Nat.le_of_ble_eq_true rfl) (Nat.zero_le _) (Nat.zero_le _) rfl (Nat.le_of_ble_eq_true rfl) dX6_partSet_54 ?_
            exact aw_iret C rfl dX6_partSet_57 (Nat.le_refl _) (Nat.le_refl _) ⟨by first | (rw [← h4, ge]; rfl) | (rw [← h4, pts_s b _ g0 h3, show p - i = 0 by omega]; rfl), rfl, rfl⟩
          · refine aw_iconst C (v := nI 0) (by decide) dX6_partSet_44 ?_
            refine aw_goto C (tgt := 57) dX6_partSet_45 (by decide) ?_
            exact aw_iret C rfl dX6_partSet_57 (Nat.le_refl _) (Nat.le_refl _) ⟨by first | (rw [← h4, ge]; rfl) | (rw [← h4, pts_s b _ g0 h3, show p - i = 0 by omega]; rfl), rfl, rfl⟩
        · obtain ⟨hl1, hl2, hl3⟩ := low_bit left h3 g0
          have hd := nd_lt_of hl1 (rch_self b (low left) (freeS b))
          refine aw_iload_n C rfl rfl dX6_partSet_20 ?_
          refine aw_aload_n C rfl rfl dX6_partSet_21 ?_
          refine aw_iload_n C rfl rfl dX6_partSet_22 ?_
          refine tw_callSR C (t6_lowest hG l o sz u (by omega) (by omega)) q2019 q2020 q120 q2021 (n9 := 1) (by decide +kernel) rfl (Nat.le_of_ble_eq_true rfl) (Nat.le_of_ble_eq_true rfl) (Nat.zero_le _) (Nat.zero_le _) rfl (Nat.le_of_ble_eq_true rfl) dX6_partSet_23 ?_
          refine aw_iload_n C rfl rfl dX6_partSet_26 ?_
          refine tw_callR C (t6_reached hG l o sz u hu hW (by omega) (by omega)) q1996 q1998 qs61 q120 q1999 (n9 := 2) (by decide +kernel) rfl (Nat.le_of_ble_eq_true rfl) (Nat.le_of_ble_eq_true rfl) (Nat.zero_le _) (Nat.zero_le _) rfl (Nat.le_of_ble_eq_true rfl) dX6_partSet_27 ?_
          refine aw_iconst C (v := -1) (by decide) dX6_partSet_30 ?_
          refine aw_ixor C dX6_partSet_31 ?_
          refine aw_iandNot C dX6_partSet_32 ?_
          refine aw_istore_n C rfl (by decide) rfl dX6_partSet_33 ?_
          refine aw_iinc1 C rfl (by decide) rfl dX6_partSet_34 ?_
          refine aw_goto C (tgt := 10) dX6_partSet_37 (by decide) ?_
          exact aw_lo (ih (nd left (rch b (low left) (freeS b))) (i + 1) (by omega) (by omega) (by omega) (by rw [← h4, pts_s b _ g0 h3]; obtain ⟨d, hd⟩ : ∃ d, p - i = d + 1 := ⟨p - i - 1, by omega⟩; rw [hd, show p - (i + 1) = d by omega]; rfl)) ⟨rfl, rfl, rfl, rfl, rfl, trivial⟩
  refine aw_aload_n C rfl rfl dX6_partSet_0 ?_
  refine tw_callR C (t6_freeSet hG l o sz u hu hW) q1992 q1994 qs60 q120 q1995 (n9 := 0) (by decide +kernel) rfl (Nat.le_of_ble_eq_true rfl) (Nat.le_of_ble_eq_true rfl) (Nat.zero_le _) (Nat.zero_le _) rfl (Nat.le_of_ble_eq_true rfl) dX6_partSet_1 ?_
  refine aw_istore_n C rfl (by decide) rfl dX6_partSet_4 ?_
  refine aw_iload_n C rfl rfl dX6_partSet_5 ?_
  refine aw_istore_n C rfl (by decide) rfl dX6_partSet_6 ?_
  refine aw_iconst C (v := nI 0) (by decide) dX6_partSet_7 ?_
  refine aw_istore C (by decide) rfl dX6_partSet_8 ?_
  exact aw_lo (key (freeS b + 1) (freeS b) 0 (by omega) hF (Nat.zero_le _) rfl) ⟨rfl, rfl, rfl, rfl, rfl, trivial⟩
