/-! the twin: the table, values of parts -/
theorem dn_lt : ∀ r, r < 32 → ((nI r - nI 1 < 0) ↔ r = 0) := by decide +kernel
theorem plc_i (a m : Nat) : nI a + (nI m - nI 1) + nI 1 = nI (a + m) := by
  rw [← nI_add a m, Int32.add_assoc, Int32.sub_add_cancel]
set_option maxRecDepth 100000 in
theorem t6_forgets {γ : Gm} (hG : GF γ) (l : Launch) (o sz : Nat) (u : TU)   : MX γ l yX6_forgets cX6_forgets 2 none 0 0 0 0 [.ref o] (th o u) sz (RUv o sz (fun u' => ∃ g, u' = tsa u 18 g ∧ ∀ i, i < 80000 → g i = -1)) NX := by
  refine mx_start hG (by decide) (Nat.le_of_ble_eq_true rfl) (fun x C => ?_)
  have key : ∀ j i g, i ≤ 80000 → 80001 ≤ i + j → (∀ m, m < i → g m = -1) → AW γ l x (QX γ x 0 0 (RUv o sz (fun u' => ∃ g, u' = tsa u 18 g ∧ ∀ i, i < 80000 → g i = -1)) NX) 2 (th o (tsa u 18 g)) sz 0 0 2 [(0, .ref o), (1, .int (nI i))] [] := by
    intro j
    induction j with
    | zero => intro i g h1 h2 hg; exact absurd h2 (by omega)
    | succ j ih =>
      intro i g h1 h2 hg
      refine aw_iload_n C rfl rfl dX6_forgets_2 ?_
      refine aw_ldc C q1817 dX6_forgets_3 ?_
      refine aw_top (show (80000 : Int32) = nI 80000 from rfl) ?_
      refine aw_icmpN_ge C (tgt := 21) (by omega) (by omega) dX6_forgets_5 (by decide) (fun gN => ?_) (fun gN => ?_)
      · exact aw_vret C rfl dX6_forgets_21 (Nat.le_refl _) (Nat.le_refl _) ⟨rfl, rfl, _, rfl, g, rfl, fun m hm => hg m (by omega)⟩
      · refine aw_aload_n C rfl rfl dX6_forgets_8 ?_
        refine tw_get C 18 (by decide) q1836 rfl dX6_forgets_9 ?_
        refine aw_iload_n C rfl rfl dX6_forgets_12 ?_
        refine aw_iconst C (v := -1) (by decide) dX6_forgets_13 ?_
        refine tw_st18 C (by omega) dX6_forgets_14 ?_
        refine aw_iinc1 C rfl (by decide) rfl dX6_forgets_15 ?_
        refine aw_goto C (tgt := 2) dX6_forgets_18 (by decide) ?_
        rw [tsa_tsa]
        refine aw_lo (ih (i + 1) _ (by omega) (by omega) (fun m hm => ?_)) ⟨rfl, rfl, trivial⟩
        show upd g i (-1) m = -1
        by_cases e : m = i
        · rw [e, pk_us]
        · rw [pk_un e]
          exact hg m (by omega)
  refine aw_iconst C (v := nI 0) (by decide) dX6_forgets_0 ?_
  refine aw_istore_n C rfl (by decide) rfl dX6_forgets_1 ?_
  have k0 := key 80001 0 (u.2 18) (Nat.zero_le _) (by omega) (fun m hm => absurd hm (Nat.not_lt_zero m))
  rw [tsa_self u 18] at k0
  exact aw_lo k0 ⟨rfl, rfl, trivial⟩
set_option maxRecDepth 100000 in
theorem t6_lowestM {γ : Gm} (hG : GF γ) (l : Launch) (o sz : Nat) (u : TU)  {S : Nat} (hS : S < 2 ^ 32) (hm : mex S < 32) : MX γ l yX6_lowest cX6_lowest 2 (some .int) 0 0 0 0 [.int (nI S ^^^ (-1))] (th o u) sz (RI (th o u) sz (nI (mex S))) NX := by
  refine mx_start hG (by decide) (Nat.le_of_ble_eq_true rfl) (fun x C => ?_)
  obtain ⟨hm1, hm2⟩ := mex_bits S
  have key : ∀ j v, v ≤ mex S → mex S + 1 ≤ v + j → AW γ l x (QX γ x 0 0 (RI (th o u) sz (nI (mex S))) NX) 2 (th o u) sz 0 0 2 [(0, .int (nI S ^^^ (-1))), (1, .int (nI v))] [] := by
    intro j
    induction j with
    | zero => intro v h1 h2; exact absurd h2 (by omega)
    | succ j ih =>
      intro v h1 h2
      refine aw_iload_n C rfl rfl dX6_lowest_2 ?_
      refine aw_iload_n C rfl rfl dX6_lowest_3 ?_
      refine aw_ishr C dX6_lowest_4 ?_
      refine aw_iconst C (v := nI 1) (by decide) dX6_lowest_5 ?_
      refine aw_iand C dX6_lowest_6 ?_
      refine aw_top (not_bit hS (by omega)) ?_
      refine aw_bit_ne0 C (tgt := 16) dX6_lowest_7 (by decide) (fun gB => ?_) (fun gB => ?_)
      · refine aw_iload_n C rfl rfl dX6_lowest_16 ?_
        exact aw_iret C rfl dX6_lowest_17 (Nat.le_refl _) (Nat.le_refl _) ⟨by rw [show v = mex S from Nat.le_antisymm h1 (Nat.not_lt.mp fun z => by rw [hm1 v z] at gB; cases gB)], rfl, rfl⟩
      · refine aw_iinc1 C rfl (by decide) rfl dX6_lowest_10 ?_
        refine aw_goto C (tgt := 2) dX6_lowest_13 (by decide) ?_
        have hne : ¬ v = mex S := fun e => by rw [e, hm2 hm] at gB; cases gB
        exact aw_lo (ih (v + 1) (by omega) (by omega)) ⟨rfl, rfl, trivial⟩
  refine aw_iconst C (v := nI 0) (by decide) dX6_lowest_0 ?_
  refine aw_istore_n C rfl (by decide) rfl dX6_lowest_1 ?_
  exact aw_lo (key (mex S + 1) 0 (Nat.zero_le _) (by omega)) ⟨rfl, rfl, trivial⟩
set_option maxRecDepth 100000 in
theorem t6_placeOf {γ : Gm} (hG : GF γ) (l : Launch) (o sz : Nat) (u : TU) {b : Nat → Nat} (hu : BD u b) (hW : WB b) {part m : Nat} (hp : part < 512) : MX γ l yX6_placeOf cX6_placeOf 7 (some .int) 1 21 0 0 [.ref o, .int (nI part), .int (nI m - nI 1)] (th o u) sz (RI (th o u) sz (nI (plc b part m))) NX := by
  refine mx_start hG (by decide) (Nat.le_of_ble_eq_true rfl) (fun x C => ?_)
  have hN := hW.2.1
  have key : ∀ j k s r, k ≤ b 0 → b 0 + 1 ≤ k + j → r = b 0 - k → s = cdF b part k → AW γ l x (QX γ x 0 0 (RI (th o u) sz (nI (plc b part m))) NX) 7 (th o u) sz 0 0 12 [(0, .ref o), (1, .int (nI part)), (2, .int (nI m - nI 1)), (3, .int (nI s)), (4, .int (nI r - nI 1))] [] := by
    intro j
    induction j with
    | zero => intro k s r h1 h2 hr hs; exact absurd h2 (by omega)
    | succ j ih =>
      intro k s r h1 h2 hr hs
      refine aw_iload C rfl dX6_placeOf_12 ?_
      refine aw_if_lt C (tgt := 111) dX6_placeOf_14 (by decide) (fun gR => ?_) (fun gR => ?_)
      · refine aw_iload_n C rfl rfl dX6_placeOf_111 ?_
        refine aw_aload_n C rfl rfl dX6_placeOf_112 ?_
        refine tw_get C 0 (by decide) q1818 rfl dX6_placeOf_113 ?_
        refine aw_iconst C (v := nI 1) (by decide) dX6_placeOf_116 ?_
        refine tw_ld0 C (by omega) dX6_placeOf_117 ?_
        refine aw_top (hu _) ?_
        refine aw_iconst C (v := nI 1) (by decide) dX6_placeOf_118 ?_
        refine aw_iaddN C dX6_placeOf_119 ?_
        refine aw_imulN C dX6_placeOf_120 ?_
        refine aw_iload_n C rfl rfl dX6_placeOf_121 ?_
        refine aw_iadd C dX6_placeOf_122 ?_
        refine aw_iconst C (v := nI 1) (by decide) dX6_placeOf_123 ?_
        refine aw_iadd C dX6_placeOf_124 ?_
        have hk0 : k = b 0 := by have := (dn_lt r (by omega)).mp gR; omega
        refine aw_iret C rfl dX6_placeOf_125 (Nat.le_refl _) (Nat.le_refl _) ⟨?_, rfl, rfl⟩
        rw [plc_i, plc, ← hk0, ← hs]
      · have gR2 : 1 ≤ r := by have := mt (dn_lt r (by omega)).mpr gR; omega
        have hnn := hW.n9 (v := r - 1) (by omega)
        have hnp := Nat.and_le_left (n := b (13 + (r - 1))) (m := part)
        rw [show nI r - nI 1 = nI (r - 1) from pk_sub gR2]
        refine aw_iload_n C rfl rfl dX6_placeOf_17 ?_
        refine aw_iload C rfl dX6_placeOf_18 ?_
        refine aw_ishrN C (by omega) (by omega) dX6_placeOf_20 ?_
        refine aw_iconst C (v := nI 1) (by decide) dX6_placeOf_21 ?_
        refine aw_iandBit C dX6_placeOf_22 ?_
        refine aw_iconst C (v := nI 1) (by decide) dX6_placeOf_23 ?_
        refine aw_bit_ne1 C (tgt := 31) dX6_placeOf_24 (by decide) (fun gB => ?_) (fun gB => ?_)
        · refine aw_iconst C (v := nI 0) (by decide) dX6_placeOf_31 ?_
          refine aw_istore C (by decide) rfl dX6_placeOf_32 ?_
          refine aw_aload_n C rfl rfl dX6_placeOf_34 ?_
          refine aw_iload C rfl dX6_placeOf_35 ?_
          refine tw_callR C (t6_isFree hG l o sz u hu (by omega) (hW.o3 (by omega))) q1976 q1978 qs56 q120 q1979 (n9 := 1) (by decide +kernel) rfl (Nat.le_of_ble_eq_true rfl) (Nat.le_of_ble_eq_true rfl) (Nat.zero_le _) (Nat.zero_le _) rfl (Nat.le_of_ble_eq_true rfl) dX6_placeOf_37 ?_
          refine aw_bit_ne0 C (tgt := 62) dX6_placeOf_40 (by decide) (fun gF => ?_) (fun gF => ?_)
          · refine aw_iconst C (v := nI 0) (by decide) dX6_placeOf_62 ?_
            refine aw_istore C (by decide) rfl dX6_placeOf_63 ?_
            refine aw_iload_n C rfl rfl dX6_placeOf_65 ?_
            refine aw_aload_n C rfl rfl dX6_placeOf_66 ?_
            refine tw_get C 0 (by decide) q1818 rfl dX6_placeOf_67 ?_
            refine aw_iconst C (v := nI 1) (by decide) dX6_placeOf_70 ?_
            refine tw_ld0 C (by omega) dX6_placeOf_71 ?_
            refine aw_top (hu _) ?_
            refine aw_iconst C (v := nI 1) (by decide) dX6_placeOf_72 ?_
            refine aw_iaddN C dX6_placeOf_73 ?_
            refine aw_imulN C dX6_placeOf_74 ?_
            refine aw_iload C rfl dX6_placeOf_75 ?_
            refine aw_if_eq C (tgt := 84) dX6_placeOf_77 (by decide) (fun g1 => ?_) (fun g1 => ?_)
            · refine aw_iload C rfl dX6_placeOf_84 ?_
              refine aw_if_eq C (tgt := 102) dX6_placeOf_86 (by decide) (fun g2 => ?_) (fun g2 => ?_)
              · refine aw_iconst C (v := nI 1) (by decide) dX6_placeOf_102 ?_
                refine aw_iaddN C dX6_placeOf_103 ?_
                refine aw_istore_n C rfl (by decide) rfl dX6_placeOf_104 ?_
                refine aw_iincD C rfl (by decide) rfl dX6_placeOf_105 ?_
                refine aw_goto C (tgt := 12) dX6_placeOf_108 (by decide) ?_
                refine aw_lo (ih (k + 1) _ (r - 1) (by omega) (by omega) (by omega) ?_) ⟨rfl, rfl, rfl, rfl, rfl, trivial⟩
                rw [cdF, hs]
                have e9 : b 0 - k - 1 = r - 1 := by omega
                have e8 : b 0 - 1 - k = r - 1 := by omega
                simp [dig, e8, e9, gB, *]
              · exact absurd (by decide) g2
            · exact absurd (by decide) g1
          · refine aw_aload_n C rfl rfl dX6_placeOf_43 ?_
            refine tw_get C 0 (by decide) q1818 rfl dX6_placeOf_44 ?_
            refine aw_bipush C (v := nI 13) (by decide) dX6_placeOf_47 ?_
            refine aw_iload C rfl dX6_placeOf_49 ?_
            refine aw_iaddN C dX6_placeOf_51 ?_
            refine tw_ld0 C (by omega) dX6_placeOf_52 ?_
            refine aw_top (hu _) ?_
            refine aw_iload_n C rfl rfl dX6_placeOf_53 ?_
            refine aw_iandN C dX6_placeOf_54 ?_
            refine aw_ifN_eq C (tgt := 62) (by omega) dX6_placeOf_55 (by decide) (fun gA => ?_) (fun gA => ?_)
            · refine aw_iconst C (v := nI 0) (by decide) dX6_placeOf_62 ?_
              refine aw_istore C (by decide) rfl dX6_placeOf_63 ?_
              refine aw_iload_n C rfl rfl dX6_placeOf_65 ?_
              refine aw_aload_n C rfl rfl dX6_placeOf_66 ?_
              refine tw_get C 0 (by decide) q1818 rfl dX6_placeOf_67 ?_
              refine aw_iconst C (v := nI 1) (by decide) dX6_placeOf_70 ?_
              refine tw_ld0 C (by omega) dX6_placeOf_71 ?_
              refine aw_top (hu _) ?_
              refine aw_iconst C (v := nI 1) (by decide) dX6_placeOf_72 ?_
              refine aw_iaddN C dX6_placeOf_73 ?_
              refine aw_imulN C dX6_placeOf_74 ?_
              refine aw_iload C rfl dX6_placeOf_75 ?_
              refine aw_if_eq C (tgt := 84) dX6_placeOf_77 (by decide) (fun g3 => ?_) (fun g3 => ?_)
              · refine aw_iload C rfl dX6_placeOf_84 ?_
                refine aw_if_eq C (tgt := 102) dX6_placeOf_86 (by decide) (fun g4 => ?_) (fun g4 => ?_)
                · refine aw_iconst C (v := nI 1) (by decide) dX6_placeOf_102 ?_
                  refine aw_iaddN C dX6_placeOf_103 ?_
                  refine aw_istore_n C rfl (by decide) rfl dX6_placeOf_104 ?_
                  refine aw_iincD C rfl (by decide) rfl dX6_placeOf_105 ?_
                  refine aw_goto C (tgt := 12) dX6_placeOf_108 (by decide) ?_
                  refine aw_lo (ih (k + 1) _ (r - 1) (by omega) (by omega) (by omega) ?_) ⟨rfl, rfl, rfl, rfl, rfl, trivial⟩
                  rw [cdF, hs]
                  have e9 : b 0 - k - 1 = r - 1 := by omega
                  have e8 : b 0 - 1 - k = r - 1 := by omega
                  simp [dig, e8, e9, gB, *]
                · exact absurd (by decide) g4
              · exact absurd (by decide) g3
            · refine aw_iconst C (v := nI 1) (by decide) dX6_placeOf_58 ?_
              refine aw_goto C (tgt := 63) dX6_placeOf_59 (by decide) ?_
              refine aw_istore C (by decide) rfl dX6_placeOf_63 ?_
              refine aw_iload_n C rfl rfl dX6_placeOf_65 ?_
              refine aw_aload_n C rfl rfl dX6_placeOf_66 ?_
              refine tw_get C 0 (by decide) q1818 rfl dX6_placeOf_67 ?_
              refine aw_iconst C (v := nI 1) (by decide) dX6_placeOf_70 ?_
              refine tw_ld0 C (by omega) dX6_placeOf_71 ?_
              refine aw_top (hu _) ?_
              refine aw_iconst C (v := nI 1) (by decide) dX6_placeOf_72 ?_
              refine aw_iaddN C dX6_placeOf_73 ?_
              refine aw_imulN C dX6_placeOf_74 ?_
              refine aw_iload C rfl dX6_placeOf_75 ?_
              refine aw_if_eq C (tgt := 84) dX6_placeOf_77 (by decide) (fun g5 => ?_) (fun g5 => ?_)
              · refine aw_iload C rfl dX6_placeOf_84 ?_
                refine aw_if_eq C (tgt := 102) dX6_placeOf_86 (by decide) (fun g6 => ?_) (fun g6 => ?_)
                · exact absurd g6 (by decide)
                · refine aw_aload_n C rfl rfl dX6_placeOf_89 ?_
                  refine tw_get C 0 (by decide) q1818 rfl dX6_placeOf_90 ?_
                  refine aw_bipush C (v := nI 22) (by decide) dX6_placeOf_93 ?_
                  refine aw_iload C rfl dX6_placeOf_95 ?_
                  refine aw_iaddN C dX6_placeOf_97 ?_
                  refine tw_ld0 C (by omega) dX6_placeOf_98 ?_
                  refine aw_top (hu _) ?_
                  refine aw_goto C (tgt := 103) dX6_placeOf_99 (by decide) ?_
                  refine aw_iaddN C dX6_placeOf_103 ?_
                  refine aw_istore_n C rfl (by decide) rfl dX6_placeOf_104 ?_
                  refine aw_iincD C rfl (by decide) rfl dX6_placeOf_105 ?_
                  refine aw_goto C (tgt := 12) dX6_placeOf_108 (by decide) ?_
                  refine aw_lo (ih (k + 1) _ (r - 1) (by omega) (by omega) (by omega) ?_) ⟨rfl, rfl, rfl, rfl, rfl, trivial⟩
                  rw [cdF, hs]
                  have e9 : b 0 - k - 1 = r - 1 := by omega
                  have e8 : b 0 - 1 - k = r - 1 := by omega
                  simp [dig, e8, e9, gB, *]
              · exact absurd (by decide) g5
        · refine aw_iconst C (v := nI 1) (by decide) dX6_placeOf_27 ?_
          refine aw_goto C (tgt := 32) dX6_placeOf_28 (by decide) ?_
          refine aw_istore C (by decide) rfl dX6_placeOf_32 ?_
          refine aw_aload_n C rfl rfl dX6_placeOf_34 ?_
          refine aw_iload C rfl dX6_placeOf_35 ?_
          refine tw_callR C (t6_isFree hG l o sz u hu (by omega) (hW.o3 (by omega))) q1976 q1978 qs56 q120 q1979 (n9 := 1) (by decide +kernel) rfl (Nat.le_of_ble_eq_true rfl) (Nat.le_of_ble_eq_true rfl) (Nat.zero_le _) (Nat.zero_le _) rfl (Nat.le_of_ble_eq_true rfl) dX6_placeOf_37 ?_
          refine aw_bit_ne0 C (tgt := 62) dX6_placeOf_40 (by decide) (fun gF => ?_) (fun gF => ?_)
          · refine aw_iconst C (v := nI 0) (by decide) dX6_placeOf_62 ?_
            refine aw_istore C (by decide) rfl dX6_placeOf_63 ?_
            refine aw_iload_n C rfl rfl dX6_placeOf_65 ?_
            refine aw_aload_n C rfl rfl dX6_placeOf_66 ?_
            refine tw_get C 0 (by decide) q1818 rfl dX6_placeOf_67 ?_
            refine aw_iconst C (v := nI 1) (by decide) dX6_placeOf_70 ?_
            refine tw_ld0 C (by omega) dX6_placeOf_71 ?_
            refine aw_top (hu _) ?_
            refine aw_iconst C (v := nI 1) (by decide) dX6_placeOf_72 ?_
            refine aw_iaddN C dX6_placeOf_73 ?_
            refine aw_imulN C dX6_placeOf_74 ?_
            refine aw_iload C rfl dX6_placeOf_75 ?_
            refine aw_if_eq C (tgt := 84) dX6_placeOf_77 (by decide) (fun g7 => ?_) (fun g7 => ?_)
            · exact absurd g7 (by decide)
            · refine aw_iconst C (v := nI 0) (by decide) dX6_placeOf_80 ?_
              refine aw_goto C (tgt := 103) dX6_placeOf_81 (by decide) ?_
              refine aw_iaddN C dX6_placeOf_103 ?_
              refine aw_istore_n C rfl (by decide) rfl dX6_placeOf_104 ?_
              refine aw_iincD C rfl (by decide) rfl dX6_placeOf_105 ?_
              refine aw_goto C (tgt := 12) dX6_placeOf_108 (by decide) ?_
              refine aw_lo (ih (k + 1) _ (r - 1) (by omega) (by omega) (by omega) ?_) ⟨rfl, rfl, rfl, rfl, rfl, trivial⟩
              rw [cdF, hs]
              have e9 : b 0 - k - 1 = r - 1 := by omega
              have e8 : b 0 - 1 - k = r - 1 := by omega
              simp [dig, e8, e9, gB, *]
          · refine aw_aload_n C rfl rfl dX6_placeOf_43 ?_
            refine tw_get C 0 (by decide) q1818 rfl dX6_placeOf_44 ?_
            refine aw_bipush C (v := nI 13) (by decide) dX6_placeOf_47 ?_
            refine aw_iload C rfl dX6_placeOf_49 ?_
            refine aw_iaddN C dX6_placeOf_51 ?_
            refine tw_ld0 C (by omega) dX6_placeOf_52 ?_
            refine aw_top (hu _) ?_
            refine aw_iload_n C rfl rfl dX6_placeOf_53 ?_
            refine aw_iandN C dX6_placeOf_54 ?_
            refine aw_ifN_eq C (tgt := 62) (by omega) dX6_placeOf_55 (by decide) (fun gA => ?_) (fun gA => ?_)
            · refine aw_iconst C (v := nI 0) (by decide) dX6_placeOf_62 ?_
              refine aw_istore C (by decide) rfl dX6_placeOf_63 ?_
              refine aw_iload_n C rfl rfl dX6_placeOf_65 ?_
              refine aw_aload_n C rfl rfl dX6_placeOf_66 ?_
              refine tw_get C 0 (by decide) q1818 rfl dX6_placeOf_67 ?_
              refine aw_iconst C (v := nI 1) (by decide) dX6_placeOf_70 ?_
              refine tw_ld0 C (by omega) dX6_placeOf_71 ?_
              refine aw_top (hu _) ?_
              refine aw_iconst C (v := nI 1) (by decide) dX6_placeOf_72 ?_
              refine aw_iaddN C dX6_placeOf_73 ?_
              refine aw_imulN C dX6_placeOf_74 ?_
              refine aw_iload C rfl dX6_placeOf_75 ?_
              refine aw_if_eq C (tgt := 84) dX6_placeOf_77 (by decide) (fun g8 => ?_) (fun g8 => ?_)
              · exact absurd g8 (by decide)
              · refine aw_iconst C (v := nI 0) (by decide) dX6_placeOf_80 ?_
                refine aw_goto C (tgt := 103) dX6_placeOf_81 (by decide) ?_
                refine aw_iaddN C dX6_placeOf_103 ?_
                refine aw_istore_n C rfl (by decide) rfl dX6_placeOf_104 ?_
                refine aw_iincD C rfl (by decide) rfl dX6_placeOf_105 ?_
                refine aw_goto C (tgt := 12) dX6_placeOf_108 (by decide) ?_
                refine aw_lo (ih (k + 1) _ (r - 1) (by omega) (by omega) (by omega) ?_) ⟨rfl, rfl, rfl, rfl, rfl, trivial⟩
                rw [cdF, hs]
                have e9 : b 0 - k - 1 = r - 1 := by omega
                have e8 : b 0 - 1 - k = r - 1 := by omega
                simp [dig, e8, e9, gB, *]
            · refine aw_iconst C (v := nI 1) (by decide) dX6_placeOf_58 ?_
              refine aw_goto C (tgt := 63) dX6_placeOf_59 (by decide) ?_
              refine aw_istore C (by decide) rfl dX6_placeOf_63 ?_
              refine aw_iload_n C rfl rfl dX6_placeOf_65 ?_
              refine aw_aload_n C rfl rfl dX6_placeOf_66 ?_
              refine tw_get C 0 (by decide) q1818 rfl dX6_placeOf_67 ?_
              refine aw_iconst C (v := nI 1) (by decide) dX6_placeOf_70 ?_
              refine tw_ld0 C (by omega) dX6_placeOf_71 ?_
              refine aw_top (hu _) ?_
              refine aw_iconst C (v := nI 1) (by decide) dX6_placeOf_72 ?_
              refine aw_iaddN C dX6_placeOf_73 ?_
              refine aw_imulN C dX6_placeOf_74 ?_
              refine aw_iload C rfl dX6_placeOf_75 ?_
              refine aw_if_eq C (tgt := 84) dX6_placeOf_77 (by decide) (fun g9 => ?_) (fun g9 => ?_)
              · exact absurd g9 (by decide)
              · refine aw_iconst C (v := nI 0) (by decide) dX6_placeOf_80 ?_
                refine aw_goto C (tgt := 103) dX6_placeOf_81 (by decide) ?_
                refine aw_iaddN C dX6_placeOf_103 ?_
                refine aw_istore_n C rfl (by decide) rfl dX6_placeOf_104 ?_
                refine aw_iincD C rfl (by decide) rfl dX6_placeOf_105 ?_
                refine aw_goto C (tgt := 12) dX6_placeOf_108 (by decide) ?_
                refine aw_lo (ih (k + 1) _ (r - 1) (by omega) (by omega) (by omega) ?_) ⟨rfl, rfl, rfl, rfl, rfl, trivial⟩
                rw [cdF, hs]
                have e9 : b 0 - k - 1 = r - 1 := by omega
                have e8 : b 0 - 1 - k = r - 1 := by omega
                simp [dig, e8, e9, gB, *]
  refine aw_iconst C (v := nI 0) (by decide) dX6_placeOf_0 ?_
  refine aw_istore_n C rfl (by decide) rfl dX6_placeOf_1 ?_
  refine aw_aload_n C rfl rfl dX6_placeOf_2 ?_
  refine tw_get C 0 (by decide) q1818 rfl dX6_placeOf_3 ?_
  refine aw_iconst C (v := nI 0) (by decide) dX6_placeOf_6 ?_
  refine tw_ld0 C (by omega) dX6_placeOf_7 ?_
  refine aw_top (hu _) ?_
  refine aw_iconst C (v := nI 1) (by decide) dX6_placeOf_8 ?_
  refine aw_isub C dX6_placeOf_9 ?_
  refine aw_istore C (by decide) rfl dX6_placeOf_10 ?_
  exact aw_lo (key (b 0 + 1) 0 0 (b 0) (Nat.zero_le _) (by omega) rfl rfl) ⟨rfl, rfl, rfl, rfl, rfl, trivial⟩
/-- the contract of knownOf for parts of f vertices at most, and of together -/
def KO (γ : Gm) (l : Launch) (o sz f : Nat) : Prop := ∀ (u : TU) (b : Nat → Nat) (part m : Nat), BD u b → WB b → WP b → SY b → Vd b part → 0 < part → pop part ≤ f → m ≤ b 1 → KT u b → MX γ l yX6_knownOf cX6_knownOf 13 (some .int) (4 + 2 * f) (200 + 60 * f) 0 0 [.ref o, .int (nI part), .int (nI m - nI 1)] (th o u) sz (RUi o sz (KP u b (enc (G b part m)))) NX
def TG (γ : Gm) (l : Launch) (o sz f : Nat) : Prop := ∀ (u : TU) (b : Nat → Nat) (S m : Nat), BD u b → WB b → WP b → SY b → Vd b S → pop S ≤ f → m ≤ b 1 → KT u b → MX γ l yX6_together cX6_together 9 (some .int) (5 + 2 * f) (232 + 60 * f) 0 0 [.ref o, .int (nI S), .int (nI m - nI 1)] (th o u) sz (RUi o sz (KP u b (enc (tog 9 b S m)))) NX

theorem tg_of {γ : Gm} (hG : GF γ) (l : Launch) (o sz f : Nat) (hK : KO γ l o sz f) : TG γ l o sz f := by
  intro u b S m hu hW hP hS hV hf hm hkt0
  refine mx_start hG (by decide) (Nat.le_of_ble_eq_true rfl) (fun x C => ?_)
  have hS9 : S < 512 := Nat.lt_of_lt_of_le hV.1 (Nat.pow_le_pow_right (by omega) hW.2.1)
  have hT := tog_gb hS hW hV.1 m
  have key : ∀ j left a u1, left + 1 ≤ j → left < 512 → Rcl b S left → tgA (fun p => G b p m) a (pts b S left) = tog 9 b S m → TK u u1 → KT u1 b → AW γ l x (QX γ x 0 0 (RUi o sz (KP u b (enc (tog 9 b S m)))) NX) 9 (th o u1) sz 0 0 11 [(0, .ref o), (1, .int (nI S)), (2, .int (nI m - nI 1)), (3, .int (nI a.1)), (4, .int (nI a.2.1)), (5, .int (nI a.2.2)), (6, .int (nI left))] [] := by
    intro j
    induction j with
    | zero => intro left a u1 h2 h3 hR ha hk hkt; exact absurd h2 (by omega)
    | succ j ih =>
      intro left a u1 h2 h3 hR ha hk hkt
      have hu1 := hk.bd hu
      refine aw_iload C rfl dX6_together_11 ?_
      refine aw_ifN_le C (tgt := 79) (by omega) dX6_together_13 (by decide) (fun g0 => ?_) (fun g0 => ?_)
      · refine aw_iload_n C rfl rfl dX6_together_79 ?_
        refine aw_iload C rfl dX6_together_80 ?_
        refine aw_iconst C (v := nI 5) (by decide) dX6_together_82 ?_
        have hT2 := hT.2.1
        have hT3 := hT.2.2
        have hae : a = tog 9 b S m := by rw [← ha, g0]; rfl
        refine aw_ishlN C (by omega) dX6_together_83 ?_
        refine aw_iorN C dX6_together_84 ?_
        refine aw_iload C rfl dX6_together_85 ?_
        refine aw_bipush C (v := nI 10) (by decide) dX6_together_87 ?_
        refine aw_ishlN C (by omega) dX6_together_89 ?_
        refine aw_iorN C dX6_together_90 ?_
        exact aw_iret C rfl dX6_together_91 (Nat.le_refl _) (Nat.le_refl _) ⟨rfl, _, u1, rfl, rfl, by rw [hae]; rfl, hk, hkt⟩
      · obtain ⟨hl1, hl2, hl3⟩ := low_bit left h3 g0
        have hd := nd_lt_of hl1 (rch_self b (low left) S)
        have hr9 : rch b (low left) S < 512 := rch_lt hl2 hS9
        have hrs : ∀ i, (rch b (low left) S).testBit i = true → S.testBit i = true := fun i hi => hR.1 i (rcl_rch hR hl1 hi)
        have hp0 : 0 < rch b (low left) S := by
          rcases Nat.eq_zero_or_pos (rch b (low left) S) with e | e
          · have := rch_self b (low left) S
            rw [e] at this
            simp at this
          · exact e
        have hpm := pop_mono hrs
        refine aw_aload_n C rfl rfl dX6_together_16 ?_
        refine aw_iload C rfl dX6_together_17 ?_
        refine tw_callSR C (t6_lowest hG l o sz u1 (by omega) (by omega)) q2019 q2020 q120 q2021 (n9 := 1) (by decide +kernel) rfl (by dsimp only; omega) (by dsimp only; omega) (Nat.zero_le _) (Nat.zero_le _) rfl (Nat.le_of_ble_eq_true rfl) dX6_together_19 ?_
        refine aw_iload_n C rfl rfl dX6_together_22 ?_
        refine tw_callR C (t6_reached hG l o sz u1 hu1 hW (by omega) (by omega)) q1996 q1998 qs61 q120 q1999 (n9 := 2) (by decide +kernel) rfl (by dsimp only; omega) (by dsimp only; omega) (Nat.zero_le _) (Nat.zero_le _) rfl (Nat.le_of_ble_eq_true rfl) dX6_together_23 ?_
        refine aw_istore C (by decide) rfl dX6_together_26 ?_
        refine aw_aload_n C rfl rfl dX6_together_28 ?_
        refine aw_iload C rfl dX6_together_29 ?_
        refine aw_iload_n C rfl rfl dX6_together_31 ?_
        refine tw_callI C (hK u1 b (rch b (low left) S) m hu1 hW hP hS (vd_rch hV hW.2.1 (hR.1 _ hl1)) hp0 (by omega) hm hkt) q2106 q2108 qs82 q120 q2109 (n9 := 2) (by decide +kernel) rfl (by dsimp only; omega) (by dsimp only; omega) (Nat.zero_le _) (Nat.zero_le _) rfl (Nat.le_of_ble_eq_true rfl) dX6_together_32 (fun r u2 hp => ?_)
        obtain ⟨rfl, hk2, hkt2⟩ := hp
        have hi := G_gb hS hW (part := rch b (low left) S) (vd_rch hV hW.2.1 (hR.1 _ hl1)).1 m
        obtain ⟨hi1, hi2, hi3⟩ := hi
        have hel := enc_lt (i := G b (rch b (low left) S) m) hi1 (by omega) (by omega)
        refine aw_istore C (by decide) rfl dX6_together_35 ?_
        refine aw_iload_n C rfl rfl dX6_together_37 ?_
        refine aw_iload C rfl dX6_together_38 ?_
        refine aw_bipush C (v := nI 31) (by decide) dX6_together_40 ?_
        refine aw_iandN C dX6_together_42 ?_
        refine aw_ixorN C dX6_together_43 ?_
        refine aw_istore_n C rfl (by decide) rfl dX6_together_44 ?_
        refine aw_iload C rfl dX6_together_45 ?_
        refine aw_iload C rfl dX6_together_47 ?_
        refine aw_iconst C (v := nI 5) (by decide) dX6_together_49 ?_
        refine aw_ishrN C (by omega) (by omega) dX6_together_50 ?_
        refine aw_bipush C (v := nI 31) (by decide) dX6_together_51 ?_
        refine aw_iandN C dX6_together_53 ?_
        refine aw_iaddN C dX6_together_54 ?_
        refine aw_istore C (by decide) rfl dX6_together_55 ?_
        refine aw_iload C rfl dX6_together_57 ?_
        refine aw_iload C rfl dX6_together_59 ?_
        refine aw_bipush C (v := nI 10) (by decide) dX6_together_61 ?_
        refine aw_ishrN C (by omega) (by omega) dX6_together_63 ?_
        refine aw_iaddN C dX6_together_64 ?_
        refine aw_istore C (by decide) rfl dX6_together_65 ?_
        refine aw_iload C rfl dX6_together_67 ?_
        refine aw_iload C rfl dX6_together_69 ?_
        refine aw_iconst C (v := -1) (by decide) dX6_together_71 ?_
        refine aw_ixor C dX6_together_72 ?_
        refine aw_iandNot C dX6_together_73 ?_
        refine aw_istore C (by decide) rfl dX6_together_74 ?_
        refine aw_goto C (tgt := 11) dX6_together_76 (by decide) ?_
        refine aw_lo (ih (nd left (rch b (low left) S)) (gadd a (G b (rch b (low left) S) m)) u2 (by omega) (by omega) (rcl_nd hR hS hV.1 hW.2.1 hl1) ?_ (hk.tr hk2) hkt2) ⟨rfl, rfl, rfl, ?_, ?_, ?_, rfl, trivial⟩
        · rw [← ha, pts_s b S g0 h3]
          rfl
        · show some (Value.int (nI (a.1 ^^^ (enc (G b (rch b (low left) S) m) &&& 31)))) = _
          rw [enc_v hi1 (by omega)]
          rfl
        · show some (Value.int (nI (a.2.1 + (enc (G b (rch b (low left) S) m) >>> 5 &&& 31)))) = _
          rw [enc_l hi1 (by omega)]
          rfl
        · show some (Value.int (nI (a.2.2 + enc (G b (rch b (low left) S) m) >>> 10))) = _
          rw [enc_s hi1 (by omega)]
          rfl
  refine aw_iconst C (v := nI 0) (by decide) dX6_together_0 ?_
  refine aw_istore_n C rfl (by decide) rfl dX6_together_1 ?_
  refine aw_iconst C (v := nI 0) (by decide) dX6_together_2 ?_
  refine aw_istore C (by decide) rfl dX6_together_3 ?_
  refine aw_iconst C (v := nI 0) (by decide) dX6_together_5 ?_
  refine aw_istore C (by decide) rfl dX6_together_6 ?_
  refine aw_iload_n C rfl rfl dX6_together_8 ?_
  refine aw_istore C (by decide) rfl dX6_together_9 ?_
  exact aw_lo (key (S + 1) S (0, 0, 0) u (by omega) hS9 (rcl_self b S) rfl (TK.rf u) hkt0) ⟨rfl, rfl, rfl, rfl, rfl, rfl, rfl, trivial⟩
