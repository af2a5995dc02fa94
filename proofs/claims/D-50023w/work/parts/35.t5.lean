/-! the twin: boards and winning -/
set_option maxRecDepth 100000 in
theorem t6_board {γ : Gm} (hG : GF γ) (l : Launch) (o sz : Nat) (u : TU) {b : Nat → Nat} (hu : BD u b) (hA : WA b) (hkt : KT u b)  : MX γ l yX6_board cX6_board 8 (some .int) 23 772 0 0 [.ref o] (th o u) sz (RUi o sz (KP u b (enc (BB b)))) NX := by
  refine mx_start hG (by decide) (Nat.le_of_ble_eq_true rfl) (fun x C => ?_)
  have hW := hA.w
  have hN := hW.2.1
  have hC3 := hW.2.2.2.1
  have hL9 := hA.l
  have hF := freeS_lt hN
  have hbb := bb_gb hA.s hW
  have key : ∀ j left a u1, left + 1 ≤ j → left < 512 → Rcl b (freeS b) left → tgA (fun p => G b p (b (31 + low p))) a (pts b (freeS b) left) = BB b → TK u u1 → KT u1 b → AW γ l x (QX γ x 0 0 (RUi o sz (KP u b (enc (BB b)))) NX) 8 (th o u1) sz 0 0 16 [(0, .ref o), (1, .int (nI a.1)), (2, .int (nI a.2.1)), (3, .int (nI a.2.2)), (4, .int (nI (freeS b))), (5, .int (nI left))] [] := by
    intro j
    induction j with
    | zero => intro left a u1 h2 h3 hR ha hk hkt; exact absurd h2 (by omega)
    | succ j ih =>
      intro left a u1 h2 h3 hR ha hk hkt
      have hu := hk.bd hu
      refine aw_iload C rfl dX6_board_16 ?_
      refine aw_ifN_le C (tgt := 89) (by omega) dX6_board_18 (by decide) (fun g0 => ?_) (fun g0 => ?_)
      · have hae : a = BB b := by rw [← ha, g0]; rfl
        refine aw_iload_n C rfl rfl dX6_board_89 ?_
        refine aw_iload_n C rfl rfl dX6_board_90 ?_
        refine aw_iconst C (v := nI 5) (by decide) dX6_board_91 ?_
        refine aw_ishlN C (by omega) dX6_board_92 ?_
        refine aw_iorN C dX6_board_93 ?_
        refine aw_iload_n C rfl rfl dX6_board_94 ?_
        refine aw_bipush C (v := nI 10) (by decide) dX6_board_95 ?_
        refine aw_ishlN C (by omega) dX6_board_97 ?_
        refine aw_iorN C dX6_board_98 ?_
        exact aw_iret C rfl dX6_board_99 (Nat.le_refl _) (Nat.le_refl _) ⟨rfl, _, u1, rfl, rfl, by rw [hae]; rfl, hk, hkt⟩
      · obtain ⟨hl1, hl2, hl3⟩ := low_bit left h3 g0
        have hd := nd_lt_of hl1 (rch_self b (low left) (freeS b))
        have hr9 : rch b (low left) (freeS b) < 512 := rch_lt hl2 hF
        have hp0 : 0 < rch b (low left) (freeS b) := rch_pos
        have hlp := (low_bit _ hr9 hp0).2.1
        refine aw_aload_n C rfl rfl dX6_board_21 ?_
        refine aw_iload C rfl dX6_board_22 ?_
        refine tw_callSR C (t6_lowest hG l o sz _ (by omega) (by omega)) q2019 q2020 q120 q2021 (n9 := 1) (by decide +kernel) rfl (Nat.le_of_ble_eq_true rfl) (Nat.le_of_ble_eq_true rfl) (Nat.zero_le _) (Nat.zero_le _) rfl (Nat.le_of_ble_eq_true rfl) dX6_board_24 ?_
        refine aw_iload C rfl dX6_board_27 ?_
        refine tw_callR C (t6_reached hG l o sz _ hu hW (by omega) (by omega)) q1996 q1998 qs61 q120 q1999 (n9 := 2) (by decide +kernel) rfl (Nat.le_of_ble_eq_true rfl) (Nat.le_of_ble_eq_true rfl) (Nat.zero_le _) (Nat.zero_le _) rfl (Nat.le_of_ble_eq_true rfl) dX6_board_29 ?_
        refine aw_istore C (by decide) rfl dX6_board_32 ?_
        refine aw_aload_n C rfl rfl dX6_board_34 ?_
        refine aw_iload C rfl dX6_board_35 ?_
        refine aw_aload_n C rfl rfl dX6_board_37 ?_
        refine aw_iload C rfl dX6_board_38 ?_
        refine tw_callSR C (t6_lowest hG l o sz _ (by omega) (by omega)) q2019 q2020 q120 q2021 (n9 := 1) (by decide +kernel) rfl (Nat.le_of_ble_eq_true rfl) (Nat.le_of_ble_eq_true rfl) (Nat.zero_le _) (Nat.zero_le _) rfl (Nat.le_of_ble_eq_true rfl) dX6_board_40 ?_
        refine tw_callR C (t6_banOf hG l o sz _ hu (by omega)) q2000 q2002 qs62 q120 q2003 (n9 := 1) (by decide +kernel) rfl (Nat.le_of_ble_eq_true rfl) (Nat.le_of_ble_eq_true rfl) (Nat.zero_le _) (Nat.zero_le _) rfl (Nat.le_of_ble_eq_true rfl) dX6_board_43 ?_
        refine tw_callI C (t6_knownOf hG l o sz _ hu hW hA.p hA.s (vd_rch (vd_free b) hW.2.1 (hR.1 _ hl1)) rch_pos (hW.2.2.2.2.2.2.2 _ hlp) hkt) q2106 q2108 qs82 q120 q2109 (n9 := 2) (by decide +kernel) rfl (Nat.le_of_ble_eq_true rfl) (Nat.le_of_ble_eq_true rfl) (Nat.zero_le _) (Nat.zero_le _) rfl (Nat.le_of_ble_eq_true rfl) dX6_board_46 (fun r u2 hp => ?_)
        obtain ⟨rfl, hk2, hkt⟩ := hp
        have hu := hk2.bd hu
        have hk := hk.tr hk2
        obtain ⟨hi1, hi2, hi3⟩ := G_gb hA.s hW (part := rch b (low left) (freeS b)) (vd_rch (vd_free b) hW.2.1 (hR.1 _ hl1)).1 (b (31 + low (rch b (low left) (freeS b))))
        generalize hi : G b (rch b (low left) (freeS b)) (b (31 + low (rch b (low left) (freeS b)))) = i at *
        have hel := enc_lt (i := i) hi1 (by omega) (by omega)
        refine aw_istore C (by decide) rfl dX6_board_49 ?_
        refine aw_iload_n C rfl rfl dX6_board_51 ?_
        refine aw_iload C rfl dX6_board_52 ?_
        refine aw_bipush C (v := nI 31) (by decide) dX6_board_54 ?_
        refine aw_iandN C dX6_board_56 ?_
        refine aw_top (show _ = nI i.1 from by rw [enc_v hi1 (by omega)]) ?_
        refine aw_ixorN C dX6_board_57 ?_
        refine aw_istore_n C rfl (by decide) rfl dX6_board_58 ?_
        refine aw_iload_n C rfl rfl dX6_board_59 ?_
        refine aw_iload C rfl dX6_board_60 ?_
        refine aw_iconst C (v := nI 5) (by decide) dX6_board_62 ?_
        refine aw_ishrN C (by omega) (by omega) dX6_board_63 ?_
        refine aw_bipush C (v := nI 31) (by decide) dX6_board_64 ?_
        refine aw_iandN C dX6_board_66 ?_
        refine aw_top (show _ = nI i.2.1 from by rw [enc_l hi1 (by omega)]) ?_
        refine aw_iaddN C dX6_board_67 ?_
        refine aw_istore_n C rfl (by decide) rfl dX6_board_68 ?_
        refine aw_iload_n C rfl rfl dX6_board_69 ?_
        refine aw_iload C rfl dX6_board_70 ?_
        refine aw_bipush C (v := nI 10) (by decide) dX6_board_72 ?_
        refine aw_ishrN C (by omega) (by omega) dX6_board_74 ?_
        refine aw_top (show _ = nI i.2.2 from by rw [enc_s hi1 (by omega)]) ?_
        refine aw_iaddN C dX6_board_75 ?_
        refine aw_istore_n C rfl (by decide) rfl dX6_board_76 ?_
        refine aw_iload C rfl dX6_board_77 ?_
        refine aw_iload C rfl dX6_board_79 ?_
        refine aw_iconst C (v := -1) (by decide) dX6_board_81 ?_
        refine aw_ixor C dX6_board_82 ?_
        refine aw_iandNot C dX6_board_83 ?_
        refine aw_istore C (by decide) rfl dX6_board_84 ?_
        refine aw_goto C (tgt := 16) dX6_board_86 (by decide) ?_
        exact aw_lo (ih (nd left (rch b (low left) (freeS b))) (gadd a i) u2 (by omega) (by omega) (rcl_nd hR hA.s (freeS_lt2 b) hN hl1) (by rw [← ha, pts_s b (freeS b) g0 h3, ← hi]; rfl) hk hkt) ⟨rfl, rfl, rfl, rfl, rfl, rfl, trivial⟩
  refine aw_iconst C (v := nI 0) (by decide) dX6_board_0 ?_
  refine aw_istore_n C rfl (by decide) rfl dX6_board_1 ?_
  refine aw_iconst C (v := nI 0) (by decide) dX6_board_2 ?_
  refine aw_istore_n C rfl (by decide) rfl dX6_board_3 ?_
  refine aw_iconst C (v := nI 0) (by decide) dX6_board_4 ?_
  refine aw_istore_n C rfl (by decide) rfl dX6_board_5 ?_
  refine aw_aload_n C rfl rfl dX6_board_6 ?_
  refine tw_callR C (t6_freeSet hG l o sz _ hu hW) q1992 q1994 qs60 q120 q1995 (n9 := 0) (by decide +kernel) rfl (Nat.le_of_ble_eq_true rfl) (Nat.le_of_ble_eq_true rfl) (Nat.zero_le _) (Nat.zero_le _) rfl (Nat.le_of_ble_eq_true rfl) dX6_board_7 ?_
  refine aw_istore C (by decide) rfl dX6_board_10 ?_
  refine aw_iload C rfl dX6_board_12 ?_
  refine aw_istore C (by decide) rfl dX6_board_14 ?_
  exact aw_lo (key (freeS b + 1) (freeS b) (0, 0, 0) u (by omega) hF (rcl_self b _) rfl (TK.rf u) hkt) ⟨rfl, rfl, rfl, rfl, rfl, rfl, trivial⟩
set_option maxRecDepth 100000 in
theorem t6_valueNow {γ : Gm} (hG : GF γ) (l : Launch) (o sz : Nat) (u : TU) {b : Nat → Nat} (hu : BD u b) (hA : WA b) (hkt : KT u b)  : MX γ l yX6_valueNow cX6_valueNow 1 (some .int) 24 799 0 0 [.ref o] (th o u) sz (RUi o sz (fun z u' => z = nI ((BB b).1 ^^^ b 2 % 2) ∧ WJ u (b) u')) NX := by
  refine mx_start hG (by decide) (Nat.le_of_ble_eq_true rfl) (fun x C => ?_)
  have hW := hA.w
  have hN := hW.2.1
  have hC3 := hW.2.2.2.1
  have hL9 := hA.l
  have hj := TJ.rf u
  refine aw_aload_n C rfl rfl dX6_valueNow_0 ?_
  refine tw_callI C (t6_board hG l o sz _ hu hA hkt) q2126 q2128 qs86 q120 q2129 (n9 := 0) (by decide +kernel) rfl (Nat.le_of_ble_eq_true rfl) (Nat.le_of_ble_eq_true rfl) (Nat.zero_le _) (Nat.zero_le _) rfl (Nat.le_of_ble_eq_true rfl) dX6_valueNow_1 (fun r u2 hp => ?_)
  obtain ⟨rfl, hk2, hkt⟩ := hp
  have hu := hk2.bd hu
  have hj := hj.tr hk2.tj
  have hbb := bb_gb hA.s hW
  have hbb1 := hbb.1
  have hbb2 := hbb.2.1
  have hbb3 := hbb.2.2
  have hbl := enc_lt (i := BB b) hbb1 (by omega) (by omega)
  refine aw_bipush C (v := nI 31) (by decide) dX6_valueNow_4 ?_
  refine aw_iandN C dX6_valueNow_6 ?_
  refine aw_top (show _ = nI (BB b).1 from by rw [enc_v hbb1 (by omega)]) ?_
  refine aw_aload_n C rfl rfl dX6_valueNow_7 ?_
  refine tw_get C 0 (by decide) q1818 rfl dX6_valueNow_8 ?_
  refine aw_iconst C (v := nI 2) (by decide) dX6_valueNow_11 ?_
  refine tw_ld0 C (by omega) dX6_valueNow_12 ?_
  refine aw_top (hu _) ?_
  refine aw_iconst C (v := nI 2) (by decide) dX6_valueNow_13 ?_
  refine aw_iremN C (by omega) (by omega) (by omega) dX6_valueNow_14 ?_
  refine aw_ixorN C dX6_valueNow_15 ?_
  exact aw_iret C rfl dX6_valueNow_16 (Nat.le_refl _) (Nat.le_refl _) ⟨rfl, _, _, rfl, rfl, rfl, hj, hu, hkt⟩
set_option maxRecDepth 100000 in
theorem t6_boardIf {γ : Gm} (hG : GF γ) (l : Launch) (o sz : Nat) (u : TU) {b : Nat → Nat} (hu : BD u b) (hA : WA b) (hkt : KT u b) {v c : Nat} (hv : v < b 0) (hc : c < b 1) (hfv : fr b v = true) : MX γ l yX6_boardIf cX6_boardIf 6 (some .int) 24 799 0 0 [.ref o, .int (nI v), .int (nI c)] (th o u) sz (RUi o sz (fun z u' => z = nI (enc (BB (layB b v c))) ∧ WJ u (b) u')) NX := by
  refine mx_start hG (by decide) (Nat.le_of_ble_eq_true rfl) (fun x C => ?_)
  have hW := hA.w
  have hN := hW.2.1
  have hC3 := hW.2.2.2.1
  have hL9 := hA.l
  have hF := freeS_lt hN
  have hr9 := rch_lt (b := b) (v := v) (by omega) hF
  have hf0 := fr_t.mp hfv
  have key3 : ∀ j k u1, k ≤ 9 → 10 ≤ k + j → TJ u u1 → BD u1 (resB b (updN (layB b v c) (22 + v) 0) k) → KT u1 b → (∀ m, m < 9 → u1.2 19 m = nI (b (31 + m))) → AW γ l x (QX γ x 0 0 (RUi o sz (fun z u' => z = nI (enc (BB (layB b v c))) ∧ WJ u (b) u')) NX) 6 (th o u1) sz 0 0 117 [(0, .ref o), (1, .int (nI v)), (2, .int (nI c)), (3, .int (nI (rch b v (freeS b)))), (4, .int (nI (enc (BB (layB b v c))))), (5, .int (nI k))] [] := by
    intro j
    induction j with
    | zero => intro k u1 h1 h2 hj hu hkt hb; exact absurd h2 (by omega)
    | succ j ih3 =>
      intro k u1 h1 h2 hj hu hkt hb
      refine aw_iload C rfl dX6_boardIf_117 ?_
      refine aw_bipush C (v := nI 9) (by decide) dX6_boardIf_119 ?_
      refine aw_icmpN_ge C (tgt := 147) (by omega) (by omega) dX6_boardIf_121 (by decide) (fun g9 => ?_) (fun g9 => ?_)
      · refine aw_iload C rfl dX6_boardIf_147 ?_
        exact aw_iret C rfl dX6_boardIf_149 (Nat.le_refl _) (Nat.le_refl _) ⟨rfl, _, _, rfl, rfl, rfl, hj, bd_eq hu (fun j => by rw [show k = 9 by omega, resB_9 hN hf0]), hkt⟩
      · refine aw_aload_n C rfl rfl dX6_boardIf_124 ?_
        refine tw_get C 0 (by decide) q1818 rfl dX6_boardIf_125 ?_
        refine aw_bipush C (v := nI 31) (by decide) dX6_boardIf_128 ?_
        refine aw_iload C rfl dX6_boardIf_130 ?_
        refine aw_iaddN C dX6_boardIf_132 ?_
        refine aw_aload_n C rfl rfl dX6_boardIf_133 ?_
        refine tw_get C 19 (by decide) q1837 rfl dX6_boardIf_134 ?_
        refine aw_iload C rfl dX6_boardIf_137 ?_
        refine tw_ld19 C (by omega) dX6_boardIf_139 ?_
        refine aw_top (hb k (by omega)) ?_
        refine tw_st0 C (by omega) dX6_boardIf_140 ?_
        refine aw_iinc1 C rfl (by decide) rfl dX6_boardIf_141 ?_
        refine aw_goto C (tgt := 117) dX6_boardIf_144 (by decide) ?_
        exact aw_lo (ih3 (k + 1) _ (by omega) (by omega) (hj.tr (tj_up _ (by omega))) (by rw [← resB_s]; exact bd_upd hu _ _) hkt hb) ⟨rfl, rfl, rfl, rfl, rfl, rfl, trivial⟩
  have key2 : ∀ j k u1, k ≤ b 0 → b 0 + 1 ≤ k + j → TJ u u1 → BD u1 (banB b (rch b v (freeS b)) (c + 1) k) → KT u1 b → (∀ m, m < 9 → u1.2 19 m = nI (b (31 + m))) → AW γ l x (QX γ x 0 0 (RUi o sz (fun z u' => z = nI (enc (BB (layB b v c))) ∧ WJ u (b) u')) NX) 6 (th o u1) sz 0 0 46 [(0, .ref o), (1, .int (nI v)), (2, .int (nI c)), (3, .int (nI (rch b v (freeS b)))), (4, .int (nI k))] [] := by
    intro j
    induction j with
    | zero => intro k u1 h1 h2 hj hu hkt hb; exact absurd h2 (by omega)
    | succ j ih =>
      intro k u1 h1 h2 hj hu hkt hb
      have e0 := banB_n b (rch b v (freeS b)) (c + 1) k (k := 0) (by omega)
      refine aw_iload C rfl dX6_boardIf_46 ?_
      refine aw_aload_n C rfl rfl dX6_boardIf_48 ?_
      refine tw_get C 0 (by decide) q1818 rfl dX6_boardIf_49 ?_
      refine aw_iconst C (v := nI 0) (by decide) dX6_boardIf_52 ?_
      refine tw_ld0 C (by omega) dX6_boardIf_53 ?_
      refine aw_top (hu _) ?_
      refine aw_top (congrArg nI e0) ?_
      refine aw_icmpN_ge C (tgt := 86) (by omega) (by omega) dX6_boardIf_54 (by decide) (fun gN => ?_) (fun gN => ?_)
      · refine aw_aload_n C rfl rfl dX6_boardIf_86 ?_
        refine tw_get C 0 (by decide) q1818 rfl dX6_boardIf_87 ?_
        refine aw_bipush C (v := nI 22) (by decide) dX6_boardIf_90 ?_
        refine aw_iload_n C rfl rfl dX6_boardIf_92 ?_
        refine aw_iaddN C dX6_boardIf_93 ?_
        refine aw_iload_n C rfl rfl dX6_boardIf_94 ?_
        refine aw_iconst C (v := nI 1) (by decide) dX6_boardIf_95 ?_
        refine aw_iaddN C dX6_boardIf_96 ?_
        refine tw_st0 C (by omega) dX6_boardIf_97 ?_
        have hu : BD (tsa u1 0 (upd (u1.2 0) (22 + v) (nI (c + 1)))) (layB b v c) := by
          have := bd_upd hu (22 + v) (c + 1)
          rw [show k = b 0 by omega] at this
          exact this
        have hA2 := wa_layB hA (v := v) (c := c) (by omega) (by omega)
        refine aw_aload_n C rfl rfl dX6_boardIf_98 ?_
        refine tw_callI C (t6_board hG l o sz _ hu hA2 (kt_st (st_layB b v c) hkt)) q2126 q2128 qs86 q120 q2129 (n9 := 0) (by decide +kernel) rfl (Nat.le_of_ble_eq_true rfl) (Nat.le_of_ble_eq_true rfl) (Nat.zero_le _) (Nat.zero_le _) rfl (Nat.le_of_ble_eq_true rfl) dX6_boardIf_99 (fun r u2 hp => ?_)
        obtain ⟨rfl, hk2, hkt⟩ := hp
        have hu := hk2.bd hu
        refine aw_istore C (by decide) rfl dX6_boardIf_102 ?_
        refine aw_aload_n C rfl rfl dX6_boardIf_104 ?_
        refine tw_get C 0 (by decide) q1818 rfl dX6_boardIf_105 ?_
        refine aw_bipush C (v := nI 22) (by decide) dX6_boardIf_108 ?_
        refine aw_iload_n C rfl rfl dX6_boardIf_110 ?_
        refine aw_iaddN C dX6_boardIf_111 ?_
        refine aw_iconst C (v := nI 0) (by decide) dX6_boardIf_112 ?_
        refine tw_st0 C (by omega) dX6_boardIf_113 ?_
        refine aw_iconst C (v := nI 0) (by decide) dX6_boardIf_114 ?_
        refine aw_istore C (by decide) rfl dX6_boardIf_115 ?_
        exact aw_lo (key3 10 0 _ (Nat.zero_le _) (by omega) (hj.tr ((tj_up _ (by omega)).tr (hk2.tj.tr (tj_up _ (by omega))))) (by rw [resB_0]; exact bd_upd hu _ _) (kt_st (st_layB b v c).sy hkt) (fun m hm => (congrFun hk2.a19 m).trans (hb m hm))) ⟨rfl, rfl, rfl, rfl, rfl, rfl, trivial⟩
      · refine aw_iload_n C rfl rfl dX6_boardIf_57 ?_
        refine aw_iload C rfl dX6_boardIf_58 ?_
        refine aw_ishrN C (by omega) (by omega) dX6_boardIf_60 ?_
        refine aw_iconst C (v := nI 1) (by decide) dX6_boardIf_61 ?_
        refine aw_iandBit C dX6_boardIf_62 ?_
        refine aw_iconst C (v := nI 1) (by decide) dX6_boardIf_63 ?_
        refine aw_bit_ne1 C (tgt := 80) dX6_boardIf_64 (by decide) (fun gB => ?_) (fun gB => ?_)
        · refine aw_iinc1 C rfl (by decide) rfl dX6_boardIf_80 ?_
          refine aw_goto C (tgt := 46) dX6_boardIf_83 (by decide) ?_
          first
            | exact aw_lo (ih (k + 1) _ (by omega) (by omega) (hj.tr (tj_up _ (by omega))) (by rw [← banB_t gB]; exact bd_upd hu _ _) hkt hb) ⟨rfl, rfl, rfl, rfl, rfl, trivial⟩
            | exact aw_lo (ih (k + 1) _ (by omega) (by omega) hj (by rw [← banB_f gB]; exact hu) hkt hb) ⟨rfl, rfl, rfl, rfl, rfl, trivial⟩
        · refine aw_aload_n C rfl rfl dX6_boardIf_67 ?_
          refine tw_get C 0 (by decide) q1818 rfl dX6_boardIf_68 ?_
          refine aw_bipush C (v := nI 31) (by decide) dX6_boardIf_71 ?_
          refine aw_iload C rfl dX6_boardIf_73 ?_
          refine aw_iaddN C dX6_boardIf_75 ?_
          refine aw_iload_n C rfl rfl dX6_boardIf_76 ?_
          refine aw_iconst C (v := nI 1) (by decide) dX6_boardIf_77 ?_
          refine aw_iaddN C dX6_boardIf_78 ?_
          refine tw_st0 C (by omega) dX6_boardIf_79 ?_
          refine aw_iinc1 C rfl (by decide) rfl dX6_boardIf_80 ?_
          refine aw_goto C (tgt := 46) dX6_boardIf_83 (by decide) ?_
          first
            | exact aw_lo (ih (k + 1) _ (by omega) (by omega) (hj.tr (tj_up _ (by omega))) (by rw [← banB_t gB]; exact bd_upd hu _ _) hkt hb) ⟨rfl, rfl, rfl, rfl, rfl, trivial⟩
            | exact aw_lo (ih (k + 1) _ (by omega) (by omega) hj (by rw [← banB_f gB]; exact hu) hkt hb) ⟨rfl, rfl, rfl, rfl, rfl, trivial⟩
  have key1 : ∀ j k u1, k ≤ 9 → 10 ≤ k + j → TJ u u1 → BD u1 b → KT u1 b → (∀ m, m < k → u1.2 19 m = nI (b (31 + m))) → AW γ l x (QX γ x 0 0 (RUi o sz (fun z u' => z = nI (enc (BB (layB b v c))) ∧ WJ u (b) u')) NX) 6 (th o u1) sz 0 0 13 [(0, .ref o), (1, .int (nI v)), (2, .int (nI c)), (3, .int (nI (rch b v (freeS b)))), (4, .int (nI k))] [] := by
    intro j
    induction j with
    | zero => intro k u1 h1 h2 hj hu hkt hb; exact absurd h2 (by omega)
    | succ j ih1 =>
      intro k u1 h1 h2 hj hu hkt hb
      refine aw_iload C rfl dX6_boardIf_13 ?_
      refine aw_bipush C (v := nI 9) (by decide) dX6_boardIf_15 ?_
      refine aw_icmpN_ge C (tgt := 43) (by omega) (by omega) dX6_boardIf_17 (by decide) (fun g9 => ?_) (fun g9 => ?_)
      · refine aw_iconst C (v := nI 0) (by decide) dX6_boardIf_43 ?_
        refine aw_istore C (by decide) rfl dX6_boardIf_44 ?_
        exact aw_lo (key2 (b 0 + 1) 0 u1 (Nat.zero_le _) (by omega) hj (by rw [banB_0]; exact hu) hkt (fun m hm => hb m (by omega))) ⟨rfl, rfl, rfl, rfl, rfl, trivial⟩
      · refine aw_aload_n C rfl rfl dX6_boardIf_20 ?_
        refine tw_get C 19 (by decide) q1837 rfl dX6_boardIf_21 ?_
        refine aw_iload C rfl dX6_boardIf_24 ?_
        refine aw_aload_n C rfl rfl dX6_boardIf_26 ?_
        refine tw_get C 0 (by decide) q1818 rfl dX6_boardIf_27 ?_
        refine aw_bipush C (v := nI 31) (by decide) dX6_boardIf_30 ?_
        refine aw_iload C rfl dX6_boardIf_32 ?_
        refine aw_iaddN C dX6_boardIf_34 ?_
        refine tw_ld0 C (by omega) dX6_boardIf_35 ?_
        refine aw_top (hu _) ?_
        refine tw_st19 C (by omega) dX6_boardIf_36 ?_
        refine aw_iinc1 C rfl (by decide) rfl dX6_boardIf_37 ?_
        refine aw_goto C (tgt := 13) dX6_boardIf_40 (by decide) ?_
        refine aw_lo (ih1 (k + 1) _ (by omega) (by omega) (hj.tr (tj_up _ (by omega))) hu hkt (fun m hm => ?_)) ⟨rfl, rfl, rfl, rfl, rfl, trivial⟩
        show upd (u1.2 19) k (nI (b (31 + k))) m = nI (b (31 + m))
        by_cases e : m = k
        · rw [e, pk_us]
        · rw [pk_un e]
          exact hb m (by omega)
  refine aw_aload_n C rfl rfl dX6_boardIf_0 ?_
  refine aw_iload_n C rfl rfl dX6_boardIf_1 ?_
  refine aw_aload_n C rfl rfl dX6_boardIf_2 ?_
  refine tw_callR C (t6_freeSet hG l o sz _ hu hW) q1992 q1994 qs60 q120 q1995 (n9 := 0) (by decide +kernel) rfl (Nat.le_of_ble_eq_true rfl) (Nat.le_of_ble_eq_true rfl) (Nat.zero_le _) (Nat.zero_le _) rfl (Nat.le_of_ble_eq_true rfl) dX6_boardIf_3 ?_
  refine tw_callR C (t6_reached hG l o sz _ hu hW (by omega) (by omega)) q1996 q1998 qs61 q120 q1999 (n9 := 2) (by decide +kernel) rfl (Nat.le_of_ble_eq_true rfl) (Nat.le_of_ble_eq_true rfl) (Nat.zero_le _) (Nat.zero_le _) rfl (Nat.le_of_ble_eq_true rfl) dX6_boardIf_6 ?_
  refine aw_istore_n C rfl (by decide) rfl dX6_boardIf_9 ?_
  refine aw_iconst C (v := nI 0) (by decide) dX6_boardIf_10 ?_
  refine aw_istore C (by decide) rfl dX6_boardIf_11 ?_
  exact aw_lo (key1 10 0 u (Nat.zero_le _) (by omega) (TJ.rf u) hu hkt (fun m hm => absurd hm (Nat.not_lt_zero m))) ⟨rfl, rfl, rfl, rfl, rfl, trivial⟩
set_option maxRecDepth 100000 in
theorem t6_winningOn {γ : Gm} (hG : GF γ) (l : Launch) (o sz : Nat) (u : TU) {b : Nat → Nat} (hu : BD u b) (hA : WA b) (hkt : KT u b) {v : Nat} (hv : v < b 0) : MX γ l yX6_winningOn cX6_winningOn 5 (some .int) 25 824 0 0 [.ref o, .int (nI v)] (th o u) sz (RUi o sz (fun z u' => z = nI (winS b v) ∧ WJ u (b) u')) NX := by
  refine mx_start hG (by decide) (Nat.le_of_ble_eq_true rfl) (fun x C => ?_)
  have hW := hA.w
  have hN := hW.2.1
  have hC3 := hW.2.2.2.1
  have hL9 := hA.l
  have hk9 := cols_lt hW (v := v) (by omega)
  have key : ∀ j c s u1, c ≤ b 1 → b 1 + 1 ≤ c + j → s = bset (wins b v) c → WJ u b u1 → AW γ l x (QX γ x 0 0 (RUi o sz (fun z u' => z = nI (winS b v) ∧ WJ u (b) u')) NX) 5 (th o u1) sz 0 0 11 [(0, .ref o), (1, .int (nI v)), (2, .int (nI (cols b v))), (3, .int (nI s)), (4, .int (nI c))] [] := by
    intro j
    induction j with
    | zero => intro c s u1 h1 h2 hs hw; exact absurd h2 (by omega)
    | succ j ih =>
      intro c s u1 h1 h2 hs hw
      obtain ⟨hj, hu, hkt⟩ := hw
      refine aw_iload C rfl dX6_winningOn_11 ?_
      refine aw_aload_n C rfl rfl dX6_winningOn_13 ?_
      refine tw_get C 0 (by decide) q1818 rfl dX6_winningOn_14 ?_
      refine aw_iconst C (v := nI 1) (by decide) dX6_winningOn_17 ?_
      refine tw_ld0 C (by omega) dX6_winningOn_18 ?_
      refine aw_top (hu _) ?_
      refine aw_icmpN_ge C (tgt := 67) (by omega) (by omega) dX6_winningOn_19 (by decide) (fun gC => ?_) (fun gC => ?_)
      · refine aw_iload_n C rfl rfl dX6_winningOn_67 ?_
        exact aw_iret C rfl dX6_winningOn_68 (Nat.le_refl _) (Nat.le_refl _) ⟨rfl, _, _, rfl, rfl, by rw [hs, show c = b 1 by omega]; rfl, hj, hu, hkt⟩
      · refine aw_iload_n C rfl rfl dX6_winningOn_22 ?_
        refine aw_iload C rfl dX6_winningOn_23 ?_
        refine aw_ishrN C (by omega) (by omega) dX6_winningOn_25 ?_
        refine aw_iconst C (v := nI 1) (by decide) dX6_winningOn_26 ?_
        refine aw_iandBit C dX6_winningOn_27 ?_
        refine aw_iconst C (v := nI 1) (by decide) dX6_winningOn_28 ?_
        refine aw_bit_ne1 C (tgt := 61) dX6_winningOn_29 (by decide) (fun gB => ?_) (fun gB => ?_)
        · refine aw_iinc1 C rfl (by decide) rfl dX6_winningOn_61 ?_
          refine aw_goto C (tgt := 11) dX6_winningOn_64 (by decide) ?_
          exact aw_lo (ih (c + 1) _ _ (by omega) (by omega) (by rw [bset, hs]; simp [wins, *]) ⟨hj, hu, hkt⟩) ⟨rfl, rfl, rfl, rfl, rfl, trivial⟩
        · have hfv := cols_free gB
          refine aw_aload_n C rfl rfl dX6_winningOn_32 ?_
          refine aw_iload_n C rfl rfl dX6_winningOn_33 ?_
          refine aw_iload C rfl dX6_winningOn_34 ?_
          refine tw_callI C (t6_boardIf hG l o sz _ hu hA hkt (v := v) (c := c) (by omega) (by omega) hfv) q2134 q2136 qs87 q120 q2137 (n9 := 2) (by decide +kernel) rfl (Nat.le_of_ble_eq_true rfl) (Nat.le_of_ble_eq_true rfl) (Nat.zero_le _) (Nat.zero_le _) rfl (Nat.le_of_ble_eq_true rfl) dX6_winningOn_36 (fun r u2 hp => ?_)
          obtain ⟨rfl, hj2, hu, hkt⟩ := hp
          have hj := hj.tr hj2
          have hbb := bb_gb (wa_layB hA (v := v) (c := c) (by omega) (by omega)).s (wb_layB hW (v := v) (c := c) (by omega))
          have hbb1 := hbb.1
          have hbb2 := hbb.2.1
          have hbb3 := hbb.2.2
          have hbl := enc_lt (i := BB (layB b v c)) hbb1 (by omega) (by omega)
          refine aw_bipush C (v := nI 31) (by decide) dX6_winningOn_39 ?_
          refine aw_iandN C dX6_winningOn_41 ?_
          refine aw_top (show _ = nI (BB (layB b v c)).1 from by rw [enc_v hbb1 (by omega)]) ?_
          refine aw_aload_n C rfl rfl dX6_winningOn_42 ?_
          refine tw_get C 0 (by decide) q1818 rfl dX6_winningOn_43 ?_
          refine aw_iconst C (v := nI 2) (by decide) dX6_winningOn_46 ?_
          refine tw_ld0 C (by omega) dX6_winningOn_47 ?_
          refine aw_top (hu _) ?_
          refine aw_iconst C (v := nI 2) (by decide) dX6_winningOn_48 ?_
          refine aw_iremN C (by omega) (by omega) (by omega) dX6_winningOn_49 ?_
          refine aw_ixorN C dX6_winningOn_50 ?_
          have hx := xor_lt32 hbb1 (show b 2 % 2 < 32 by omega)
          refine aw_ifN_ne C (tgt := 61) (by omega) dX6_winningOn_51 (by decide) (fun gW => ?_) (fun gW => ?_)
          · refine aw_iinc1 C rfl (by decide) rfl dX6_winningOn_61 ?_
            refine aw_goto C (tgt := 11) dX6_winningOn_64 (by decide) ?_
            exact aw_lo (ih (c + 1) _ _ (by omega) (by omega) (by rw [bset, hs]; simp [wins, *]) ⟨hj, hu, hkt⟩) ⟨rfl, rfl, rfl, rfl, rfl, trivial⟩
          · refine aw_iload_n C rfl rfl dX6_winningOn_54 ?_
            refine aw_iconst C (v := nI 1) (by decide) dX6_winningOn_55 ?_
            refine aw_iload C rfl dX6_winningOn_56 ?_
            refine aw_ishlN C (by omega) dX6_winningOn_58 ?_
            refine aw_iorN C dX6_winningOn_59 ?_
            refine aw_istore_n C rfl (by decide) rfl dX6_winningOn_60 ?_
            refine aw_iinc1 C rfl (by decide) rfl dX6_winningOn_61 ?_
            refine aw_goto C (tgt := 11) dX6_winningOn_64 (by decide) ?_
            exact aw_lo (ih (c + 1) _ _ (by omega) (by omega) (by rw [bset, hs]; simp [wins, *]) ⟨hj, hu, hkt⟩) ⟨rfl, rfl, rfl, rfl, rfl, trivial⟩
  refine aw_aload_n C rfl rfl dX6_winningOn_0 ?_
  refine aw_iload_n C rfl rfl dX6_winningOn_1 ?_
  refine tw_callR C (t6_colours hG l o sz _ hu hW (by omega)) q1988 q1990 qs59 q120 q1991 (n9 := 1) (by decide +kernel) rfl (Nat.le_of_ble_eq_true rfl) (Nat.le_of_ble_eq_true rfl) (Nat.zero_le _) (Nat.zero_le _) rfl (Nat.le_of_ble_eq_true rfl) dX6_winningOn_2 ?_
  refine aw_istore_n C rfl (by decide) rfl dX6_winningOn_5 ?_
  refine aw_iconst C (v := nI 0) (by decide) dX6_winningOn_6 ?_
  refine aw_istore_n C rfl (by decide) rfl dX6_winningOn_7 ?_
  refine aw_iconst C (v := nI 0) (by decide) dX6_winningOn_8 ?_
  refine aw_istore C (by decide) rfl dX6_winningOn_9 ?_
  exact aw_lo (key (b 1 + 1) 0 0 u (Nat.zero_le _) (by omega) rfl ⟨TJ.rf u, hu, hkt⟩) ⟨rfl, rfl, rfl, rfl, rfl, trivial⟩
set_option maxRecDepth 100000 in
theorem t6_passWins {γ : Gm} (hG : GF γ) (l : Launch) (o sz : Nat) (u : TU) {b : Nat → Nat} (hu : BD u b) (hA : WA b) (hkt : KT u b)  : MX γ l yX6_passWins cX6_passWins 1 (some .boolean) 24 799 0 0 [.ref o] (th o u) sz (RUi o sz (fun z u' => z = nI (if passW b = true then 1 else 0) ∧ WJ u (b) u')) NX := by
  refine mx_start hG (by decide) (Nat.le_of_ble_eq_true rfl) (fun x C => ?_)
  have hW := hA.w
  have hN := hW.2.1
  have hC3 := hW.2.2.2.1
  have hL9 := hA.l
  have hj := TJ.rf u
  refine aw_aload_n C rfl rfl dX6_passWins_0 ?_
  refine tw_get C 0 (by decide) q1818 rfl dX6_passWins_1 ?_
  refine aw_iconst C (v := nI 2) (by decide) dX6_passWins_4 ?_
  refine tw_ld0 C (by omega) dX6_passWins_5 ?_
  refine aw_top (hu _) ?_
  refine aw_ifN_le C (tgt := 34) (by omega) dX6_passWins_6 (by decide) (fun gL => ?_) (fun gL => ?_)
  · refine aw_iconst C (v := nI 0) (by decide) dX6_passWins_34 ?_
    exact aw_zret C rfl (by cases passW b <;> decide) dX6_passWins_35 (Nat.le_refl _) (Nat.le_refl _) ⟨rfl, _, _, rfl, rfl, by simp [passW, *], hj, hu, hkt⟩
  · refine aw_aload_n C rfl rfl dX6_passWins_9 ?_
    refine tw_callI C (t6_board hG l o sz _ hu hA hkt) q2126 q2128 qs86 q120 q2129 (n9 := 0) (by decide +kernel) rfl (Nat.le_of_ble_eq_true rfl) (Nat.le_of_ble_eq_true rfl) (Nat.zero_le _) (Nat.zero_le _) rfl (Nat.le_of_ble_eq_true rfl) dX6_passWins_10 (fun r u2 hp => ?_)
    obtain ⟨rfl, hk2, hkt⟩ := hp
    have hu := hk2.bd hu
    have hj := hj.tr hk2.tj
    have hbb := bb_gb hA.s hW
    have hbb1 := hbb.1
    have hbb2 := hbb.2.1
    have hbb3 := hbb.2.2
    have hbl := enc_lt (i := BB b) hbb1 (by omega) (by omega)
    refine aw_bipush C (v := nI 31) (by decide) dX6_passWins_13 ?_
    refine aw_iandN C dX6_passWins_15 ?_
    refine aw_top (show _ = nI (BB b).1 from by rw [enc_v hbb1 (by omega)]) ?_
    refine aw_aload_n C rfl rfl dX6_passWins_16 ?_
    refine tw_get C 0 (by decide) q1818 rfl dX6_passWins_17 ?_
    refine aw_iconst C (v := nI 2) (by decide) dX6_passWins_20 ?_
    refine tw_ld0 C (by omega) dX6_passWins_21 ?_
    refine aw_top (hu _) ?_
    refine aw_iconst C (v := nI 1) (by decide) dX6_passWins_22 ?_
    refine aw_isubN C (by omega) dX6_passWins_23 ?_
    refine aw_iconst C (v := nI 2) (by decide) dX6_passWins_24 ?_
    refine aw_iremN C (by omega) (by omega) (by omega) dX6_passWins_25 ?_
    refine aw_ixorN C dX6_passWins_26 ?_
    have hx := xor_lt32 hbb1 (show (b 2 - 1) % 2 < 32 by omega)
    refine aw_ifN_ne C (tgt := 34) (by omega) dX6_passWins_27 (by decide) (fun gW => ?_) (fun gW => ?_)
    · refine aw_iconst C (v := nI 0) (by decide) dX6_passWins_34 ?_
      exact aw_zret C rfl (by cases passW b <;> decide) dX6_passWins_35 (Nat.le_refl _) (Nat.le_refl _) ⟨rfl, _, _, rfl, rfl, by simp [passW, *], hj, hu, hkt⟩
    · refine aw_iconst C (v := nI 1) (by decide) dX6_passWins_30 ?_
      refine aw_goto C (tgt := 35) dX6_passWins_31 (by decide) ?_
      exact aw_zret C rfl (by cases passW b <;> decide) dX6_passWins_35 (Nat.le_refl _) (Nat.le_refl _) ⟨rfl, _, _, rfl, rfl, by simp [passW, *], hj, hu, hkt⟩
