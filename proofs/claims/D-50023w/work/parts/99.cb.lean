/-! a digit; writeBoard, writtenByte, append -/
/-- the digits are carried -/
def GDG (γ : Gm) (d1 : Nat) (f1 : Nat → Int32) : Prop := ZZ γ "java/lang/Integer" "DigitOnes" "[B" (.ref d1) ∧ (∀ U : State, γ.X U → va_at γ.1 ucl (d1, cv γ (.inl (1, 100, .inl f1))) U.heap) ∧ ∀ i, i < 10 → f1 i = nI (48 + i)
theorem dg_neg : ∀ d, d < 10 → ¬ (-(nI d) ≤ (-10 : Int32)) ∧ (-(nI d) : Int32) > -100 ∧ -(-(nI d)) = nI d ∧ -(nI d) ≥ (-9 : Int32) := by decide +kernel
set_option maxRecDepth 100000 in
theorem sb_size {γ : Gm} (hG : GF γ) (l : Launch) {h : AH} {sz : Nat} {d : Nat} (hd9 : d < 10) : MX γ l yJ17_stringSize cJ17_stringSize 4 (some .int) 0 0 0 0 [.int (nI d)] h sz (RI h sz (nI 1)) NX := by
  refine mx_start hG (by decide) (Nat.le_of_ble_eq_true rfl) (fun x C => ?_)
  refine aw_iconst C (v := nI 1) (by decide) dJ17_stringSize_0 ?_
  refine aw_istore_n C rfl (by decide) rfl dJ17_stringSize_1 ?_
  refine aw_iload_n C rfl rfl dJ17_stringSize_2 ?_
  refine aw_ifN_lt C (tgt := 11) (by omega) dJ17_stringSize_3 (by decide) (fun g3 => ?_) (fun g3 => ?_)
  · first | exact absurd g3 (by omega) | cases g3
  · refine aw_iconst C (v := nI 0) (by decide) dJ17_stringSize_6 ?_
    refine aw_istore_n C rfl (by decide) rfl dJ17_stringSize_7 ?_
    refine aw_iload_n C rfl rfl dJ17_stringSize_8 ?_
    refine aw_ineg C dJ17_stringSize_9 ?_
    refine aw_istore_n C rfl (by decide) rfl dJ17_stringSize_10 ?_
    refine aw_bipush C (v := -10) (by decide) dJ17_stringSize_11 ?_
    refine aw_istore_n C rfl (by decide) rfl dJ17_stringSize_13 ?_
    refine aw_iconst C (v := nI 1) (by decide) dJ17_stringSize_14 ?_
    refine aw_istore_n C rfl (by decide) rfl dJ17_stringSize_15 ?_
    refine aw_iload_n C rfl rfl dJ17_stringSize_16 ?_
    refine aw_bipush C (v := nI 10) (by decide) dJ17_stringSize_17 ?_
    refine aw_icmpN_ge C (tgt := 42) (by omega) (by omega) dJ17_stringSize_19 (by decide) (fun g19 => ?_) (fun g19 => ?_)
    · exact absurd g19 (by omega)
    · refine aw_iload_n C rfl rfl dJ17_stringSize_22 ?_
      refine aw_iload_n C rfl rfl dJ17_stringSize_23 ?_
      refine aw_icmp_le C (tgt := 31) dJ17_stringSize_24 (by decide) (fun g24 => ?_) (fun g24 => ?_)
      · exact absurd g24 (dg_neg d hd9).1
      · refine aw_iload_n C rfl rfl dJ17_stringSize_27 ?_
        refine aw_iload_n C rfl rfl dJ17_stringSize_28 ?_
        refine aw_iaddN C dJ17_stringSize_29 ?_
        exact aw_iret C rfl dJ17_stringSize_30 (Nat.le_refl _) (Nat.le_refl _) ⟨rfl, rfl, rfl⟩
set_option maxRecDepth 100000 in
theorem sb_getChars {γ : Gm} (hG : GF γ) (l : Launch) {h : AH} {sz : Nat} {d1 : Nat} {f1 : Nat → Int32} (hDg : GDG γ d1 f1) {d : Nat} (hd9 : d < 10) {i v cap : Nat} {fv : Nat → Int32} (hi0 : 0 < i) (hi : i ≤ cap) (hc9 : cap < 2 ^ 18) (ev : h v = some (.inl (1, cap, .inl fv))) : MX γ l yJ17_getChars cJ17_getChars 7 (some .int) 0 0 0 0 [.int (nI d), .int (nI i), .ref v] h sz (PE (some (.int (nI (i - 1)))) (hset h v (.inl (1, cap, .inl (upd fv (i - 1) (nI (48 + d)))))) sz) NX := by
  refine mx_start hG (by decide) (Nat.le_of_ble_eq_true rfl) (fun x C => ?_)
  refine aw_iload_n C rfl rfl dJ17_getChars_0 ?_
  refine aw_istore C (by decide) rfl dJ17_getChars_1 ?_
  refine aw_iload_n C rfl rfl dJ17_getChars_3 ?_
  refine aw_ifN_ge C (tgt := 11) (by omega) dJ17_getChars_4 (by decide) (fun g4 => ?_) (fun g4 => ?_)
  · refine aw_iconst C (v := nI 0) (by decide) dJ17_getChars_11 ?_
    refine aw_istore C (by decide) rfl dJ17_getChars_12 ?_
    refine aw_iload C rfl dJ17_getChars_14 ?_
    refine aw_if_ne C (tgt := 22) dJ17_getChars_16 (by decide) (fun g1 => ?_) (fun g1 => ?_)
    · first | exact absurd g1 (by decide) | exact absurd (by decide) g1
    · refine aw_iload_n C rfl rfl dJ17_getChars_19 ?_
      refine aw_ineg C dJ17_getChars_20 ?_
      refine aw_istore_n C rfl (by decide) rfl dJ17_getChars_21 ?_
      refine aw_iload_n C rfl rfl dJ17_getChars_22 ?_
      refine aw_bipush C (v := -100) (by decide) dJ17_getChars_23 ?_
      refine aw_icmp_gt C (tgt := 72) dJ17_getChars_25 (by decide) (fun g25 => ?_) (fun g25 => ?_)
      · refine aw_aload_n C rfl rfl dJ17_getChars_72 ?_
        refine aw_iincM C rfl (by omega) (by decide) rfl dJ17_getChars_73 ?_
        refine aw_iload C rfl dJ17_getChars_76 ?_
        refine aw_gets C hDg.1 q491 (fun _ z => z) dJ17_getChars_78 ?_
        refine aw_iload_n C rfl rfl dJ17_getChars_81 ?_
        refine aw_ineg C dJ17_getChars_82 ?_
        refine aw_top (dg_neg d hd9).2.2.1 ?_
        refine aw_baldR C (Or.inr hDg.2.1) (by omega) (by decide) dJ17_getChars_83 ?_
        refine aw_top ((hDg.2.2 _ hd9)) ?_
        refine aw_bastN C ev (by omega) (by omega) dJ17_getChars_84 ?_
        rw [b7_nar (by omega)]
        refine aw_iload_n C rfl rfl dJ17_getChars_85 ?_
        refine aw_bipush C (v := -9) (by decide) dJ17_getChars_86 ?_
        refine aw_icmp_ge C (tgt := 104) dJ17_getChars_88 (by decide) (fun g88 => ?_) (fun g88 => ?_)
        · refine aw_iload C rfl dJ17_getChars_104 ?_
          refine aw_if_eq C (tgt := 118) dJ17_getChars_106 (by decide) (fun g2 => ?_) (fun g2 => ?_)
          · refine aw_iload C rfl dJ17_getChars_118 ?_
            exact aw_iret C rfl dJ17_getChars_120 (Nat.le_refl _) (Nat.le_refl _) ⟨rfl, rfl, rfl⟩
          · first | exact absurd (by decide) g2 | exact absurd g2 (by decide)
        · exact absurd (dg_neg d hd9).2.2.2 g88
      · exact absurd (dg_neg d hd9).2.1 g25
  · first | exact absurd g4 (by omega) | cases g4
set_option maxRecDepth 100000 in
theorem sb_appI {γ : Gm} (hG : GF γ) (l : Launch) {h : AH} {sz : Nat} (hS : GSB γ) {d1 : Nat} {f1 : Nat → Int32} (hDg : GDG γ d1 f1) {d : Nat} (hd9 : d < 10) {a v n cap : Nat} {mb : Int32} {fv : Nat → Int32} (es : h a = some (SBF v n mb)) (ev : h v = some (.inl (1, cap, .inl fv))) (hc9 : cap < 2 ^ 18) (hn : n < cap) : MX γ l yJ7_append_2 cJ7_append_2 4 (some (.object "java/lang/AbstractStringBuilder")) 4 92 0 0 [.ref a, .int (nI d)] h sz (PE (some (.ref a)) (hset (hset h v (.inl (1, cap, .inl (upd fv n (nI (48 + d)))))) a (SBF v (n + 1) mb)) sz) NX := by
  refine mx_start hG (by decide) (Nat.le_of_ble_eq_true rfl) (fun x C => ?_)
  refine aw_aload_n C rfl rfl dJ7_append_2_0 ?_
  refine aw_getf C ck13 3 (by decide) q346 (fun _ z => z) es rfl dJ7_append_2_1 ?_
  refine aw_istore_n C rfl (by decide) rfl dJ7_append_2_4 ?_
  refine aw_iload_n C rfl rfl dJ7_append_2_5 ?_
  refine aw_iload_n C rfl rfl dJ7_append_2_6 ?_
  refine aw_callSRR C (sb_size hG l hd9) q485 q486 q118 q487 (n9 := 1) (by decide +kernel) rfl (Nat.le_of_ble_eq_true rfl) (Nat.le_of_ble_eq_true rfl) (Nat.zero_le _) (Nat.zero_le _) rfl (Nat.le_of_ble_eq_true rfl) dJ7_append_2_7 ?_
  refine aw_iaddN C dJ7_append_2_10 ?_
  refine aw_istore_n C rfl (by decide) rfl dJ7_append_2_11 ?_
  refine aw_aload_n C rfl rfl dJ7_append_2_12 ?_
  refine aw_iload_n C rfl rfl dJ7_append_2_13 ?_
  refine aw_callPV C ck13 (sb_ens0 hG l es ev hc9 (m := n + 1) (by omega)) q369 q2237 hS.2.1 q407 q371 q107 q372 es (n9 := 1) (by decide +kernel) rfl (Nat.le_of_ble_eq_true rfl) (Nat.le_of_ble_eq_true rfl) (by dsimp only; omega) (by dsimp only; omega) rfl (Nat.le_of_ble_eq_true rfl) dJ7_append_2_14 (fun _ _ _ z => z.elim) (fun v9 h9 sz9 hp9 => ?_)
  obtain ⟨rfl, rfl, rfl⟩ := hp9
  refine aw_aload_n C rfl rfl dJ7_append_2_17 ?_
  refine aw_callU C ck13 (xm := ⟨"java/lang/AbstractStringBuilder", "isLatin1", "()Z"⟩) (sb_isLatin1 hG l hS.1 es) q404 q406 q407 q405 q107 q408 rfl es (n9 := 0) (by decide +kernel) rfl (Nat.le_of_ble_eq_true rfl) (Nat.le_of_ble_eq_true rfl) (by dsimp only; omega) (by dsimp only; omega) rfl (Nat.le_of_ble_eq_true rfl) dJ7_append_2_18 (fun _ _ _ z => z.elim) (fun v9 h9 sz9 hp9 => ?_)
  obtain ⟨rfl, rfl, rfl⟩ := hp9
  refine aw_top rfl ?_
  refine aw_bit_eq0 C (tgt := 37) dJ7_append_2_21 (by decide) (fun g21 => ?_) (fun g21 => ?_)
  · exact absurd g21 (by decide)
  · refine aw_iload_n C rfl rfl dJ7_append_2_24 ?_
    refine aw_iload_n C rfl rfl dJ7_append_2_25 ?_
    refine aw_aload_n C rfl rfl dJ7_append_2_26 ?_
    refine aw_getf C ck13 0 (by decide) q342 (fun _ z => z) es rfl dJ7_append_2_27 ?_
    refine aw_callSPv C (sb_getChars hG l hDg hd9 (i := n + 1) (by omega) (by omega) hc9 ev) q488 q489 q118 q490 (n9 := 3) (by decide +kernel) rfl (Nat.le_of_ble_eq_true rfl) (Nat.le_of_ble_eq_true rfl) (Nat.zero_le _) (Nat.zero_le _) rfl (Nat.le_of_ble_eq_true rfl) dJ7_append_2_30 ?_
    rw [show n + 1 - 1 = n by omega]
    refine aw_pop C rfl dJ7_append_2_33 ?_
    refine aw_goto C (tgt := 48) dJ7_append_2_34 (by decide) ?_
    refine aw_aload_n C rfl rfl dJ7_append_2_48 ?_
    refine aw_iload_n C rfl rfl dJ7_append_2_49 ?_
    refine aw_putf C ck13 3 (by decide) q346 (fun _ z => z) rfl rfl (ty := .int) rfl rfl ((hset_n _ _ (ne9 es ev (by intro z; cases z))).trans es) (show 3 < 4 by decide) dJ7_append_2_50 ?_
    refine aw_aload_n C rfl rfl dJ7_append_2_53 ?_
    exact aw_aret C rfl (Or.inl ⟨_, rfl⟩) (Or.inr ⟨_, rfl⟩) dJ7_append_2_54 (Nat.le_refl _) (Nat.le_refl _) ⟨rfl, rfl, rfl⟩
set_option maxRecDepth 100000 in
theorem sb_addI {γ : Gm} (hG : GF γ) (l : Launch) {h : AH} {sz : Nat} (hS : GSB γ) {d1 : Nat} {f1 : Nat → Int32} (hDg : GDG γ d1 f1) {d : Nat} (hd9 : d < 10) {a v n cap : Nat} {mb : Int32} {fv : Nat → Int32} (es : h a = some (SBF v n mb)) (ev : h v = some (.inl (1, cap, .inl fv))) (hc9 : cap < 2 ^ 18) (hn : n < cap) : MX γ l yJ8_append_2 cJ8_append_2 2 (some (.object "java/lang/StringBuilder")) 5 115 0 0 [.ref a, .int (nI d)] h sz (PE (some (.ref a)) (hset (hset h v (.inl (1, cap, .inl (upd fv n (nI (48 + d)))))) a (SBF v (n + 1) mb)) sz) NX := by
  refine mx_start hG (by decide) (Nat.le_of_ble_eq_true rfl) (fun x C => ?_)
  refine aw_aload_n C rfl rfl dJ8_append_2_0 ?_
  refine aw_iload_n C rfl rfl dJ8_append_2_1 ?_
  refine aw_callSU C ck13 (sb_appI hG l hS hDg hd9 es ev hc9 hn) q482 q2242 q355 q483 q107 q484 es (n9 := 1) (by decide +kernel) rfl (Nat.le_of_ble_eq_true rfl) (Nat.le_of_ble_eq_true rfl) (by dsimp only; omega) (by dsimp only; omega) rfl (Nat.le_of_ble_eq_true rfl) dJ8_append_2_2 (fun _ _ _ z => z.elim) (fun v9 h9 sz9 hp9 => ?_)
  obtain ⟨rfl, rfl, rfl⟩ := hp9
  refine aw_pop C rfl dJ8_append_2_5 ?_
  refine aw_aload_n C rfl rfl dJ8_append_2_6 ?_
  exact aw_aret C rfl (Or.inl ⟨_, rfl⟩) (Or.inr ⟨_, rfl⟩) dJ8_append_2_7 (Nat.le_refl _) (Nat.le_refl _) ⟨rfl, rfl, rfl⟩
