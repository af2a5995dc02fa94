/-! String: length, charAt -/
theorem ch_conv0 : ∀ c, c < 128 → ((nI (c &&& 255)).toUInt32 % 65536).toInt32 = nI c ∧ narrow .char (.int (nI c)) = .int (nI c) := by decide +kernel
theorem ch_nar {c : Nat} (h : c < 128) : narrow .char (.int (nI c)) = .int (nI c) := (ch_conv0 c h).2
theorem ch_conv {c : Nat} (h : c < 128) : ((nI (c &&& 255)).toUInt32 % 65536).toInt32 = nI c := (ch_conv0 c h).1
set_option maxRecDepth 100000 in
theorem sj_coder {γ : Gm} (hG : GF γ) (l : Launch) {h : AH} {sz : Nat} (hT : GT γ) {a v : Nat} {w1 w2 : Value} (hs : RB γ h a (.inr (14, [.ref v, .int 0, w1, w2]))) : MX γ l yJ9_coder cJ9_coder 1 (some .byte) 0 0 0 0 [.ref a] h sz (RI h sz 0) NX := by
  refine mx_start hG (by decide) (Nat.le_of_ble_eq_true rfl) (fun x C => ?_)
  refine aw_gets C hT.1 q443 (fun _ z => z) dJ9_coder_0 ?_
  refine aw_if_eq C (tgt := 13) dJ9_coder_3 (by decide) (fun g1 => ?_) (fun g1 => ?_)
  · exact absurd g1 (by decide)
  · refine aw_aload_n C rfl rfl dJ9_coder_6 ?_
    refine aw_getfR C ck14 1 (by decide) q585 (fun _ z => z) hs rfl dJ9_coder_7 ?_
    refine aw_goto C (tgt := 14) dJ9_coder_10 (by decide) ?_
    exact aw_zret C rfl (by decide) dJ9_coder_14 (Nat.le_refl _) (Nat.le_refl _) ⟨rfl, rfl, rfl⟩
set_option maxRecDepth 100000 in
theorem sj_isLatin1 {γ : Gm} (hG : GF γ) (l : Launch) {h : AH} {sz : Nat} (hT : GT γ) {a v : Nat} {w1 w2 : Value} (hs : RB γ h a (.inr (14, [.ref v, .int 0, w1, w2]))) : MX γ l yJ9_isLatin1 cJ9_isLatin1 1 (some .boolean) 0 0 0 0 [.ref a] h sz (RI h sz (nI (if true = true then 1 else 0))) NX := by
  refine mx_start hG (by decide) (Nat.le_of_ble_eq_true rfl) (fun x C => ?_)
  refine aw_gets C hT.1 q443 (fun _ z => z) dJ9_isLatin1_0 ?_
  refine aw_if_eq C (tgt := 17) dJ9_isLatin1_3 (by decide) (fun g1 => ?_) (fun g1 => ?_)
  · exact absurd g1 (by decide)
  · refine aw_aload_n C rfl rfl dJ9_isLatin1_6 ?_
    refine aw_getfR C ck14 1 (by decide) q585 (fun _ z => z) hs rfl dJ9_isLatin1_7 ?_
    refine aw_if_ne C (tgt := 17) dJ9_isLatin1_10 (by decide) (fun g2 => ?_) (fun g2 => ?_)
    · exact absurd rfl g2
    · refine aw_iconst C (v := nI 1) (by decide) dJ9_isLatin1_13 ?_
      refine aw_goto C (tgt := 18) dJ9_isLatin1_14 (by decide) ?_
      exact aw_zret C rfl (by decide) dJ9_isLatin1_18 (Nat.le_refl _) (Nat.le_refl _) ⟨rfl, rfl, rfl⟩
set_option maxRecDepth 100000 in
theorem sj_length {γ : Gm} (hG : GF γ) (l : Launch) {h : AH} {sz : Nat} (hT : GT γ) {a v : Nat} {w1 w2 : Value} {f : Nat → Int32} {tx : List Nat} (hs : RB γ h a (.inr (14, [.ref v, .int 0, w1, w2]))) (hv : RB γ h v (.inl (1, tx.length, .inl f))) (hn : tx.length < 2 ^ 30) (hf : ∀ i, i < tx.length → f i = nI (tx.getD i 0) ∧ tx.getD i 0 < 128) : MX γ l yJ9_length cJ9_length 1 (some .int) 1 20 0 0 [.ref a] h sz (RI h sz (nI tx.length)) NX := by
  refine mx_start hG (by decide) (Nat.le_of_ble_eq_true rfl) (fun x C => ?_)
  refine aw_aload_n C rfl rfl dJ9_length_0 ?_
  refine aw_getfR C ck14 0 (by decide) q584 (fun _ z => z) hs rfl dJ9_length_1 ?_
  refine aw_alenR C (t := 1) (by decide) hv dJ9_length_4 ?_
  refine aw_aload_n C rfl rfl dJ9_length_5 ?_
  refine aw_callVRR C ck14 (sj_coder hG l hT hs) q439 q440 q441 q109 q442 hs (n9 := 0) (by decide +kernel) rfl (Nat.le_of_ble_eq_true rfl) (Nat.le_of_ble_eq_true rfl) (Nat.zero_le _) (Nat.zero_le _) rfl (Nat.le_of_ble_eq_true rfl) dJ9_length_6 ?_
  refine aw_ishr C dJ9_length_9 ?_
  exact aw_iret C rfl dJ9_length_10 (Nat.le_refl _) (Nat.le_refl _) ⟨congrArg (fun z => some (Value.int z)) (show nI tx.length >>> (0 &&& 31) = nI tx.length from by rw [show (0 : Int32) &&& 31 = 0 from by decide]; exact Int32.shiftRight_zero), rfl, rfl⟩
set_option maxRecDepth 100000 in
theorem sj_pcheck {γ : Gm} (hG : GF γ) (l : Launch) {h : AH} {sz : Nat} {i n : Nat} {w : Value} (hw : w = .null ∨ ∃ a, w = .ref a) (hi : i < n) (hn : n < 2 ^ 30) : MX γ l yJ14_checkIndex cJ14_checkIndex 3 (some .int) 0 0 0 0 [.int (nI i), .int (nI n), w] h sz (RI h sz (nI i)) NX := by
  refine mx_start hG (by decide) (by rcases hw with rfl | ⟨q, rfl⟩ <;> exact Nat.le_refl _) (fun x C => ?_)
  refine aw_iload_n C rfl rfl dJ14_checkIndex_0 ?_
  refine aw_ifN_lt C (tgt := 9) (by omega) dJ14_checkIndex_1 (by decide) (fun g1 => ?_) (fun g1 => ?_)
  · cases g1
  · refine aw_iload_n C rfl rfl dJ14_checkIndex_4 ?_
    refine aw_iload_n C rfl rfl dJ14_checkIndex_5 ?_
    refine aw_icmpN_lt C (tgt := 16) (by omega) (by omega) dJ14_checkIndex_6 (by decide) (fun g2 => ?_) (fun g2 => ?_)
    · refine aw_iload_n C rfl rfl dJ14_checkIndex_16 ?_
      exact aw_iret C rfl dJ14_checkIndex_17 (Nat.le_refl _) (Nat.le_refl _) ⟨rfl, rfl, rfl⟩
    · exact absurd hi (by omega)
set_option maxRecDepth 100000 in
theorem sj_check {γ : Gm} (hG : GF γ) (l : Launch) {h : AH} {sz : Nat} (hT : GT γ) {i n : Nat} (hi : i < n) (hn : n < 2 ^ 30) : MX γ l yJ9_checkIndex cJ9_checkIndex 2 none 1 22 0 0 [.int (nI i), .int (nI n)] h sz (RN h sz) NX := by
  refine mx_start hG (by decide) (Nat.le_of_ble_eq_true rfl) (fun x C => ?_)
  obtain ⟨w, hv, hw⟩ := hT.2
  refine aw_iload_n C rfl rfl dJ9_checkIndex_0 ?_
  refine aw_iload_n C rfl rfl dJ9_checkIndex_1 ?_
  refine aw_gets C hv q421 (fun _ z => z) dJ9_checkIndex_2 ?_
  refine aw_callSRR C (sj_pcheck hG l hw hi hn) q1225 q1104 q115 q1105 (n9 := 3) (by decide +kernel) rfl (Nat.le_of_ble_eq_true rfl) (Nat.le_of_ble_eq_true rfl) (Nat.zero_le _) (Nat.zero_le _) rfl (Nat.le_of_ble_eq_true rfl) dJ9_checkIndex_5 ?_
  refine aw_pop C rfl dJ9_checkIndex_8 ?_
  exact aw_vret C rfl dJ9_checkIndex_9 (Nat.le_refl _) (Nat.le_refl _) ⟨rfl, rfl, rfl⟩
set_option maxRecDepth 100000 in
theorem sj_lcharAt {γ : Gm} (hG : GF γ) (l : Launch) {h : AH} {sz : Nat} (hT : GT γ) {v i : Nat} {f : Nat → Int32} {tx : List Nat} (hv : RB γ h v (.inl (1, tx.length, .inl f))) (hn : tx.length < 2 ^ 30) (hf : ∀ i, i < tx.length → f i = nI (tx.getD i 0) ∧ tx.getD i 0 < 128) (hi : i < tx.length) : MX γ l yJ15_charAt cJ15_charAt 2 (some .char) 2 43 0 0 [.ref v, .int (nI i)] h sz (RI h sz (nI (tx.getD i 0))) NX := by
  refine mx_start hG (by decide) (Nat.le_of_ble_eq_true rfl) (fun x C => ?_)
  refine aw_iload_n C rfl rfl dJ15_charAt_0 ?_
  refine aw_aload_n C rfl rfl dJ15_charAt_1 ?_
  refine aw_alenR C (t := 1) (by decide) hv dJ15_charAt_2 ?_
  refine aw_callSRN C (sj_check hG l hT hi (by omega)) q1414 q1223 q109 q1224 (n9 := 2) (by decide +kernel) rfl (Nat.le_of_ble_eq_true rfl) (Nat.le_of_ble_eq_true rfl) (Nat.zero_le _) (Nat.zero_le _) rfl (Nat.le_of_ble_eq_true rfl) dJ15_charAt_3 ?_
  refine aw_aload_n C rfl rfl dJ15_charAt_6 ?_
  refine aw_iload_n C rfl rfl dJ15_charAt_7 ?_
  refine aw_baldR C hv (by omega) (by omega) dJ15_charAt_8 ?_
  refine aw_top ((hf _ (by omega)).1) ?_
  refine aw_sipush C (v := nI 255) (by decide) dJ15_charAt_9 ?_
  have hc := (hf i hi).2
  refine aw_iandN C dJ15_charAt_12 ?_
  refine aw_i2c C (ch_conv hc) dJ15_charAt_13 ?_
  exact aw_zret C rfl (ch_nar hc) dJ15_charAt_14 (Nat.le_refl _) (Nat.le_refl _) ⟨rfl, rfl, rfl⟩
set_option maxRecDepth 100000 in
theorem sj_charAt {γ : Gm} (hG : GF γ) (l : Launch) {h : AH} {sz : Nat} (hT : GT γ) {a v i : Nat} {w1 w2 : Value} {f : Nat → Int32} {tx : List Nat} (hs : RB γ h a (.inr (14, [.ref v, .int 0, w1, w2]))) (hv : RB γ h v (.inl (1, tx.length, .inl f))) (hn : tx.length < 2 ^ 30) (hf : ∀ i, i < tx.length → f i = nI (tx.getD i 0) ∧ tx.getD i 0 < 128) (hi : i < tx.length) : MX γ l yJ9_charAt cJ9_charAt 2 (some .char) 3 64 0 0 [.ref a, .int (nI i)] h sz (RI h sz (nI (tx.getD i 0))) NX := by
  refine mx_start hG (by decide) (Nat.le_of_ble_eq_true rfl) (fun x C => ?_)
  have hc := (hf i hi).2
  refine aw_aload_n C rfl rfl dJ9_charAt_0 ?_
  refine aw_callVRR C ck14 (sj_isLatin1 hG l hT hs) q1407 q1408 q1409 q109 q1410 hs (n9 := 0) (by decide +kernel) rfl (Nat.le_of_ble_eq_true rfl) (Nat.le_of_ble_eq_true rfl) (Nat.zero_le _) (Nat.zero_le _) rfl (Nat.le_of_ble_eq_true rfl) dJ9_charAt_1 ?_
  refine aw_bit_eq0 C (tgt := 16) dJ9_charAt_4 (by decide) (fun g1 => ?_) (fun g1 => ?_)
  · exact absurd g1 (by decide)
  · refine aw_aload_n C rfl rfl dJ9_charAt_7 ?_
    refine aw_getfR C ck14 0 (by decide) q584 (fun _ z => z) hs rfl dJ9_charAt_8 ?_
    refine aw_iload_n C rfl rfl dJ9_charAt_11 ?_
    refine aw_callSRR C (sj_lcharAt hG l hT hv hn hf hi) q1411 q1412 q116 q1413 (n9 := 2) (by decide +kernel) rfl (Nat.le_of_ble_eq_true rfl) (Nat.le_of_ble_eq_true rfl) (Nat.zero_le _) (Nat.zero_le _) rfl (Nat.le_of_ble_eq_true rfl) dJ9_charAt_12 ?_
    exact aw_zret C rfl (ch_nar hc) dJ9_charAt_15 (Nat.le_refl _) (Nat.le_refl _) ⟨rfl, rfl, rfl⟩
