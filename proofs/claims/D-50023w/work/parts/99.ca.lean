/-! java.lang.StringBuilder -/
theorem sub_le {m cap : Nat} (h : m ≤ cap) (hc : cap < 2 ^ 30) : nI m - nI cap ≤ 0 := by
  rw [Int32.le_iff_toInt_le, Int32.toInt_sub, nI_int (by omega), nI_int (by omega)]
  have h0 : (0 : Int32).toInt = 0 := rfl
  rw [h0]
  unfold Int.bmod
  simp only []
  split <;> omega
theorem b7_nar0 : ∀ c, c < 128 → (nI c).toInt8.toInt32 = nI c ∧ vp_nar .byte (nI c) = nI c ∧ fits .byte (.int (nI c)) = true := by decide +kernel
theorem b7_i2b {c : Nat} (h : c < 128) : (nI c).toInt8.toInt32 = nI c := (b7_nar0 c h).1
theorem b7_nar {c : Nat} (h : c < 128) : vp_nar .byte (nI c) = nI c := (b7_nar0 c h).2.1
theorem b7_fit {c : Nat} (h : c < 128) : fits .byte (.int (nI c)) = true := (b7_nar0 c h).2.2
/-- a StringBuilder at a: its bytes at v, cap places, n of them hold; the flag -/
abbrev SBF (v n : Nat) (mb : Int32) : va_E := .inr (13, [.ref v, .int 0, .int mb, .int (nI n)])
set_option maxRecDepth 100000 in
theorem sb_isLatin1 {γ : Gm} (hG : GF γ) (l : Launch) {h : AH} {sz : Nat} (hT : GT γ) {a v n : Nat} {mb : Int32} (es : h a = some (SBF v n mb)) : MX γ l yJ7_isLatin1 cJ7_isLatin1 1 (some .boolean) 0 0 0 0 [.ref a] h sz (RI h sz (nI (if true = true then 1 else 0))) NX := by
  refine mx_start hG (by decide) (Nat.le_of_ble_eq_true rfl) (fun x C => ?_)
  refine aw_gets C hT.1 q333 (fun _ z => z) dJ7_isLatin1_0 ?_
  refine aw_top (show (1 : Int32) = nI 1 from rfl) ?_
  refine aw_if_eq C (tgt := 17) dJ7_isLatin1_3 (by decide) (fun g1 => ?_) (fun g1 => ?_)
  · first | exact absurd g1 (by decide) | exact absurd (by decide) g1
  · refine aw_aload_n C rfl rfl dJ7_isLatin1_6 ?_
    refine aw_getf C ck13 1 (by decide) q343 (fun _ z => z) es rfl dJ7_isLatin1_7 ?_
    refine aw_top (show (0 : Int32) = nI 0 from rfl) ?_
    refine aw_if_ne C (tgt := 17) dJ7_isLatin1_10 (by decide) (fun g2 => ?_) (fun g2 => ?_)
    · first | exact absurd g2 (by decide) | exact absurd (by decide) g2
    · refine aw_iconst C (v := nI 1) (by decide) dJ7_isLatin1_13 ?_
      refine aw_goto C (tgt := 18) dJ7_isLatin1_14 (by decide) ?_
      exact aw_zret C rfl (by decide) dJ7_isLatin1_18 (Nat.le_refl _) (Nat.le_refl _) ⟨rfl, rfl, rfl⟩
set_option maxRecDepth 100000 in
theorem sb_ens0 {γ : Gm} (hG : GF γ) (l : Launch) {h : AH} {sz : Nat} {a v n cap : Nat} {mb : Int32} {fv : Nat → Int32} (es : h a = some (SBF v n mb)) (ev : h v = some (.inl (1, cap, .inl fv))) (hc9 : cap < 2 ^ 18) {m : Nat} (hm : m ≤ cap) : MX γ l yJ7_ensureCapacityInternal cJ7_ensureCapacityInternal 3 none 3 70 0 0 [.ref a, .int (nI m)] h sz (PE none h sz) NX := by
  refine mx_start hG (by decide) (Nat.le_of_ble_eq_true rfl) (fun x C => ?_)
  refine aw_aload_n C rfl rfl dJ7_ensureCapacityInternal_0 ?_
  refine aw_getf C ck13 0 (by decide) q342 (fun _ z => z) es rfl dJ7_ensureCapacityInternal_1 ?_
  refine aw_alen C (t := 1) (by decide) ev dJ7_ensureCapacityInternal_4 ?_
  refine aw_aload_n C rfl rfl dJ7_ensureCapacityInternal_5 ?_
  refine aw_getf C ck13 1 (by decide) q343 (fun _ z => z) es rfl dJ7_ensureCapacityInternal_6 ?_
  refine aw_top (show (0 : Int32) = nI 0 from rfl) ?_
  refine aw_ishrN C (by omega) (by omega) dJ7_ensureCapacityInternal_9 ?_
  refine aw_top (show _ = nI cap from by rw [Nat.shiftRight_zero]) ?_
  refine aw_istore_n C rfl (by decide) rfl dJ7_ensureCapacityInternal_10 ?_
  refine aw_iload_n C rfl rfl dJ7_ensureCapacityInternal_11 ?_
  refine aw_iload_n C rfl rfl dJ7_ensureCapacityInternal_12 ?_
  refine aw_isub C dJ7_ensureCapacityInternal_13 ?_
  refine aw_if_le C (tgt := 38) dJ7_ensureCapacityInternal_14 (by decide) (fun gD => ?_) (fun gD => ?_)
  · exact aw_vret C rfl dJ7_ensureCapacityInternal_38 (Nat.le_refl _) (Nat.le_refl _) ⟨rfl, rfl, rfl⟩
  · exact absurd (sub_le hm (by omega)) gD
set_option maxRecDepth 100000 in
theorem sb_newCap {γ : Gm} (hG : GF γ) (l : Launch) {h : AH} {sz : Nat} {a v n cap : Nat} {mb : Int32} {fv : Nat → Int32} (es : h a = some (SBF v n mb)) (ev : h v = some (.inl (1, cap, .inl fv))) (hc9 : cap < 2 ^ 18) {m : Nat} (hm : m = cap + 1) : MX γ l yJ7_newCapacity cJ7_newCapacity 6 (some .int) 2 45 0 0 [.ref a, .int (nI m)] h sz (RI h sz (nI (2 * cap + 2))) NX := by
  refine mx_start hG (by decide) (Nat.le_of_ble_eq_true rfl) (fun x C => ?_)
  refine aw_aload_n C rfl rfl dJ7_newCapacity_0 ?_
  refine aw_getf C ck13 0 (by decide) q342 (fun _ z => z) es rfl dJ7_newCapacity_1 ?_
  refine aw_alen C (t := 1) (by decide) ev dJ7_newCapacity_4 ?_
  refine aw_istore_n C rfl (by decide) rfl dJ7_newCapacity_5 ?_
  refine aw_iload_n C rfl rfl dJ7_newCapacity_6 ?_
  refine aw_aload_n C rfl rfl dJ7_newCapacity_7 ?_
  refine aw_getf C ck13 1 (by decide) q343 (fun _ z => z) es rfl dJ7_newCapacity_8 ?_
  refine aw_top (show (0 : Int32) = nI 0 from rfl) ?_
  refine aw_ishlN C (by omega) dJ7_newCapacity_11 ?_
  refine aw_top (show _ = nI m from by rw [Nat.shiftLeft_zero]) ?_
  refine aw_istore_n C rfl (by decide) rfl dJ7_newCapacity_12 ?_
  refine aw_iload_n C rfl rfl dJ7_newCapacity_13 ?_
  refine aw_iload_n C rfl rfl dJ7_newCapacity_14 ?_
  refine aw_isubN C (by omega) dJ7_newCapacity_15 ?_
  refine aw_istore C (by decide) rfl dJ7_newCapacity_16 ?_
  refine aw_iload_n C rfl rfl dJ7_newCapacity_18 ?_
  refine aw_iload C rfl dJ7_newCapacity_19 ?_
  refine aw_iload_n C rfl rfl dJ7_newCapacity_21 ?_
  refine aw_iconst C (v := nI 2) (by decide) dJ7_newCapacity_22 ?_
  refine aw_aload_n C rfl rfl dJ7_newCapacity_23 ?_
  refine aw_getf C ck13 1 (by decide) q343 (fun _ z => z) es rfl dJ7_newCapacity_24 ?_
  refine aw_top (show (0 : Int32) = nI 0 from rfl) ?_
  refine aw_ishlN C (by omega) dJ7_newCapacity_27 ?_
  refine aw_top (show _ = nI 2 from by rw [Nat.shiftLeft_zero]) ?_
  refine aw_iaddN C dJ7_newCapacity_28 ?_
  refine aw_top (show _ = nI (cap + 2) from rfl) ?_
  refine aw_callSRR C (al_newLength hG l (c := cap) (g := m - cap) (p := cap + 2) (by omega) (by omega) (by omega) (by omega)) q377 q378 q111 q379 (n9 := 3) (by decide +kernel) rfl (Nat.le_of_ble_eq_true rfl) (Nat.le_of_ble_eq_true rfl) (Nat.zero_le _) (Nat.zero_le _) rfl (Nat.le_of_ble_eq_true rfl) dJ7_newCapacity_29 ?_
  refine aw_top (show _ = nI (2 * cap + 2) from by unfold nwL; rw [if_pos (by omega)]; congr 1; omega) ?_
  refine aw_istore C (by decide) rfl dJ7_newCapacity_32 ?_
  refine aw_iload C rfl dJ7_newCapacity_34 ?_
  refine aw_ldc C q387 dJ7_newCapacity_36 ?_
  refine aw_top ((show (2147483647 : Int32) = nI 2147483647 from rfl)) ?_
  refine aw_icmpN_ne C (tgt := 51) (by omega) (by omega) dJ7_newCapacity_38 (by decide) (fun gX => ?_) (fun gX => ?_)
  · refine aw_iload C rfl dJ7_newCapacity_51 ?_
    refine aw_aload_n C rfl rfl dJ7_newCapacity_53 ?_
    refine aw_getf C ck13 1 (by decide) q343 (fun _ z => z) es rfl dJ7_newCapacity_54 ?_
    refine aw_top (show (0 : Int32) = nI 0 from rfl) ?_
    refine aw_ishrN C (by omega) (by omega) dJ7_newCapacity_57 ?_
    refine aw_top (show _ = nI (2 * cap + 2) from by rw [Nat.shiftRight_zero]) ?_
    exact aw_iret C rfl dJ7_newCapacity_58 (Nat.le_refl _) (Nat.le_refl _) ⟨rfl, rfl, rfl⟩
  · exact absurd gX (by omega)
set_option maxRecDepth 100000 in
theorem sb_copyOf {γ : Gm} (hG : GF γ) (l : Launch) {h : AH} {sz : Nat} {v cap m : Nat} {fv : Nat → Int32} (ev : h v = some (.inl (1, cap, .inl fv))) (hv : v < sz) (hc9 : cap < m) (hm : m < 2 ^ 21) (hfit : ∀ i, i < cap → fits .byte (.int (fv i)) = true) : MX γ l yJ13_copyOf cJ13_copyOf 3 (some (.array .byte)) 1 40 1 m [.ref v, .int (nI m)] h sz (PE (some (.ref sz)) (hset h sz (.inl (1, m, .inl (va_cpy fv (fun _ => 0) 0 0 cap)))) (sz + 1)) NX := by
  refine mx_start hG (by decide) (Nat.le_of_ble_eq_true rfl) (fun x C => ?_)
  refine aw_iload_n C rfl rfl dJ13_copyOf_0 ?_
  refine aw_aload_n C rfl rfl dJ13_copyOf_1 ?_
  refine aw_alen C (t := 1) (by decide) ev dJ13_copyOf_2 ?_
  refine aw_icmpN_ne C (tgt := 14) (by omega) (by omega) dJ13_copyOf_3 (by decide) (fun g3 => ?_) (fun g3 => ?_)
  · refine aw_iload_n C rfl rfl dJ13_copyOf_14 ?_
    refine aw_newB C q356 (by omega) (by dsimp only; omega) (by dsimp only; omega) dJ13_copyOf_15 ?_
    refine aw_astore_n C rfl (by decide) rfl dJ13_copyOf_17 ?_
    refine aw_aload_n C rfl rfl dJ13_copyOf_18 ?_
    refine aw_iconst C (v := nI 0) (by decide) dJ13_copyOf_19 ?_
    refine aw_aload_n C rfl rfl dJ13_copyOf_20 ?_
    refine aw_iconst C (v := nI 0) (by decide) dJ13_copyOf_21 ?_
    refine aw_aload_n C rfl rfl dJ13_copyOf_22 ?_
    refine aw_alen C (t := 1) (by decide) ((hset_n _ _ (Nat.ne_of_lt hv)).trans ev) dJ13_copyOf_23 ?_
    refine aw_iload_n C rfl rfl dJ13_copyOf_24 ?_
    refine aw_mmin C (by omega) (by omega) q398 qmin1 q112 qmin2 (by dsimp only; omega) (show 4 + 13 ≤ _ by dsimp only; omega) (by dsimp only; omega) (by dsimp only; omega) dJ13_copyOf_25 ?_
    refine aw_top (show _ = nI cap from by first | rfl | (rw [if_neg (by omega)]) | (rw [if_pos (by omega)])) ?_
    refine aw_copyN C q401 q403 q402 q114 (t := 1) (by decide) rfl (Or.inl ((hset_n _ _ (Nat.ne_of_lt hv)).trans ev)) (hset_s _ _ _) (show 0 + cap ≤ cap by omega) (show 0 + cap ≤ m by omega) (by omega) (by omega) (fun i hi => hfit _ (by omega)) (Nat.le_of_ble_eq_true rfl) (Nat.le_of_ble_eq_true rfl) dJ13_copyOf_28 ?_
    rw [hset_hset]
    refine aw_aload_n C rfl rfl dJ13_copyOf_31 ?_
    exact aw_aret C rfl (Or.inr ⟨_, rfl⟩) (Or.inr ⟨_, rfl⟩) dJ13_copyOf_32 (by omega) (by omega) ⟨rfl, rfl, rfl⟩
  · exact absurd g3 (by omega)
set_option maxRecDepth 100000 in
theorem sb_ens1 {γ : Gm} (hG : GF γ) (l : Launch) {h : AH} {sz : Nat} (hS : GSB γ) {a v n cap : Nat} {mb : Int32} {fv : Nat → Int32} (es : h a = some (SBF v n mb)) (ev : h v = some (.inl (1, cap, .inl fv))) (hc9 : cap < 2 ^ 18) (ha : a < sz) (hv : v < sz) (hfit : ∀ i, i < cap → fits .byte (.int (fv i)) = true) {m : Nat} (hm : m = cap + 1) : MX γ l yJ7_ensureCapacityInternal cJ7_ensureCapacityInternal 3 none 3 70 1 (2 * cap + 2) [.ref a, .int (nI m)] h sz (PE none (hset (hset h sz (.inl (1, 2 * cap + 2, .inl (va_cpy fv (fun _ => 0) 0 0 cap)))) a (SBF sz n mb)) (sz + 1)) NX := by
  refine mx_start hG (by decide) (Nat.le_of_ble_eq_true rfl) (fun x C => ?_)
  refine aw_aload_n C rfl rfl dJ7_ensureCapacityInternal_0 ?_
  refine aw_getf C ck13 0 (by decide) q342 (fun _ z => z) es rfl dJ7_ensureCapacityInternal_1 ?_
  refine aw_alen C (t := 1) (by decide) ev dJ7_ensureCapacityInternal_4 ?_
  refine aw_aload_n C rfl rfl dJ7_ensureCapacityInternal_5 ?_
  refine aw_getf C ck13 1 (by decide) q343 (fun _ z => z) es rfl dJ7_ensureCapacityInternal_6 ?_
  refine aw_top (show (0 : Int32) = nI 0 from rfl) ?_
  refine aw_ishrN C (by omega) (by omega) dJ7_ensureCapacityInternal_9 ?_
  refine aw_top (show _ = nI cap from by rw [Nat.shiftRight_zero]) ?_
  refine aw_istore_n C rfl (by decide) rfl dJ7_ensureCapacityInternal_10 ?_
  refine aw_iload_n C rfl rfl dJ7_ensureCapacityInternal_11 ?_
  refine aw_iload_n C rfl rfl dJ7_ensureCapacityInternal_12 ?_
  refine aw_isubN C (by omega) dJ7_ensureCapacityInternal_13 ?_
  refine aw_ifN_le C (tgt := 38) (by omega) dJ7_ensureCapacityInternal_14 (by decide) (fun gD => ?_) (fun gD => ?_)
  · exact absurd gD (by omega)
  · refine aw_aload_n C rfl rfl dJ7_ensureCapacityInternal_17 ?_
    refine aw_aload_n C rfl rfl dJ7_ensureCapacityInternal_18 ?_
    refine aw_getf C ck13 0 (by decide) q342 (fun _ z => z) es rfl dJ7_ensureCapacityInternal_19 ?_
    refine aw_aload_n C rfl rfl dJ7_ensureCapacityInternal_22 ?_
    refine aw_iload_n C rfl rfl dJ7_ensureCapacityInternal_23 ?_
    refine aw_callPV C ck13 (sb_newCap hG l es ev hc9 hm) q373 q2238 hS.2.2 q407 q375 q107 q376 es (n9 := 1) (by decide +kernel) rfl (Nat.le_of_ble_eq_true rfl) (Nat.le_of_ble_eq_true rfl) (by dsimp only; omega) (by dsimp only; omega) rfl (Nat.le_of_ble_eq_true rfl) dJ7_ensureCapacityInternal_24 (fun _ _ _ z => z.elim) (fun v9 h9 sz9 hp9 => ?_)
    obtain ⟨rfl, rfl, rfl⟩ := hp9
    refine aw_top rfl ?_
    refine aw_aload_n C rfl rfl dJ7_ensureCapacityInternal_27 ?_
    refine aw_getf C ck13 1 (by decide) q343 (fun _ z => z) es rfl dJ7_ensureCapacityInternal_28 ?_
    refine aw_top (show (0 : Int32) = nI 0 from rfl) ?_
    refine aw_ishlN C (by omega) dJ7_ensureCapacityInternal_31 ?_
    refine aw_top (show _ = nI (2 * cap + 2) from by rw [Nat.shiftLeft_zero]) ?_
    refine aw_callSPv C (sb_copyOf hG l ev hv (m := 2 * cap + 2) (by omega) (by omega) hfit) q388 q389 q113 q390 (n9 := 2) (by decide +kernel) rfl (Nat.le_of_ble_eq_true rfl) (Nat.le_of_ble_eq_true rfl) (by dsimp only; omega) (by dsimp only; omega) rfl (Nat.le_of_ble_eq_true rfl) dJ7_ensureCapacityInternal_32 ?_
    refine aw_putf C ck13 0 (by decide) q342 (fun _ z => z) rfl rfl (ty := .array .byte) rfl rfl ((hset_n _ _ (by omega)).trans es) (show 0 < 4 by decide) dJ7_ensureCapacityInternal_35 ?_
    exact aw_vret C rfl dJ7_ensureCapacityInternal_38 (by omega) (by omega) ⟨rfl, rfl, rfl⟩
set_option maxRecDepth 100000 in
theorem sb_canEnc {γ : Gm} (hG : GF γ) (l : Launch) {h : AH} {sz : Nat} {c : Nat} (hc : c < 128) : MX γ l yJ15_canEncode cJ15_canEncode 1 (some .boolean) 0 0 0 0 [.int (nI c)] h sz (RI h sz (nI (if true = true then 1 else 0))) NX := by
  refine mx_start hG (by decide) (Nat.le_of_ble_eq_true rfl) (fun x C => ?_)
  refine aw_iload_n C rfl rfl dJ15_canEncode_0 ?_
  refine aw_sipush C (v := nI 255) (by decide) dJ15_canEncode_1 ?_
  refine aw_icmpN_gt C (tgt := 11) (by omega) (by omega) dJ15_canEncode_4 (by decide) (fun g4 => ?_) (fun g4 => ?_)
  · exact absurd g4 (by omega)
  · refine aw_iconst C (v := nI 1) (by decide) dJ15_canEncode_7 ?_
    refine aw_goto C (tgt := 12) dJ15_canEncode_8 (by decide) ?_
    exact aw_zret C rfl (by decide) dJ15_canEncode_12 (Nat.le_refl _) (Nat.le_refl _) ⟨rfl, rfl, rfl⟩
set_option maxRecDepth 100000 in
theorem sb_app0 {γ : Gm} (hG : GF γ) (l : Launch) {h : AH} {sz : Nat} (hS : GSB γ) {a v n cap : Nat} {mb : Int32} {fv : Nat → Int32} (es : h a = some (SBF v n mb)) (ev : h v = some (.inl (1, cap, .inl fv))) (hc9 : cap < 2 ^ 18) (hn : n < cap) {c : Nat} (hc : c < 128) : MX γ l yJ7_append_3 cJ7_append_3 2 (some (.object "java/lang/AbstractStringBuilder")) 6 137 0 0 [.ref a, .int (nI c)] h sz (PE (some (.ref a)) (hset (hset h a (SBF v (n + 1) mb)) v (.inl (1, cap, .inl (upd fv n (nI c))))) sz) NX := by
  refine mx_start hG (by decide) (Nat.le_of_ble_eq_true rfl) (fun x C => ?_)
  refine aw_aload_n C rfl rfl dJ7_append_3_0 ?_
  refine aw_aload_n C rfl rfl dJ7_append_3_1 ?_
  refine aw_getf C ck13 3 (by decide) q346 (fun _ z => z) es rfl dJ7_append_3_2 ?_
  refine aw_iconst C (v := nI 1) (by decide) dJ7_append_3_5 ?_
  refine aw_iaddN C dJ7_append_3_6 ?_
  refine aw_callPV C ck13 (sb_ens0 hG l es ev hc9 (m := n + 1) (by omega)) q369 q2237 hS.2.1 q407 q371 q107 q372 es (n9 := 1) (by decide +kernel) rfl (Nat.le_of_ble_eq_true rfl) (Nat.le_of_ble_eq_true rfl) (by dsimp only; omega) (by dsimp only; omega) rfl (Nat.le_of_ble_eq_true rfl) dJ7_append_3_7 (fun _ _ _ z => z.elim) (fun v9 h9 sz9 hp9 => ?_)
  obtain ⟨rfl, rfl, rfl⟩ := hp9
  refine aw_aload_n C rfl rfl dJ7_append_3_10 ?_
  refine aw_callU C ck13 (xm := ⟨"java/lang/AbstractStringBuilder", "isLatin1", "()Z"⟩) (sb_isLatin1 hG l hS.1 es) q404 q406 q407 q405 q107 q408 rfl es (n9 := 0) (by decide +kernel) rfl (Nat.le_of_ble_eq_true rfl) (Nat.le_of_ble_eq_true rfl) (by dsimp only; omega) (by dsimp only; omega) rfl (Nat.le_of_ble_eq_true rfl) dJ7_append_3_11 (fun _ _ _ z => z.elim) (fun v9 h9 sz9 hp9 => ?_)
  obtain ⟨rfl, rfl, rfl⟩ := hp9
  refine aw_top rfl ?_
  refine aw_bit_eq0 C (tgt := 45) dJ7_append_3_14 (by decide) (fun g14 => ?_) (fun g14 => ?_)
  · exact absurd g14 (by decide)
  · refine aw_iload_n C rfl rfl dJ7_append_3_17 ?_
    refine aw_callSRR C (sb_canEnc hG l hc) q1213 q1214 q116 q1215 (n9 := 1) (by decide +kernel) rfl (Nat.le_of_ble_eq_true rfl) (Nat.le_of_ble_eq_true rfl) (by dsimp only; omega) (by dsimp only; omega) rfl (Nat.le_of_ble_eq_true rfl) dJ7_append_3_18 ?_
    refine aw_bit_eq0 C (tgt := 45) dJ7_append_3_21 (by decide) (fun g21 => ?_) (fun g21 => ?_)
    · exact absurd g21 (by decide)
    · refine aw_aload_n C rfl rfl dJ7_append_3_24 ?_
      refine aw_getf C ck13 0 (by decide) q342 (fun _ z => z) es rfl dJ7_append_3_25 ?_
      refine aw_aload_n C rfl rfl dJ7_append_3_28 ?_
      refine aw_dup C rfl dJ7_append_3_29 ?_
      refine aw_getf C ck13 3 (by decide) q346 (fun _ z => z) es rfl dJ7_append_3_30 ?_
      refine aw_dup_x1 C rfl rfl dJ7_append_3_33 ?_
      refine aw_iconst C (v := nI 1) (by decide) dJ7_append_3_34 ?_
      refine aw_iaddN C dJ7_append_3_35 ?_
      refine aw_putf C ck13 3 (by decide) q346 (fun _ z => z) rfl rfl (ty := .int) rfl rfl es (show 3 < 4 by decide) dJ7_append_3_36 ?_
      refine aw_iload_n C rfl rfl dJ7_append_3_39 ?_
      refine aw_i2b C (b7_i2b hc) dJ7_append_3_40 ?_
      refine aw_bastN C ((hset_n _ _ (ne9 ev es (by intro z; cases z))).trans ev) (by omega) (by omega) dJ7_append_3_41 ?_
      rw [b7_nar hc]
      refine aw_goto C (tgt := 75) dJ7_append_3_42 (by decide) ?_
      refine aw_aload_n C rfl rfl dJ7_append_3_75 ?_
      exact aw_aret C rfl (Or.inl ⟨_, rfl⟩) (Or.inr ⟨_, rfl⟩) dJ7_append_3_76 (by omega) (by omega) ⟨rfl, rfl, rfl⟩
set_option maxRecDepth 100000 in
theorem sb_app1 {γ : Gm} (hG : GF γ) (l : Launch) {h : AH} {sz : Nat} (hS : GSB γ) {a v n cap : Nat} {mb : Int32} {fv : Nat → Int32} (es : h a = some (SBF v n mb)) (ev : h v = some (.inl (1, cap, .inl fv))) (hc9 : cap < 2 ^ 18) (ha : a < sz) (hv : v < sz) (hfit : ∀ i, i < cap → fits .byte (.int (fv i)) = true) (hn : n = cap) {c : Nat} (hc : c < 128) : MX γ l yJ7_append_3 cJ7_append_3 2 (some (.object "java/lang/AbstractStringBuilder")) 6 137 1 (2 * cap + 2) [.ref a, .int (nI c)] h sz (PE (some (.ref a)) (hset (hset (hset h sz (.inl (1, 2 * cap + 2, .inl (va_cpy fv (fun _ => 0) 0 0 cap)))) a (SBF sz (n + 1) mb)) sz (.inl (1, 2 * cap + 2, .inl (upd (va_cpy fv (fun _ => 0) 0 0 cap) n (nI c))))) (sz + 1)) NX := by
  refine mx_start hG (by decide) (Nat.le_of_ble_eq_true rfl) (fun x C => ?_)
  refine aw_aload_n C rfl rfl dJ7_append_3_0 ?_
  refine aw_aload_n C rfl rfl dJ7_append_3_1 ?_
  refine aw_getf C ck13 3 (by decide) q346 (fun _ z => z) es rfl dJ7_append_3_2 ?_
  refine aw_iconst C (v := nI 1) (by decide) dJ7_append_3_5 ?_
  refine aw_iaddN C dJ7_append_3_6 ?_
  refine aw_callPV C ck13 (sb_ens1 hG l hS es ev hc9 ha hv hfit (m := n + 1) (by omega)) q369 q2237 hS.2.1 q407 q371 q107 q372 es (n9 := 1) (by decide +kernel) rfl (Nat.le_of_ble_eq_true rfl) (Nat.le_of_ble_eq_true rfl) (by dsimp only; omega) (by dsimp only; omega) rfl (Nat.le_of_ble_eq_true rfl) dJ7_append_3_7 (fun _ _ _ z => z.elim) (fun v9 h9 sz9 hp9 => ?_)
  obtain ⟨rfl, rfl, rfl⟩ := hp9
  refine aw_aload_n C rfl rfl dJ7_append_3_10 ?_
  refine aw_callU C ck13 (xm := ⟨"java/lang/AbstractStringBuilder", "isLatin1", "()Z"⟩) (sb_isLatin1 hG l hS.1 (hset_s _ _ _)) q404 q406 q407 q405 q107 q408 rfl (hset_s _ _ _) (n9 := 0) (by decide +kernel) rfl (Nat.le_of_ble_eq_true rfl) (Nat.le_of_ble_eq_true rfl) (by dsimp only; omega) (by dsimp only; omega) rfl (Nat.le_of_ble_eq_true rfl) dJ7_append_3_11 (fun _ _ _ z => z.elim) (fun v9 h9 sz9 hp9 => ?_)
  obtain ⟨rfl, rfl, rfl⟩ := hp9
  refine aw_top rfl ?_
  refine aw_bit_eq0 C (tgt := 45) dJ7_append_3_14 (by decide) (fun g14 => ?_) (fun g14 => ?_)
  · exact absurd g14 (by decide)
  · refine aw_iload_n C rfl rfl dJ7_append_3_17 ?_
    refine aw_callSRR C (sb_canEnc hG l hc) q1213 q1214 q116 q1215 (n9 := 1) (by decide +kernel) rfl (Nat.le_of_ble_eq_true rfl) (Nat.le_of_ble_eq_true rfl) (by dsimp only; omega) (by dsimp only; omega) rfl (Nat.le_of_ble_eq_true rfl) dJ7_append_3_18 ?_
    refine aw_bit_eq0 C (tgt := 45) dJ7_append_3_21 (by decide) (fun g21 => ?_) (fun g21 => ?_)
    · exact absurd g21 (by decide)
    · refine aw_aload_n C rfl rfl dJ7_append_3_24 ?_
      refine aw_getf C ck13 0 (by decide) q342 (fun _ z => z) (hset_s _ _ _) rfl dJ7_append_3_25 ?_
      refine aw_aload_n C rfl rfl dJ7_append_3_28 ?_
      refine aw_dup C rfl dJ7_append_3_29 ?_
      refine aw_getf C ck13 3 (by decide) q346 (fun _ z => z) (hset_s _ _ _) rfl dJ7_append_3_30 ?_
      refine aw_dup_x1 C rfl rfl dJ7_append_3_33 ?_
      refine aw_iconst C (v := nI 1) (by decide) dJ7_append_3_34 ?_
      refine aw_iaddN C dJ7_append_3_35 ?_
      refine aw_putf C ck13 3 (by decide) q346 (fun _ z => z) rfl rfl (ty := .int) rfl rfl (hset_s _ _ _) (show 3 < 4 by decide) dJ7_append_3_36 ?_
      refine aw_iload_n C rfl rfl dJ7_append_3_39 ?_
      refine aw_i2b C (b7_i2b hc) dJ7_append_3_40 ?_
      refine aw_bastN C ((hset_n _ _ (by omega)).trans ((hset_n _ _ (by omega)).trans (hset_s _ _ _))) (by omega) (by omega) dJ7_append_3_41 ?_
      rw [b7_nar hc]
      refine aw_goto C (tgt := 75) dJ7_append_3_42 (by decide) ?_
      refine aw_aload_n C rfl rfl dJ7_append_3_75 ?_
      exact aw_aret C rfl (Or.inl ⟨_, rfl⟩) (Or.inr ⟨_, rfl⟩) dJ7_append_3_76 (by omega) (by omega) ⟨rfl, by rw [hset_hset]; rfl, rfl⟩
set_option maxRecDepth 100000 in
theorem sb_add0 {γ : Gm} (hG : GF γ) (l : Launch) {h : AH} {sz : Nat} (hS : GSB γ) {a v n cap : Nat} {mb : Int32} {fv : Nat → Int32} (es : h a = some (SBF v n mb)) (ev : h v = some (.inl (1, cap, .inl fv))) (hc9 : cap < 2 ^ 18) (hn : n < cap) {c : Nat} (hc : c < 128) : MX γ l yJ8_append_3 cJ8_append_3 2 (some (.object "java/lang/StringBuilder")) 7 158 0 0 [.ref a, .int (nI c)] h sz (PE (some (.ref a)) (hset (hset h a (SBF v (n + 1) mb)) v (.inl (1, cap, .inl (upd fv n (nI c))))) sz) NX := by
  refine mx_start hG (by decide) (Nat.le_of_ble_eq_true rfl) (fun x C => ?_)
  refine aw_aload_n C rfl rfl dJ8_append_3_0 ?_
  refine aw_iload_n C rfl rfl dJ8_append_3_1 ?_
  refine aw_callSU C ck13 (sb_app0 hG l hS es ev hc9 hn hc) q1210 q2244 q355 q1211 q107 q1212 es (n9 := 1) (by decide +kernel) rfl (Nat.le_of_ble_eq_true rfl) (Nat.le_of_ble_eq_true rfl) (by dsimp only; omega) (by dsimp only; omega) rfl (Nat.le_of_ble_eq_true rfl) dJ8_append_3_2 (fun _ _ _ z => z.elim) (fun v9 h9 sz9 hp9 => ?_)
  obtain ⟨rfl, rfl, rfl⟩ := hp9
  refine aw_pop C rfl dJ8_append_3_5 ?_
  refine aw_aload_n C rfl rfl dJ8_append_3_6 ?_
  exact aw_aret C rfl (Or.inl ⟨_, rfl⟩) (Or.inr ⟨_, rfl⟩) dJ8_append_3_7 (by omega) (by omega) ⟨rfl, rfl, rfl⟩
set_option maxRecDepth 100000 in
theorem sb_add1 {γ : Gm} (hG : GF γ) (l : Launch) {h : AH} {sz : Nat} (hS : GSB γ) {a v n cap : Nat} {mb : Int32} {fv : Nat → Int32} (es : h a = some (SBF v n mb)) (ev : h v = some (.inl (1, cap, .inl fv))) (hc9 : cap < 2 ^ 18) (ha : a < sz) (hv : v < sz) (hfit : ∀ i, i < cap → fits .byte (.int (fv i)) = true) (hn : n = cap) {c : Nat} (hc : c < 128) : MX γ l yJ8_append_3 cJ8_append_3 2 (some (.object "java/lang/StringBuilder")) 7 158 1 (2 * cap + 2) [.ref a, .int (nI c)] h sz (PE (some (.ref a)) (hset (hset (hset h sz (.inl (1, 2 * cap + 2, .inl (va_cpy fv (fun _ => 0) 0 0 cap)))) a (SBF sz (n + 1) mb)) sz (.inl (1, 2 * cap + 2, .inl (upd (va_cpy fv (fun _ => 0) 0 0 cap) n (nI c))))) (sz + 1)) NX := by
  refine mx_start hG (by decide) (Nat.le_of_ble_eq_true rfl) (fun x C => ?_)
  refine aw_aload_n C rfl rfl dJ8_append_3_0 ?_
  refine aw_iload_n C rfl rfl dJ8_append_3_1 ?_
  refine aw_callSU C ck13 (sb_app1 hG l hS es ev hc9 ha hv hfit hn hc) q1210 q2244 q355 q1211 q107 q1212 es (n9 := 1) (by decide +kernel) rfl (Nat.le_of_ble_eq_true rfl) (Nat.le_of_ble_eq_true rfl) (by dsimp only; omega) (by dsimp only; omega) rfl (Nat.le_of_ble_eq_true rfl) dJ8_append_3_2 (fun _ _ _ z => z.elim) (fun v9 h9 sz9 hp9 => ?_)
  obtain ⟨rfl, rfl, rfl⟩ := hp9
  refine aw_pop C rfl dJ8_append_3_5 ?_
  refine aw_aload_n C rfl rfl dJ8_append_3_6 ?_
  exact aw_aret C rfl (Or.inl ⟨_, rfl⟩) (Or.inr ⟨_, rfl⟩) dJ8_append_3_7 (by omega) (by omega) ⟨rfl, rfl, rfl⟩
set_option maxRecDepth 100000 in
theorem sb_len7 {γ : Gm} (hG : GF γ) (l : Launch) {h : AH} {sz : Nat} {a v n : Nat} {mb : Int32} (es : h a = some (SBF v n mb)) : MX γ l yJ7_length cJ7_length 1 (some .int) 0 0 0 0 [.ref a] h sz (RI h sz (nI n)) NX := by
  refine mx_start hG (by decide) (Nat.le_of_ble_eq_true rfl) (fun x C => ?_)
  refine aw_aload_n C rfl rfl dJ7_length_0 ?_
  refine aw_getf C ck13 3 (by decide) q346 (fun _ z => z) es rfl dJ7_length_1 ?_
  exact aw_iret C rfl dJ7_length_4 (Nat.le_refl _) (Nat.le_refl _) ⟨rfl, rfl, rfl⟩
set_option maxRecDepth 100000 in
theorem sb_length {γ : Gm} (hG : GF γ) (l : Launch) {h : AH} {sz : Nat} {a v n : Nat} {mb : Int32} (es : h a = some (SBF v n mb)) : MX γ l yJ8_length cJ8_length 1 (some .int) 1 20 0 0 [.ref a] h sz (RI h sz (nI n)) NX := by
  refine mx_start hG (by decide) (Nat.le_of_ble_eq_true rfl) (fun x C => ?_)
  refine aw_aload_n C rfl rfl dJ8_length_0 ?_
  refine aw_callSU C ck13 (sb_len7 hG l es) q527 q523 q355 q522 q107 q528 es (n9 := 0) (by decide +kernel) rfl (Nat.le_of_ble_eq_true rfl) (Nat.le_of_ble_eq_true rfl) (by dsimp only; omega) (by dsimp only; omega) rfl (Nat.le_of_ble_eq_true rfl) dJ8_length_1 (fun _ _ _ z => z.elim) (fun v9 h9 sz9 hp9 => ?_)
  obtain ⟨rfl, rfl, rfl⟩ := hp9
  refine aw_top rfl ?_
  exact aw_iret C rfl dJ8_length_4 (by omega) (by omega) ⟨rfl, rfl, rfl⟩
set_option maxRecDepth 100000 in
theorem sb_char7 {γ : Gm} (hG : GF γ) (l : Launch) {h : AH} {sz : Nat} (hT : GT γ) {a v n cap : Nat} {mb : Int32} {fv : Nat → Int32} (es : h a = some (SBF v n mb)) (ev : h v = some (.inl (1, cap, .inl fv))) (hc9 : cap < 2 ^ 18) {i c : Nat} (hi : i < n) (hn : n ≤ cap) (hf1 : c < 128) (hf2 : fv i = nI c) : MX γ l yJ7_charAt cJ7_charAt 5 (some .char) 2 43 0 0 [.ref a, .int (nI i)] h sz (RI h sz (nI c)) NX := by
  refine mx_start hG (by decide) (Nat.le_of_ble_eq_true rfl) (fun x C => ?_)
  refine aw_aload_n C rfl rfl dJ7_charAt_0 ?_
  refine aw_getf C ck13 1 (by decide) q343 (fun _ z => z) es rfl dJ7_charAt_1 ?_
  refine aw_top (show (0 : Int32) = nI 0 from rfl) ?_
  refine aw_istore_n C rfl (by decide) rfl dJ7_charAt_4 ?_
  refine aw_aload_n C rfl rfl dJ7_charAt_5 ?_
  refine aw_getf C ck13 0 (by decide) q342 (fun _ z => z) es rfl dJ7_charAt_6 ?_
  refine aw_astore_n C rfl (by decide) rfl dJ7_charAt_9 ?_
  refine aw_aload_n C rfl rfl dJ7_charAt_10 ?_
  refine aw_getf C ck13 3 (by decide) q346 (fun _ z => z) es rfl dJ7_charAt_11 ?_
  refine aw_aload_n C rfl rfl dJ7_charAt_14 ?_
  refine aw_alen C (t := 1) (by decide) ev dJ7_charAt_15 ?_
  refine aw_iload_n C rfl rfl dJ7_charAt_16 ?_
  refine aw_ishrN C (by omega) (by omega) dJ7_charAt_17 ?_
  refine aw_top (show _ = nI cap from by rw [Nat.shiftRight_zero]) ?_
  refine aw_mmin C (by omega) (by omega) q1771 qmin1 q112 qmin2 (by dsimp only; omega) (show 0 + 13 ≤ _ by dsimp only; omega) (by dsimp only; omega) (by dsimp only; omega) dJ7_charAt_18 ?_
  refine aw_top (show _ = nI n from by first | rfl | (rw [if_neg (by omega)]) | (rw [if_pos (by omega)]; congr 1; omega)) ?_
  refine aw_istore C (by decide) rfl dJ7_charAt_21 ?_
  refine aw_iload_n C rfl rfl dJ7_charAt_23 ?_
  refine aw_iload C rfl dJ7_charAt_24 ?_
  refine aw_callSRN C (sj_check hG l hT (i := i) (n := n) hi (by omega)) q1772 q1223 q109 q1224 (n9 := 2) (by decide +kernel) rfl (Nat.le_of_ble_eq_true rfl) (Nat.le_of_ble_eq_true rfl) (Nat.zero_le _) (Nat.zero_le _) rfl (Nat.le_of_ble_eq_true rfl) dJ7_charAt_26 ?_
  refine aw_iload_n C rfl rfl dJ7_charAt_29 ?_
  refine aw_if_ne C (tgt := 42) dJ7_charAt_30 (by decide) (fun g1 => ?_) (fun g1 => ?_)
  · first | exact absurd g1 (by decide) | exact absurd (by decide) g1
  · refine aw_aload_n C rfl rfl dJ7_charAt_33 ?_
    refine aw_iload_n C rfl rfl dJ7_charAt_34 ?_
    refine aw_baldN C ev (by omega) (by omega) dJ7_charAt_35 ?_
    refine aw_top hf2 ?_
    refine aw_sipush C (v := nI 255) (by decide) dJ7_charAt_36 ?_
    refine aw_iandN C dJ7_charAt_39 ?_
    refine aw_i2c C (ch_conv hf1) dJ7_charAt_40 ?_
    exact aw_zret C rfl (ch_nar hf1) dJ7_charAt_41 (Nat.le_refl _) (Nat.le_refl _) ⟨rfl, rfl, rfl⟩
set_option maxRecDepth 100000 in
theorem sb_charAt {γ : Gm} (hG : GF γ) (l : Launch) {h : AH} {sz : Nat} (hT : GT γ) {a v n cap : Nat} {mb : Int32} {fv : Nat → Int32} (es : h a = some (SBF v n mb)) (ev : h v = some (.inl (1, cap, .inl fv))) (hc9 : cap < 2 ^ 18) {i c : Nat} (hi : i < n) (hn : n ≤ cap) (hf1 : c < 128) (hf2 : fv i = nI c) : MX γ l yJ8_charAt cJ8_charAt 2 (some .char) 3 67 0 0 [.ref a, .int (nI i)] h sz (RI h sz (nI c)) NX := by
  refine mx_start hG (by decide) (Nat.le_of_ble_eq_true rfl) (fun x C => ?_)
  refine aw_aload_n C rfl rfl dJ8_charAt_0 ?_
  refine aw_iload_n C rfl rfl dJ8_charAt_1 ?_
  refine aw_callSU C ck13 (sb_char7 hG l hT es ev hc9 hi hn hf1 hf2) q1768 q2246 q355 q1769 q107 q1770 es (n9 := 1) (by decide +kernel) rfl (Nat.le_of_ble_eq_true rfl) (Nat.le_of_ble_eq_true rfl) (by dsimp only; omega) (by dsimp only; omega) rfl (Nat.le_of_ble_eq_true rfl) dJ8_charAt_2 (fun _ _ _ z => z.elim) (fun v9 h9 sz9 hp9 => ?_)
  obtain ⟨rfl, rfl, rfl⟩ := hp9
  refine aw_top rfl ?_
  exact aw_zret C rfl (ch_nar hf1) dJ8_charAt_5 (by omega) (by omega) ⟨rfl, rfl, rfl⟩
set_option maxRecDepth 100000 in
theorem sb_set7 {γ : Gm} (hG : GF γ) (l : Launch) {h : AH} {sz : Nat} (hS : GSB γ) {a v n cap : Nat} {mb : Int32} {fv : Nat → Int32} (es : h a = some (SBF v n mb)) (ev : h v = some (.inl (1, cap, .inl fv))) (hc9 : cap < 2 ^ 18) (hn9 : n < 2 ^ 20) : MX γ l yJ7_setLength cJ7_setLength 2 none 21 469 0 0 [.ref a, .int (nI 0)] h sz (PE none (hset h a (SBF v 0 (if n = 0 then mb else 1))) sz) NX := by
  refine mx_start hG (by decide) (Nat.le_of_ble_eq_true rfl) (fun x C => ?_)
  refine aw_iload_n C rfl rfl dJ7_setLength_0 ?_
  refine aw_if_ge C (tgt := 13) dJ7_setLength_1 (by decide) (fun g1 => ?_) (fun g1 => ?_)
  · refine aw_aload_n C rfl rfl dJ7_setLength_13 ?_
    refine aw_iload_n C rfl rfl dJ7_setLength_14 ?_
    refine aw_callPV C ck13 (sb_ens0 hG l es ev hc9 (m := 0) (by omega)) q369 q2237 hS.2.1 q407 q371 q107 q372 es (n9 := 1) (by decide +kernel) rfl (Nat.le_of_ble_eq_true rfl) (Nat.le_of_ble_eq_true rfl) (by dsimp only; omega) (by dsimp only; omega) rfl (Nat.le_of_ble_eq_true rfl) dJ7_setLength_15 (fun _ _ _ z => z.elim) (fun v9 h9 sz9 hp9 => ?_)
    obtain ⟨rfl, rfl, rfl⟩ := hp9
    refine aw_aload_n C rfl rfl dJ7_setLength_18 ?_
    refine aw_getf C ck13 3 (by decide) q346 (fun _ z => z) es rfl dJ7_setLength_19 ?_
    refine aw_iload_n C rfl rfl dJ7_setLength_22 ?_
    refine aw_icmpN_ge C (tgt := 63) (by omega) (by omega) dJ7_setLength_23 (by decide) (fun g23 => ?_) (fun g23 => ?_)
    · refine aw_aload_n C rfl rfl dJ7_setLength_63 ?_
      refine aw_getf C ck13 3 (by decide) q346 (fun _ z => z) es rfl dJ7_setLength_64 ?_
      refine aw_iload_n C rfl rfl dJ7_setLength_67 ?_
      refine aw_icmpN_le C (tgt := 76) (by omega) (by omega) dJ7_setLength_68 (by decide) (fun g68 => ?_) (fun g68 => ?_)
      · refine aw_aload_n C rfl rfl dJ7_setLength_76 ?_
        refine aw_iload_n C rfl rfl dJ7_setLength_77 ?_
        refine aw_putf C ck13 3 (by decide) q346 (fun _ z => z) rfl rfl (ty := .int) rfl rfl es (show 3 < 4 by decide) dJ7_setLength_78 ?_
        exact aw_vret C rfl dJ7_setLength_81 (Nat.le_refl _) (Nat.le_refl _) ⟨rfl, by rw [if_pos (by omega)]; rfl, rfl⟩
      · refine aw_aload_n C rfl rfl dJ7_setLength_71 ?_
        refine aw_iconst C (v := nI 1) (by decide) dJ7_setLength_72 ?_
        refine aw_putf C ck13 2 (by decide) q344 (fun _ z => z) rfl rfl (ty := .boolean) rfl rfl es (show 2 < 4 by decide) dJ7_setLength_73 ?_
        refine aw_aload_n C rfl rfl dJ7_setLength_76 ?_
        refine aw_iload_n C rfl rfl dJ7_setLength_77 ?_
        refine aw_putf C ck13 3 (by decide) q346 (fun _ z => z) rfl rfl (ty := .int) rfl rfl (hset_s _ _ _) (show 3 < 4 by decide) dJ7_setLength_78 ?_
        exact aw_vret C rfl dJ7_setLength_81 (Nat.le_refl _) (Nat.le_refl _) ⟨rfl, by rw [if_neg (by omega), hset_hset]; rfl, rfl⟩
    · exact absurd g23 (by omega)
  · first | exact absurd (by decide) g1 | exact absurd g1 (by decide)
set_option maxRecDepth 100000 in
theorem sb_setLength {γ : Gm} (hG : GF γ) (l : Launch) {h : AH} {sz : Nat} (hS : GSB γ) {a v n cap : Nat} {mb : Int32} {fv : Nat → Int32} (es : h a = some (SBF v n mb)) (ev : h v = some (.inl (1, cap, .inl fv))) (hc9 : cap < 2 ^ 18) (hn9 : n < 2 ^ 20) : MX γ l yJ8_setLength cJ8_setLength 2 none 22 490 0 0 [.ref a, .int (nI 0)] h sz (PE none (hset h a (SBF v 0 (if n = 0 then mb else 1))) sz) NX := by
  refine mx_start hG (by decide) (Nat.le_of_ble_eq_true rfl) (fun x C => ?_)
  refine aw_aload_n C rfl rfl dJ8_setLength_0 ?_
  refine aw_iload_n C rfl rfl dJ8_setLength_1 ?_
  refine aw_callSU C ck13 (sb_set7 hG l hS es ev hc9 hn9) q1138 q2243 q355 q1139 q107 q1140 es (n9 := 1) (by decide +kernel) rfl (Nat.le_of_ble_eq_true rfl) (Nat.le_of_ble_eq_true rfl) (by dsimp only; omega) (by dsimp only; omega) rfl (Nat.le_of_ble_eq_true rfl) dJ8_setLength_2 (fun _ _ _ z => z.elim) (fun v9 h9 sz9 hp9 => ?_)
  obtain ⟨rfl, rfl, rfl⟩ := hp9
  exact aw_vret C rfl dJ8_setLength_5 (by omega) (by omega) ⟨rfl, rfl, rfl⟩
