/-! a String out of a builder; equals -/
section RBL
variable {γ : Gm} {l : Launch} {x : WX} {y : MethodName} {cc : ByteArray} {nL : Nat} {ret : Option FieldType} {rm : Room} {et : List ExceptionTableEntry} {Q : State → Prop} {h : AH} {sz k n pc : Nat} {L : LV} {st : List Value}
variable {y9 : MethodName} {b9 : ByteArray} {nL9 : Nat} {ret9 : Option FieldType} {f9 lo9 mc ms index : Nat} {As : List Value} {st0 : List Value} {h' : AH} {sz' : Nat}
/-- what can be read lies below the size -/
theorem aw_rblt (C : Cx γ l x y cc nL ret rm et) {ci N a : Nat} {Cn : String} {T : u_T} {ty : Nat → FieldType} (K : CKF ci Cn T N ty) {fs : List Value} (he : RB γ h a (.inr (ci, fs))) (kk : a < sz → AW γ l x Q nL h sz k n pc L st) : AW γ l x Q nL h sz k n pc L st := fun H locs ls h1 h2 h3 h4 => by
  refine kk ?_ H locs ls h1 h2 h3 h4
  obtain ⟨cell, hc, -⟩ := rep_recvR C h2 h3 K he
  rw [← h1]
  exact (Array.getElem?_eq_some_iff.mp hc).1
end RBL
theorem txt_eq {t1 t2 : List Nat} (hl : t1.length = t2.length) (h : ∀ i, i < t1.length → t1.getD i 0 = t2.getD i 0) : t1 = t2 := by
  refine List.ext_getElem hl (fun i a b => ?_)
  have := h i a
  rw [List.getD_eq_getElem?_getD, List.getD_eq_getElem?_getD, List.getElem?_eq_getElem a, List.getElem?_eq_getElem b] at this
  exact this
set_option maxRecDepth 100000 in
theorem sj_chkLen {γ : Gm} (hG : GF γ) (l : Launch) {h : AH} {sz : Nat} {i n : Nat} (h1 : i ≤ n) (h2 : n < 2 ^ 30) : MX γ l yJ13_checkLength cJ13_checkLength 2 none 10 223 0 0 [.int (nI i), .int (nI n)] h sz (RN h sz) NX := by
  refine mx_start hG (by decide) (Nat.le_of_ble_eq_true rfl) (fun x C => ?_)
  refine aw_iload_n C rfl rfl dJ13_checkLength_0 ?_
  refine aw_iload_n C rfl rfl dJ13_checkLength_1 ?_
  refine aw_icmpN_ge C (tgt := 37) (by omega) (by omega) dJ13_checkLength_2 (by decide) (fun g2 => ?_) (fun g2 => ?_)
  · exact aw_vret C rfl dJ13_checkLength_37 (Nat.le_refl _) (Nat.le_refl _) ⟨rfl, rfl, rfl⟩
  · exact absurd g2 (by omega)
set_option maxRecDepth 100000 in
theorem sj_copyRB {γ : Gm} (hG : GF γ) (l : Launch) {h : AH} {sz : Nat} {v cap n : Nat} {fv : Nat → Int32} (ev : h v = some (.inl (1, cap, .inl fv))) (hv : v < sz) (hn : n ≤ cap) (hc9 : cap < 2 ^ 18) (hfit : ∀ i, fits .byte (.int (fv i)) = true) : MX γ l yJ13_copyOfRangeByte cJ13_copyOfRangeByte 5 (some (.array .byte)) 11 244 1 n [.ref v, .int (nI 0), .int (nI n)] h sz (PE (some (.ref sz)) (hset h sz (.inl (1, n, .inl (va_cpy fv (fun _ => 0) 0 0 n)))) (sz + 1)) NX := by
  refine mx_start hG (by decide) (Nat.le_of_ble_eq_true rfl) (fun x C => ?_)
  refine aw_iload_n C rfl rfl dJ13_copyOfRangeByte_0 ?_
  refine aw_iload_n C rfl rfl dJ13_copyOfRangeByte_1 ?_
  refine aw_callSRN C (sj_chkLen hG l (i := 0) (n := n) (by omega) (by omega)) q536 q537 q113 q538 (n9 := 2) (by decide +kernel) rfl (Nat.le_of_ble_eq_true rfl) (Nat.le_of_ble_eq_true rfl) (by dsimp only; omega) (by dsimp only; omega) rfl (Nat.le_of_ble_eq_true rfl) dJ13_copyOfRangeByte_2 ?_
  refine aw_iload_n C rfl rfl dJ13_copyOfRangeByte_5 ?_
  refine aw_iload_n C rfl rfl dJ13_copyOfRangeByte_6 ?_
  refine aw_isubN C (by omega) dJ13_copyOfRangeByte_7 ?_
  refine aw_top (show _ = nI n from by rw [Nat.sub_zero]) ?_
  refine aw_istore_n C rfl (by decide) rfl dJ13_copyOfRangeByte_8 ?_
  refine aw_iload_n C rfl rfl dJ13_copyOfRangeByte_9 ?_
  refine aw_newB C q356 (by omega) (by dsimp only; omega) (by dsimp only; omega) dJ13_copyOfRangeByte_10 ?_
  refine aw_astore C (by decide) rfl dJ13_copyOfRangeByte_12 ?_
  refine aw_aload_n C rfl rfl dJ13_copyOfRangeByte_14 ?_
  refine aw_iload_n C rfl rfl dJ13_copyOfRangeByte_15 ?_
  refine aw_aload C rfl dJ13_copyOfRangeByte_16 ?_
  refine aw_iconst C (v := nI 0) (by decide) dJ13_copyOfRangeByte_18 ?_
  refine aw_aload_n C rfl rfl dJ13_copyOfRangeByte_19 ?_
  refine aw_alen C (t := 1) (by decide) ((hset_n _ _ (Nat.ne_of_lt hv)).trans ev) dJ13_copyOfRangeByte_20 ?_
  refine aw_top (show _ = nI cap from rfl) ?_
  refine aw_iload_n C rfl rfl dJ13_copyOfRangeByte_21 ?_
  refine aw_isubN C (by omega) dJ13_copyOfRangeByte_22 ?_
  refine aw_iload_n C rfl rfl dJ13_copyOfRangeByte_23 ?_
  refine aw_mmin C (by omega) (by omega) q398 qmin1 q112 qmin2 (by dsimp only; omega) (show 4 + 13 ≤ _ by dsimp only; omega) (by dsimp only; omega) (by dsimp only; omega) dJ13_copyOfRangeByte_24 ?_
  refine aw_top (show _ = nI n from by rw [Nat.sub_zero]; split <;> first | rfl | (congr 1; omega)) ?_
  refine aw_copyN C q401 q403 q402 q114 (t := 1) (by decide) rfl (Or.inl ((hset_n _ _ (Nat.ne_of_lt hv)).trans ev)) (hset_s _ _ _) (show 0 + n ≤ cap by omega) (show 0 + n ≤ n by omega) (by omega) (by omega) (fun i hi => hfit _) (Nat.le_of_ble_eq_true rfl) (Nat.le_of_ble_eq_true rfl) dJ13_copyOfRangeByte_27 ?_
  rw [hset_hset]
  refine aw_aload C rfl dJ13_copyOfRangeByte_30 ?_
  exact aw_aret C rfl (Or.inr ⟨_, rfl⟩) (Or.inr ⟨_, rfl⟩) dJ13_copyOfRangeByte_32 (by omega) (by omega) ⟨rfl, rfl, rfl⟩
set_option maxRecDepth 100000 in
theorem sj_copyR {γ : Gm} (hG : GF γ) (l : Launch) {h : AH} {sz : Nat} {v cap n : Nat} {fv : Nat → Int32} (ev : h v = some (.inl (1, cap, .inl fv))) (hv : v < sz) (hn : n ≤ cap) (hc9 : cap < 2 ^ 18) (hfit : ∀ i, fits .byte (.int (fv i)) = true) : MX γ l yJ13_copyOfRange cJ13_copyOfRange 3 (some (.array .byte)) 12 268 1 n [.ref v, .int (nI 0), .int (nI n)] h sz (fun v9 h' sz' => v9 = some (.ref sz) ∧ sz' = sz + 1 ∧ ∃ f' : Nat → Int32, h' = hset h sz (.inl (1, n, .inl f')) ∧ ∀ i, i < n → f' i = fv i) NX := by
  refine mx_start hG (by decide) (Nat.le_of_ble_eq_true rfl) (fun x C => ?_)
  refine aw_iload_n C rfl rfl dJ13_copyOfRange_0 ?_
  refine aw_if_ne C (tgt := 10) dJ13_copyOfRange_1 (by decide) (fun g1 => ?_) (fun g1 => ?_)
  · first | exact absurd g1 (by decide) | exact absurd (by decide) g1
  · refine aw_iload_n C rfl rfl dJ13_copyOfRange_4 ?_
    refine aw_aload_n C rfl rfl dJ13_copyOfRange_5 ?_
    refine aw_alen C (t := 1) (by decide) ev dJ13_copyOfRange_6 ?_
    refine aw_icmpN_eq C (tgt := 17) (by omega) (by omega) dJ13_copyOfRange_7 (by decide) (fun g7 => ?_) (fun g7 => ?_)
    · refine aw_aload_n C rfl rfl dJ13_copyOfRange_17 ?_
      refine aw_cloneB C q391 q392 q393 q394 q395 q396 ev hfit (Nat.le_of_ble_eq_true rfl) (Nat.le_of_ble_eq_true rfl) (by dsimp only; omega) (by dsimp only; omega) dJ13_copyOfRange_18 ?_
      refine aw_castB C q397 (hset_s _ _ _) dJ13_copyOfRange_21 ?_
      exact aw_aret C rfl (Or.inr ⟨_, rfl⟩) (Or.inr ⟨_, rfl⟩) dJ13_copyOfRange_24 (by omega) (by omega) ⟨rfl, rfl, fv, by rw [g7], fun _ _ => rfl⟩
    · refine aw_aload_n C rfl rfl dJ13_copyOfRange_10 ?_
      refine aw_iload_n C rfl rfl dJ13_copyOfRange_11 ?_
      refine aw_iload_n C rfl rfl dJ13_copyOfRange_12 ?_
      refine aw_callSPv C (sj_copyRB hG l ev hv hn hc9 hfit) q533 q534 q113 q535 (n9 := 3) (by decide +kernel) rfl (Nat.le_of_ble_eq_true rfl) (Nat.le_of_ble_eq_true rfl) (by dsimp only; omega) (by dsimp only; omega) rfl (Nat.le_of_ble_eq_true rfl) dJ13_copyOfRange_13 ?_
      exact aw_aret C rfl (Or.inr ⟨_, rfl⟩) (Or.inr ⟨_, rfl⟩) dJ13_copyOfRange_16 (by omega) (by omega) ⟨rfl, rfl, _, rfl, fun i hi => by unfold va_cpy; rw [if_pos (by omega)]; congr 1; omega⟩
set_option maxRecDepth 100000 in
theorem sb_getValue {γ : Gm} (hG : GF γ) (l : Launch) {h : AH} {sz : Nat} {b v n : Nat} {mb : Int32} (es : h b = some (SBF v n mb)) : MX γ l yJ7_getValue cJ7_getValue 1 (some (.array .byte)) 0 0 0 0 [.ref b] h sz (PE (some (.ref v)) h sz) NX := by
  refine mx_start hG (by decide) (Nat.le_of_ble_eq_true rfl) (fun x C => ?_)
  refine aw_aload_n C rfl rfl dJ7_getValue_0 ?_
  refine aw_getf C ck13 0 (by decide) q342 (fun _ z => z) es rfl dJ7_getValue_1 ?_
  exact aw_aret C rfl (Or.inr ⟨_, rfl⟩) (Or.inr ⟨_, rfl⟩) dJ7_getValue_4 (Nat.le_refl _) (Nat.le_refl _) ⟨rfl, rfl, rfl⟩
set_option maxRecDepth 100000 in
theorem sj_init2 {γ : Gm} (hG : GF γ) (l : Launch) {h : AH} {sz : Nat} (hT : GT γ) {a b v n cap : Nat} {mb : Int32} {fv : Nat → Int32} (ea : h a = some (.inr (14, [.null, .int 0, .int 0, .int 0]))) (es : h b = some (SBF v n mb)) (ev : h v = some (.inl (1, cap, .inl fv))) (ha : a < sz) (hv : v < sz) (hn : n ≤ cap) (hc9 : cap < 2 ^ 18) (hfit : ∀ i, fits .byte (.int (fv i)) = true) : MX γ l yJ9_init_2 cJ9_init_2 5 none 14 315 1 n [.ref a, .ref b, .null] h sz (fun v9 h' sz' => v9 = none ∧ sz' = sz + 1 ∧ ∃ f' : Nat → Int32, h' = hset (hset h sz (.inl (1, n, .inl f'))) a (.inr (14, [.ref sz, .int 0, .int 0, .int 0])) ∧ ∀ i, i < n → f' i = fv i) NX := by
  refine mx_start hG (by decide) (Nat.le_of_ble_eq_true rfl) (fun x C => ?_)
  refine aw_aload_n C rfl rfl dJ9_init_2_0 ?_
  refine aw_objInit C q515 q142 q143 (Nat.le_of_ble_eq_true rfl) (Nat.le_of_ble_eq_true rfl) dJ9_init_2_1 ?_
  refine aw_aload_n C rfl rfl dJ9_init_2_4 ?_
  refine aw_callU C ck13 (xm := ⟨"java/lang/AbstractStringBuilder", "getValue", "()[B"⟩) (sb_getValue hG l es) q516 q518 q519 q517 q107 q520 rfl es (n9 := 0) (by decide +kernel) rfl (Nat.le_of_ble_eq_true rfl) (Nat.le_of_ble_eq_true rfl) (by dsimp only; omega) (by dsimp only; omega) rfl (Nat.le_of_ble_eq_true rfl) dJ9_init_2_5 (fun _ _ _ z => z.elim) (fun v9 h9 sz9 hp9 => ?_)
  obtain ⟨rfl, rfl, rfl⟩ := hp9
  refine aw_astore_n C rfl (by decide) rfl dJ9_init_2_8 ?_
  refine aw_aload_n C rfl rfl dJ9_init_2_9 ?_
  refine aw_callO C ck13 (owner := "java/lang/AbstractStringBuilder") (xm := ⟨"java/lang/AbstractStringBuilder", "length", "()I"⟩) (sb_length hG l es) q521 q523 q522 q524 q525 q108 q526 q528 es (n9 := 0) (by decide +kernel) rfl (Nat.le_of_ble_eq_true rfl) (Nat.le_of_ble_eq_true rfl) (by dsimp only; omega) (by dsimp only; omega) rfl (Nat.le_of_ble_eq_true rfl) dJ9_init_2_10 (fun _ _ _ z => z.elim) (fun v9 h9 sz9 hp9 => ?_)
  obtain ⟨rfl, rfl, rfl⟩ := hp9
  refine aw_top rfl ?_
  refine aw_istore C (by decide) rfl dJ9_init_2_13 ?_
  refine aw_aload_n C rfl rfl dJ9_init_2_15 ?_
  refine aw_callU C ck13 (xm := ⟨"java/lang/AbstractStringBuilder", "isLatin1", "()Z"⟩) (sb_isLatin1 hG l hT es) q529 q406 q407 q405 q107 q408 rfl es (n9 := 0) (by decide +kernel) rfl (Nat.le_of_ble_eq_true rfl) (Nat.le_of_ble_eq_true rfl) (by dsimp only; omega) (by dsimp only; omega) rfl (Nat.le_of_ble_eq_true rfl) dJ9_init_2_16 (fun _ _ _ z => z.elim) (fun v9 h9 sz9 hp9 => ?_)
  obtain ⟨rfl, rfl, rfl⟩ := hp9
  refine aw_top rfl ?_
  refine aw_bit_eq0 C (tgt := 41) dJ9_init_2_19 (by decide) (fun g19 => ?_) (fun g19 => ?_)
  · exact absurd g19 (by decide)
  · refine aw_aload_n C rfl rfl dJ9_init_2_22 ?_
    refine aw_iconst C (v := nI 0) (by decide) dJ9_init_2_23 ?_
    refine aw_putfF C ck14 1 (by decide) q585 (fun _ z => z) rfl rfl rfl (ty := .byte) rfl rfl rfl ea (show 1 < 4 by decide) dJ9_init_2_24 ?_
    refine aw_hp (hset_self ea) ?_
    refine aw_aload_n C rfl rfl dJ9_init_2_27 ?_
    refine aw_aload_n C rfl rfl dJ9_init_2_28 ?_
    refine aw_iconst C (v := nI 0) (by decide) dJ9_init_2_29 ?_
    refine aw_iload C rfl dJ9_init_2_30 ?_
    refine aw_callS C (sj_copyR hG l ev hv hn hc9 hfit) q530 q531 q113 q532 (n9 := 3) (by decide +kernel) rfl (Nat.le_of_ble_eq_true rfl) (Nat.le_of_ble_eq_true rfl) (by dsimp only; omega) (by dsimp only; omega) rfl (Nat.le_of_ble_eq_true rfl) dJ9_init_2_32 (fun _ _ _ z => z.elim) (fun v9 h9 s9 hp => ?_)
    obtain ⟨rfl, rfl, f', rfl, hf'⟩ := hp
    refine aw_putfF C ck14 0 (by decide) q584 (fun _ z => z) rfl rfl rfl (ty := (.array .byte)) rfl rfl rfl ((hset_n _ _ (by omega)).trans ea) (show 0 < 4 by decide) dJ9_init_2_35 ?_
    refine aw_goto C (tgt := 97) dJ9_init_2_38 (by decide) ?_
    exact aw_vret C rfl dJ9_init_2_97 (by omega) (by omega) ⟨rfl, rfl, f', rfl, hf'⟩
set_option maxRecDepth 100000 in
theorem sj_init1 {γ : Gm} (hG : GF γ) (l : Launch) {h : AH} {sz : Nat} (hT : GT γ) {a b v n cap : Nat} {mb : Int32} {fv : Nat → Int32} (ea : h a = some (.inr (14, [.null, .int 0, .int 0, .int 0]))) (es : h b = some (SBF v n mb)) (ev : h v = some (.inl (1, cap, .inl fv))) (ha : a < sz) (hv : v < sz) (hn : n ≤ cap) (hc9 : cap < 2 ^ 18) (hfit : ∀ i, fits .byte (.int (fv i)) = true) : MX γ l yJ9_init cJ9_init 2 none 15 339 1 n [.ref a, .ref b] h sz (fun v9 h' sz' => v9 = none ∧ sz' = sz + 1 ∧ ∃ f' : Nat → Int32, h' = hset (hset h sz (.inl (1, n, .inl f'))) a (.inr (14, [.ref sz, .int 0, .int 0, .int 0])) ∧ ∀ i, i < n → f' i = fv i) NX := by
  refine mx_start hG (by decide) (Nat.le_of_ble_eq_true rfl) (fun x C => ?_)
  refine aw_aload_n C rfl rfl dJ9_init_0 ?_
  refine aw_aload_n C rfl rfl dJ9_init_1 ?_
  refine aw_null C dJ9_init_2 ?_
  refine aw_callI C (sj_init2 hG l hT ea es ev ha hv hn hc9 hfit) q512 q513 q109 q514 rfl (n9 := 2) (by decide +kernel) rfl (Nat.le_of_ble_eq_true rfl) (Nat.le_of_ble_eq_true rfl) (by dsimp only; omega) (by dsimp only; omega) rfl (Nat.le_of_ble_eq_true rfl) dJ9_init_3 (fun _ _ _ z => z.elim) (fun v9 h9 s9 hp => ?_)
  obtain ⟨rfl, rfl, f', rfl, hf'⟩ := hp
  exact aw_vret C rfl dJ9_init_6 (by omega) (by omega) ⟨rfl, rfl, f', rfl, hf'⟩
set_option maxRecDepth 100000 in
theorem sb_toString {γ : Gm} (hG : GF γ) (l : Launch) {h : AH} {sz : Nat} (hT : GT γ) {b v n cap : Nat} {mb : Int32} {fv : Nat → Int32} (es : h b = some (SBF v n mb)) (ev : h v = some (.inl (1, cap, .inl fv))) (hb : b < sz) (hv : v < sz) (hn : n ≤ cap) (hc9 : cap < 2 ^ 18) (hfit : ∀ i, fits .byte (.int (fv i)) = true) : MX γ l yJ8_toString cJ8_toString 1 (some (.object "java/lang/String")) 16 360 2 (4 + n) [.ref b] h sz (fun v9 h' sz' => v9 = some (.ref sz) ∧ sz' = sz + 2 ∧ (∀ q, q < sz → h' q = h q) ∧ h' sz = some (.inr (14, [.ref (sz + 1), .int 0, .int 0, .int 0])) ∧ ∃ f' : Nat → Int32, h' (sz + 1) = some (.inl (1, n, .inl f')) ∧ ∀ i, i < n → f' i = fv i) NX := by
  refine mx_start hG (by decide) (Nat.le_of_ble_eq_true rfl) (fun x C => ?_)
  refine aw_new C ck14 (fs := [.null, .int 0, .int 0, .int 0]) q507 q508 q109 (by decide) (by dsimp only; omega) (by dsimp only; omega) dJ8_toString_0 ?_
  refine aw_dup C rfl dJ8_toString_3 ?_
  refine aw_aload_n C rfl rfl dJ8_toString_4 ?_
  refine aw_callI C (sj_init1 hG l hT (hset_s _ _ _) ((hset_n _ _ (by omega)).trans es) ((hset_n _ _ (by omega)).trans ev) (by omega) (by omega) hn hc9 hfit) q509 q510 q109 q511 rfl (n9 := 1) (by decide +kernel) rfl (Nat.le_of_ble_eq_true rfl) (Nat.le_of_ble_eq_true rfl) (by dsimp only; omega) (by dsimp only; omega) rfl (Nat.le_of_ble_eq_true rfl) dJ8_toString_5 (fun _ _ _ z => z.elim) (fun v9 h9 s9 hp => ?_)
  obtain ⟨rfl, rfl, f', rfl, hf'⟩ := hp
  exact aw_aret C rfl (Or.inl ⟨_, rfl⟩) (Or.inr ⟨_, rfl⟩) dJ8_toString_8 (by omega) (by omega) ⟨rfl, rfl, fun q hq => (hset_n _ _ (by omega)).trans ((hset_n _ _ (by omega)).trans (hset_n _ _ (by omega))), hset_s _ _ _, f', (hset_n _ _ (by omega)).trans (hset_s _ _ _), hf'⟩
set_option maxRecDepth 100000 in
theorem sj_equalsL {γ : Gm} (hG : GF γ) (l : Launch) {h : AH} {sz : Nat} {v1 v2 : Nat} {f1 f2 : Nat → Int32} {t1 t2 : List Nat} (e1 : RB γ h v1 (.inl (1, t1.length, .inl f1))) (e2 : RB γ h v2 (.inl (1, t2.length, .inl f2))) (hn1 : t1.length < 2 ^ 30) (hn2 : t2.length < 2 ^ 30) (hf1 : ∀ i, i < t1.length → f1 i = nI (t1.getD i 0) ∧ t1.getD i 0 < 128) (hf2 : ∀ i, i < t2.length → f2 i = nI (t2.getD i 0) ∧ t2.getD i 0 < 128) : MX γ l yJ15_equals cJ15_equals 3 (some .boolean) 0 0 0 0 [.ref v1, .ref v2] h sz (RI h sz (nI (if decide (t1 = t2) = true then 1 else 0))) NX := by
  refine mx_start hG (by decide) (Nat.le_of_ble_eq_true rfl) (fun x C => ?_)
  refine aw_aload_n C rfl rfl dJ15_equals_0 ?_
  refine aw_alenR C (t := 1) (by decide) e1 dJ15_equals_1 ?_
  refine aw_aload_n C rfl rfl dJ15_equals_2 ?_
  refine aw_alenR C (t := 1) (by decide) e2 dJ15_equals_3 ?_
  refine aw_icmpN_ne C (tgt := 34) (by omega) (by omega) dJ15_equals_4 (by decide) (fun gL => ?_) (fun gL => ?_)
  · refine aw_iconst C (v := nI 0) (by decide) dJ15_equals_34 ?_
    exact aw_zret C rfl (by decide) dJ15_equals_35 (Nat.le_refl _) (Nat.le_refl _) ⟨by rw [if_neg (fun z => gL (by rw [of_decide_eq_true z]))], rfl, rfl⟩
  · refine aw_iconst C (v := nI 0) (by decide) dJ15_equals_7 ?_
    refine aw_istore_n C rfl (by decide) rfl dJ15_equals_8 ?_
    have key : ∀ j k, k ≤ t1.length → t1.length + 1 ≤ k + j → (∀ i, i < k → t1.getD i 0 = t2.getD i 0) → AW γ l x (QX γ x 0 0 (RI h sz (nI (if decide (t1 = t2) = true then 1 else 0))) NX) 3 h sz 0 0 9 [(0, .ref v1), (1, .ref v2), (2, .int (nI k))] [] := by
      intro j
      induction j with
      | zero => intro k h1 h2 hk; exact absurd h2 (by omega)
      | succ j ih =>
        intro k h1 h2 hk
        refine aw_iload_n C rfl rfl dJ15_equals_9 ?_
        refine aw_aload_n C rfl rfl dJ15_equals_10 ?_
        refine aw_alenR C (t := 1) (by decide) e1 dJ15_equals_11 ?_
        refine aw_icmpN_ge C (tgt := 32) (by omega) (by omega) dJ15_equals_12 (by decide) (fun gK => ?_) (fun gK => ?_)
        · refine aw_iconst C (v := nI 1) (by decide) dJ15_equals_32 ?_
          exact aw_zret C rfl (by decide) dJ15_equals_33 (Nat.le_refl _) (Nat.le_refl _) ⟨by rw [if_pos (decide_eq_true (txt_eq gL (fun i hi => hk i (by omega))))], rfl, rfl⟩
        · refine aw_aload_n C rfl rfl dJ15_equals_15 ?_
          refine aw_iload_n C rfl rfl dJ15_equals_16 ?_
          refine aw_baldR C e1 (by omega) (by omega) dJ15_equals_17 ?_
          refine aw_top ((hf1 _ (by omega)).1) ?_
          refine aw_aload_n C rfl rfl dJ15_equals_18 ?_
          refine aw_iload_n C rfl rfl dJ15_equals_19 ?_
          refine aw_baldR C e2 (by omega) (by omega) dJ15_equals_20 ?_
          refine aw_top ((hf2 _ (by omega)).1) ?_
          have hc1 := (hf1 k (by omega)).2
          have hc2 := (hf2 k (by omega)).2
          refine aw_icmpN_eq C (tgt := 26) (by omega) (by omega) dJ15_equals_21 (by decide) (fun gC => ?_) (fun gC => ?_)
          · refine aw_iinc1 C rfl (by decide) rfl dJ15_equals_26 ?_
            refine aw_goto C (tgt := 9) dJ15_equals_29 (by decide) ?_
            exact aw_lo (ih (k + 1) (by omega) (by omega) (fun i hi => by by_cases e : i = k; rw [e]; exact gC; exact hk i (by omega))) ⟨rfl, rfl, rfl, trivial⟩
          · refine aw_iconst C (v := nI 0) (by decide) dJ15_equals_24 ?_
            exact aw_zret C rfl (by decide) dJ15_equals_25 (Nat.le_refl _) (Nat.le_refl _) ⟨by rw [if_neg (fun z => gC (by rw [of_decide_eq_true z]))], rfl, rfl⟩
    exact aw_lo (key (t1.length + 1) 0 (Nat.zero_le _) (by omega) (fun i hi => absurd hi (Nat.not_lt_zero i))) ⟨rfl, rfl, rfl, trivial⟩
set_option maxRecDepth 100000 in
theorem sj_equals {γ : Gm} (hG : GF γ) (l : Launch) {h : AH} {sz : Nat} (hT : GT γ) {v1 v2 : Nat} {a b : Nat} {w1 w2 w3 w4 : Value} (hne : a ≠ b) (ea : RB γ h a (.inr (14, [.ref v1, .int 0, w1, w2]))) (eb : RB γ h b (.inr (14, [.ref v2, .int 0, w3, w4]))) {f1 f2 : Nat → Int32} {t1 t2 : List Nat} (e1 : RB γ h v1 (.inl (1, t1.length, .inl f1))) (e2 : RB γ h v2 (.inl (1, t2.length, .inl f2))) (hn1 : t1.length < 2 ^ 30) (hn2 : t2.length < 2 ^ 30) (hf1 : ∀ i, i < t1.length → f1 i = nI (t1.getD i 0) ∧ t1.getD i 0 < 128) (hf2 : ∀ i, i < t2.length → f2 i = nI (t2.getD i 0) ∧ t2.getD i 0 < 128) : MX γ l yJ9_equals cJ9_equals 3 (some .boolean) 1 22 0 0 [.ref a, .ref b] h sz (RI h sz (nI (if decide (t1 = t2) = true then 1 else 0))) NX := by
  refine mx_start hG (by decide) (Nat.le_of_ble_eq_true rfl) (fun x C => ?_)
  refine aw_aload_n C rfl rfl dJ9_equals_0 ?_
  refine aw_aload_n C rfl rfl dJ9_equals_1 ?_
  refine aw_acmp_ne C (rx := some a) (ry := some b) (tgt := 7) dJ9_equals_2 (by decide) (fun g2 => ?_) (fun g2 => ?_)
  · refine aw_aload_n C rfl rfl dJ9_equals_7 ?_
    refine aw_instSR C ck14 q1334 eb dJ9_equals_8 ?_
    refine aw_top (show (1 : Int32) = nI 1 from rfl) ?_
    refine aw_if_eq C (tgt := 54) dJ9_equals_11 (by decide) (fun g1 => ?_) (fun g1 => ?_)
    · first | exact absurd g1 (by decide) | exact absurd (by decide) g1
    · refine aw_aload_n C rfl rfl dJ9_equals_14 ?_
      refine aw_castSR C ck14 q1334 eb dJ9_equals_15 ?_
      refine aw_astore_n C rfl (by decide) rfl dJ9_equals_18 ?_
      refine aw_gets C hT.1 q443 (fun _ z => z) dJ9_equals_19 ?_
      refine aw_top (show (1 : Int32) = nI 1 from rfl) ?_
      refine aw_if_eq C (tgt := 36) dJ9_equals_22 (by decide) (fun g2 => ?_) (fun g2 => ?_)
      · first | exact absurd g2 (by decide) | exact absurd (by decide) g2
      · refine aw_aload_n C rfl rfl dJ9_equals_25 ?_
        refine aw_getfR C ck14 1 (by decide) q585 (fun _ z => z) ea rfl dJ9_equals_26 ?_
        refine aw_top (show (0 : Int32) = nI 0 from rfl) ?_
        refine aw_aload_n C rfl rfl dJ9_equals_29 ?_
        refine aw_getfR C ck14 1 (by decide) q585 (fun _ z => z) eb rfl dJ9_equals_30 ?_
        refine aw_top (show (0 : Int32) = nI 0 from rfl) ?_
        refine aw_icmpN_ne C (tgt := 54) (by omega) (by omega) dJ9_equals_33 (by decide) (fun g33 => ?_) (fun g33 => ?_)
        · exact absurd rfl g33
        · refine aw_aload_n C rfl rfl dJ9_equals_36 ?_
          refine aw_getfR C ck14 0 (by decide) q584 (fun _ z => z) ea rfl dJ9_equals_37 ?_
          refine aw_aload_n C rfl rfl dJ9_equals_40 ?_
          refine aw_getfR C ck14 0 (by decide) q584 (fun _ z => z) eb rfl dJ9_equals_41 ?_
          refine aw_callSRR C (sj_equalsL hG l e1 e2 hn1 hn2 hf1 hf2) q1335 q1336 q116 q1337 (n9 := 2) (by decide +kernel) rfl (Nat.le_of_ble_eq_true rfl) (Nat.le_of_ble_eq_true rfl) (Nat.zero_le _) (Nat.zero_le _) rfl (Nat.le_of_ble_eq_true rfl) dJ9_equals_44 ?_
          refine aw_bit_eq0 C (tgt := 54) dJ9_equals_47 (by decide) (fun g47 => ?_) (fun g47 => ?_)
          · refine aw_iconst C (v := nI 0) (by decide) dJ9_equals_54 ?_
            exact aw_zret C rfl (by decide) dJ9_equals_55 (Nat.le_refl _) (Nat.le_refl _) ⟨by first | rw [if_pos g47] | rw [if_neg (by rw [g47]; decide)], rfl, rfl⟩
          · refine aw_iconst C (v := nI 1) (by decide) dJ9_equals_50 ?_
            refine aw_goto C (tgt := 55) dJ9_equals_51 (by decide) ?_
            exact aw_zret C rfl (by decide) dJ9_equals_55 (Nat.le_refl _) (Nat.le_refl _) ⟨by first | rw [if_pos g47] | rw [if_neg (by rw [g47]; decide)], rfl, rfl⟩
  · exact absurd (Option.some.inj g2) hne
