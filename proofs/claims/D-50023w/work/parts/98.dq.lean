/-! java.util.ArrayDeque: the history -/
theorem dq_sub9 : ∀ hd, hd < 17 → ∀ t, t < 17 → (if nI t - nI hd < 0 then nI t - nI hd + nI 17 else nI t - nI hd) = nI ((t + 17 - hd) % 17) := by decide +kernel
theorem dq_neg : ∀ t, t < 17 → ((nI t - nI 1 < 0) ↔ t = 0) := by decide +kernel
theorem dq_m1 : ∀ t, t < 17 → ¬ nI t - nI 1 < 0 → nI t - nI 1 = nI ((t + 16) % 17) := by decide +kernel
theorem dq_m0 : ∀ t, t < 17 → nI t - nI 1 < 0 → nI 16 = nI ((t + 16) % 17) := by decide +kernel
/-- the history: boards' addresses from the oldest -/
def DQ (u : CU) (hd : Nat) (hs : List Nat) : Prop := hd < 17 ∧ hs.length ≤ 8 ∧ u.1 4 = nI hd ∧ u.1 5 = nI ((hd + hs.length) % 17) ∧ ∀ i, i < hs.length → u.2.2.2.1 1 ((hd + i) % 17) = some (hs.getD i 0)
theorem cas2 : Cond.castable "ColourDuel$Board" "java/lang/Object" ∈ lw_tbl := q2252
theorem DQ.t {u : CU} {hd : Nat} {hs : List Nat} (h : DQ u hd hs) : (hd + hs.length) % 17 < 17 := Nat.mod_lt _ (by decide)
theorem DQ.add {u : CU} {hd b : Nat} {hs : List Nat} (h : DQ u hd hs) (hl : hs.length < 8) : DQ (cui (cur u 1 (va_up (u.2.2.2.1 1) ((hd + hs.length) % 17) (some b))) 5 (nI (((hd + hs.length) % 17 + 1) % 17))) hd (hs ++ [b]) := by
  obtain ⟨h1, h2, h3, h4, h5⟩ := h
  refine ⟨h1, by simp; omega, h3, ?_, fun i hi => ?_⟩
  · show nI (((hd + hs.length) % 17 + 1) % 17) = nI ((hd + (hs ++ [b]).length) % 17)
    simp only [List.length_append, List.length_cons, List.length_nil]
    congr 1
    omega
  · simp only [List.length_append, List.length_cons, List.length_nil] at hi
    show va_up (u.2.2.2.1 1) ((hd + hs.length) % 17) (some b) ((hd + i) % 17) = _
    by_cases e : i = hs.length
    · rw [e, va_up_self]
      simp
    · rw [va_up_ne _ _ (by omega), h5 i (by omega)]
      simp [List.getElem?_append_left (show i < hs.length by omega)]
theorem DQ.pop {u : CU} {hd b : Nat} {hs : List Nat} (h : DQ u hd (b :: hs)) : u.2.2.2.1 1 hd = some b ∧ DQ (cui (cur u 1 (va_up (u.2.2.2.1 1) hd none)) 4 (nI ((hd + 1) % 17))) ((hd + 1) % 17) hs := by
  obtain ⟨h1, h2, h3, h4, h5⟩ := h
  simp only [List.length_cons] at h2 h4 h5
  refine ⟨?_, Nat.mod_lt _ (by decide), by omega, rfl, ?_, fun i hi => ?_⟩
  · have := h5 0 (by omega)
    rw [Nat.add_zero, Nat.mod_eq_of_lt h1] at this
    exact this
  · show u.1 5 = _
    rw [h4]
    congr 1
    omega
  · show va_up (u.2.2.2.1 1) hd none (((hd + 1) % 17 + i) % 17) = _
    rw [va_up_ne _ _ (by omega)]
    have := h5 (i + 1) (by omega)
    rw [show ((hd + 1) % 17 + i) % 17 = (hd + (i + 1)) % 17 by omega, this]
    rfl
theorem DQ.last {u : CU} {hd b : Nat} {hs : List Nat} (h : DQ u hd (hs ++ [b])) : u.2.2.2.1 1 (((hd + (hs ++ [b]).length) % 17 + 16) % 17) = some b ∧ DQ (cur (cui u 5 (nI (((hd + (hs ++ [b]).length) % 17 + 16) % 17))) 1 (va_up (u.2.2.2.1 1) (((hd + (hs ++ [b]).length) % 17 + 16) % 17) none)) hd hs := by
  obtain ⟨h1, h2, h3, h4, h5⟩ := h
  simp only [List.length_append, List.length_cons, List.length_nil] at h2 h4 h5 ⊢
  refine ⟨?_, h1, by omega, h3, ?_, fun i hi => ?_⟩
  · have := h5 hs.length (by omega)
    rw [show ((hd + (hs.length + (0 + 1))) % 17 + 16) % 17 = (hd + hs.length) % 17 by omega, this]
    simp
  · show nI _ = nI _
    congr 1
    omega
  · show va_up (u.2.2.2.1 1) _ none ((hd + i) % 17) = _
    rw [va_up_ne _ _ (by omega), h5 i (by omega)]
    simp [List.getElem?_append_left (show i < hs.length by omega)]
set_option maxRecDepth 100000 in
theorem dq_inc {γ : Gm} (hG : GF γ) (l : Launch) {h : AH} {sz : Nat} {i : Nat} (hi : i < 17) : MX γ l yJ18_inc cJ18_inc 2 (some .int) 0 0 0 0 [.int (nI i), .int (nI 17)] h sz (RI h sz (nI ((i + 1) % 17))) NX := by
  refine mx_start hG (by decide) (Nat.le_of_ble_eq_true rfl) (fun x C => ?_)
  refine aw_iinc1 C rfl (by decide) rfl dJ18_inc_0 ?_
  refine aw_iload_n C rfl rfl dJ18_inc_3 ?_
  refine aw_iload_n C rfl rfl dJ18_inc_4 ?_
  refine aw_icmpN_lt C (tgt := 10) (by omega) (by omega) dJ18_inc_5 (by decide) (fun g5 => ?_) (fun g5 => ?_)
  · refine aw_iload_n C rfl rfl dJ18_inc_10 ?_
    exact aw_iret C rfl dJ18_inc_11 (Nat.le_refl _) (Nat.le_refl _) ⟨by first | exact congrArg (fun z => some (Value.int (nI z))) (show i + 1 = (i + 1) % 17 by omega) | exact congrArg (fun z => some (Value.int (nI z))) (show 0 = (i + 1) % 17 by omega), rfl, rfl⟩
  · refine aw_iconst C (v := nI 0) (by decide) dJ18_inc_8 ?_
    refine aw_istore_n C rfl (by decide) rfl dJ18_inc_9 ?_
    refine aw_iload_n C rfl rfl dJ18_inc_10 ?_
    exact aw_iret C rfl dJ18_inc_11 (Nat.le_refl _) (Nat.le_refl _) ⟨by first | exact congrArg (fun z => some (Value.int (nI z))) (show i + 1 = (i + 1) % 17 by omega) | exact congrArg (fun z => some (Value.int (nI z))) (show 0 = (i + 1) % 17 by omega), rfl, rfl⟩
set_option maxRecDepth 100000 in
theorem dq_dec {γ : Gm} (hG : GF γ) (l : Launch) {h : AH} {sz : Nat} {i : Nat} (hi : i < 17) : MX γ l yJ18_dec cJ18_dec 2 (some .int) 0 0 0 0 [.int (nI i), .int (nI 17)] h sz (RI h sz (nI ((i + 16) % 17))) NX := by
  refine mx_start hG (by decide) (Nat.le_of_ble_eq_true rfl) (fun x C => ?_)
  refine aw_iincD C rfl (by decide) rfl dJ18_dec_0 ?_
  refine aw_iload_n C rfl rfl dJ18_dec_3 ?_
  refine aw_if_ge C (tgt := 11) dJ18_dec_4 (by decide) (fun g4 => ?_) (fun g4 => ?_)
  · refine aw_iload_n C rfl rfl dJ18_dec_11 ?_
    exact aw_iret C rfl dJ18_dec_12 (Nat.le_refl _) (Nat.le_refl _) ⟨congrArg (fun z => some (Value.int z)) (by first | exact dq_m1 i hi (Int32.not_lt.mpr g4) | exact dq_m1 i hi g4 | exact dq_m0 i hi (Int32.not_le.mp g4) | exact dq_m0 i hi g4), rfl, rfl⟩
  · refine aw_iload_n C rfl rfl dJ18_dec_7 ?_
    refine aw_iconst C (v := nI 1) (by decide) dJ18_dec_8 ?_
    refine aw_isubN C (by omega) dJ18_dec_9 ?_
    refine aw_istore_n C rfl (by decide) rfl dJ18_dec_10 ?_
    refine aw_iload_n C rfl rfl dJ18_dec_11 ?_
    exact aw_iret C rfl dJ18_dec_12 (Nat.le_refl _) (Nat.le_refl _) ⟨congrArg (fun z => some (Value.int z)) (by first | exact dq_m1 i hi (Int32.not_lt.mpr g4) | exact dq_m1 i hi g4 | exact dq_m0 i hi (Int32.not_le.mp g4) | exact dq_m0 i hi g4), rfl, rfl⟩
set_option maxRecDepth 100000 in
theorem dq_sub {γ : Gm} (hG : GF γ) (l : Launch) {h : AH} {sz : Nat} {t hd : Nat} (ht : t < 17) (hh : hd < 17) : MX γ l yJ18_sub cJ18_sub 3 (some .int) 0 0 0 0 [.int (nI t), .int (nI hd), .int (nI 17)] h sz (RI h sz (nI ((t + 17 - hd) % 17))) NX := by
  refine mx_start hG (by decide) (Nat.le_of_ble_eq_true rfl) (fun x C => ?_)
  have hq := dq_sub9 hd hh t ht
  refine aw_iload_n C rfl rfl dJ18_sub_0 ?_
  refine aw_iload_n C rfl rfl dJ18_sub_1 ?_
  refine aw_isub C dJ18_sub_2 ?_
  refine aw_dup C rfl dJ18_sub_3 ?_
  refine aw_istore_n C rfl (by decide) rfl dJ18_sub_4 ?_
  refine aw_if_ge C (tgt := 12) dJ18_sub_5 (by decide) (fun g5 => ?_) (fun g5 => ?_)
  · refine aw_iload_n C rfl rfl dJ18_sub_12 ?_
    exact aw_iret C rfl dJ18_sub_13 (Nat.le_refl _) (Nat.le_refl _) ⟨by first | (rw [if_pos g5] at hq; rw [← hq]; done) | (rw [if_neg g5] at hq; rw [← hq]; done) | (rw [if_pos (Int32.not_le.mp g5)] at hq; rw [← hq]; done) | (rw [if_neg (Int32.not_lt.mpr g5)] at hq; rw [← hq]; done), rfl, rfl⟩
  · refine aw_iload_n C rfl rfl dJ18_sub_8 ?_
    refine aw_iload_n C rfl rfl dJ18_sub_9 ?_
    refine aw_iadd C dJ18_sub_10 ?_
    refine aw_istore_n C rfl (by decide) rfl dJ18_sub_11 ?_
    refine aw_iload_n C rfl rfl dJ18_sub_12 ?_
    exact aw_iret C rfl dJ18_sub_13 (Nat.le_refl _) (Nat.le_refl _) ⟨by first | (rw [if_pos g5] at hq; rw [← hq]; done) | (rw [if_neg g5] at hq; rw [← hq]; done) | (rw [if_pos (Int32.not_le.mp g5)] at hq; rw [← hq]; done) | (rw [if_neg (Int32.not_lt.mpr g5)] at hq; rw [← hq]; done), rfl, rfl⟩
set_option maxRecDepth 100000 in
theorem dq_size {γ : Gm} (hG : GF γ) (l : Launch) {o : Nat} {u : CU} {g : AH} {sz : Nat} {hd t : Nat} (hh : u.1 4 = nI hd) (ht : u.1 5 = nI t) (h17 : hd < 17) (t17 : t < 17) : MX γ l yJ18_size cJ18_size 1 (some .int) 1 22 0 0 [.ref (o + 28)] (ch o u g) sz (RI (ch o u g) sz (nI ((t + 17 - hd) % 17))) NX := by
  refine mx_start hG (by decide) (Nat.le_of_ble_eq_true rfl) (fun x C => ?_)
  refine aw_aload_n C rfl rfl dJ18_size_0 ?_
  refine aw_getf C ck15 2 (by decide) q653 (fun _ z => z) (ch_at (i := 28) rfl) rfl dJ18_size_1 ?_
  refine aw_top (ht) ?_
  refine aw_aload_n C rfl rfl dJ18_size_4 ?_
  refine aw_getf C ck15 1 (by decide) q652 (fun _ z => z) (ch_at (i := 28) rfl) rfl dJ18_size_5 ?_
  refine aw_top (hh) ?_
  refine aw_aload_n C rfl rfl dJ18_size_8 ?_
  refine aw_getf C ck15 0 (by decide) q651 (fun _ z => z) (ch_at (i := 28) rfl) rfl dJ18_size_9 ?_
  refine aw_alen C (t := 4) (by decide) (ch_at (i := 29) rfl) dJ18_size_12 ?_
  refine aw_top (show _ = nI 17 from rfl) ?_
  refine aw_callSRR C (dq_sub hG l t17 h17) q1453 q1454 q119 q1455 (n9 := 3) (by decide +kernel) rfl (Nat.le_of_ble_eq_true rfl) (Nat.le_of_ble_eq_true rfl) (Nat.zero_le _) (Nat.zero_le _) rfl (Nat.le_of_ble_eq_true rfl) dJ18_size_13 ?_
  exact aw_iret C rfl dJ18_size_16 (Nat.le_refl _) (Nat.le_refl _) ⟨rfl, rfl, rfl⟩
set_option maxRecDepth 100000 in
theorem dq_isEmpty {γ : Gm} (hG : GF γ) (l : Launch) {o : Nat} {u : CU} {g : AH} {sz : Nat} {hd t : Nat} (hh : u.1 4 = nI hd) (ht : u.1 5 = nI t) (h17 : hd < 17) (t17 : t < 17) : MX γ l yJ18_isEmpty cJ18_isEmpty 1 (some .boolean) 0 0 0 0 [.ref (o + 28)] (ch o u g) sz (RI (ch o u g) sz (nI (if decide (hd = t) = true then 1 else 0))) NX := by
  refine mx_start hG (by decide) (Nat.le_of_ble_eq_true rfl) (fun x C => ?_)
  refine aw_aload_n C rfl rfl dJ18_isEmpty_0 ?_
  refine aw_getf C ck15 1 (by decide) q652 (fun _ z => z) (ch_at (i := 28) rfl) rfl dJ18_isEmpty_1 ?_
  refine aw_top (hh) ?_
  refine aw_aload_n C rfl rfl dJ18_isEmpty_4 ?_
  refine aw_getf C ck15 2 (by decide) q653 (fun _ z => z) (ch_at (i := 28) rfl) rfl dJ18_isEmpty_5 ?_
  refine aw_top (ht) ?_
  refine aw_icmpN_ne C (tgt := 15) (by omega) (by omega) dJ18_isEmpty_8 (by decide) (fun g8 => ?_) (fun g8 => ?_)
  · refine aw_iconst C (v := nI 0) (by decide) dJ18_isEmpty_15 ?_
    exact aw_zret C rfl (by decide) dJ18_isEmpty_16 (Nat.le_refl _) (Nat.le_refl _) ⟨by first | rw [if_pos (decide_eq_true g8)] | rw [if_neg (fun z => g8 (of_decide_eq_true z))], rfl, rfl⟩
  · refine aw_iconst C (v := nI 1) (by decide) dJ18_isEmpty_11 ?_
    refine aw_goto C (tgt := 16) dJ18_isEmpty_12 (by decide) ?_
    exact aw_zret C rfl (by decide) dJ18_isEmpty_16 (Nat.le_refl _) (Nat.le_refl _) ⟨by first | rw [if_pos (decide_eq_true g8)] | rw [if_neg (fun z => g8 (of_decide_eq_true z))], rfl, rfl⟩
set_option maxRecDepth 100000 in
theorem dq_elementAt {γ : Gm} (hG : GF γ) (l : Launch) {h : AH} {sz : Nat} {e i z : Nat} {f : Nat → Option Nat} (ee : h e = some (rfs 4 17 f)) (hi : i < 17) (hz : f i = some z) : MX γ l yJ18_elementAt cJ18_elementAt 2 (some (.object "java/lang/Object")) 0 0 0 0 [.ref e, .int (nI i)] h sz (PE (some (.ref z)) h sz) NX := by
  refine mx_start hG (by decide) (Nat.le_of_ble_eq_true rfl) (fun x C => ?_)
  refine aw_aload_n C rfl rfl dJ18_elementAt_0 ?_
  refine aw_iload_n C rfl rfl dJ18_elementAt_1 ?_
  refine aw_aaldS C (t := 4) (by decide) rfl ee hi (by decide) hz dJ18_elementAt_2 ?_
  exact aw_aret C rfl (Or.inl ⟨_, rfl⟩) (Or.inr ⟨_, rfl⟩) dJ18_elementAt_3 (Nat.le_refl _) (Nat.le_refl _) ⟨rfl, rfl, rfl⟩
set_option maxRecDepth 100000 in
theorem dq_addLast {γ : Gm} (hG : GF γ) (l : Launch) {o : Nat} {u : CU} {g : AH} {sz : Nat} {hd t : Nat} (hh : u.1 4 = nI hd) (ht : u.1 5 = nI t) (h17 : hd < 17) (t17 : t < 17) {bq : Nat} {fs : List Value} (hbq : ch o u g bq = some (.inr (2, fs))) (hne : (t + 1) % 17 ≠ hd) : MX γ l yJ18_addLast cJ18_addLast 3 none 7 176 0 0 [.ref (o + 28), .ref bq] (ch o u g) sz (PE none (ch o (cui (cur u 1 (va_up (u.2.2.2.1 1) t (some bq))) 5 (nI ((t + 1) % 17))) g) sz) NX := by
  refine mx_start hG (by decide) (Nat.le_of_ble_eq_true rfl) (fun x C => ?_)
  refine aw_aload_n C rfl rfl dJ18_addLast_0 ?_
  refine aw_ifnonnull C (tgt := 12) dJ18_addLast_1 (by decide) ?_
  refine aw_aload_n C rfl rfl dJ18_addLast_12 ?_
  refine aw_getf C ck15 0 (by decide) q651 (fun _ z => z) (ch_at (i := 28) rfl) rfl dJ18_addLast_13 ?_
  refine aw_astore_n C rfl (by decide) rfl dJ18_addLast_16 ?_
  refine aw_aload_n C rfl rfl dJ18_addLast_17 ?_
  refine aw_aload_n C rfl rfl dJ18_addLast_18 ?_
  refine aw_getf C ck15 2 (by decide) q653 (fun _ z => z) (ch_at (i := 28) rfl) rfl dJ18_addLast_19 ?_
  refine aw_top (ht) ?_
  refine aw_aload_n C rfl rfl dJ18_addLast_22 ?_
  refine cw_elems C t17 hbq cas2 dJ18_addLast_23 ?_
  refine aw_aload_n C rfl rfl dJ18_addLast_24 ?_
  refine aw_getf C ck15 1 (by decide) q652 (fun _ z => z) (ch_at (i := 28) rfl) rfl dJ18_addLast_25 ?_
  refine aw_top (hh) ?_
  refine aw_aload_n C rfl rfl dJ18_addLast_28 ?_
  refine aw_aload_n C rfl rfl dJ18_addLast_29 ?_
  refine aw_getf C ck15 2 (by decide) q653 (fun _ z => z) (ch_at (i := 28) rfl) rfl dJ18_addLast_30 ?_
  refine aw_top (ht) ?_
  refine aw_aload_n C rfl rfl dJ18_addLast_33 ?_
  refine aw_alen C (t := 4) (by decide) (ch_at (i := 29) rfl) dJ18_addLast_34 ?_
  refine aw_top (show _ = nI 17 from rfl) ?_
  refine aw_callSRR C (dq_inc hG l t17) q1467 q1468 q119 q1469 (n9 := 2) (by decide +kernel) rfl (Nat.le_of_ble_eq_true rfl) (Nat.le_of_ble_eq_true rfl) (Nat.zero_le _) (Nat.zero_le _) rfl (Nat.le_of_ble_eq_true rfl) dJ18_addLast_35 ?_
  refine aw_dup_x1 C rfl rfl dJ18_addLast_38 ?_
  refine cw_tail C q653 dJ18_addLast_39 ?_
  refine aw_icmpN_ne C (tgt := 50) (by omega) (by omega) dJ18_addLast_42 (by decide) (fun g42 => ?_) (fun g42 => ?_)
  · exact aw_vret C rfl dJ18_addLast_50 (Nat.le_refl _) (Nat.le_refl _) ⟨rfl, rfl, rfl⟩
  · exact absurd g42 (by omega)
set_option maxRecDepth 100000 in
theorem dq_pollFirst {γ : Gm} (hG : GF γ) (l : Launch) {o : Nat} {u : CU} {g : AH} {sz : Nat} {hd t : Nat} (hh : u.1 4 = nI hd) (ht : u.1 5 = nI t) (h17 : hd < 17) (t17 : t < 17) {z : Nat} (hz : u.2.2.2.1 1 hd = some z) : MX γ l yJ18_pollFirst cJ18_pollFirst 4 (some (.object "java/lang/Object")) 1 21 0 0 [.ref (o + 28)] (ch o u g) sz (PE (some (.ref z)) (ch o (cui (cur u 1 (va_up (u.2.2.2.1 1) hd none)) 4 (nI ((hd + 1) % 17))) g) sz) NX := by
  refine mx_start hG (by decide) (Nat.le_of_ble_eq_true rfl) (fun x C => ?_)
  refine aw_aload_n C rfl rfl dJ18_pollFirst_0 ?_
  refine aw_getf C ck15 0 (by decide) q651 (fun _ z => z) (ch_at (i := 28) rfl) rfl dJ18_pollFirst_1 ?_
  refine aw_dup C rfl dJ18_pollFirst_4 ?_
  refine aw_astore_n C rfl (by decide) rfl dJ18_pollFirst_5 ?_
  refine aw_aload_n C rfl rfl dJ18_pollFirst_6 ?_
  refine aw_getf C ck15 1 (by decide) q652 (fun _ z => z) (ch_at (i := 28) rfl) rfl dJ18_pollFirst_7 ?_
  refine aw_top (hh) ?_
  refine aw_dup C rfl dJ18_pollFirst_10 ?_
  refine aw_istore_n C rfl (by decide) rfl dJ18_pollFirst_11 ?_
  refine aw_callSPv C (dq_elementAt hG l (ch_at (i := 29) rfl) h17 hz) q1464 q1465 q119 q1466 (n9 := 2) (by decide +kernel) rfl (Nat.le_of_ble_eq_true rfl) (Nat.le_of_ble_eq_true rfl) (Nat.zero_le _) (Nat.zero_le _) rfl (Nat.le_of_ble_eq_true rfl) dJ18_pollFirst_12 ?_
  refine aw_astore_n C rfl (by decide) rfl dJ18_pollFirst_15 ?_
  refine aw_aload_n C rfl rfl dJ18_pollFirst_16 ?_
  refine aw_ifnull C dJ18_pollFirst_17 ?_
  refine aw_aload_n C rfl rfl dJ18_pollFirst_20 ?_
  refine aw_iload_n C rfl rfl dJ18_pollFirst_21 ?_
  refine aw_null C dJ18_pollFirst_22 ?_
  refine cw_elemsN C h17 dJ18_pollFirst_23 ?_
  refine aw_aload_n C rfl rfl dJ18_pollFirst_24 ?_
  refine aw_iload_n C rfl rfl dJ18_pollFirst_25 ?_
  refine aw_aload_n C rfl rfl dJ18_pollFirst_26 ?_
  refine aw_alen C (t := 4) (by decide) (ch_at (i := 29) rfl) dJ18_pollFirst_27 ?_
  refine aw_top (show _ = nI 17 from rfl) ?_
  refine aw_callSRR C (dq_inc hG l h17) q1467 q1468 q119 q1469 (n9 := 2) (by decide +kernel) rfl (Nat.le_of_ble_eq_true rfl) (Nat.le_of_ble_eq_true rfl) (Nat.zero_le _) (Nat.zero_le _) rfl (Nat.le_of_ble_eq_true rfl) dJ18_pollFirst_28 ?_
  refine cw_head C q652 dJ18_pollFirst_31 ?_
  refine aw_aload_n C rfl rfl dJ18_pollFirst_34 ?_
  exact aw_aret C rfl (Or.inl ⟨_, rfl⟩) (Or.inr ⟨_, rfl⟩) dJ18_pollFirst_35 (Nat.le_refl _) (Nat.le_refl _) ⟨rfl, rfl, rfl⟩
set_option maxRecDepth 100000 in
theorem dq_pollLast {γ : Gm} (hG : GF γ) (l : Launch) {o : Nat} {u : CU} {g : AH} {sz : Nat} {hd t : Nat} (hh : u.1 4 = nI hd) (ht : u.1 5 = nI t) (h17 : hd < 17) (t17 : t < 17) {z : Nat} (hz : u.2.2.2.1 1 ((t + 16) % 17) = some z) : MX γ l yJ18_pollLast cJ18_pollLast 4 (some (.object "java/lang/Object")) 1 21 0 0 [.ref (o + 28)] (ch o u g) sz (PE (some (.ref z)) (ch o (cur (cui u 5 (nI ((t + 16) % 17))) 1 (va_up (u.2.2.2.1 1) ((t + 16) % 17) none)) g) sz) NX := by
  refine mx_start hG (by decide) (Nat.le_of_ble_eq_true rfl) (fun x C => ?_)
  refine aw_aload_n C rfl rfl dJ18_pollLast_0 ?_
  refine aw_getf C ck15 0 (by decide) q651 (fun _ z => z) (ch_at (i := 28) rfl) rfl dJ18_pollLast_1 ?_
  refine aw_dup C rfl dJ18_pollLast_4 ?_
  refine aw_astore_n C rfl (by decide) rfl dJ18_pollLast_5 ?_
  refine aw_aload_n C rfl rfl dJ18_pollLast_6 ?_
  refine aw_getf C ck15 2 (by decide) q653 (fun _ z => z) (ch_at (i := 28) rfl) rfl dJ18_pollLast_7 ?_
  refine aw_top (ht) ?_
  refine aw_aload_n C rfl rfl dJ18_pollLast_10 ?_
  refine aw_alen C (t := 4) (by decide) (ch_at (i := 29) rfl) dJ18_pollLast_11 ?_
  refine aw_top (show _ = nI 17 from rfl) ?_
  refine aw_callSRR C (dq_dec hG l t17) q1793 q1794 q119 q1795 (n9 := 2) (by decide +kernel) rfl (Nat.le_of_ble_eq_true rfl) (Nat.le_of_ble_eq_true rfl) (Nat.zero_le _) (Nat.zero_le _) rfl (Nat.le_of_ble_eq_true rfl) dJ18_pollLast_12 ?_
  refine aw_dup C rfl dJ18_pollLast_15 ?_
  refine aw_istore_n C rfl (by decide) rfl dJ18_pollLast_16 ?_
  refine aw_callSPv C (dq_elementAt hG l (ch_at (i := 29) rfl) (Nat.mod_lt _ (by decide)) hz) q1464 q1465 q119 q1466 (n9 := 2) (by decide +kernel) rfl (Nat.le_of_ble_eq_true rfl) (Nat.le_of_ble_eq_true rfl) (Nat.zero_le _) (Nat.zero_le _) rfl (Nat.le_of_ble_eq_true rfl) dJ18_pollLast_17 ?_
  refine aw_astore_n C rfl (by decide) rfl dJ18_pollLast_20 ?_
  refine aw_aload_n C rfl rfl dJ18_pollLast_21 ?_
  refine aw_ifnull C dJ18_pollLast_22 ?_
  refine aw_aload_n C rfl rfl dJ18_pollLast_25 ?_
  refine aw_aload_n C rfl rfl dJ18_pollLast_26 ?_
  refine aw_iload_n C rfl rfl dJ18_pollLast_27 ?_
  refine aw_dup_x1 C rfl rfl dJ18_pollLast_28 ?_
  refine cw_tail C q653 dJ18_pollLast_29 ?_
  refine aw_null C dJ18_pollLast_32 ?_
  refine cw_elemsN C (Nat.mod_lt _ (by decide)) dJ18_pollLast_33 ?_
  refine aw_aload_n C rfl rfl dJ18_pollLast_34 ?_
  exact aw_aret C rfl (Or.inl ⟨_, rfl⟩) (Or.inr ⟨_, rfl⟩) dJ18_pollLast_35 (Nat.le_refl _) (Nat.le_refl _) ⟨rfl, rfl, rfl⟩
set_option maxRecDepth 100000 in
theorem dq_removeFirst {γ : Gm} (hG : GF γ) (l : Launch) {o : Nat} {u : CU} {g : AH} {sz : Nat} {hd t : Nat} (hh : u.1 4 = nI hd) (ht : u.1 5 = nI t) (h17 : hd < 17) (t17 : t < 17) {z : Nat} (hz : u.2.2.2.1 1 hd = some z) : MX γ l yJ18_removeFirst cJ18_removeFirst 2 (some (.object "java/lang/Object")) 5 120 0 0 [.ref (o + 28)] (ch o u g) sz (PE (some (.ref z)) (ch o (cui (cur u 1 (va_up (u.2.2.2.1 1) hd none)) 4 (nI ((hd + 1) % 17))) g) sz) NX := by
  refine mx_start hG (by decide) (Nat.le_of_ble_eq_true rfl) (fun x C => ?_)
  refine aw_aload_n C rfl rfl dJ18_removeFirst_0 ?_
  refine aw_callVPv C ck15 (dq_pollFirst hG l hh ht h17 t17 hz) q1460 q1461 q1462 q119 q1463 (ch_at (i := 28) rfl) (n9 := 0) (by decide +kernel) rfl (Nat.le_of_ble_eq_true rfl) (Nat.le_of_ble_eq_true rfl) (Nat.zero_le _) (Nat.zero_le _) rfl (Nat.le_of_ble_eq_true rfl) dJ18_removeFirst_1 ?_
  refine aw_astore_n C rfl (by decide) rfl dJ18_removeFirst_4 ?_
  refine aw_aload_n C rfl rfl dJ18_removeFirst_5 ?_
  refine aw_ifnonnull C (tgt := 17) dJ18_removeFirst_6 (by decide) ?_
  refine aw_aload_n C rfl rfl dJ18_removeFirst_17 ?_
  exact aw_aret C rfl (Or.inl ⟨_, rfl⟩) (Or.inr ⟨_, rfl⟩) dJ18_removeFirst_18 (Nat.le_refl _) (Nat.le_refl _) ⟨rfl, rfl, rfl⟩
set_option maxRecDepth 100000 in
theorem dq_removeLast {γ : Gm} (hG : GF γ) (l : Launch) {o : Nat} {u : CU} {g : AH} {sz : Nat} {hd t : Nat} (hh : u.1 4 = nI hd) (ht : u.1 5 = nI t) (h17 : hd < 17) (t17 : t < 17) {z : Nat} (hz : u.2.2.2.1 1 ((t + 16) % 17) = some z) : MX γ l yJ18_removeLast cJ18_removeLast 2 (some (.object "java/lang/Object")) 5 120 0 0 [.ref (o + 28)] (ch o u g) sz (PE (some (.ref z)) (ch o (cur (cui u 5 (nI ((t + 16) % 17))) 1 (va_up (u.2.2.2.1 1) ((t + 16) % 17) none)) g) sz) NX := by
  refine mx_start hG (by decide) (Nat.le_of_ble_eq_true rfl) (fun x C => ?_)
  refine aw_aload_n C rfl rfl dJ18_removeLast_0 ?_
  refine aw_callVPv C ck15 (dq_pollLast hG l hh ht h17 t17 hz) q1789 q1790 q1791 q119 q1792 (ch_at (i := 28) rfl) (n9 := 0) (by decide +kernel) rfl (Nat.le_of_ble_eq_true rfl) (Nat.le_of_ble_eq_true rfl) (Nat.zero_le _) (Nat.zero_le _) rfl (Nat.le_of_ble_eq_true rfl) dJ18_removeLast_1 ?_
  refine aw_astore_n C rfl (by decide) rfl dJ18_removeLast_4 ?_
  refine aw_aload_n C rfl rfl dJ18_removeLast_5 ?_
  refine aw_ifnonnull C (tgt := 17) dJ18_removeLast_6 (by decide) ?_
  refine aw_aload_n C rfl rfl dJ18_removeLast_17 ?_
  exact aw_aret C rfl (Or.inl ⟨_, rfl⟩) (Or.inr ⟨_, rfl⟩) dJ18_removeLast_18 (Nat.le_refl _) (Nat.le_refl _) ⟨rfl, rfl, rfl⟩
