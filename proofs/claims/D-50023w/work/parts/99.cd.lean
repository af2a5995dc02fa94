/-! write, append -/
/-- the shifts -/
def shv (m : Nat) : Int32 := nI 24 - nI (8 * m)
theorem shv_0 : ∀ m, m < 5 → ((shv m < 0) ↔ m = 4) := by decide +kernel
theorem shv_s : ∀ m, m < 4 → shv m + Int32.ofInt (-8) = shv (m + 1) ∧ shv m = nI (24 - 8 * m) := by decide +kernel
theorem b8_and (x : Int32) : (x &&& nI 255).toInt8 = x.toInt8 := by
  apply Int8.toBitVec_inj.1
  show (x.toBitVec &&& BitVec.ofNat 32 255).signExtend 8 = x.toBitVec.signExtend 8
  apply BitVec.eq_of_getLsbD_eq
  intro i hi
  rw [BitVec.getLsbD_signExtend, BitVec.getLsbD_signExtend, if_pos (by omega), if_pos (by omega), BitVec.getLsbD_and]
  have : (BitVec.ofNat 32 255).getLsbD i = true := by
    have h : ∀ i, i < 8 → (BitVec.ofNat 32 255).getLsbD i = true := by decide
    exact h i hi
  rw [this, Bool.and_true]
theorem b8_nar (x : Int32) : vp_nar .byte x = x.toInt8.toInt32 := rfl
theorem b8_wr (x : Int32) : vp_nar .byte (x.toInt8.toInt32) = vp_nar .byte (x &&& nI 255) := by
  rw [b8_nar, b8_nar, b8_and, Int8.toInt8_toInt32]
/-- the buffer holds bf, all else is u's -/
def BFt (u u' : CU) (bf : List Nat) : Prop := u'.1 0 = nI bf.length ∧ (∀ i, i < bf.length → bf.getD i 0 < 256 ∧ u'.2.1 3 i = vp_nar .byte (nI (bf.getD i 0))) ∧ (∀ i, i ≠ 0 → u'.1 i = u.1 i) ∧ (∀ j, j ≠ 3 → u'.2.1 j = u.2.1 j) ∧ u'.2.2 = u.2.2
theorem BFt.add {u u1 : CU} {bf : List Nat} (h : BFt u u1 bf) {x : Int32} {c : Nat} (hc : c < 256) (hx : vp_nar .byte x = vp_nar .byte (nI c)) : BFt u (cui (cua u1 3 (upd (u1.2.1 3) bf.length (vp_nar .byte x))) 0 (nI (bf.length + 1))) (bf ++ [c]) := by
  obtain ⟨h1, h2, h3, h4, h5⟩ := h
  refine ⟨by rw [List.length_append]; rfl, fun i hi => ?_, fun i a => (if_neg a).trans (h3 i a), fun j a => (if_neg a).trans (h4 j a), h5⟩
  show (bf ++ [c]).getD i 0 < 256 ∧ upd (u1.2.1 3) bf.length (vp_nar .byte x) i = _
  rw [List.length_append] at hi
  simp only [List.length_cons, List.length_nil] at hi
  by_cases e : i = bf.length
  · subst e
    rw [pk_us, hx]
    simp
    exact hc
  · rw [pk_un e]
    have e2 : (bf ++ [c]).getD i 0 = bf.getD i 0 := by simp [List.getElem?_append_left (show i < bf.length by omega)]
    rw [e2]
    exact h2 i (by omega)
theorem CS.bft {o sz K : Nat} {u u' : CU} {g : AH} {s : SS} {w : List Nat} (hC : CS o sz u g K s) (h : BFt u u' w) (hl : w.length ≤ 500) : CS o sz u' g K (s.1, s.2.1, s.2.2.1, w, s.2.2.2.2) := by
  obtain ⟨h1, h2, h3, h4, ⟨hd, hs, h5, h5', h5''⟩, h6, h7, h8, h9⟩ := hC
  obtain ⟨w1, w2, w3, w4, w5⟩ := h
  have e1 : u'.2.2.1 = u.2.2.1 := congrArg (fun z => z.1) w5
  have e2 : u'.2.2.2.1 = u.2.2.2.1 := congrArg (fun z => z.2.1) w5
  have e3 : u'.2.2.2.2 = u.2.2.2.2 := congrArg (fun z => z.2.2) w5
  refine ⟨h1, h2, ?_, by rw [e3]; exact h4, ⟨hd, hs, h5.same (w3 4 (by decide)) (w3 5 (by decide)) (congrFun e2 1), h5', h5''⟩, fun i hi => ?_, ⟨w1, hl, w2⟩, (w3 1 (by decide)).trans h8, ?_⟩
  · obtain ⟨⟨k, hk, x1, x2, x3⟩, x4⟩ := h3
    refine ⟨⟨k, hk, ?_, ?_, ?_⟩, fun gr e => ?_⟩
    · rw [w3 2 (by decide)]; exact x1
    · rw [w4 1 (by decide)]; exact x2
    · rw [w4 2 (by decide)]; exact x3
    · rw [e2] at e
      obtain ⟨b, k2, z1, z2, z3, z4⟩ := x4 gr e
      exact ⟨b, k2, z1, z2, z3, z4.congr (w3 2 (by decide)) (w3 3 (by decide)) (w4 0 (by decide)) (w4 1 (by decide)) (w4 2 (by decide)) e1⟩
  · rw [e2]
    exact h6 i hi
  · unfold CSw at *
    rw [w3 6 (by decide), w4 4 (by decide)]
    exact h9
def by4L (v : Int32) (n : Nat) : List Nat := (List.range n).map (byN v)
theorem by4L_s (v : Int32) (n : Nat) : by4L v (n + 1) = by4L v n ++ [byN v n] := by
  unfold by4L
  rw [List.range_succ, List.map_append]
  rfl
theorem by4L_len (v : Int32) (n : Nat) : (by4L v n).length = n := by
  unfold by4L
  rw [List.length_map, List.length_range]
theorem apB_all (v0 v1 v2 v3 v4 : Int32) : apB v0 v1 v2 v3 v4 20 = by4L v0 4 ++ by4L v1 4 ++ by4L v2 4 ++ by4L v3 4 ++ by4L v4 4 := by
  simp [apB, by4L, List.range_succ, sel5]
theorem BFt.rf {u u1 : CU} {bf : List Nat} (h : BFt u u1 bf) : BFt u1 u1 bf := ⟨h.1, h.2.1, fun _ _ => rfl, fun _ _ => rfl, rfl⟩
theorem BFt.tr {u u1 u2 : CU} {b1 b2 : List Nat} (h : BFt u u1 b1) (h2 : BFt u1 u2 b2) : BFt u u2 b2 := ⟨h2.1, h2.2.1, fun i a => (h2.2.2.1 i a).trans (h.2.2.1 i a), fun j a => (h2.2.2.2.1 j a).trans (h.2.2.2.1 j a), h2.2.2.2.2.trans h.2.2.2.2⟩
set_option maxRecDepth 100000 in
theorem co_write {γ : Gm} (hG : GF γ) (l : Launch) {o : Nat} {u : CU} {g : AH} {sz : Nat} {bf : List Nat} (hb : BFt u u bf) (hl : bf.length + 4 ≤ 500) (x9 : Int32) : MX γ l yX1_write cX1_write 3 none 0 0 0 0 [.ref o, .int x9] (ch o u g) sz (fun v h' sz' => v = none ∧ sz' = sz ∧ ∃ u', h' = ch o u' g ∧ BFt u u' (bf ++ by4L x9 4)) NX := by
  refine mx_start hG (by decide) (Nat.le_of_ble_eq_true rfl) (fun x C => ?_)
  have key : ∀ j m u1, m ≤ 4 → 5 ≤ m + j → BFt u u1 (bf ++ by4L x9 m) → AW γ l x (QX γ x 0 0 (fun v h' sz' => v = none ∧ sz' = sz ∧ ∃ u', h' = ch o u' g ∧ BFt u u' (bf ++ by4L x9 4)) NX) 3 (ch o u1 g) sz 0 0 3 [(0, .ref o), (1, .int x9), (2, .int (shv m))] [] := by
    intro j
    induction j with
    | zero => intro m u1 h1 h2 hb1; exact absurd h2 (by omega)
    | succ j ih =>
      intro m u1 h1 h2 hb1
      refine aw_iload_n C rfl rfl dX1_write_3 ?_
      refine aw_if_lt C (tgt := 36) dX1_write_4 (by decide) (fun g4 => ?_) (fun g4 => ?_)
      · exact aw_vret C rfl dX1_write_36 (Nat.le_refl _) (Nat.le_refl _) ⟨rfl, rfl, u1, rfl, by have e4 : m = 4 := (shv_0 m (by omega)).1 g4; rw [e4] at hb1; exact hb1⟩
      · have hm4 : m < 4 := by
          have : ¬ m = 4 := fun z => g4 ((shv_0 m (by omega)).2 z)
          omega
        refine aw_aload_n C rfl rfl dX1_write_7 ?_
        refine aw_getf C ck0 4 (by decide) q669 (fun _ z => z) (ch_at (i := 0) rfl) rfl dX1_write_8 ?_
        refine aw_aload_n C rfl rfl dX1_write_11 ?_
        refine aw_getf C ck0 5 (by decide) q670 (fun _ z => z) (ch_at (i := 0) rfl) rfl dX1_write_12 ?_
        refine aw_top (show _ = nI (bf.length + m) from hb1.1.trans (by rw [List.length_append, by4L_len])) ?_
        refine aw_iload_n C rfl rfl dX1_write_15 ?_
        refine aw_iload_n C rfl rfl dX1_write_16 ?_
        refine aw_ishr C dX1_write_17 ?_
        refine aw_i2b C (rfl) dX1_write_18 ?_
        refine cw_buffer C (j := bf.length + m) (by omega) dX1_write_19 ?_
        refine aw_aload_n C rfl rfl dX1_write_20 ?_
        refine aw_dup C rfl dX1_write_21 ?_
        refine aw_getf C ck0 5 (by decide) q670 (fun _ z => z) (ch_at (i := 0) rfl) rfl dX1_write_22 ?_
        refine aw_top (show _ = nI (bf.length + m) from hb1.1.trans (by rw [List.length_append, by4L_len])) ?_
        refine aw_iconst C (v := nI 1) (by decide) dX1_write_25 ?_
        refine aw_iaddN C dX1_write_26 ?_
        refine cw_length C q670 dX1_write_27 ?_
        refine aw_iinc C rfl rfl (by decide) rfl dX1_write_30 ?_
        refine aw_goto C (tgt := 3) dX1_write_33 (by decide) ?_
        have hbb := hb1.add (x := (x9 >>> (shv m &&& 31)).toInt8.toInt32) (c := byN x9 m) (byN_eq x9 m).2 (by rw [b8_wr, (shv_s m hm4).2]; exact congrArg (vp_nar .byte) (byN_eq x9 m).1)
        rw [List.append_assoc, ← by4L_s, List.length_append, by4L_len] at hbb
        exact aw_lo (ih (m + 1) _ (by omega) (by omega) hbb) ⟨rfl, rfl, by rw [← (shv_s m hm4).1]; rfl, trivial⟩
  refine aw_bipush C (v := nI 24) (by decide) dX1_write_0 ?_
  refine aw_istore_n C rfl (by decide) rfl dX1_write_2 ?_
  exact aw_lo (key 5 0 u (by omega) (by omega) (by rw [show by4L x9 0 = [] from rfl, List.append_nil]; exact hb)) ⟨rfl, rfl, rfl, trivial⟩
set_option maxRecDepth 100000 in
theorem pc_append {γ : Gm} (hG : GF γ) (l : Launch) {o : Nat} {u : CU} {g : AH} {sz : Nat} (hX : GEX γ l) {K : Nat} {s : SS} (hC : CS o sz u g K s) (v0 v1 v2 v3 v4 : Int32) : MX γ l yX1_append cX1_append 6 (some .int) 7 140 1 6 [.ref o, .int v0, .int v1, .int v2, .int v3, .int v4] (ch o u g) sz (PCV o K (spApp s v0 v1 v2 v3 v4)) (PCX o K "java/lang/IllegalStateException" "" (spApp s v0 v1 v2 v3 v4)) := by
  refine mx_start hG (by decide) (Nat.le_of_ble_eq_true rfl) (fun x C => ?_)
  have hb0 : BFt u u s.2.2.2.1 := ⟨hC.2.2.2.2.2.2.1.1, hC.2.2.2.2.2.2.1.2.2, fun _ _ => rfl, fun _ _ => rfl, rfl⟩
  have hl0 := hC.2.2.2.2.2.2.1.2.1
  refine aw_aload_n C rfl rfl dX1_append_0 ?_
  refine aw_getf C ck0 5 (by decide) q670 (fun _ z => z) (ch_at (i := 0) rfl) rfl dX1_append_1 ?_
  refine aw_top (show _ = nI s.2.2.2.1.length from hb0.1) ?_
  refine aw_bipush C (v := nI 20) (by decide) dX1_append_4 ?_
  refine aw_iaddN C dX1_append_6 ?_
  refine aw_sipush C (v := nI 500) (by decide) dX1_append_7 ?_
  refine aw_icmpN_gt C (tgt := 17) (by omega) (by omega) dX1_append_10 (by decide) (fun gA => ?_) (fun gA => ?_)
  · refine aw_iconst C (v := nI 0) (by decide) dX1_append_17 ?_
    refine aw_top (show _ = nI (if decide (s.2.2.2.1.length + 20 ≤ 500) = true then 1 else 0) from by first | rw [if_pos (decide_eq_true (by omega))] | rw [if_neg (fun z => absurd (of_decide_eq_true z) (by omega))]) ?_
    refine aw_callSQ C (rq_State hG l hX (decide (s.2.2.2.1.length + 20 ≤ 500))) q1236 q1237 q95 q1238 (n9 := 1) (by decide +kernel) rfl (Nat.le_of_ble_eq_true rfl) (Nat.le_of_ble_eq_true rfl) (by dsimp only; omega) (by dsimp only; omega) rfl (Nat.le_of_ble_eq_true rfl) dX1_append_18 (by omega) (by omega) (fun e sz' q => by have z : spApp s v0 v1 v2 v3 v4 = ((1, nI 0), s) := (by unfold spApp; rw [if_pos (by have := of_decide_eq_false e; omega)]); rw [z]; exact ⟨Or.inl ⟨rfl, rfl⟩, u, g, rfl, hC.mono q⟩) (fun e => ?_)
    have hln := of_decide_eq_true e
    refine aw_aload_n C rfl rfl dX1_append_21 ?_
    refine aw_iload_n C rfl rfl dX1_append_22 ?_
    refine aw_callV C ck0 (co_write hG l hb0 (by omega) v0) q1260 q1262 qs21 q95 q1263 (ch_at (i := 0) rfl) (n9 := 1) (by decide +kernel) rfl (Nat.le_of_ble_eq_true rfl) (Nat.le_of_ble_eq_true rfl) (by dsimp only; omega) (by dsimp only; omega) rfl (Nat.le_of_ble_eq_true rfl) dX1_append_23 (fun _ _ _ z => z.elim) (fun v9 h9 s9 hp => ?_)
    obtain ⟨rfl, rfl, u1, rfl, hb1⟩ := hp
    have hr1 := hb1.rf
    have hl1 : (s.2.2.2.1 ++ by4L v0 4).length = s.2.2.2.1.length + 4 := by simp only [List.length_append, by4L_len]
    refine aw_aload_n C rfl rfl dX1_append_26 ?_
    refine aw_iload_n C rfl rfl dX1_append_27 ?_
    refine aw_callV C ck0 (co_write hG l hr1 (by omega) v1) q1260 q1262 qs21 q95 q1263 (ch_at (i := 0) rfl) (n9 := 1) (by decide +kernel) rfl (Nat.le_of_ble_eq_true rfl) (Nat.le_of_ble_eq_true rfl) (by dsimp only; omega) (by dsimp only; omega) rfl (Nat.le_of_ble_eq_true rfl) dX1_append_28 (fun _ _ _ z => z.elim) (fun v9 h9 s9 hp => ?_)
    obtain ⟨rfl, rfl, u2, rfl, hb2⟩ := hp
    have hr2 := hb2.rf
    have hl2 : ((s.2.2.2.1 ++ by4L v0 4) ++ by4L v1 4).length = s.2.2.2.1.length + 8 := by simp only [List.length_append, by4L_len]
    refine aw_aload_n C rfl rfl dX1_append_31 ?_
    refine aw_iload_n C rfl rfl dX1_append_32 ?_
    refine aw_callV C ck0 (co_write hG l hr2 (by omega) v2) q1260 q1262 qs21 q95 q1263 (ch_at (i := 0) rfl) (n9 := 1) (by decide +kernel) rfl (Nat.le_of_ble_eq_true rfl) (Nat.le_of_ble_eq_true rfl) (by dsimp only; omega) (by dsimp only; omega) rfl (Nat.le_of_ble_eq_true rfl) dX1_append_33 (fun _ _ _ z => z.elim) (fun v9 h9 s9 hp => ?_)
    obtain ⟨rfl, rfl, u3, rfl, hb3⟩ := hp
    have hr3 := hb3.rf
    have hl3 : (((s.2.2.2.1 ++ by4L v0 4) ++ by4L v1 4) ++ by4L v2 4).length = s.2.2.2.1.length + 12 := by simp only [List.length_append, by4L_len]
    refine aw_aload_n C rfl rfl dX1_append_36 ?_
    refine aw_iload C rfl dX1_append_37 ?_
    refine aw_callV C ck0 (co_write hG l hr3 (by omega) v3) q1260 q1262 qs21 q95 q1263 (ch_at (i := 0) rfl) (n9 := 1) (by decide +kernel) rfl (Nat.le_of_ble_eq_true rfl) (Nat.le_of_ble_eq_true rfl) (by dsimp only; omega) (by dsimp only; omega) rfl (Nat.le_of_ble_eq_true rfl) dX1_append_39 (fun _ _ _ z => z.elim) (fun v9 h9 s9 hp => ?_)
    obtain ⟨rfl, rfl, u4, rfl, hb4⟩ := hp
    have hr4 := hb4.rf
    have hl4 : ((((s.2.2.2.1 ++ by4L v0 4) ++ by4L v1 4) ++ by4L v2 4) ++ by4L v3 4).length = s.2.2.2.1.length + 16 := by simp only [List.length_append, by4L_len]
    refine aw_aload_n C rfl rfl dX1_append_42 ?_
    refine aw_iload C rfl dX1_append_43 ?_
    refine aw_callV C ck0 (co_write hG l hr4 (by omega) v4) q1260 q1262 qs21 q95 q1263 (ch_at (i := 0) rfl) (n9 := 1) (by decide +kernel) rfl (Nat.le_of_ble_eq_true rfl) (Nat.le_of_ble_eq_true rfl) (by dsimp only; omega) (by dsimp only; omega) rfl (Nat.le_of_ble_eq_true rfl) dX1_append_45 (fun _ _ _ z => z.elim) (fun v9 h9 s9 hp => ?_)
    obtain ⟨rfl, rfl, u5, rfl, hb5⟩ := hp
    have hr5 := hb5.rf
    have hl5 : (((((s.2.2.2.1 ++ by4L v0 4) ++ by4L v1 4) ++ by4L v2 4) ++ by4L v3 4) ++ by4L v4 4).length = s.2.2.2.1.length + 20 := by simp only [List.length_append, by4L_len]
    refine aw_aload_n C rfl rfl dX1_append_48 ?_
    refine aw_getf C ck0 5 (by decide) q670 (fun _ z => z) (ch_at (i := 0) rfl) rfl dX1_append_49 ?_
    refine aw_top (show _ = nI (s.2.2.2.1.length + 20) from (hb5.1.trans (by rw [hl5]))) ?_
    refine aw_iret C rfl dX1_append_52 (by omega) (by omega) ?_
    have e9 : spApp s v0 v1 v2 v3 v4 = ((0, nI (s.2.2.2.1.length + 20)), (s.1, s.2.1, s.2.2.1, (((((s.2.2.2.1 ++ by4L v0 4) ++ by4L v1 4) ++ by4L v2 4) ++ by4L v3 4) ++ by4L v4 4), s.2.2.2.2)) := by
      unfold spApp
      rw [if_neg (by omega), apB_all]
      simp only [List.append_assoc]
    rw [e9]
    exact ⟨rfl, rfl, u5, g, rfl, hC.bft ((((hb1.tr hb2).tr hb3).tr hb4).tr hb5) (by omega)⟩
  · refine aw_iconst C (v := nI 1) (by decide) dX1_append_13 ?_
    refine aw_goto C (tgt := 18) dX1_append_14 (by decide) ?_
    refine aw_top (show _ = nI (if decide (s.2.2.2.1.length + 20 ≤ 500) = true then 1 else 0) from by first | rw [if_pos (decide_eq_true (by omega))] | rw [if_neg (fun z => absurd (of_decide_eq_true z) (by omega))]) ?_
    refine aw_callSQ C (rq_State hG l hX (decide (s.2.2.2.1.length + 20 ≤ 500))) q1236 q1237 q95 q1238 (n9 := 1) (by decide +kernel) rfl (Nat.le_of_ble_eq_true rfl) (Nat.le_of_ble_eq_true rfl) (by dsimp only; omega) (by dsimp only; omega) rfl (Nat.le_of_ble_eq_true rfl) dX1_append_18 (by omega) (by omega) (fun e sz' q => by have z : spApp s v0 v1 v2 v3 v4 = ((1, nI 0), s) := (by unfold spApp; rw [if_pos (by have := of_decide_eq_false e; omega)]); rw [z]; exact ⟨Or.inl ⟨rfl, rfl⟩, u, g, rfl, hC.mono q⟩) (fun e => ?_)
    have hln := of_decide_eq_true e
    refine aw_aload_n C rfl rfl dX1_append_21 ?_
    refine aw_iload_n C rfl rfl dX1_append_22 ?_
    refine aw_callV C ck0 (co_write hG l hb0 (by omega) v0) q1260 q1262 qs21 q95 q1263 (ch_at (i := 0) rfl) (n9 := 1) (by decide +kernel) rfl (Nat.le_of_ble_eq_true rfl) (Nat.le_of_ble_eq_true rfl) (by dsimp only; omega) (by dsimp only; omega) rfl (Nat.le_of_ble_eq_true rfl) dX1_append_23 (fun _ _ _ z => z.elim) (fun v9 h9 s9 hp => ?_)
    obtain ⟨rfl, rfl, u1, rfl, hb1⟩ := hp
    have hr1 := hb1.rf
    have hl1 : (s.2.2.2.1 ++ by4L v0 4).length = s.2.2.2.1.length + 4 := by simp only [List.length_append, by4L_len]
    refine aw_aload_n C rfl rfl dX1_append_26 ?_
    refine aw_iload_n C rfl rfl dX1_append_27 ?_
    refine aw_callV C ck0 (co_write hG l hr1 (by omega) v1) q1260 q1262 qs21 q95 q1263 (ch_at (i := 0) rfl) (n9 := 1) (by decide +kernel) rfl (Nat.le_of_ble_eq_true rfl) (Nat.le_of_ble_eq_true rfl) (by dsimp only; omega) (by dsimp only; omega) rfl (Nat.le_of_ble_eq_true rfl) dX1_append_28 (fun _ _ _ z => z.elim) (fun v9 h9 s9 hp => ?_)
    obtain ⟨rfl, rfl, u2, rfl, hb2⟩ := hp
    have hr2 := hb2.rf
    have hl2 : ((s.2.2.2.1 ++ by4L v0 4) ++ by4L v1 4).length = s.2.2.2.1.length + 8 := by simp only [List.length_append, by4L_len]
    refine aw_aload_n C rfl rfl dX1_append_31 ?_
    refine aw_iload_n C rfl rfl dX1_append_32 ?_
    refine aw_callV C ck0 (co_write hG l hr2 (by omega) v2) q1260 q1262 qs21 q95 q1263 (ch_at (i := 0) rfl) (n9 := 1) (by decide +kernel) rfl (Nat.le_of_ble_eq_true rfl) (Nat.le_of_ble_eq_true rfl) (by dsimp only; omega) (by dsimp only; omega) rfl (Nat.le_of_ble_eq_true rfl) dX1_append_33 (fun _ _ _ z => z.elim) (fun v9 h9 s9 hp => ?_)
    obtain ⟨rfl, rfl, u3, rfl, hb3⟩ := hp
    have hr3 := hb3.rf
    have hl3 : (((s.2.2.2.1 ++ by4L v0 4) ++ by4L v1 4) ++ by4L v2 4).length = s.2.2.2.1.length + 12 := by simp only [List.length_append, by4L_len]
    refine aw_aload_n C rfl rfl dX1_append_36 ?_
    refine aw_iload C rfl dX1_append_37 ?_
    refine aw_callV C ck0 (co_write hG l hr3 (by omega) v3) q1260 q1262 qs21 q95 q1263 (ch_at (i := 0) rfl) (n9 := 1) (by decide +kernel) rfl (Nat.le_of_ble_eq_true rfl) (Nat.le_of_ble_eq_true rfl) (by dsimp only; omega) (by dsimp only; omega) rfl (Nat.le_of_ble_eq_true rfl) dX1_append_39 (fun _ _ _ z => z.elim) (fun v9 h9 s9 hp => ?_)
    obtain ⟨rfl, rfl, u4, rfl, hb4⟩ := hp
    have hr4 := hb4.rf
    have hl4 : ((((s.2.2.2.1 ++ by4L v0 4) ++ by4L v1 4) ++ by4L v2 4) ++ by4L v3 4).length = s.2.2.2.1.length + 16 := by simp only [List.length_append, by4L_len]
    refine aw_aload_n C rfl rfl dX1_append_42 ?_
    refine aw_iload C rfl dX1_append_43 ?_
    refine aw_callV C ck0 (co_write hG l hr4 (by omega) v4) q1260 q1262 qs21 q95 q1263 (ch_at (i := 0) rfl) (n9 := 1) (by decide +kernel) rfl (Nat.le_of_ble_eq_true rfl) (Nat.le_of_ble_eq_true rfl) (by dsimp only; omega) (by dsimp only; omega) rfl (Nat.le_of_ble_eq_true rfl) dX1_append_45 (fun _ _ _ z => z.elim) (fun v9 h9 s9 hp => ?_)
    obtain ⟨rfl, rfl, u5, rfl, hb5⟩ := hp
    have hr5 := hb5.rf
    have hl5 : (((((s.2.2.2.1 ++ by4L v0 4) ++ by4L v1 4) ++ by4L v2 4) ++ by4L v3 4) ++ by4L v4 4).length = s.2.2.2.1.length + 20 := by simp only [List.length_append, by4L_len]
    refine aw_aload_n C rfl rfl dX1_append_48 ?_
    refine aw_getf C ck0 5 (by decide) q670 (fun _ z => z) (ch_at (i := 0) rfl) rfl dX1_append_49 ?_
    refine aw_top (show _ = nI (s.2.2.2.1.length + 20) from (hb5.1.trans (by rw [hl5]))) ?_
    refine aw_iret C rfl dX1_append_52 (by omega) (by omega) ?_
    have e9 : spApp s v0 v1 v2 v3 v4 = ((0, nI (s.2.2.2.1.length + 20)), (s.1, s.2.1, s.2.2.1, (((((s.2.2.2.1 ++ by4L v0 4) ++ by4L v1 4) ++ by4L v2 4) ++ by4L v3 4) ++ by4L v4 4), s.2.2.2.2)) := by
      unfold spApp
      rw [if_neg (by omega), apB_all]
      simp only [List.append_assoc]
    rw [e9]
    exact ⟨rfl, rfl, u5, g, rfl, hC.bft ((((hb1.tr hb2).tr hb3).tr hb4).tr hb5) (by omega)⟩
