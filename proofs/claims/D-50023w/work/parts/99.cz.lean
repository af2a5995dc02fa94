/-! the law's wrappers -/
theorem et_2 {et : List ExceptionTableEntry} {a b c d a' b' c' d' : Nat} (h : et.map (fun h => (h.startPc, h.endPc, h.handlerPc, h.catchType)) = [(a, b, c, d), (a', b', c', d')]) : ∃ t t' : ExceptionTableEntry, et = [t, t'] ∧ (t.startPc = a ∧ t.endPc = b ∧ t.handlerPc = c ∧ t.catchType = d) ∧ (t'.startPc = a' ∧ t'.endPc = b' ∧ t'.handlerPc = c' ∧ t'.catchType = d') := by
  match et, h with
  | [t, t'], h =>
    simp only [List.map_cons, List.map_nil, List.cons.injEq, Prod.mk.injEq, and_true] at h
    exact ⟨t, t', rfl, ⟨h.1.1, h.1.2.1, h.1.2.2.1, h.1.2.2.2⟩, ⟨h.2.1, h.2.2.1, h.2.2.2.1, h.2.2.2.2⟩⟩
set_option maxRecDepth 100000 in
theorem wr_append {γ : Gm} (hG : GF γ) (l : Launch) {h : AH} {sz : Nat} {W' : Nat → Prop} (hWs : ∀ q, W' q → γ.W q) (hWn : ∀ q, sz ≤ q → W' q) {o : Nat} {u : CU} {g : AH} {w K' mc ms : Nat} {f0 : Nat → Int64} {x9 : AS} (hle : HLE (ch o u g) h) (hin : ∀ q c, ch o u g q = some c → W' q) (ew : h w = some (.inl (2, 1, .inr (.inl f0)))) (hww : ¬ W' w) (h2 : ¬ x9.1.1 = 2) {p0 p1 p2 p3 p4 : Int32} (hM : MX (gsub γ W') l yX1_append cX1_append 6 (some .int) 7 140 mc ms [.ref o, .int p0, .int p1, .int p2, .int p3, .int p4] (ch o u g) sz (PCV o K' x9) (PCX o K' "java/lang/IllegalStateException" "" x9)) : MH γ l yX0_append cX0_append 8 (some .int) [(0, 16, 19, 13)] 8 165 mc ms [.ref o, .int p0, .int p1, .int p2, .int p3, .int p4, .ref w] h sz (WPost W' h sz w o K' x9) NX := by
  refine mh_start hG (by decide) (Nat.le_of_ble_eq_true rfl) (fun x et het C => ?_)
  obtain ⟨t, rfl, ta1, ta2, ta3, ta4⟩ := et_1 het
  refine aw_aload C rfl dX0_append_0 ?_
  refine aw_iconst C (v := nI 0) (by decide) dX0_append_2 ?_
  refine aw_aload_n C rfl rfl dX0_append_3 ?_
  refine aw_iload_n C rfl rfl dX0_append_4 ?_
  refine aw_iload_n C rfl rfl dX0_append_5 ?_
  refine aw_iload_n C rfl rfl dX0_append_6 ?_
  refine aw_iload C rfl dX0_append_7 ?_
  refine aw_iload C rfl dX0_append_9 ?_
  refine aw_subV C hWs hle hin hWn ck0 hM q1232 q1233 q1234 q95 q1235 (ch_at (i := 0) rfl) (n9 := 5) (by decide +kernel) rfl (Nat.le_of_ble_eq_true rfl) (Nat.le_of_ble_eq_true rfl) (by dsimp only; omega) (by dsimp only; omega) rfl (Nat.le_of_ble_eq_true rfl) dX0_append_11 (fun E h9 s9 hp9 hs9 hi9 => ?_) (fun v9 h9 s9 hp9 hs9 hi9 => ?_)
  · obtain ⟨⟨e9, rfl⟩ | ⟨e9, -⟩, u9, g9, eh9, hc9⟩ := hp9
    · refine ax_catch C [] t [] rfl (fun z hz => by cases hz) (cov_yes ta1 ta2 (by decide) (by decide)) (by rw [ta4]; decide) (by rw [ta4]; exact q1231) q1241 (fun q9 => aw_pc ta3 ?_)
      refine aw_astore C (by decide) rfl dX0_append_19 ?_
      refine aw_iconst C (v := nI 1) (by decide) dX0_append_21 ?_
      exact aw_iret C rfl dX0_append_22 (by omega) (by omega) ⟨by rw [e9], hs9, fun q a b => mrg_n a, ⟨u9, g9, by rw [← eh9]; exact mrg_le hi9, by rw [← eh9]; exact hi9, hc9⟩, f0, (mrg_n hww).trans ew, fun z => absurd z (by rw [e9]; decide)⟩
    · exact absurd e9 h2
  obtain ⟨e9, rfl, u9, g9, eh9, hc9⟩ := hp9
  refine aw_i2l C (rfl) dX0_append_14 ?_
  refine aw_lastN C (j := 0) ((mrg_n hww).trans ew) (by decide) (by decide) dX0_append_15 ?_
  refine aw_goto C (tgt := 23) dX0_append_16 (by decide) ?_
  refine aw_iconst C (v := nI 0) (by decide) dX0_append_23 ?_
  refine aw_iret C rfl dX0_append_24 (by omega) (by omega) ?_
  refine ⟨by rw [e9], hs9, fun q a b => (hset_n _ _ b).trans (mrg_n a), ⟨u9, g9, fun q c z => ?_, by rw [← eh9]; exact hi9, hc9⟩, _, hset_s _ _ _, fun _ => ?_⟩
  · rw [← eh9] at z
    have hw9 := hi9 q c z
    exact (hset_n _ _ (fun e => hww (by rw [← e]; exact hw9))).trans ((mrg_y hw9).trans z)
  · simp [vp_updL]
set_option maxRecDepth 100000 in
theorem wr_load {γ : Gm} (hG : GF γ) (l : Launch) {h : AH} {sz : Nat} {W' : Nat → Prop} (hWs : ∀ q, W' q → γ.W q) (hWn : ∀ q, sz ≤ q → W' q) {o : Nat} {u : CU} {g : AH} {w K' mc ms : Nat} {f0 : Nat → Int64} {x9 : AS} (hle : HLE (ch o u g) h) (hin : ∀ q c, ch o u g q = some c → W' q) (ew : h w = some (.inl (2, 1, .inr (.inl f0)))) (hww : ¬ W' w) (h2 : ¬ x9.1.1 = 2) {p0 : Int32} (hM : MH (gsub γ W') l yX1_load cX1_load 3 (some .int) [(24, 50, 51, 167)] 21 472 mc ms [.ref o, .int p0] (ch o u g) sz (PCV o K' x9) (PCX o K' "java/lang/IllegalArgumentException" "" x9)) : MH γ l yX0_load cX0_load 4 (some .int) [(0, 9, 12, 19)] 22 494 mc ms [.ref o, .int p0, .ref w] h sz (WPost W' h sz w o K' x9) NX := by
  refine mh_start hG (by decide) (Nat.le_of_ble_eq_true rfl) (fun x et het C => ?_)
  obtain ⟨t, rfl, ta1, ta2, ta3, ta4⟩ := et_1 het
  refine aw_aload_n C rfl rfl dX0_load_0 ?_
  refine aw_iconst C (v := nI 0) (by decide) dX0_load_1 ?_
  refine aw_aload_n C rfl rfl dX0_load_2 ?_
  refine aw_iload_n C rfl rfl dX0_load_3 ?_
  refine aw_subVH C hWs hle hin hWn ck0 hM q1268 q1269 q1270 q95 q1271 (ch_at (i := 0) rfl) (n9 := 1) (by decide +kernel) rfl (Nat.le_of_ble_eq_true rfl) (Nat.le_of_ble_eq_true rfl) (by dsimp only; omega) (by dsimp only; omega) rfl (Nat.le_of_ble_eq_true rfl) dX0_load_4 (fun E h9 s9 hp9 hs9 hi9 => ?_) (fun v9 h9 s9 hp9 hs9 hi9 => ?_)
  · obtain ⟨⟨e9, rfl⟩ | ⟨e9, -⟩, u9, g9, eh9, hc9⟩ := hp9
    · refine ax_catch C [] t [] rfl (fun z hz => by cases hz) (cov_yes ta1 ta2 (by decide) (by decide)) (by rw [ta4]; decide) (by rw [ta4]; exact q1267) q281 (fun q9 => aw_pc ta3 ?_)
      refine aw_astore_n C rfl (by decide) rfl dX0_load_12 ?_
      refine aw_iconst C (v := nI 1) (by decide) dX0_load_13 ?_
      exact aw_iret C rfl dX0_load_14 (by omega) (by omega) ⟨by rw [e9], hs9, fun q a b => mrg_n a, ⟨u9, g9, by rw [← eh9]; exact mrg_le hi9, by rw [← eh9]; exact hi9, hc9⟩, f0, (mrg_n hww).trans ew, fun z => absurd z (by rw [e9]; decide)⟩
    · exact absurd e9 h2
  obtain ⟨e9, rfl, u9, g9, eh9, hc9⟩ := hp9
  refine aw_i2l C (rfl) dX0_load_7 ?_
  refine aw_lastN C (j := 0) ((mrg_n hww).trans ew) (by decide) (by decide) dX0_load_8 ?_
  refine aw_goto C (tgt := 15) dX0_load_9 (by decide) ?_
  refine aw_iconst C (v := nI 0) (by decide) dX0_load_15 ?_
  refine aw_iret C rfl dX0_load_16 (by omega) (by omega) ?_
  refine ⟨by rw [e9], hs9, fun q a b => (hset_n _ _ b).trans (mrg_n a), ⟨u9, g9, fun q c z => ?_, by rw [← eh9]; exact hi9, hc9⟩, _, hset_s _ _ _, fun _ => ?_⟩
  · rw [← eh9] at z
    have hw9 := hi9 q c z
    exact (hset_n _ _ (fun e => hww (by rw [← e]; exact hw9))).trans ((mrg_y hw9).trans z)
  · simp [vp_updL]
set_option maxRecDepth 100000 in
theorem wr_count {γ : Gm} (hG : GF γ) (l : Launch) {h : AH} {sz : Nat} {W' : Nat → Prop} (hWs : ∀ q, W' q → γ.W q) (hWn : ∀ q, sz ≤ q → W' q) {o : Nat} {u : CU} {g : AH} {w K' mc ms : Nat} {f0 : Nat → Int64} {x9 : AS} (hle : HLE (ch o u g) h) (hin : ∀ q c, ch o u g q = some c → W' q) (ew : h w = some (.inl (2, 1, .inr (.inl f0)))) (hww : ¬ W' w) (h2 : ¬ x9.1.1 = 2) {p0 : Int32} (hM : MX (gsub γ W') l yX1_count cX1_count 2 (some .int) 7 157 mc ms [.ref o, .int p0] (ch o u g) sz (PCV o K' x9) (PCX o K' "java/lang/IllegalArgumentException" "" x9)) : MH γ l yX0_count cX0_count 4 (some .int) [(0, 9, 12, 19)] 8 178 mc ms [.ref o, .int p0, .ref w] h sz (WPost W' h sz w o K' x9) NX := by
  refine mh_start hG (by decide) (Nat.le_of_ble_eq_true rfl) (fun x et het C => ?_)
  obtain ⟨t, rfl, ta1, ta2, ta3, ta4⟩ := et_1 het
  refine aw_aload_n C rfl rfl dX0_count_0 ?_
  refine aw_iconst C (v := nI 0) (by decide) dX0_count_1 ?_
  refine aw_aload_n C rfl rfl dX0_count_2 ?_
  refine aw_iload_n C rfl rfl dX0_count_3 ?_
  refine aw_subV C hWs hle hin hWn ck0 hM q1509 q1510 q1511 q95 q1512 (ch_at (i := 0) rfl) (n9 := 1) (by decide +kernel) rfl (Nat.le_of_ble_eq_true rfl) (Nat.le_of_ble_eq_true rfl) (by dsimp only; omega) (by dsimp only; omega) rfl (Nat.le_of_ble_eq_true rfl) dX0_count_4 (fun E h9 s9 hp9 hs9 hi9 => ?_) (fun v9 h9 s9 hp9 hs9 hi9 => ?_)
  · obtain ⟨⟨e9, rfl⟩ | ⟨e9, -⟩, u9, g9, eh9, hc9⟩ := hp9
    · refine ax_catch C [] t [] rfl (fun z hz => by cases hz) (cov_yes ta1 ta2 (by decide) (by decide)) (by rw [ta4]; decide) (by rw [ta4]; exact q1267) q281 (fun q9 => aw_pc ta3 ?_)
      refine aw_astore_n C rfl (by decide) rfl dX0_count_12 ?_
      refine aw_iconst C (v := nI 1) (by decide) dX0_count_13 ?_
      exact aw_iret C rfl dX0_count_14 (by omega) (by omega) ⟨by rw [e9], hs9, fun q a b => mrg_n a, ⟨u9, g9, by rw [← eh9]; exact mrg_le hi9, by rw [← eh9]; exact hi9, hc9⟩, f0, (mrg_n hww).trans ew, fun z => absurd z (by rw [e9]; decide)⟩
    · exact absurd e9 h2
  obtain ⟨e9, rfl, u9, g9, eh9, hc9⟩ := hp9
  refine aw_i2l C (rfl) dX0_count_7 ?_
  refine aw_lastN C (j := 0) ((mrg_n hww).trans ew) (by decide) (by decide) dX0_count_8 ?_
  refine aw_goto C (tgt := 15) dX0_count_9 (by decide) ?_
  refine aw_iconst C (v := nI 0) (by decide) dX0_count_15 ?_
  refine aw_iret C rfl dX0_count_16 (by omega) (by omega) ?_
  refine ⟨by rw [e9], hs9, fun q a b => (hset_n _ _ b).trans (mrg_n a), ⟨u9, g9, fun q c z => ?_, by rw [← eh9]; exact hi9, hc9⟩, _, hset_s _ _ _, fun _ => ?_⟩
  · rw [← eh9] at z
    have hw9 := hi9 q c z
    exact (hset_n _ _ (fun e => hww (by rw [← e]; exact hw9))).trans ((mrg_y hw9).trans z)
  · simp [vp_updL]
set_option maxRecDepth 100000 in
theorem wr_vertex {γ : Gm} (hG : GF γ) (l : Launch) {h : AH} {sz : Nat} {W' : Nat → Prop} (hWs : ∀ q, W' q → γ.W q) (hWn : ∀ q, sz ≤ q → W' q) {o : Nat} {u : CU} {g : AH} {w K' mc ms : Nat} {f0 : Nat → Int64} {x9 : AS} (hle : HLE (ch o u g) h) (hin : ∀ q c, ch o u g q = some c → W' q) (ew : h w = some (.inl (2, 1, .inr (.inl f0)))) (hww : ¬ W' w) (hNc : ∀ U, γ.X U → va_Nc "java/lang/IllegalArgumentException" "java/lang/IndexOutOfBoundsException" U) {p0 p1 : Int32} (hM : MX (gsub γ W') l yX1_vertex cX1_vertex 3 (some .int) 20 447 mc ms [.ref o, .int p0, .int p1] (ch o u g) sz (PCV o K' x9) (PCX o K' "java/lang/IndexOutOfBoundsException" "java/lang/IllegalArgumentException" x9)) : MH γ l yX0_vertex cX0_vertex 5 (some .int) [(0, 10, 13, 28), (0, 10, 17, 19)] 21 469 mc ms [.ref o, .int p0, .int p1, .ref w] h sz (WPost W' h sz w o K' x9) NX := by
  refine mh_start hG (by decide) (Nat.le_of_ble_eq_true rfl) (fun x et het C => ?_)
  obtain ⟨t, t', rfl, ⟨ta1, ta2, ta3, ta4⟩, ⟨tb1, tb2, tb3, tb4⟩⟩ := et_2 het
  refine aw_aload_n C rfl rfl dX0_vertex_0 ?_
  refine aw_iconst C (v := nI 0) (by decide) dX0_vertex_1 ?_
  refine aw_aload_n C rfl rfl dX0_vertex_2 ?_
  refine aw_iload_n C rfl rfl dX0_vertex_3 ?_
  refine aw_iload_n C rfl rfl dX0_vertex_4 ?_
  refine aw_subV C hWs hle hin hWn ck0 hM q1540 q1541 q1542 q95 q1543 (ch_at (i := 0) rfl) (n9 := 2) (by decide +kernel) rfl (Nat.le_of_ble_eq_true rfl) (Nat.le_of_ble_eq_true rfl) (by dsimp only; omega) (by dsimp only; omega) rfl (Nat.le_of_ble_eq_true rfl) dX0_vertex_5 (fun E h9 s9 hp9 hs9 hi9 => ?_) (fun v9 h9 s9 hp9 hs9 hi9 => ?_)
  · obtain ⟨⟨e9, rfl⟩ | ⟨e9, rfl⟩, u9, g9, eh9, hc9⟩ := hp9
    · refine ax_catch C [] t [t'] rfl (fun z hz => by cases hz) (cov_yes ta1 ta2 (by decide) (by decide)) (by rw [ta4]; decide) (by rw [ta4]; exact q1537) q1553 (fun q9 => aw_pc ta3 ?_)
      refine aw_astore C (by decide) rfl dX0_vertex_13 ?_
      refine aw_iconst C (v := nI 1) (by decide) dX0_vertex_15 ?_
      exact aw_iret C rfl dX0_vertex_16 (by omega) (by omega) ⟨by rw [e9], hs9, fun q a b => mrg_n a, ⟨u9, g9, by rw [← eh9]; exact mrg_le hi9, by rw [← eh9]; exact hi9, hc9⟩, f0, (mrg_n hww).trans ew, fun z => absurd z (by rw [e9]; decide)⟩
    · refine ax_catch C [t] t' [] rfl (fun z hz => by
        cases hz with
        | head => exact Or.inr ⟨by rw [ta4]; decide, "java/lang/IndexOutOfBoundsException", by rw [ta4]; exact q1537, hNc _ C.hX⟩
        | tail _ hz => cases hz) (cov_yes tb1 tb2 (by decide) (by decide)) (by rw [tb4]; decide) (by rw [tb4]; exact q1267) q281 (fun q9 => aw_pc tb3 ?_)
      refine aw_astore C (by decide) rfl dX0_vertex_17 ?_
      refine aw_iconst C (v := nI 2) (by decide) dX0_vertex_19 ?_
      exact aw_iret C rfl dX0_vertex_20 (by omega) (by omega) ⟨by rw [e9], hs9, fun q a b => mrg_n a, ⟨u9, g9, by rw [← eh9]; exact mrg_le hi9, by rw [← eh9]; exact hi9, hc9⟩, f0, (mrg_n hww).trans ew, fun z => absurd z (by rw [e9]; decide)⟩
  obtain ⟨e9, rfl, u9, g9, eh9, hc9⟩ := hp9
  refine aw_i2l C (rfl) dX0_vertex_8 ?_
  refine aw_lastN C (j := 0) ((mrg_n hww).trans ew) (by decide) (by decide) dX0_vertex_9 ?_
  refine aw_goto C (tgt := 21) dX0_vertex_10 (by decide) ?_
  refine aw_iconst C (v := nI 0) (by decide) dX0_vertex_21 ?_
  refine aw_iret C rfl dX0_vertex_22 (by omega) (by omega) ?_
  refine ⟨by rw [e9], hs9, fun q a b => (hset_n _ _ b).trans (mrg_n a), ⟨u9, g9, fun q c z => ?_, by rw [← eh9]; exact hi9, hc9⟩, _, hset_s _ _ _, fun _ => ?_⟩
  · rw [← eh9] at z
    have hw9 := hi9 q c z
    exact (hset_n _ _ (fun e => hww (by rw [← e]; exact hw9))).trans ((mrg_y hw9).trans z)
  · simp [vp_updL]
set_option maxRecDepth 100000 in
theorem wr_reason {γ : Gm} (hG : GF γ) (l : Launch) {h : AH} {sz : Nat} {W' : Nat → Prop} (hWs : ∀ q, W' q → γ.W q) (hWn : ∀ q, sz ≤ q → W' q) {o : Nat} {u : CU} {g : AH} {w K' mc ms : Nat} {f0 : Nat → Int64} {x9 : AS} (hle : HLE (ch o u g) h) (hin : ∀ q c, ch o u g q = some c → W' q) (ew : h w = some (.inl (2, 1, .inr (.inl f0)))) (hww : ¬ W' w) (h2 : ¬ x9.1.1 = 2) {p0 p1 : Int32} (hM : MX (gsub γ W') l yX1_reason cX1_reason 3 (some .int) 9 204 mc ms [.ref o, .int p0, .int p1] (ch o u g) sz (PCV o K' x9) (PCX o K' "java/lang/IndexOutOfBoundsException" "" x9)) : MH γ l yX0_reason cX0_reason 5 (some .int) [(0, 10, 13, 28)] 10 226 mc ms [.ref o, .int p0, .int p1, .ref w] h sz (WPost W' h sz w o K' x9) NX := by
  refine mh_start hG (by decide) (Nat.le_of_ble_eq_true rfl) (fun x et het C => ?_)
  obtain ⟨t, rfl, ta1, ta2, ta3, ta4⟩ := et_1 het
  refine aw_aload_n C rfl rfl dX0_reason_0 ?_
  refine aw_iconst C (v := nI 0) (by decide) dX0_reason_1 ?_
  refine aw_aload_n C rfl rfl dX0_reason_2 ?_
  refine aw_iload_n C rfl rfl dX0_reason_3 ?_
  refine aw_iload_n C rfl rfl dX0_reason_4 ?_
  refine aw_subV C hWs hle hin hWn ck0 hM q1579 q1580 q1581 q95 q1582 (ch_at (i := 0) rfl) (n9 := 2) (by decide +kernel) rfl (Nat.le_of_ble_eq_true rfl) (Nat.le_of_ble_eq_true rfl) (by dsimp only; omega) (by dsimp only; omega) rfl (Nat.le_of_ble_eq_true rfl) dX0_reason_5 (fun E h9 s9 hp9 hs9 hi9 => ?_) (fun v9 h9 s9 hp9 hs9 hi9 => ?_)
  · obtain ⟨⟨e9, rfl⟩ | ⟨e9, -⟩, u9, g9, eh9, hc9⟩ := hp9
    · refine ax_catch C [] t [] rfl (fun z hz => by cases hz) (cov_yes ta1 ta2 (by decide) (by decide)) (by rw [ta4]; decide) (by rw [ta4]; exact q1537) q1553 (fun q9 => aw_pc ta3 ?_)
      refine aw_astore C (by decide) rfl dX0_reason_13 ?_
      refine aw_iconst C (v := nI 1) (by decide) dX0_reason_15 ?_
      exact aw_iret C rfl dX0_reason_16 (by omega) (by omega) ⟨by rw [e9], hs9, fun q a b => mrg_n a, ⟨u9, g9, by rw [← eh9]; exact mrg_le hi9, by rw [← eh9]; exact hi9, hc9⟩, f0, (mrg_n hww).trans ew, fun z => absurd z (by rw [e9]; decide)⟩
    · exact absurd e9 h2
  obtain ⟨e9, rfl, u9, g9, eh9, hc9⟩ := hp9
  refine aw_i2l C (rfl) dX0_reason_8 ?_
  refine aw_lastN C (j := 0) ((mrg_n hww).trans ew) (by decide) (by decide) dX0_reason_9 ?_
  refine aw_goto C (tgt := 17) dX0_reason_10 (by decide) ?_
  refine aw_iconst C (v := nI 0) (by decide) dX0_reason_17 ?_
  refine aw_iret C rfl dX0_reason_18 (by omega) (by omega) ?_
  refine ⟨by rw [e9], hs9, fun q a b => (hset_n _ _ b).trans (mrg_n a), ⟨u9, g9, fun q c z => ?_, by rw [← eh9]; exact hi9, hc9⟩, _, hset_s _ _ _, fun _ => ?_⟩
  · rw [← eh9] at z
    have hw9 := hi9 q c z
    exact (hset_n _ _ (fun e => hww (by rw [← e]; exact hw9))).trans ((mrg_y hw9).trans z)
  · simp [vp_updL]
set_option maxRecDepth 100000 in
theorem wr_part {γ : Gm} (hG : GF γ) (l : Launch) {h : AH} {sz : Nat} {W' : Nat → Prop} (hWs : ∀ q, W' q → γ.W q) (hWn : ∀ q, sz ≤ q → W' q) {o : Nat} {u : CU} {g : AH} {w K' mc ms : Nat} {f0 : Nat → Int64} {x9 : AS} (hle : HLE (ch o u g) h) (hin : ∀ q c, ch o u g q = some c → W' q) (ew : h w = some (.inl (2, 1, .inr (.inl f0)))) (hww : ¬ W' w) (hNc : ∀ U, γ.X U → va_Nc "java/lang/IllegalArgumentException" "java/lang/IndexOutOfBoundsException" U) {p0 p1 : Int32} (hM : MX (gsub γ W') l yX1_part cX1_part 5 (some .int) 40 1373 mc ms [.ref o, .int p0, .int p1] (ch o u g) sz (PCV o K' x9) (PCX o K' "java/lang/IndexOutOfBoundsException" "java/lang/IllegalArgumentException" x9)) : MH γ l yX0_part cX0_part 5 (some .int) [(0, 10, 13, 28), (0, 10, 17, 19)] 41 1397 mc ms [.ref o, .int p0, .int p1, .ref w] h sz (WPost W' h sz w o K' x9) NX := by
  refine mh_start hG (by decide) (Nat.le_of_ble_eq_true rfl) (fun x et het C => ?_)
  obtain ⟨t, t', rfl, ⟨ta1, ta2, ta3, ta4⟩, ⟨tb1, tb2, tb3, tb4⟩⟩ := et_2 het
  refine aw_aload_n C rfl rfl dX0_part_0 ?_
  refine aw_iconst C (v := nI 0) (by decide) dX0_part_1 ?_
  refine aw_aload_n C rfl rfl dX0_part_2 ?_
  refine aw_iload_n C rfl rfl dX0_part_3 ?_
  refine aw_iload_n C rfl rfl dX0_part_4 ?_
  refine aw_subV C hWs hle hin hWn ck0 hM q1592 q1593 q1594 q95 q1595 (ch_at (i := 0) rfl) (n9 := 2) (by decide +kernel) rfl (Nat.le_of_ble_eq_true rfl) (Nat.le_of_ble_eq_true rfl) (by dsimp only; omega) (by dsimp only; omega) rfl (Nat.le_of_ble_eq_true rfl) dX0_part_5 (fun E h9 s9 hp9 hs9 hi9 => ?_) (fun v9 h9 s9 hp9 hs9 hi9 => ?_)
  · obtain ⟨⟨e9, rfl⟩ | ⟨e9, rfl⟩, u9, g9, eh9, hc9⟩ := hp9
    · refine ax_catch C [] t [t'] rfl (fun z hz => by cases hz) (cov_yes ta1 ta2 (by decide) (by decide)) (by rw [ta4]; decide) (by rw [ta4]; exact q1537) q1553 (fun q9 => aw_pc ta3 ?_)
      refine aw_astore C (by decide) rfl dX0_part_13 ?_
      refine aw_iconst C (v := nI 1) (by decide) dX0_part_15 ?_
      exact aw_iret C rfl dX0_part_16 (by omega) (by omega) ⟨by rw [e9], hs9, fun q a b => mrg_n a, ⟨u9, g9, by rw [← eh9]; exact mrg_le hi9, by rw [← eh9]; exact hi9, hc9⟩, f0, (mrg_n hww).trans ew, fun z => absurd z (by rw [e9]; decide)⟩
    · refine ax_catch C [t] t' [] rfl (fun z hz => by
        cases hz with
        | head => exact Or.inr ⟨by rw [ta4]; decide, "java/lang/IndexOutOfBoundsException", by rw [ta4]; exact q1537, hNc _ C.hX⟩
        | tail _ hz => cases hz) (cov_yes tb1 tb2 (by decide) (by decide)) (by rw [tb4]; decide) (by rw [tb4]; exact q1267) q281 (fun q9 => aw_pc tb3 ?_)
      refine aw_astore C (by decide) rfl dX0_part_17 ?_
      refine aw_iconst C (v := nI 2) (by decide) dX0_part_19 ?_
      exact aw_iret C rfl dX0_part_20 (by omega) (by omega) ⟨by rw [e9], hs9, fun q a b => mrg_n a, ⟨u9, g9, by rw [← eh9]; exact mrg_le hi9, by rw [← eh9]; exact hi9, hc9⟩, f0, (mrg_n hww).trans ew, fun z => absurd z (by rw [e9]; decide)⟩
  obtain ⟨e9, rfl, u9, g9, eh9, hc9⟩ := hp9
  refine aw_i2l C (rfl) dX0_part_8 ?_
  refine aw_lastN C (j := 0) ((mrg_n hww).trans ew) (by decide) (by decide) dX0_part_9 ?_
  refine aw_goto C (tgt := 21) dX0_part_10 (by decide) ?_
  refine aw_iconst C (v := nI 0) (by decide) dX0_part_21 ?_
  refine aw_iret C rfl dX0_part_22 (by omega) (by omega) ?_
  refine ⟨by rw [e9], hs9, fun q a b => (hset_n _ _ b).trans (mrg_n a), ⟨u9, g9, fun q c z => ?_, by rw [← eh9]; exact hi9, hc9⟩, _, hset_s _ _ _, fun _ => ?_⟩
  · rw [← eh9] at z
    have hw9 := hi9 q c z
    exact (hset_n _ _ (fun e => hww (by rw [← e]; exact hw9))).trans ((mrg_y hw9).trans z)
  · simp [vp_updL]
set_option maxRecDepth 100000 in
theorem wr_valueIf {γ : Gm} (hG : GF γ) (l : Launch) {h : AH} {sz : Nat} {W' : Nat → Prop} (hWs : ∀ q, W' q → γ.W q) (hWn : ∀ q, sz ≤ q → W' q) {o : Nat} {u : CU} {g : AH} {w K' mc ms : Nat} {f0 : Nat → Int64} {x9 : AS} (hle : HLE (ch o u g) h) (hin : ∀ q c, ch o u g q = some c → W' q) (ew : h w = some (.inl (2, 1, .inr (.inl f0)))) (hww : ¬ W' w) (hNc : ∀ U, γ.X U → va_Nc "java/util/NoSuchElementException" "java/lang/IndexOutOfBoundsException" U) {p0 p1 : Int32} (hM : MX (gsub γ W') l yX1_valueIf cX1_valueIf 3 (some .int) 41 1400 mc ms [.ref o, .int p0, .int p1] (ch o u g) sz (PCV o K' x9) (PCX o K' "java/lang/IndexOutOfBoundsException" "java/util/NoSuchElementException" x9)) : MH γ l yX0_valueIf cX0_valueIf 5 (some .int) [(0, 10, 13, 28), (0, 10, 17, 39)] 42 1422 mc ms [.ref o, .int p0, .int p1, .ref w] h sz (WPost W' h sz w o K' x9) NX := by
  refine mh_start hG (by decide) (Nat.le_of_ble_eq_true rfl) (fun x et het C => ?_)
  obtain ⟨t, t', rfl, ⟨ta1, ta2, ta3, ta4⟩, ⟨tb1, tb2, tb3, tb4⟩⟩ := et_2 het
  refine aw_aload_n C rfl rfl dX0_valueIf_0 ?_
  refine aw_iconst C (v := nI 0) (by decide) dX0_valueIf_1 ?_
  refine aw_aload_n C rfl rfl dX0_valueIf_2 ?_
  refine aw_iload_n C rfl rfl dX0_valueIf_3 ?_
  refine aw_iload_n C rfl rfl dX0_valueIf_4 ?_
  refine aw_subV C hWs hle hin hWn ck0 hM q1615 q1616 q1617 q95 q1618 (ch_at (i := 0) rfl) (n9 := 2) (by decide +kernel) rfl (Nat.le_of_ble_eq_true rfl) (Nat.le_of_ble_eq_true rfl) (by dsimp only; omega) (by dsimp only; omega) rfl (Nat.le_of_ble_eq_true rfl) dX0_valueIf_5 (fun E h9 s9 hp9 hs9 hi9 => ?_) (fun v9 h9 s9 hp9 hs9 hi9 => ?_)
  · obtain ⟨⟨e9, rfl⟩ | ⟨e9, rfl⟩, u9, g9, eh9, hc9⟩ := hp9
    · refine ax_catch C [] t [t'] rfl (fun z hz => by cases hz) (cov_yes ta1 ta2 (by decide) (by decide)) (by rw [ta4]; decide) (by rw [ta4]; exact q1537) q1553 (fun q9 => aw_pc ta3 ?_)
      refine aw_astore C (by decide) rfl dX0_valueIf_13 ?_
      refine aw_iconst C (v := nI 1) (by decide) dX0_valueIf_15 ?_
      exact aw_iret C rfl dX0_valueIf_16 (by omega) (by omega) ⟨by rw [e9], hs9, fun q a b => mrg_n a, ⟨u9, g9, by rw [← eh9]; exact mrg_le hi9, by rw [← eh9]; exact hi9, hc9⟩, f0, (mrg_n hww).trans ew, fun z => absurd z (by rw [e9]; decide)⟩
    · refine ax_catch C [t] t' [] rfl (fun z hz => by
        cases hz with
        | head => exact Or.inr ⟨by rw [ta4]; decide, "java/lang/IndexOutOfBoundsException", by rw [ta4]; exact q1537, hNc _ C.hX⟩
        | tail _ hz => cases hz) (cov_yes tb1 tb2 (by decide) (by decide)) (by rw [tb4]; decide) (by rw [tb4]; exact q1614) q1472 (fun q9 => aw_pc tb3 ?_)
      refine aw_astore C (by decide) rfl dX0_valueIf_17 ?_
      refine aw_iconst C (v := nI 2) (by decide) dX0_valueIf_19 ?_
      exact aw_iret C rfl dX0_valueIf_20 (by omega) (by omega) ⟨by rw [e9], hs9, fun q a b => mrg_n a, ⟨u9, g9, by rw [← eh9]; exact mrg_le hi9, by rw [← eh9]; exact hi9, hc9⟩, f0, (mrg_n hww).trans ew, fun z => absurd z (by rw [e9]; decide)⟩
  obtain ⟨e9, rfl, u9, g9, eh9, hc9⟩ := hp9
  refine aw_i2l C (rfl) dX0_valueIf_8 ?_
  refine aw_lastN C (j := 0) ((mrg_n hww).trans ew) (by decide) (by decide) dX0_valueIf_9 ?_
  refine aw_goto C (tgt := 21) dX0_valueIf_10 (by decide) ?_
  refine aw_iconst C (v := nI 0) (by decide) dX0_valueIf_21 ?_
  refine aw_iret C rfl dX0_valueIf_22 (by omega) (by omega) ?_
  refine ⟨by rw [e9], hs9, fun q a b => (hset_n _ _ b).trans (mrg_n a), ⟨u9, g9, fun q c z => ?_, by rw [← eh9]; exact hi9, hc9⟩, _, hset_s _ _ _, fun _ => ?_⟩
  · rw [← eh9] at z
    have hw9 := hi9 q c z
    exact (hset_n _ _ (fun e => hww (by rw [← e]; exact hw9))).trans ((mrg_y hw9).trans z)
  · simp [vp_updL]
set_option maxRecDepth 100000 in
theorem wr_bestMove {γ : Gm} (hG : GF γ) (l : Launch) {h : AH} {sz : Nat} {W' : Nat → Prop} (hWs : ∀ q, W' q → γ.W q) (hWn : ∀ q, sz ≤ q → W' q) {o : Nat} {u : CU} {g : AH} {w K' mc ms : Nat} {f0 : Nat → Int64} {x9 : AS} (hle : HLE (ch o u g) h) (hin : ∀ q c, ch o u g q = some c → W' q) (ew : h w = some (.inl (2, 1, .inr (.inl f0)))) (hww : ¬ W' w) (h2 : ¬ x9.1.1 = 2) (hM : MX (gsub γ W') l yX1_bestMove cX1_bestMove 1 (some .int) 44 1467 mc ms [.ref o] (ch o u g) sz (PCV o K' x9) (PCX o K' "java/util/NoSuchElementException" "" x9)) : MH γ l yX0_bestMove cX0_bestMove 3 (some .int) [(0, 8, 11, 39)] 45 1487 mc ms [.ref o, .ref w] h sz (WPost W' h sz w o K' x9) NX := by
  refine mh_start hG (by decide) (Nat.le_of_ble_eq_true rfl) (fun x et het C => ?_)
  obtain ⟨t, rfl, ta1, ta2, ta3, ta4⟩ := et_1 het
  refine aw_aload_n C rfl rfl dX0_bestMove_0 ?_
  refine aw_iconst C (v := nI 0) (by decide) dX0_bestMove_1 ?_
  refine aw_aload_n C rfl rfl dX0_bestMove_2 ?_
  refine aw_subV C hWs hle hin hWn ck0 hM q1627 q1628 q1629 q95 q1630 (ch_at (i := 0) rfl) (n9 := 0) (by decide +kernel) rfl (Nat.le_of_ble_eq_true rfl) (Nat.le_of_ble_eq_true rfl) (by dsimp only; omega) (by dsimp only; omega) rfl (Nat.le_of_ble_eq_true rfl) dX0_bestMove_3 (fun E h9 s9 hp9 hs9 hi9 => ?_) (fun v9 h9 s9 hp9 hs9 hi9 => ?_)
  · obtain ⟨⟨e9, rfl⟩ | ⟨e9, -⟩, u9, g9, eh9, hc9⟩ := hp9
    · refine ax_catch C [] t [] rfl (fun z hz => by cases hz) (cov_yes ta1 ta2 (by decide) (by decide)) (by rw [ta4]; decide) (by rw [ta4]; exact q1614) q1472 (fun q9 => aw_pc ta3 ?_)
      refine aw_astore_n C rfl (by decide) rfl dX0_bestMove_11 ?_
      refine aw_iconst C (v := nI 1) (by decide) dX0_bestMove_12 ?_
      exact aw_iret C rfl dX0_bestMove_13 (by omega) (by omega) ⟨by rw [e9], hs9, fun q a b => mrg_n a, ⟨u9, g9, by rw [← eh9]; exact mrg_le hi9, by rw [← eh9]; exact hi9, hc9⟩, f0, (mrg_n hww).trans ew, fun z => absurd z (by rw [e9]; decide)⟩
    · exact absurd e9 h2
  obtain ⟨e9, rfl, u9, g9, eh9, hc9⟩ := hp9
  refine aw_i2l C (rfl) dX0_bestMove_6 ?_
  refine aw_lastN C (j := 0) ((mrg_n hww).trans ew) (by decide) (by decide) dX0_bestMove_7 ?_
  refine aw_goto C (tgt := 14) dX0_bestMove_8 (by decide) ?_
  refine aw_iconst C (v := nI 0) (by decide) dX0_bestMove_14 ?_
  refine aw_iret C rfl dX0_bestMove_15 (by omega) (by omega) ?_
  refine ⟨by rw [e9], hs9, fun q a b => (hset_n _ _ b).trans (mrg_n a), ⟨u9, g9, fun q c z => ?_, by rw [← eh9]; exact hi9, hc9⟩, _, hset_s _ _ _, fun _ => ?_⟩
  · rw [← eh9] at z
    have hw9 := hi9 q c z
    exact (hset_n _ _ (fun e => hww (by rw [← e]; exact hw9))).trans ((mrg_y hw9).trans z)
  · simp [vp_updL]
set_option maxRecDepth 100000 in
theorem wr_winningColours {γ : Gm} (hG : GF γ) (l : Launch) {h : AH} {sz : Nat} {W' : Nat → Prop} (hWs : ∀ q, W' q → γ.W q) (hWn : ∀ q, sz ≤ q → W' q) {o : Nat} {u : CU} {g : AH} {w K' mc ms : Nat} {f0 : Nat → Int64} {x9 : AS} (hle : HLE (ch o u g) h) (hin : ∀ q c, ch o u g q = some c → W' q) (ew : h w = some (.inl (2, 1, .inr (.inl f0)))) (hww : ¬ W' w) (h2 : ¬ x9.1.1 = 2) {p0 : Int32} (hM : MX (gsub γ W') l yX1_winningColours cX1_winningColours 5 (some .int) 42 1421 mc ms [.ref o, .int p0] (ch o u g) sz (PCV o K' x9) (PCX o K' "java/lang/IndexOutOfBoundsException" "" x9)) : MH γ l yX0_winningColours cX0_winningColours 4 (some .int) [(0, 9, 12, 28)] 43 1445 mc ms [.ref o, .int p0, .ref w] h sz (WPost W' h sz w o K' x9) NX := by
  refine mh_start hG (by decide) (Nat.le_of_ble_eq_true rfl) (fun x et het C => ?_)
  obtain ⟨t, rfl, ta1, ta2, ta3, ta4⟩ := et_1 het
  refine aw_aload_n C rfl rfl dX0_winningColours_0 ?_
  refine aw_iconst C (v := nI 0) (by decide) dX0_winningColours_1 ?_
  refine aw_aload_n C rfl rfl dX0_winningColours_2 ?_
  refine aw_iload_n C rfl rfl dX0_winningColours_3 ?_
  refine aw_subV C hWs hle hin hWn ck0 hM q1676 q1677 q1678 q95 q1679 (ch_at (i := 0) rfl) (n9 := 1) (by decide +kernel) rfl (Nat.le_of_ble_eq_true rfl) (Nat.le_of_ble_eq_true rfl) (by dsimp only; omega) (by dsimp only; omega) rfl (Nat.le_of_ble_eq_true rfl) dX0_winningColours_4 (fun E h9 s9 hp9 hs9 hi9 => ?_) (fun v9 h9 s9 hp9 hs9 hi9 => ?_)
  · obtain ⟨⟨e9, rfl⟩ | ⟨e9, -⟩, u9, g9, eh9, hc9⟩ := hp9
    · refine ax_catch C [] t [] rfl (fun z hz => by cases hz) (cov_yes ta1 ta2 (by decide) (by decide)) (by rw [ta4]; decide) (by rw [ta4]; exact q1537) q1553 (fun q9 => aw_pc ta3 ?_)
      refine aw_astore_n C rfl (by decide) rfl dX0_winningColours_12 ?_
      refine aw_iconst C (v := nI 1) (by decide) dX0_winningColours_13 ?_
      exact aw_iret C rfl dX0_winningColours_14 (by omega) (by omega) ⟨by rw [e9], hs9, fun q a b => mrg_n a, ⟨u9, g9, by rw [← eh9]; exact mrg_le hi9, by rw [← eh9]; exact hi9, hc9⟩, f0, (mrg_n hww).trans ew, fun z => absurd z (by rw [e9]; decide)⟩
    · exact absurd e9 h2
  obtain ⟨e9, rfl, u9, g9, eh9, hc9⟩ := hp9
  refine aw_i2l C (rfl) dX0_winningColours_7 ?_
  refine aw_lastN C (j := 0) ((mrg_n hww).trans ew) (by decide) (by decide) dX0_winningColours_8 ?_
  refine aw_goto C (tgt := 15) dX0_winningColours_9 (by decide) ?_
  refine aw_iconst C (v := nI 0) (by decide) dX0_winningColours_15 ?_
  refine aw_iret C rfl dX0_winningColours_16 (by omega) (by omega) ?_
  refine ⟨by rw [e9], hs9, fun q a b => (hset_n _ _ b).trans (mrg_n a), ⟨u9, g9, fun q c z => ?_, by rw [← eh9]; exact hi9, hc9⟩, _, hset_s _ _ _, fun _ => ?_⟩
  · rw [← eh9] at z
    have hw9 := hi9 q c z
    exact (hset_n _ _ (fun e => hww (by rw [← e]; exact hw9))).trans ((mrg_y hw9).trans z)
  · simp [vp_updL]
set_option maxRecDepth 100000 in
theorem wr_falls {γ : Gm} (hG : GF γ) (l : Launch) {h : AH} {sz : Nat} {W' : Nat → Prop} (hWs : ∀ q, W' q → γ.W q) (hWn : ∀ q, sz ≤ q → W' q) {o : Nat} {u : CU} {g : AH} {w K' mc ms : Nat} {f0 : Nat → Int64} {x9 : AS} (hle : HLE (ch o u g) h) (hin : ∀ q c, ch o u g q = some c → W' q) (ew : h w = some (.inl (2, 1, .inr (.inl f0)))) (hww : ¬ W' w) (hNc : ∀ U, γ.X U → va_Nc "java/util/NoSuchElementException" "java/lang/IndexOutOfBoundsException" U) {p0 : Int32} (hM : MX (gsub γ W') l yX1_falls cX1_falls 2 (some .int) 8 182 mc ms [.ref o, .int p0] (ch o u g) sz (PCV o K' x9) (PCX o K' "java/lang/IndexOutOfBoundsException" "java/util/NoSuchElementException" x9)) : MH γ l yX0_falls cX0_falls 4 (some .int) [(0, 9, 12, 28), (0, 9, 15, 39)] 9 203 mc ms [.ref o, .int p0, .ref w] h sz (WPost W' h sz w o K' x9) NX := by
  refine mh_start hG (by decide) (Nat.le_of_ble_eq_true rfl) (fun x et het C => ?_)
  obtain ⟨t, t', rfl, ⟨ta1, ta2, ta3, ta4⟩, ⟨tb1, tb2, tb3, tb4⟩⟩ := et_2 het
  refine aw_aload_n C rfl rfl dX0_falls_0 ?_
  refine aw_iconst C (v := nI 0) (by decide) dX0_falls_1 ?_
  refine aw_aload_n C rfl rfl dX0_falls_2 ?_
  refine aw_iload_n C rfl rfl dX0_falls_3 ?_
  refine aw_subV C hWs hle hin hWn ck0 hM q1683 q1684 q1685 q95 q1686 (ch_at (i := 0) rfl) (n9 := 1) (by decide +kernel) rfl (Nat.le_of_ble_eq_true rfl) (Nat.le_of_ble_eq_true rfl) (by dsimp only; omega) (by dsimp only; omega) rfl (Nat.le_of_ble_eq_true rfl) dX0_falls_4 (fun E h9 s9 hp9 hs9 hi9 => ?_) (fun v9 h9 s9 hp9 hs9 hi9 => ?_)
  · obtain ⟨⟨e9, rfl⟩ | ⟨e9, rfl⟩, u9, g9, eh9, hc9⟩ := hp9
    · refine ax_catch C [] t [t'] rfl (fun z hz => by cases hz) (cov_yes ta1 ta2 (by decide) (by decide)) (by rw [ta4]; decide) (by rw [ta4]; exact q1537) q1553 (fun q9 => aw_pc ta3 ?_)
      refine aw_astore_n C rfl (by decide) rfl dX0_falls_12 ?_
      refine aw_iconst C (v := nI 1) (by decide) dX0_falls_13 ?_
      exact aw_iret C rfl dX0_falls_14 (by omega) (by omega) ⟨by rw [e9], hs9, fun q a b => mrg_n a, ⟨u9, g9, by rw [← eh9]; exact mrg_le hi9, by rw [← eh9]; exact hi9, hc9⟩, f0, (mrg_n hww).trans ew, fun z => absurd z (by rw [e9]; decide)⟩
    · refine ax_catch C [t] t' [] rfl (fun z hz => by
        cases hz with
        | head => exact Or.inr ⟨by rw [ta4]; decide, "java/lang/IndexOutOfBoundsException", by rw [ta4]; exact q1537, hNc _ C.hX⟩
        | tail _ hz => cases hz) (cov_yes tb1 tb2 (by decide) (by decide)) (by rw [tb4]; decide) (by rw [tb4]; exact q1614) q1472 (fun q9 => aw_pc tb3 ?_)
      refine aw_astore_n C rfl (by decide) rfl dX0_falls_15 ?_
      refine aw_iconst C (v := nI 2) (by decide) dX0_falls_16 ?_
      exact aw_iret C rfl dX0_falls_17 (by omega) (by omega) ⟨by rw [e9], hs9, fun q a b => mrg_n a, ⟨u9, g9, by rw [← eh9]; exact mrg_le hi9, by rw [← eh9]; exact hi9, hc9⟩, f0, (mrg_n hww).trans ew, fun z => absurd z (by rw [e9]; decide)⟩
  obtain ⟨e9, rfl, u9, g9, eh9, hc9⟩ := hp9
  refine aw_i2l C (rfl) dX0_falls_7 ?_
  refine aw_lastN C (j := 0) ((mrg_n hww).trans ew) (by decide) (by decide) dX0_falls_8 ?_
  refine aw_goto C (tgt := 18) dX0_falls_9 (by decide) ?_
  refine aw_iconst C (v := nI 0) (by decide) dX0_falls_18 ?_
  refine aw_iret C rfl dX0_falls_19 (by omega) (by omega) ?_
  refine ⟨by rw [e9], hs9, fun q a b => (hset_n _ _ b).trans (mrg_n a), ⟨u9, g9, fun q c z => ?_, by rw [← eh9]; exact hi9, hc9⟩, _, hset_s _ _ _, fun _ => ?_⟩
  · rw [← eh9] at z
    have hw9 := hi9 q c z
    exact (hset_n _ _ (fun e => hww (by rw [← e]; exact hw9))).trans ((mrg_y hw9).trans z)
  · simp [vp_updL]
set_option maxRecDepth 100000 in
theorem wr_valueWithout {γ : Gm} (hG : GF γ) (l : Launch) {h : AH} {sz : Nat} {W' : Nat → Prop} (hWs : ∀ q, W' q → γ.W q) (hWn : ∀ q, sz ≤ q → W' q) {o : Nat} {u : CU} {g : AH} {w K' mc ms : Nat} {f0 : Nat → Int64} {x9 : AS} (hle : HLE (ch o u g) h) (hin : ∀ q c, ch o u g q = some c → W' q) (ew : h w = some (.inl (2, 1, .inr (.inl f0)))) (hww : ¬ W' w) (hNc : ∀ U, γ.X U → va_Nc "java/util/NoSuchElementException" "java/lang/IndexOutOfBoundsException" U) {p0 : Int32} (hM : MX (gsub γ W') l yX1_valueWithout cX1_valueWithout 2 (some .int) 40 1379 mc ms [.ref o, .int p0] (ch o u g) sz (PCV o K' x9) (PCX o K' "java/lang/IndexOutOfBoundsException" "java/util/NoSuchElementException" x9)) : MH γ l yX0_valueWithout cX0_valueWithout 4 (some .int) [(0, 9, 12, 28), (0, 9, 15, 39)] 41 1400 mc ms [.ref o, .int p0, .ref w] h sz (WPost W' h sz w o K' x9) NX := by
  refine mh_start hG (by decide) (Nat.le_of_ble_eq_true rfl) (fun x et het C => ?_)
  obtain ⟨t, t', rfl, ⟨ta1, ta2, ta3, ta4⟩, ⟨tb1, tb2, tb3, tb4⟩⟩ := et_2 het
  refine aw_aload_n C rfl rfl dX0_valueWithout_0 ?_
  refine aw_iconst C (v := nI 0) (by decide) dX0_valueWithout_1 ?_
  refine aw_aload_n C rfl rfl dX0_valueWithout_2 ?_
  refine aw_iload_n C rfl rfl dX0_valueWithout_3 ?_
  refine aw_subV C hWs hle hin hWn ck0 hM q1691 q1692 q1693 q95 q1694 (ch_at (i := 0) rfl) (n9 := 1) (by decide +kernel) rfl (Nat.le_of_ble_eq_true rfl) (Nat.le_of_ble_eq_true rfl) (by dsimp only; omega) (by dsimp only; omega) rfl (Nat.le_of_ble_eq_true rfl) dX0_valueWithout_4 (fun E h9 s9 hp9 hs9 hi9 => ?_) (fun v9 h9 s9 hp9 hs9 hi9 => ?_)
  · obtain ⟨⟨e9, rfl⟩ | ⟨e9, rfl⟩, u9, g9, eh9, hc9⟩ := hp9
    · refine ax_catch C [] t [t'] rfl (fun z hz => by cases hz) (cov_yes ta1 ta2 (by decide) (by decide)) (by rw [ta4]; decide) (by rw [ta4]; exact q1537) q1553 (fun q9 => aw_pc ta3 ?_)
      refine aw_astore_n C rfl (by decide) rfl dX0_valueWithout_12 ?_
      refine aw_iconst C (v := nI 1) (by decide) dX0_valueWithout_13 ?_
      exact aw_iret C rfl dX0_valueWithout_14 (by omega) (by omega) ⟨by rw [e9], hs9, fun q a b => mrg_n a, ⟨u9, g9, by rw [← eh9]; exact mrg_le hi9, by rw [← eh9]; exact hi9, hc9⟩, f0, (mrg_n hww).trans ew, fun z => absurd z (by rw [e9]; decide)⟩
    · refine ax_catch C [t] t' [] rfl (fun z hz => by
        cases hz with
        | head => exact Or.inr ⟨by rw [ta4]; decide, "java/lang/IndexOutOfBoundsException", by rw [ta4]; exact q1537, hNc _ C.hX⟩
        | tail _ hz => cases hz) (cov_yes tb1 tb2 (by decide) (by decide)) (by rw [tb4]; decide) (by rw [tb4]; exact q1614) q1472 (fun q9 => aw_pc tb3 ?_)
      refine aw_astore_n C rfl (by decide) rfl dX0_valueWithout_15 ?_
      refine aw_iconst C (v := nI 2) (by decide) dX0_valueWithout_16 ?_
      exact aw_iret C rfl dX0_valueWithout_17 (by omega) (by omega) ⟨by rw [e9], hs9, fun q a b => mrg_n a, ⟨u9, g9, by rw [← eh9]; exact mrg_le hi9, by rw [← eh9]; exact hi9, hc9⟩, f0, (mrg_n hww).trans ew, fun z => absurd z (by rw [e9]; decide)⟩
  obtain ⟨e9, rfl, u9, g9, eh9, hc9⟩ := hp9
  refine aw_i2l C (rfl) dX0_valueWithout_7 ?_
  refine aw_lastN C (j := 0) ((mrg_n hww).trans ew) (by decide) (by decide) dX0_valueWithout_8 ?_
  refine aw_goto C (tgt := 18) dX0_valueWithout_9 (by decide) ?_
  refine aw_iconst C (v := nI 0) (by decide) dX0_valueWithout_18 ?_
  refine aw_iret C rfl dX0_valueWithout_19 (by omega) (by omega) ?_
  refine ⟨by rw [e9], hs9, fun q a b => (hset_n _ _ b).trans (mrg_n a), ⟨u9, g9, fun q c z => ?_, by rw [← eh9]; exact hi9, hc9⟩, _, hset_s _ _ _, fun _ => ?_⟩
  · rw [← eh9] at z
    have hw9 := hi9 q c z
    exact (hset_n _ _ (fun e => hww (by rw [← e]; exact hw9))).trans ((mrg_y hw9).trans z)
  · simp [vp_updL]
set_option maxRecDepth 100000 in
theorem wr_lay {γ : Gm} (hG : GF γ) (l : Launch) {h : AH} {sz : Nat} {W' : Nat → Prop} (hWs : ∀ q, W' q → γ.W q) (hWn : ∀ q, sz ≤ q → W' q) {o : Nat} {u : CU} {g : AH} {w K' mc ms : Nat} {f0 : Nat → Int64} {x9 : AS} (hle : HLE (ch o u g) h) (hin : ∀ q c, ch o u g q = some c → W' q) (ew : h w = some (.inl (2, 1, .inr (.inl f0)))) (hww : ¬ W' w) (hNc : ∀ U, γ.X U → va_Nc "java/lang/IllegalStateException" "java/lang/IndexOutOfBoundsException" U) {p0 p1 : Int32} (hM : MX (gsub γ W') l yX1_lay cX1_lay 4 (some .int) 21 465 mc ms [.ref o, .int p0, .int p1] (ch o u g) sz (PCV o K' x9) (PCX o K' "java/lang/IndexOutOfBoundsException" "java/lang/IllegalStateException" x9)) : MH γ l yX0_lay cX0_lay 5 (some .int) [(0, 10, 13, 28), (0, 10, 17, 13)] 22 488 mc ms [.ref o, .int p0, .int p1, .ref w] h sz (WPost W' h sz w o K' x9) NX := by
  refine mh_start hG (by decide) (Nat.le_of_ble_eq_true rfl) (fun x et het C => ?_)
  obtain ⟨t, t', rfl, ⟨ta1, ta2, ta3, ta4⟩, ⟨tb1, tb2, tb3, tb4⟩⟩ := et_2 het
  refine aw_aload_n C rfl rfl dX0_lay_0 ?_
  refine aw_iconst C (v := nI 0) (by decide) dX0_lay_1 ?_
  refine aw_aload_n C rfl rfl dX0_lay_2 ?_
  refine aw_iload_n C rfl rfl dX0_lay_3 ?_
  refine aw_iload_n C rfl rfl dX0_lay_4 ?_
  refine aw_subV C hWs hle hin hWn ck0 hM q1698 q1699 q1700 q95 q1701 (ch_at (i := 0) rfl) (n9 := 2) (by decide +kernel) rfl (Nat.le_of_ble_eq_true rfl) (Nat.le_of_ble_eq_true rfl) (by dsimp only; omega) (by dsimp only; omega) rfl (Nat.le_of_ble_eq_true rfl) dX0_lay_5 (fun E h9 s9 hp9 hs9 hi9 => ?_) (fun v9 h9 s9 hp9 hs9 hi9 => ?_)
  · obtain ⟨⟨e9, rfl⟩ | ⟨e9, rfl⟩, u9, g9, eh9, hc9⟩ := hp9
    · refine ax_catch C [] t [t'] rfl (fun z hz => by cases hz) (cov_yes ta1 ta2 (by decide) (by decide)) (by rw [ta4]; decide) (by rw [ta4]; exact q1537) q1553 (fun q9 => aw_pc ta3 ?_)
      refine aw_astore C (by decide) rfl dX0_lay_13 ?_
      refine aw_iconst C (v := nI 1) (by decide) dX0_lay_15 ?_
      exact aw_iret C rfl dX0_lay_16 (by omega) (by omega) ⟨by rw [e9], hs9, fun q a b => mrg_n a, ⟨u9, g9, by rw [← eh9]; exact mrg_le hi9, by rw [← eh9]; exact hi9, hc9⟩, f0, (mrg_n hww).trans ew, fun z => absurd z (by rw [e9]; decide)⟩
    · refine ax_catch C [t] t' [] rfl (fun z hz => by
        cases hz with
        | head => exact Or.inr ⟨by rw [ta4]; decide, "java/lang/IndexOutOfBoundsException", by rw [ta4]; exact q1537, hNc _ C.hX⟩
        | tail _ hz => cases hz) (cov_yes tb1 tb2 (by decide) (by decide)) (by rw [tb4]; decide) (by rw [tb4]; exact q1231) q1241 (fun q9 => aw_pc tb3 ?_)
      refine aw_astore C (by decide) rfl dX0_lay_17 ?_
      refine aw_iconst C (v := nI 2) (by decide) dX0_lay_19 ?_
      exact aw_iret C rfl dX0_lay_20 (by omega) (by omega) ⟨by rw [e9], hs9, fun q a b => mrg_n a, ⟨u9, g9, by rw [← eh9]; exact mrg_le hi9, by rw [← eh9]; exact hi9, hc9⟩, f0, (mrg_n hww).trans ew, fun z => absurd z (by rw [e9]; decide)⟩
  obtain ⟨e9, rfl, u9, g9, eh9, hc9⟩ := hp9
  refine aw_i2l C (rfl) dX0_lay_8 ?_
  refine aw_lastN C (j := 0) ((mrg_n hww).trans ew) (by decide) (by decide) dX0_lay_9 ?_
  refine aw_goto C (tgt := 21) dX0_lay_10 (by decide) ?_
  refine aw_iconst C (v := nI 0) (by decide) dX0_lay_21 ?_
  refine aw_iret C rfl dX0_lay_22 (by omega) (by omega) ?_
  refine ⟨by rw [e9], hs9, fun q a b => (hset_n _ _ b).trans (mrg_n a), ⟨u9, g9, fun q c z => ?_, by rw [← eh9]; exact hi9, hc9⟩, _, hset_s _ _ _, fun _ => ?_⟩
  · rw [← eh9] at z
    have hw9 := hi9 q c z
    exact (hset_n _ _ (fun e => hww (by rw [← e]; exact hw9))).trans ((mrg_y hw9).trans z)
  · simp [vp_updL]
set_option maxRecDepth 100000 in
theorem wr_pass {γ : Gm} (hG : GF γ) (l : Launch) {h : AH} {sz : Nat} {W' : Nat → Prop} (hWs : ∀ q, W' q → γ.W q) (hWn : ∀ q, sz ≤ q → W' q) {o : Nat} {u : CU} {g : AH} {w K' mc ms : Nat} {f0 : Nat → Int64} {x9 : AS} (hle : HLE (ch o u g) h) (hin : ∀ q c, ch o u g q = some c → W' q) (ew : h w = some (.inl (2, 1, .inr (.inl f0)))) (hww : ¬ W' w) (h2 : ¬ x9.1.1 = 2) (hM : MX (gsub γ W') l yX1_pass cX1_pass 2 (some .int) 21 465 mc ms [.ref o] (ch o u g) sz (PCV o K' x9) (PCX o K' "java/lang/IllegalStateException" "" x9)) : MH γ l yX0_pass cX0_pass 3 (some .int) [(0, 8, 11, 13)] 22 486 mc ms [.ref o, .ref w] h sz (WPost W' h sz w o K' x9) NX := by
  refine mh_start hG (by decide) (Nat.le_of_ble_eq_true rfl) (fun x et het C => ?_)
  obtain ⟨t, rfl, ta1, ta2, ta3, ta4⟩ := et_1 het
  refine aw_aload_n C rfl rfl dX0_pass_0 ?_
  refine aw_iconst C (v := nI 0) (by decide) dX0_pass_1 ?_
  refine aw_aload_n C rfl rfl dX0_pass_2 ?_
  refine aw_subV C hWs hle hin hWn ck0 hM q1710 q1711 q1712 q95 q1713 (ch_at (i := 0) rfl) (n9 := 0) (by decide +kernel) rfl (Nat.le_of_ble_eq_true rfl) (Nat.le_of_ble_eq_true rfl) (by dsimp only; omega) (by dsimp only; omega) rfl (Nat.le_of_ble_eq_true rfl) dX0_pass_3 (fun E h9 s9 hp9 hs9 hi9 => ?_) (fun v9 h9 s9 hp9 hs9 hi9 => ?_)
  · obtain ⟨⟨e9, rfl⟩ | ⟨e9, -⟩, u9, g9, eh9, hc9⟩ := hp9
    · refine ax_catch C [] t [] rfl (fun z hz => by cases hz) (cov_yes ta1 ta2 (by decide) (by decide)) (by rw [ta4]; decide) (by rw [ta4]; exact q1231) q1241 (fun q9 => aw_pc ta3 ?_)
      refine aw_astore_n C rfl (by decide) rfl dX0_pass_11 ?_
      refine aw_iconst C (v := nI 1) (by decide) dX0_pass_12 ?_
      exact aw_iret C rfl dX0_pass_13 (by omega) (by omega) ⟨by rw [e9], hs9, fun q a b => mrg_n a, ⟨u9, g9, by rw [← eh9]; exact mrg_le hi9, by rw [← eh9]; exact hi9, hc9⟩, f0, (mrg_n hww).trans ew, fun z => absurd z (by rw [e9]; decide)⟩
    · exact absurd e9 h2
  obtain ⟨e9, rfl, u9, g9, eh9, hc9⟩ := hp9
  refine aw_i2l C (rfl) dX0_pass_6 ?_
  refine aw_lastN C (j := 0) ((mrg_n hww).trans ew) (by decide) (by decide) dX0_pass_7 ?_
  refine aw_goto C (tgt := 14) dX0_pass_8 (by decide) ?_
  refine aw_iconst C (v := nI 0) (by decide) dX0_pass_14 ?_
  refine aw_iret C rfl dX0_pass_15 (by omega) (by omega) ?_
  refine ⟨by rw [e9], hs9, fun q a b => (hset_n _ _ b).trans (mrg_n a), ⟨u9, g9, fun q c z => ?_, by rw [← eh9]; exact hi9, hc9⟩, _, hset_s _ _ _, fun _ => ?_⟩
  · rw [← eh9] at z
    have hw9 := hi9 q c z
    exact (hset_n _ _ (fun e => hww (by rw [← e]; exact hw9))).trans ((mrg_y hw9).trans z)
  · simp [vp_updL]
set_option maxRecDepth 100000 in
theorem wr_playOut {γ : Gm} (hG : GF γ) (l : Launch) {h : AH} {sz : Nat} {W' : Nat → Prop} (hWs : ∀ q, W' q → γ.W q) (hWn : ∀ q, sz ≤ q → W' q) {o : Nat} {u : CU} {g : AH} {w K' mc ms : Nat} {f0 : Nat → Int64} {x9 : AS} (hle : HLE (ch o u g) h) (hin : ∀ q c, ch o u g q = some c → W' q) (ew : h w = some (.inl (2, 1, .inr (.inl f0)))) (hww : ¬ W' w) (h2 : ¬ x9.1.1 = 2) {p0 : Int32} (hM : MX (gsub γ W') l yX1_playOut cX1_playOut 4 (some .int) 44 1467 mc ms [.ref o, .int p0] (ch o u g) sz (PCV o K' x9) (PCX o K' "java/lang/IllegalArgumentException" "" x9)) : MH γ l yX0_playOut cX0_playOut 4 (some .int) [(0, 9, 12, 19)] 45 1490 mc ms [.ref o, .int p0, .ref w] h sz (WPost W' h sz w o K' x9) NX := by
  refine mh_start hG (by decide) (Nat.le_of_ble_eq_true rfl) (fun x et het C => ?_)
  obtain ⟨t, rfl, ta1, ta2, ta3, ta4⟩ := et_1 het
  refine aw_aload_n C rfl rfl dX0_playOut_0 ?_
  refine aw_iconst C (v := nI 0) (by decide) dX0_playOut_1 ?_
  refine aw_aload_n C rfl rfl dX0_playOut_2 ?_
  refine aw_iload_n C rfl rfl dX0_playOut_3 ?_
  refine aw_subV C hWs hle hin hWn ck0 hM q1718 q1719 q1720 q95 q1721 (ch_at (i := 0) rfl) (n9 := 1) (by decide +kernel) rfl (Nat.le_of_ble_eq_true rfl) (Nat.le_of_ble_eq_true rfl) (by dsimp only; omega) (by dsimp only; omega) rfl (Nat.le_of_ble_eq_true rfl) dX0_playOut_4 (fun E h9 s9 hp9 hs9 hi9 => ?_) (fun v9 h9 s9 hp9 hs9 hi9 => ?_)
  · obtain ⟨⟨e9, rfl⟩ | ⟨e9, -⟩, u9, g9, eh9, hc9⟩ := hp9
    · refine ax_catch C [] t [] rfl (fun z hz => by cases hz) (cov_yes ta1 ta2 (by decide) (by decide)) (by rw [ta4]; decide) (by rw [ta4]; exact q1267) q281 (fun q9 => aw_pc ta3 ?_)
      refine aw_astore_n C rfl (by decide) rfl dX0_playOut_12 ?_
      refine aw_iconst C (v := nI 1) (by decide) dX0_playOut_13 ?_
      exact aw_iret C rfl dX0_playOut_14 (by omega) (by omega) ⟨by rw [e9], hs9, fun q a b => mrg_n a, ⟨u9, g9, by rw [← eh9]; exact mrg_le hi9, by rw [← eh9]; exact hi9, hc9⟩, f0, (mrg_n hww).trans ew, fun z => absurd z (by rw [e9]; decide)⟩
    · exact absurd e9 h2
  obtain ⟨e9, rfl, u9, g9, eh9, hc9⟩ := hp9
  refine aw_i2l C (rfl) dX0_playOut_7 ?_
  refine aw_lastN C (j := 0) ((mrg_n hww).trans ew) (by decide) (by decide) dX0_playOut_8 ?_
  refine aw_goto C (tgt := 15) dX0_playOut_9 (by decide) ?_
  refine aw_iconst C (v := nI 0) (by decide) dX0_playOut_15 ?_
  refine aw_iret C rfl dX0_playOut_16 (by omega) (by omega) ?_
  refine ⟨by rw [e9], hs9, fun q a b => (hset_n _ _ b).trans (mrg_n a), ⟨u9, g9, fun q c z => ?_, by rw [← eh9]; exact hi9, hc9⟩, _, hset_s _ _ _, fun _ => ?_⟩
  · rw [← eh9] at z
    have hw9 := hi9 q c z
    exact (hset_n _ _ (fun e => hww (by rw [← e]; exact hw9))).trans ((mrg_y hw9).trans z)
  · simp [vp_updL]
set_option maxRecDepth 100000 in
theorem wr_setPasses {γ : Gm} (hG : GF γ) (l : Launch) {h : AH} {sz : Nat} {W' : Nat → Prop} (hWs : ∀ q, W' q → γ.W q) (hWn : ∀ q, sz ≤ q → W' q) {o : Nat} {u : CU} {g : AH} {w K' mc ms : Nat} {f0 : Nat → Int64} {x9 : AS} (hle : HLE (ch o u g) h) (hin : ∀ q c, ch o u g q = some c → W' q) (ew : h w = some (.inl (2, 1, .inr (.inl f0)))) (hww : ¬ W' w) (h2 : ¬ x9.1.1 = 2) {p0 : Int32} (hM : MX (gsub γ W') l yX1_setPasses cX1_setPasses 3 (some .int) 21 465 mc ms [.ref o, .int p0] (ch o u g) sz (PCV o K' x9) (PCX o K' "java/lang/IllegalArgumentException" "" x9)) : MH γ l yX0_setPasses cX0_setPasses 4 (some .int) [(0, 9, 12, 19)] 22 487 mc ms [.ref o, .int p0, .ref w] h sz (WPost W' h sz w o K' x9) NX := by
  refine mh_start hG (by decide) (Nat.le_of_ble_eq_true rfl) (fun x et het C => ?_)
  obtain ⟨t, rfl, ta1, ta2, ta3, ta4⟩ := et_1 het
  refine aw_aload_n C rfl rfl dX0_setPasses_0 ?_
  refine aw_iconst C (v := nI 0) (by decide) dX0_setPasses_1 ?_
  refine aw_aload_n C rfl rfl dX0_setPasses_2 ?_
  refine aw_iload_n C rfl rfl dX0_setPasses_3 ?_
  refine aw_subV C hWs hle hin hWn ck0 hM q1726 q1727 q1728 q95 q1729 (ch_at (i := 0) rfl) (n9 := 1) (by decide +kernel) rfl (Nat.le_of_ble_eq_true rfl) (Nat.le_of_ble_eq_true rfl) (by dsimp only; omega) (by dsimp only; omega) rfl (Nat.le_of_ble_eq_true rfl) dX0_setPasses_4 (fun E h9 s9 hp9 hs9 hi9 => ?_) (fun v9 h9 s9 hp9 hs9 hi9 => ?_)
  · obtain ⟨⟨e9, rfl⟩ | ⟨e9, -⟩, u9, g9, eh9, hc9⟩ := hp9
    · refine ax_catch C [] t [] rfl (fun z hz => by cases hz) (cov_yes ta1 ta2 (by decide) (by decide)) (by rw [ta4]; decide) (by rw [ta4]; exact q1267) q281 (fun q9 => aw_pc ta3 ?_)
      refine aw_astore_n C rfl (by decide) rfl dX0_setPasses_12 ?_
      refine aw_iconst C (v := nI 1) (by decide) dX0_setPasses_13 ?_
      exact aw_iret C rfl dX0_setPasses_14 (by omega) (by omega) ⟨by rw [e9], hs9, fun q a b => mrg_n a, ⟨u9, g9, by rw [← eh9]; exact mrg_le hi9, by rw [← eh9]; exact hi9, hc9⟩, f0, (mrg_n hww).trans ew, fun z => absurd z (by rw [e9]; decide)⟩
    · exact absurd e9 h2
  obtain ⟨e9, rfl, u9, g9, eh9, hc9⟩ := hp9
  refine aw_i2l C (rfl) dX0_setPasses_7 ?_
  refine aw_lastN C (j := 0) ((mrg_n hww).trans ew) (by decide) (by decide) dX0_setPasses_8 ?_
  refine aw_goto C (tgt := 15) dX0_setPasses_9 (by decide) ?_
  refine aw_iconst C (v := nI 0) (by decide) dX0_setPasses_15 ?_
  refine aw_iret C rfl dX0_setPasses_16 (by omega) (by omega) ?_
  refine ⟨by rw [e9], hs9, fun q a b => (hset_n _ _ b).trans (mrg_n a), ⟨u9, g9, fun q c z => ?_, by rw [← eh9]; exact hi9, hc9⟩, _, hset_s _ _ _, fun _ => ?_⟩
  · rw [← eh9] at z
    have hw9 := hi9 q c z
    exact (hset_n _ _ (fun e => hww (by rw [← e]; exact hw9))).trans ((mrg_y hw9).trans z)
  · simp [vp_updL]
set_option maxRecDepth 100000 in
theorem wr_move {γ : Gm} (hG : GF γ) (l : Launch) {h : AH} {sz : Nat} {W' : Nat → Prop} (hWs : ∀ q, W' q → γ.W q) (hWn : ∀ q, sz ≤ q → W' q) {o : Nat} {u : CU} {g : AH} {w K' mc ms : Nat} {f0 : Nat → Int64} {x9 : AS} (hle : HLE (ch o u g) h) (hin : ∀ q c, ch o u g q = some c → W' q) (ew : h w = some (.inl (2, 1, .inr (.inl f0)))) (hww : ¬ W' w) (hNc : ∀ U, γ.X U → va_Nc "java/lang/IllegalArgumentException" "java/lang/IndexOutOfBoundsException" U) {p0 p1 : Int32} (hM : MX (gsub γ W') l yX1_move cX1_move 3 (some .int) 7 161 mc ms [.ref o, .int p0, .int p1] (ch o u g) sz (PCV o K' x9) (PCX o K' "java/lang/IndexOutOfBoundsException" "java/lang/IllegalArgumentException" x9)) : MH γ l yX0_move cX0_move 5 (some .int) [(0, 10, 13, 28), (0, 10, 17, 19)] 8 183 mc ms [.ref o, .int p0, .int p1, .ref w] h sz (WPost W' h sz w o K' x9) NX := by
  refine mh_start hG (by decide) (Nat.le_of_ble_eq_true rfl) (fun x et het C => ?_)
  obtain ⟨t, t', rfl, ⟨ta1, ta2, ta3, ta4⟩, ⟨tb1, tb2, tb3, tb4⟩⟩ := et_2 het
  refine aw_aload_n C rfl rfl dX0_move_0 ?_
  refine aw_iconst C (v := nI 0) (by decide) dX0_move_1 ?_
  refine aw_aload_n C rfl rfl dX0_move_2 ?_
  refine aw_iload_n C rfl rfl dX0_move_3 ?_
  refine aw_iload_n C rfl rfl dX0_move_4 ?_
  refine aw_subV C hWs hle hin hWn ck0 hM q1734 q1735 q1736 q95 q1737 (ch_at (i := 0) rfl) (n9 := 2) (by decide +kernel) rfl (Nat.le_of_ble_eq_true rfl) (Nat.le_of_ble_eq_true rfl) (by dsimp only; omega) (by dsimp only; omega) rfl (Nat.le_of_ble_eq_true rfl) dX0_move_5 (fun E h9 s9 hp9 hs9 hi9 => ?_) (fun v9 h9 s9 hp9 hs9 hi9 => ?_)
  · obtain ⟨⟨e9, rfl⟩ | ⟨e9, rfl⟩, u9, g9, eh9, hc9⟩ := hp9
    · refine ax_catch C [] t [t'] rfl (fun z hz => by cases hz) (cov_yes ta1 ta2 (by decide) (by decide)) (by rw [ta4]; decide) (by rw [ta4]; exact q1537) q1553 (fun q9 => aw_pc ta3 ?_)
      refine aw_astore C (by decide) rfl dX0_move_13 ?_
      refine aw_iconst C (v := nI 1) (by decide) dX0_move_15 ?_
      exact aw_iret C rfl dX0_move_16 (by omega) (by omega) ⟨by rw [e9], hs9, fun q a b => mrg_n a, ⟨u9, g9, by rw [← eh9]; exact mrg_le hi9, by rw [← eh9]; exact hi9, hc9⟩, f0, (mrg_n hww).trans ew, fun z => absurd z (by rw [e9]; decide)⟩
    · refine ax_catch C [t] t' [] rfl (fun z hz => by
        cases hz with
        | head => exact Or.inr ⟨by rw [ta4]; decide, "java/lang/IndexOutOfBoundsException", by rw [ta4]; exact q1537, hNc _ C.hX⟩
        | tail _ hz => cases hz) (cov_yes tb1 tb2 (by decide) (by decide)) (by rw [tb4]; decide) (by rw [tb4]; exact q1267) q281 (fun q9 => aw_pc tb3 ?_)
      refine aw_astore C (by decide) rfl dX0_move_17 ?_
      refine aw_iconst C (v := nI 2) (by decide) dX0_move_19 ?_
      exact aw_iret C rfl dX0_move_20 (by omega) (by omega) ⟨by rw [e9], hs9, fun q a b => mrg_n a, ⟨u9, g9, by rw [← eh9]; exact mrg_le hi9, by rw [← eh9]; exact hi9, hc9⟩, f0, (mrg_n hww).trans ew, fun z => absurd z (by rw [e9]; decide)⟩
  obtain ⟨e9, rfl, u9, g9, eh9, hc9⟩ := hp9
  refine aw_i2l C (rfl) dX0_move_8 ?_
  refine aw_lastN C (j := 0) ((mrg_n hww).trans ew) (by decide) (by decide) dX0_move_9 ?_
  refine aw_goto C (tgt := 21) dX0_move_10 (by decide) ?_
  refine aw_iconst C (v := nI 0) (by decide) dX0_move_21 ?_
  refine aw_iret C rfl dX0_move_22 (by omega) (by omega) ?_
  refine ⟨by rw [e9], hs9, fun q a b => (hset_n _ _ b).trans (mrg_n a), ⟨u9, g9, fun q c z => ?_, by rw [← eh9]; exact hi9, hc9⟩, _, hset_s _ _ _, fun _ => ?_⟩
  · rw [← eh9] at z
    have hw9 := hi9 q c z
    exact (hset_n _ _ (fun e => hww (by rw [← e]; exact hw9))).trans ((mrg_y hw9).trans z)
  · simp [vp_updL]
set_option maxRecDepth 100000 in
theorem wr_account {γ : Gm} (hG : GF γ) (l : Launch) {h : AH} {sz : Nat} {W' : Nat → Prop} (hWs : ∀ q, W' q → γ.W q) (hWn : ∀ q, sz ≤ q → W' q) {o : Nat} {u : CU} {g : AH} {w K' mc ms : Nat} {f0 : Nat → Int64} {x9 : AS} (hle : HLE (ch o u g) h) (hin : ∀ q c, ch o u g q = some c → W' q) (ew : h w = some (.inl (2, 1, .inr (.inl f0)))) (hww : ¬ W' w) (hNc : ∀ U, γ.X U → va_Nc "java/lang/IllegalArgumentException" "java/lang/IndexOutOfBoundsException" U) {p0 p1 : Int32} (hM : MX (gsub γ W') l yX1_account cX1_account 3 (some .int) 7 161 mc ms [.ref o, .int p0, .int p1] (ch o u g) sz (PCV o K' x9) (PCX o K' "java/lang/IndexOutOfBoundsException" "java/lang/IllegalArgumentException" x9)) : MH γ l yX0_account cX0_account 5 (some .int) [(0, 10, 13, 28), (0, 10, 17, 19)] 8 183 mc ms [.ref o, .int p0, .int p1, .ref w] h sz (WPost W' h sz w o K' x9) NX := by
  refine mh_start hG (by decide) (Nat.le_of_ble_eq_true rfl) (fun x et het C => ?_)
  obtain ⟨t, t', rfl, ⟨ta1, ta2, ta3, ta4⟩, ⟨tb1, tb2, tb3, tb4⟩⟩ := et_2 het
  refine aw_aload_n C rfl rfl dX0_account_0 ?_
  refine aw_iconst C (v := nI 0) (by decide) dX0_account_1 ?_
  refine aw_aload_n C rfl rfl dX0_account_2 ?_
  refine aw_iload_n C rfl rfl dX0_account_3 ?_
  refine aw_iload_n C rfl rfl dX0_account_4 ?_
  refine aw_subV C hWs hle hin hWn ck0 hM q1747 q1748 q1749 q95 q1750 (ch_at (i := 0) rfl) (n9 := 2) (by decide +kernel) rfl (Nat.le_of_ble_eq_true rfl) (Nat.le_of_ble_eq_true rfl) (by dsimp only; omega) (by dsimp only; omega) rfl (Nat.le_of_ble_eq_true rfl) dX0_account_5 (fun E h9 s9 hp9 hs9 hi9 => ?_) (fun v9 h9 s9 hp9 hs9 hi9 => ?_)
  · obtain ⟨⟨e9, rfl⟩ | ⟨e9, rfl⟩, u9, g9, eh9, hc9⟩ := hp9
    · refine ax_catch C [] t [t'] rfl (fun z hz => by cases hz) (cov_yes ta1 ta2 (by decide) (by decide)) (by rw [ta4]; decide) (by rw [ta4]; exact q1537) q1553 (fun q9 => aw_pc ta3 ?_)
      refine aw_astore C (by decide) rfl dX0_account_13 ?_
      refine aw_iconst C (v := nI 1) (by decide) dX0_account_15 ?_
      exact aw_iret C rfl dX0_account_16 (by omega) (by omega) ⟨by rw [e9], hs9, fun q a b => mrg_n a, ⟨u9, g9, by rw [← eh9]; exact mrg_le hi9, by rw [← eh9]; exact hi9, hc9⟩, f0, (mrg_n hww).trans ew, fun z => absurd z (by rw [e9]; decide)⟩
    · refine ax_catch C [t] t' [] rfl (fun z hz => by
        cases hz with
        | head => exact Or.inr ⟨by rw [ta4]; decide, "java/lang/IndexOutOfBoundsException", by rw [ta4]; exact q1537, hNc _ C.hX⟩
        | tail _ hz => cases hz) (cov_yes tb1 tb2 (by decide) (by decide)) (by rw [tb4]; decide) (by rw [tb4]; exact q1267) q281 (fun q9 => aw_pc tb3 ?_)
      refine aw_astore C (by decide) rfl dX0_account_17 ?_
      refine aw_iconst C (v := nI 2) (by decide) dX0_account_19 ?_
      exact aw_iret C rfl dX0_account_20 (by omega) (by omega) ⟨by rw [e9], hs9, fun q a b => mrg_n a, ⟨u9, g9, by rw [← eh9]; exact mrg_le hi9, by rw [← eh9]; exact hi9, hc9⟩, f0, (mrg_n hww).trans ew, fun z => absurd z (by rw [e9]; decide)⟩
  obtain ⟨e9, rfl, u9, g9, eh9, hc9⟩ := hp9
  refine aw_i2l C (rfl) dX0_account_8 ?_
  refine aw_lastN C (j := 0) ((mrg_n hww).trans ew) (by decide) (by decide) dX0_account_9 ?_
  refine aw_goto C (tgt := 21) dX0_account_10 (by decide) ?_
  refine aw_iconst C (v := nI 0) (by decide) dX0_account_21 ?_
  refine aw_iret C rfl dX0_account_22 (by omega) (by omega) ?_
  refine ⟨by rw [e9], hs9, fun q a b => (hset_n _ _ b).trans (mrg_n a), ⟨u9, g9, fun q c z => ?_, by rw [← eh9]; exact hi9, hc9⟩, _, hset_s _ _ _, fun _ => ?_⟩
  · rw [← eh9] at z
    have hw9 := hi9 q c z
    exact (hset_n _ _ (fun e => hww (by rw [← e]; exact hw9))).trans ((mrg_y hw9).trans z)
  · simp [vp_updL]
set_option maxRecDepth 100000 in
theorem wr_writtenByte {γ : Gm} (hG : GF γ) (l : Launch) {h : AH} {sz : Nat} {W' : Nat → Prop} (hWs : ∀ q, W' q → γ.W q) (hWn : ∀ q, sz ≤ q → W' q) {o : Nat} {u : CU} {g : AH} {w K' mc ms : Nat} {f0 : Nat → Int64} {x9 : AS} (hle : HLE (ch o u g) h) (hin : ∀ q c, ch o u g q = some c → W' q) (ew : h w = some (.inl (2, 1, .inr (.inl f0)))) (hww : ¬ W' w) (h2 : ¬ x9.1.1 = 2) {p0 : Int32} (hM : MX (gsub γ W') l yX1_writtenByte cX1_writtenByte 2 (some .int) 7 161 mc ms [.ref o, .int p0] (ch o u g) sz (PCV o K' x9) (PCX o K' "java/lang/IndexOutOfBoundsException" "" x9)) : MH γ l yX0_writtenByte cX0_writtenByte 4 (some .int) [(0, 9, 12, 28)] 8 182 mc ms [.ref o, .int p0, .ref w] h sz (WPost W' h sz w o K' x9) NX := by
  refine mh_start hG (by decide) (Nat.le_of_ble_eq_true rfl) (fun x et het C => ?_)
  obtain ⟨t, rfl, ta1, ta2, ta3, ta4⟩ := et_1 het
  refine aw_aload_n C rfl rfl dX0_writtenByte_0 ?_
  refine aw_iconst C (v := nI 0) (by decide) dX0_writtenByte_1 ?_
  refine aw_aload_n C rfl rfl dX0_writtenByte_2 ?_
  refine aw_iload_n C rfl rfl dX0_writtenByte_3 ?_
  refine aw_subV C hWs hle hin hWn ck0 hM q1760 q1761 q1762 q95 q1763 (ch_at (i := 0) rfl) (n9 := 1) (by decide +kernel) rfl (Nat.le_of_ble_eq_true rfl) (Nat.le_of_ble_eq_true rfl) (by dsimp only; omega) (by dsimp only; omega) rfl (Nat.le_of_ble_eq_true rfl) dX0_writtenByte_4 (fun E h9 s9 hp9 hs9 hi9 => ?_) (fun v9 h9 s9 hp9 hs9 hi9 => ?_)
  · obtain ⟨⟨e9, rfl⟩ | ⟨e9, -⟩, u9, g9, eh9, hc9⟩ := hp9
    · refine ax_catch C [] t [] rfl (fun z hz => by cases hz) (cov_yes ta1 ta2 (by decide) (by decide)) (by rw [ta4]; decide) (by rw [ta4]; exact q1537) q1553 (fun q9 => aw_pc ta3 ?_)
      refine aw_astore_n C rfl (by decide) rfl dX0_writtenByte_12 ?_
      refine aw_iconst C (v := nI 1) (by decide) dX0_writtenByte_13 ?_
      exact aw_iret C rfl dX0_writtenByte_14 (by omega) (by omega) ⟨by rw [e9], hs9, fun q a b => mrg_n a, ⟨u9, g9, by rw [← eh9]; exact mrg_le hi9, by rw [← eh9]; exact hi9, hc9⟩, f0, (mrg_n hww).trans ew, fun z => absurd z (by rw [e9]; decide)⟩
    · exact absurd e9 h2
  obtain ⟨e9, rfl, u9, g9, eh9, hc9⟩ := hp9
  refine aw_i2l C (rfl) dX0_writtenByte_7 ?_
  refine aw_lastN C (j := 0) ((mrg_n hww).trans ew) (by decide) (by decide) dX0_writtenByte_8 ?_
  refine aw_goto C (tgt := 15) dX0_writtenByte_9 (by decide) ?_
  refine aw_iconst C (v := nI 0) (by decide) dX0_writtenByte_15 ?_
  refine aw_iret C rfl dX0_writtenByte_16 (by omega) (by omega) ?_
  refine ⟨by rw [e9], hs9, fun q a b => (hset_n _ _ b).trans (mrg_n a), ⟨u9, g9, fun q c z => ?_, by rw [← eh9]; exact hi9, hc9⟩, _, hset_s _ _ _, fun _ => ?_⟩
  · rw [← eh9] at z
    have hw9 := hi9 q c z
    exact (hset_n _ _ (fun e => hww (by rw [← e]; exact hw9))).trans ((mrg_y hw9).trans z)
  · simp [vp_updL]
set_option maxRecDepth 100000 in
theorem wr_undo {γ : Gm} (hG : GF γ) (l : Launch) {h : AH} {sz : Nat} {W' : Nat → Prop} (hWs : ∀ q, W' q → γ.W q) (hWn : ∀ q, sz ≤ q → W' q) {o : Nat} {u : CU} {g : AH} {w K' mc ms : Nat} {f0 : Nat → Int64} {x9 : AS} (hle : HLE (ch o u g) h) (hin : ∀ q c, ch o u g q = some c → W' q) (ew : h w = some (.inl (2, 1, .inr (.inl f0)))) (hww : ¬ W' w) (h2 : ¬ x9.1.1 = 2) (hM : MX (gsub γ W') l yX1_undo cX1_undo 1 (some .int) 7 141 mc ms [.ref o] (ch o u g) sz (PCV o K' x9) (PCX o K' "java/lang/IllegalStateException" "" x9)) : MH γ l yX0_undo cX0_undo 3 (some .int) [(0, 8, 11, 13)] 8 161 mc ms [.ref o, .ref w] h sz (WPost W' h sz w o K' x9) NX := by
  refine mh_start hG (by decide) (Nat.le_of_ble_eq_true rfl) (fun x et het C => ?_)
  obtain ⟨t, rfl, ta1, ta2, ta3, ta4⟩ := et_1 het
  refine aw_aload_n C rfl rfl dX0_undo_0 ?_
  refine aw_iconst C (v := nI 0) (by decide) dX0_undo_1 ?_
  refine aw_aload_n C rfl rfl dX0_undo_2 ?_
  refine aw_subV C hWs hle hin hWn ck0 hM q1777 q1778 q1779 q95 q1780 (ch_at (i := 0) rfl) (n9 := 0) (by decide +kernel) rfl (Nat.le_of_ble_eq_true rfl) (Nat.le_of_ble_eq_true rfl) (by dsimp only; omega) (by dsimp only; omega) rfl (Nat.le_of_ble_eq_true rfl) dX0_undo_3 (fun E h9 s9 hp9 hs9 hi9 => ?_) (fun v9 h9 s9 hp9 hs9 hi9 => ?_)
  · obtain ⟨⟨e9, rfl⟩ | ⟨e9, -⟩, u9, g9, eh9, hc9⟩ := hp9
    · refine ax_catch C [] t [] rfl (fun z hz => by cases hz) (cov_yes ta1 ta2 (by decide) (by decide)) (by rw [ta4]; decide) (by rw [ta4]; exact q1231) q1241 (fun q9 => aw_pc ta3 ?_)
      refine aw_astore_n C rfl (by decide) rfl dX0_undo_11 ?_
      refine aw_iconst C (v := nI 1) (by decide) dX0_undo_12 ?_
      exact aw_iret C rfl dX0_undo_13 (by omega) (by omega) ⟨by rw [e9], hs9, fun q a b => mrg_n a, ⟨u9, g9, by rw [← eh9]; exact mrg_le hi9, by rw [← eh9]; exact hi9, hc9⟩, f0, (mrg_n hww).trans ew, fun z => absurd z (by rw [e9]; decide)⟩
    · exact absurd e9 h2
  obtain ⟨e9, rfl, u9, g9, eh9, hc9⟩ := hp9
  refine aw_i2l C (rfl) dX0_undo_6 ?_
  refine aw_lastN C (j := 0) ((mrg_n hww).trans ew) (by decide) (by decide) dX0_undo_7 ?_
  refine aw_goto C (tgt := 14) dX0_undo_8 (by decide) ?_
  refine aw_iconst C (v := nI 0) (by decide) dX0_undo_14 ?_
  refine aw_iret C rfl dX0_undo_15 (by omega) (by omega) ?_
  refine ⟨by rw [e9], hs9, fun q a b => (hset_n _ _ b).trans (mrg_n a), ⟨u9, g9, fun q c z => ?_, by rw [← eh9]; exact hi9, hc9⟩, _, hset_s _ _ _, fun _ => ?_⟩
  · rw [← eh9] at z
    have hw9 := hi9 q c z
    exact (hset_n _ _ (fun e => hww (by rw [← e]; exact hw9))).trans ((mrg_y hw9).trans z)
  · simp [vp_updL]
set_option maxRecDepth 100000 in
theorem wr_save {γ : Gm} (hG : GF γ) (l : Launch) {h : AH} {sz : Nat} {W' : Nat → Prop} (hWs : ∀ q, W' q → γ.W q) (hWn : ∀ q, sz ≤ q → W' q) {o : Nat} {u : CU} {g : AH} {w K' mc ms : Nat} {f0 : Nat → Int64} {x9 : AS} (hle : HLE (ch o u g) h) (hin : ∀ q c, ch o u g q = some c → W' q) (ew : h w = some (.inl (2, 1, .inr (.inl f0)))) (hww : ¬ W' w) (h2 : ¬ x9.1.1 = 2) {p0 : Int32} (hM : MX (gsub γ W') l yX1_save cX1_save 2 (some .int) 20 445 mc ms [.ref o, .int p0] (ch o u g) sz (PCV o K' x9) (PCX o K' "java/lang/IndexOutOfBoundsException" "" x9)) : MH γ l yX0_save cX0_save 4 (some .int) [(0, 9, 12, 28)] 21 466 mc ms [.ref o, .int p0, .ref w] h sz (WPost W' h sz w o K' x9) NX := by
  refine mh_start hG (by decide) (Nat.le_of_ble_eq_true rfl) (fun x et het C => ?_)
  obtain ⟨t, rfl, ta1, ta2, ta3, ta4⟩ := et_1 het
  refine aw_aload_n C rfl rfl dX0_save_0 ?_
  refine aw_iconst C (v := nI 0) (by decide) dX0_save_1 ?_
  refine aw_aload_n C rfl rfl dX0_save_2 ?_
  refine aw_iload_n C rfl rfl dX0_save_3 ?_
  refine aw_subV C hWs hle hin hWn ck0 hM q1799 q1800 q1801 q95 q1802 (ch_at (i := 0) rfl) (n9 := 1) (by decide +kernel) rfl (Nat.le_of_ble_eq_true rfl) (Nat.le_of_ble_eq_true rfl) (by dsimp only; omega) (by dsimp only; omega) rfl (Nat.le_of_ble_eq_true rfl) dX0_save_4 (fun E h9 s9 hp9 hs9 hi9 => ?_) (fun v9 h9 s9 hp9 hs9 hi9 => ?_)
  · obtain ⟨⟨e9, rfl⟩ | ⟨e9, -⟩, u9, g9, eh9, hc9⟩ := hp9
    · refine ax_catch C [] t [] rfl (fun z hz => by cases hz) (cov_yes ta1 ta2 (by decide) (by decide)) (by rw [ta4]; decide) (by rw [ta4]; exact q1537) q1553 (fun q9 => aw_pc ta3 ?_)
      refine aw_astore_n C rfl (by decide) rfl dX0_save_12 ?_
      refine aw_iconst C (v := nI 1) (by decide) dX0_save_13 ?_
      exact aw_iret C rfl dX0_save_14 (by omega) (by omega) ⟨by rw [e9], hs9, fun q a b => mrg_n a, ⟨u9, g9, by rw [← eh9]; exact mrg_le hi9, by rw [← eh9]; exact hi9, hc9⟩, f0, (mrg_n hww).trans ew, fun z => absurd z (by rw [e9]; decide)⟩
    · exact absurd e9 h2
  obtain ⟨e9, rfl, u9, g9, eh9, hc9⟩ := hp9
  refine aw_i2l C (rfl) dX0_save_7 ?_
  refine aw_lastN C (j := 0) ((mrg_n hww).trans ew) (by decide) (by decide) dX0_save_8 ?_
  refine aw_goto C (tgt := 15) dX0_save_9 (by decide) ?_
  refine aw_iconst C (v := nI 0) (by decide) dX0_save_15 ?_
  refine aw_iret C rfl dX0_save_16 (by omega) (by omega) ?_
  refine ⟨by rw [e9], hs9, fun q a b => (hset_n _ _ b).trans (mrg_n a), ⟨u9, g9, fun q c z => ?_, by rw [← eh9]; exact hi9, hc9⟩, _, hset_s _ _ _, fun _ => ?_⟩
  · rw [← eh9] at z
    have hw9 := hi9 q c z
    exact (hset_n _ _ (fun e => hww (by rw [← e]; exact hw9))).trans ((mrg_y hw9).trans z)
  · simp [vp_updL]
set_option maxRecDepth 100000 in
theorem wr_restore {γ : Gm} (hG : GF γ) (l : Launch) {h : AH} {sz : Nat} {W' : Nat → Prop} (hWs : ∀ q, W' q → γ.W q) (hWn : ∀ q, sz ≤ q → W' q) {o : Nat} {u : CU} {g : AH} {w K' mc ms : Nat} {f0 : Nat → Int64} {x9 : AS} (hle : HLE (ch o u g) h) (hin : ∀ q c, ch o u g q = some c → W' q) (ew : h w = some (.inl (2, 1, .inr (.inl f0)))) (hww : ¬ W' w) (hNc : ∀ U, γ.X U → va_Nc "java/lang/IllegalStateException" "java/lang/IndexOutOfBoundsException" U) {p0 : Int32} (hM : MX (gsub γ W') l yX1_restore cX1_restore 2 (some .int) 20 445 mc ms [.ref o, .int p0] (ch o u g) sz (PCV o K' x9) (PCX o K' "java/lang/IndexOutOfBoundsException" "java/lang/IllegalStateException" x9)) : MH γ l yX0_restore cX0_restore 4 (some .int) [(0, 9, 12, 28), (0, 9, 15, 13)] 21 466 mc ms [.ref o, .int p0, .ref w] h sz (WPost W' h sz w o K' x9) NX := by
  refine mh_start hG (by decide) (Nat.le_of_ble_eq_true rfl) (fun x et het C => ?_)
  obtain ⟨t, t', rfl, ⟨ta1, ta2, ta3, ta4⟩, ⟨tb1, tb2, tb3, tb4⟩⟩ := et_2 het
  refine aw_aload_n C rfl rfl dX0_restore_0 ?_
  refine aw_iconst C (v := nI 0) (by decide) dX0_restore_1 ?_
  refine aw_aload_n C rfl rfl dX0_restore_2 ?_
  refine aw_iload_n C rfl rfl dX0_restore_3 ?_
  refine aw_subV C hWs hle hin hWn ck0 hM q1806 q1807 q1808 q95 q1809 (ch_at (i := 0) rfl) (n9 := 1) (by decide +kernel) rfl (Nat.le_of_ble_eq_true rfl) (Nat.le_of_ble_eq_true rfl) (by dsimp only; omega) (by dsimp only; omega) rfl (Nat.le_of_ble_eq_true rfl) dX0_restore_4 (fun E h9 s9 hp9 hs9 hi9 => ?_) (fun v9 h9 s9 hp9 hs9 hi9 => ?_)
  · obtain ⟨⟨e9, rfl⟩ | ⟨e9, rfl⟩, u9, g9, eh9, hc9⟩ := hp9
    · refine ax_catch C [] t [t'] rfl (fun z hz => by cases hz) (cov_yes ta1 ta2 (by decide) (by decide)) (by rw [ta4]; decide) (by rw [ta4]; exact q1537) q1553 (fun q9 => aw_pc ta3 ?_)
      refine aw_astore_n C rfl (by decide) rfl dX0_restore_12 ?_
      refine aw_iconst C (v := nI 1) (by decide) dX0_restore_13 ?_
      exact aw_iret C rfl dX0_restore_14 (by omega) (by omega) ⟨by rw [e9], hs9, fun q a b => mrg_n a, ⟨u9, g9, by rw [← eh9]; exact mrg_le hi9, by rw [← eh9]; exact hi9, hc9⟩, f0, (mrg_n hww).trans ew, fun z => absurd z (by rw [e9]; decide)⟩
    · refine ax_catch C [t] t' [] rfl (fun z hz => by
        cases hz with
        | head => exact Or.inr ⟨by rw [ta4]; decide, "java/lang/IndexOutOfBoundsException", by rw [ta4]; exact q1537, hNc _ C.hX⟩
        | tail _ hz => cases hz) (cov_yes tb1 tb2 (by decide) (by decide)) (by rw [tb4]; decide) (by rw [tb4]; exact q1231) q1241 (fun q9 => aw_pc tb3 ?_)
      refine aw_astore_n C rfl (by decide) rfl dX0_restore_15 ?_
      refine aw_iconst C (v := nI 2) (by decide) dX0_restore_16 ?_
      exact aw_iret C rfl dX0_restore_17 (by omega) (by omega) ⟨by rw [e9], hs9, fun q a b => mrg_n a, ⟨u9, g9, by rw [← eh9]; exact mrg_le hi9, by rw [← eh9]; exact hi9, hc9⟩, f0, (mrg_n hww).trans ew, fun z => absurd z (by rw [e9]; decide)⟩
  obtain ⟨e9, rfl, u9, g9, eh9, hc9⟩ := hp9
  refine aw_i2l C (rfl) dX0_restore_7 ?_
  refine aw_lastN C (j := 0) ((mrg_n hww).trans ew) (by decide) (by decide) dX0_restore_8 ?_
  refine aw_goto C (tgt := 18) dX0_restore_9 (by decide) ?_
  refine aw_iconst C (v := nI 0) (by decide) dX0_restore_18 ?_
  refine aw_iret C rfl dX0_restore_19 (by omega) (by omega) ?_
  refine ⟨by rw [e9], hs9, fun q a b => (hset_n _ _ b).trans (mrg_n a), ⟨u9, g9, fun q c z => ?_, by rw [← eh9]; exact hi9, hc9⟩, _, hset_s _ _ _, fun _ => ?_⟩
  · rw [← eh9] at z
    have hw9 := hi9 q c z
    exact (hset_n _ _ (fun e => hww (by rw [← e]; exact hw9))).trans ((mrg_y hw9).trans z)
  · simp [vp_updL]
