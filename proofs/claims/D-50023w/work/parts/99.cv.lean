/-! load -/
theorem et_1 {et : List ExceptionTableEntry} {a b c d : Nat} (h : et.map (fun h => (h.startPc, h.endPc, h.handlerPc, h.catchType)) = [(a, b, c, d)]) : ∃ t : ExceptionTableEntry, et = [t] ∧ t.startPc = a ∧ t.endPc = b ∧ t.handlerPc = c ∧ t.catchType = d := by
  match et, h with
  | [t], h =>
    simp only [List.map_cons, List.map_nil, List.cons.injEq, Prod.mk.injEq, and_true] at h
    exact ⟨t, rfl, h.1, h.2.1, h.2.2.1, h.2.2.2⟩
theorem cov_no {t : ExceptionTableEntry} {pc a b : Nat} (h1 : t.startPc = a) (h2 : t.endPc = b) (h : pc < a ∨ b ≤ pc) : covers t pc = false := by
  unfold covers
  rw [h1, h2]
  rcases h with h | h
  · rw [decide_eq_false (by omega : ¬ a ≤ pc)]; rfl
  · rw [decide_eq_false (by omega : ¬ pc < b), Bool.and_false]
theorem cov_yes {t : ExceptionTableEntry} {pc a b : Nat} (h1 : t.startPc = a) (h2 : t.endPc = b) (h3 : a ≤ pc) (h4 : pc < b) : covers t pc = true := by
  unfold covers
  rw [h1, h2, decide_eq_true h3, decide_eq_true h4]
  rfl
theorem CS.err {o sz K : Nat} {u : CU} {g : AH} {s : SS} {e : Int32} (hC : CS o sz u g K s) : CS o sz (cui u 1 e) g K (s.1, s.2.1, s.2.2.1, s.2.2.2.1, e, s.2.2.2.2.2) := by
  obtain ⟨h1, h2, h3, h4, ⟨hd, hs, h5, h5', h5''⟩, h6, h7, h8, h9⟩ := hC
  have n : ∀ i, i ≠ 1 → (cui u 1 e).1 i = u.1 i := fun i hi => if_neg hi
  refine ⟨h1, h2, ?_, h4, ⟨hd, hs, h5.same (n 4 (by decide)) (n 5 (by decide)) rfl, h5', h5''⟩, h6, ?_, (show (if (1 : Nat) = 1 then e else u.1 1) = e from if_pos rfl), ?_⟩
  · obtain ⟨⟨k, hk, x1, x2, x3⟩, x4⟩ := h3
    refine ⟨⟨k, hk, ?_, x2, x3⟩, fun gr e9 => ?_⟩
    · rw [n 2 (by decide)]; exact x1
    · obtain ⟨b, k2, z1, z2, z3, z4⟩ := x4 gr e9
      refine ⟨b, k2, z1, z2, z3, ?_⟩
      obtain ⟨⟨w1, w2, w3⟩, w4⟩ := z4
      refine ⟨⟨?_, w2, w3⟩, w4⟩
      rw [n 2 (by decide)]; exact w1
  · unfold CSb at *
    rw [n 0 (by decide)]
    exact h7
  · unfold CSw at *
    rw [n 6 (by decide)]
    exact h9
set_option maxRecDepth 100000 in
theorem pc_load {γ : Gm} (hG : GF γ) (l : Launch) {o : Nat} {u : CU} {g : AH} {sz : Nat} {mi ρ : Nat} (hS : GSB γ) (hZ : XZ γ) (hU : RUL γ ρ) (hI : FRU γ) (hB9 : GBO γ mi) {σ : Nat → Nat} (hσ : RTX γ σ) (hX : GEX γ l) {K : Nat} {s : SS} (hC : CS o sz u g K s) (len : Int32) : MH γ l yX1_load cX1_load 3 (some .int) [(24, 50, 51, 167)] 21 472 (302 + 50 * s.2.2.2.1.length) (2011 + 230 * s.2.2.2.1.length) [.ref o, .int len] (ch o u g) sz (PCV o K (spLoad s len)) (PCX o K "java/lang/IllegalArgumentException" "" (spLoad s len)) := by
  refine mh_start hG (by decide) (Nat.le_of_ble_eq_true rfl) (fun x et het C => ?_)
  obtain ⟨t, rfl, t1, t2, t3, t4⟩ := et_1 het
  obtain ⟨hSp, hsz, hSI, -, -, -, ⟨hb1, hb2, hb3⟩, hrest⟩ := id hC
  refine aw_dom (fun hD0 => ?_)
  have hDg := dm_g hSp hD0
  refine aw_iload_n C rfl rfl dX1_load_0 ?_
  refine aw_i2l C (rfl) dX1_load_1 ?_
  refine aw_lconst C (v := (nI 0).toInt64) (by decide) dX1_load_2 ?_
  refine aw_aload_n C rfl rfl dX1_load_3 ?_
  refine aw_getf C ck0 5 (by decide) q670 (fun _ z => z) (ch_at (i := 0) rfl) rfl dX1_load_4 ?_
  refine aw_top (show _ = nI s.2.2.2.1.length from hb1) ?_
  refine aw_i2l C (rfl) dX1_load_7 ?_
  refine aw_callSRR C (cp_inRange hG l len (nI 0) (nI s.2.2.2.1.length)) q1273 q1274 q95 q1275 (n9 := 3) (by decide +kernel) rfl (Nat.le_of_ble_eq_true rfl) (Nat.le_of_ble_eq_true rfl) (by dsimp only; omega) (by dsimp only; omega) rfl (Nat.le_of_ble_eq_true rfl) dX1_load_8 ?_
  refine aw_callS C (rq_Argument hG l hX (isI len (nI 0) (nI s.2.2.2.1.length))) q1276 q1277 q95 q1278 (n9 := 1) (by decide +kernel) rfl (Nat.le_of_ble_eq_true rfl) (Nat.le_of_ble_eq_true rfl) (by dsimp only; omega) (by dsimp only; omega) rfl (Nat.le_of_ble_eq_true rfl) dX1_load_11 (fun E h9 s9 hp9 => ?_) (fun v9 h9 s9 hp9 => ?_)
  · obtain ⟨rfl, rfl, hq9, e9⟩ := hp9
    have hsp : spLoad s len = ((1, nI 0), s) := by unfold spLoad; rw [if_pos e9]
    refine ax_outH C (fun z hz => by cases hz with | head => exact cov_no t1 t2 (Or.inl (by decide)) | tail _ hz => cases hz) (by omega) (by omega) ?_
    rw [hsp]
    exact ⟨Or.inl ⟨rfl, rfl⟩, u, g, rfl, hC.mono hq9⟩
  obtain ⟨rfl, rfl, hz9, e9⟩ := hp9
  obtain rfl := hz9.symm
  obtain ⟨k, rfl, hk0, hk1⟩ := isI_ex (by omega) (Nat.zero_le _) e9
  have hsp := spLoad_n e9 (nt_n (by omega))
  refine aw_aload_n C rfl rfl dX1_load_14 ?_
  refine aw_iconst C (v := nI 0) (by decide) dX1_load_15 ?_
  refine cw_length C q670 dX1_load_16 ?_
  refine aw_aload_n C rfl rfl dX1_load_19 ?_
  refine aw_iconst C (v := -1) (by decide) dX1_load_20 ?_
  refine cw_errorAt C q671 dX1_load_21 ?_
  obtain ⟨u1, hu1e, hC1, hu13, hu1b⟩ : ∃ u1, cui (cui u 0 (nI 0)) 1 (-1) = u1 ∧ CS o sz u1 g K (s.1, s.2.1, s.2.2.1, [], -1, s.2.2.2.2.2) ∧ u1.2.1 3 = u.2.1 3 ∧ u1.2.2.2.2 = u.2.2.2.2 := ⟨_, rfl, CS.err (hC.bft (u' := cui u 0 (nI 0)) (w := []) ⟨(show (if (0 : Nat) = 0 then nI 0 else u.1 0) = nI 0 from if_pos rfl), fun i hi => absurd hi (Nat.not_lt_zero i), fun i hi => (show (if i = 0 then nI 0 else u.1 i) = u.1 i from if_neg hi), fun j _ => rfl, rfl⟩ (Nat.zero_le _)), rfl, rfl⟩
  refine aw_hp (by rw [hu1e]) ?_
  have hbR : RDF (hset (ch o u1 g) sz (RDO k .null 0 0 o)) o k s.2.2.2.1 := ⟨u1, u1.2.1 3, (hset_n _ _ (by omega)).trans ch_o, (hset_n _ _ (by omega)).trans (ch_at (i := 31) rfl), by omega, fun i hi => by rw [hu13]; exact hb3 i (by omega)⟩
  obtain ⟨hd, hs, hq9, hql, hbo⟩ := id hC1.2.2.2.2.1
  obtain ⟨a0, hcu1⟩ : ∃ a0, u1.2.2.2.2 = a0 := ⟨_, rfl⟩
  have hb90 := hC1.2.2.2.1
  rw [hcu1] at hb90
  refine aw_aload_n C rfl rfl dX1_load_24 ?_
  refine aw_new C ck6 (fs := [.int 0, .null, .int 0, .int 0, .null]) q1284 q1285 q122 (by decide) (by dsimp only; omega) (by dsimp only; omega) dX1_load_25 ?_
  refine aw_dup C rfl dX1_load_28 ?_
  refine aw_aload_n C rfl rfl dX1_load_29 ?_
  refine aw_iload_n C rfl rfl dX1_load_30 ?_
  refine aw_callIP C (rd_init hG l (hset_s _ _ _)) q1286 q1287 q122 q1288 rfl (n9 := 2) (by decide +kernel) rfl (Nat.le_of_ble_eq_true rfl) (Nat.le_of_ble_eq_true rfl) (by dsimp only; omega) (by dsimp only; omega) rfl (Nat.le_of_ble_eq_true rfl) dX1_load_31 ?_
  rw [hset_hset]
  refine ay_callV C ck6 (rd_read hG l hS hZ hbR (Nat.le_refl sz) (by omega) (by omega) hU hI hB9 hσ (S := r0 s.2.2.2.1 k) (hset_s _ _ _) rfl rfl rfl) q1306 q1307 q1308 q122 q1309 (hset_s _ _ _) (n9 := 0) (by decide +kernel) rfl (Nat.le_of_ble_eq_true rfl) (Nat.le_of_ble_eq_true rfl) (by dsimp only; omega) (by dsimp only; omega) rfl (Nat.le_of_ble_eq_true rfl) dX1_load_34 (fun q9 h9 s9 hp9 => ?_) (fun v9 h9 s9 hp9 => ?_)
  · generalize rS s.2.2.2.1 k (r0 s.2.2.2.1 k) = R at hp9 hsp
    obtain ⟨y1, y2, y3, y4⟩ := hp9
    refine ay_catch C ck7 y4 [] t [] rfl (fun z hz => by cases hz) (cov_yes t1 t2 (by decide) (by decide)) (by rw [t4]; decide) (by rw [t4]; exact q1272) q1345 (aw_pc t3 ?_)
    refine aw_dom (fun hD9 => ?_)
    have lq9 := hD9.lt y4
    obtain ⟨g9, rfl, fr9, up9⟩ := ch_split hsz (fun q hq => (y3 q hq).trans (hset_n _ _ (by omega)))
    have hSp9 := hSp.fr hsz fr9
    have y5 := (up9 q9 (by omega)).trans y4
    refine aw_astore_n C rfl (by decide) rfl dX1_load_51 ?_
    refine aw_aload_n C rfl rfl dX1_load_52 ?_
    refine aw_aload_n C rfl rfl dX1_load_53 ?_
    refine aw_getfN C ck7 7 (by decide) q1364 (fun _ z => z) y4 rfl dX1_load_54 ?_
    refine cw_errorAt C q671 dX1_load_57 ?_
    refine aw_aload_n C rfl rfl dX1_load_60 ?_
    refine aw_getfN C ck7 6 (by decide) q1362 (fun _ z => z) (ch_le hSp9 _ _ y5) rfl dX1_load_61 ?_
    refine aw_iret C rfl dX1_load_64 (by omega) (by omega) ?_
    rw [hsp, spLdR_f y1]
    have hC9 := (hC1.ev hDg fr9 (show sz ≤ s9 by omega)).err (e := nI R.2.2.2)
    exact ⟨rfl, rfl, _, g9, rfl, hC9⟩
  generalize rS s.2.2.2.1 k (r0 s.2.2.2.1 k) = R at hp9 hsp
  obtain ⟨a9, s1, gr9, cap9, rfl, c0, le9, fr9', hs1, hbc9, hgs9, hglo9, hcap9⟩ := hp9
  obtain ⟨g9, rfl, fr9, up9⟩ := ch_split hsz (fun q hq => (fr9' q hq).trans (hset_n _ _ (by omega)))
  have hSp9 := hSp.fr hsz fr9
  have hbcg := BC.spl rfl up9 (hbc9.s hs1)
  have hgg : GRP g9 gr9 R.2.1 := hgs9.spl hglo9 up9
  obtain ⟨gl9, gn9, fl9, fn9, egg, -⟩ := id hgg
  obtain ⟨ca9, ba9, v39, v49, fc9, fb9, ebg, -⟩ := hbcg.brd hgg
  obtain ⟨gr0, cap0, hbc0, hg0, -⟩ := hb90
  obtain ⟨ca0, ba0, v30, v40, fc0, fb0, eba00, -⟩ := hbc0.brd hg0
  have eba0 := (fr9 a0 (hDg.lt eba00)).trans eba00
  refine aw_callV C ck0 (co_become hG l (u := u1) (g := g9) (sz := s9) hcu1 (ch_le hSp9 _ _ eba0) hq9 (fun z hz => by obtain ⟨fz, e9⟩ := bo_cell hbo z hz; exact ⟨fz, ch_le hSp9 _ _ ((fr9 z (hDg.lt e9)).trans e9)⟩)) q1445 q1447 qs33 q95 q1448 (ch_at (i := 0) rfl) (n9 := 1) (by decide +kernel) rfl (Nat.le_of_ble_eq_true rfl) (Nat.le_of_ble_eq_true rfl) (by dsimp only; omega) (by dsimp only; omega) rfl (Nat.le_of_ble_eq_true rfl) dX1_load_37 (fun _ _ _ z => z.elim) (fun v9 h10 s10 hp9 => ?_)
  obtain ⟨rfl, rfl, u2, rfl, hSB, hcu2, ⟨hd2, hq2⟩⟩ := hp9
  refine aw_aload_n C rfl rfl dX1_load_40 ?_
  refine aw_getf C ck0 1 (by decide) q665 (fun _ z => z) (ch_at (i := 0) rfl) rfl dX1_load_41 ?_
  refine aw_topV (congrArg Value.ref hcu2) ?_
  refine aw_getfN C ck2 0 (by decide) q612 (fun _ z => z) (ch_le hSp9 _ _ ebg) rfl dX1_load_44 ?_
  refine aw_getfN C ck3 3 (by decide) q217 (fun _ z => z) (ch_le hSp9 _ _ egg) rfl dX1_load_47 ?_
  refine aw_iret C rfl dX1_load_50 (by omega) (by omega) ?_
  rw [hsp, spLdR_t c0]
  exact ⟨rfl, rfl, u2, g9, rfl, hC1.chg hDg hcu1 hql hbo fr9 (by omega) hSB (SX.rf u2) hcu2 hq2 ((hSB.si hC1.2.2.1).fr hDg fr9) ⟨gr9, cap9, hbcg.s (Nat.zero_le _), hgg, hcap9⟩⟩
