/-! setPasses, undo, save, restore -/
theorem BX.up2 {h : AH} {s0 a gr : Nat} {b : BT} {cap ca ba ac a0 a1 li el : Nat} {mo : Int32} {fc fb : Nat → Int32} {f : Nat → Option Nat} (g : BX h s0 a gr b cap ca ba ac a0 a1 li el mo fc fb f) (q : Nat) : BC (hset h a (.inr (2, [.ref gr, .ref ca, .ref ba, .ref ac, .ref li, .int (nI q), .int (nI (b 3 % 2))]))) s0 a gr (updN b 2 q) cap := by
  obtain ⟨hs0, ea, eca, eba, eac, ea0, ea1, eli, eel, hc, hmv, hfc, hfb⟩ := g
  have e2 : updN b 2 q 2 = q := if_pos rfl
  have e3 : updN b 2 q 3 = b 3 := if_neg (by decide)
  have ek : ∀ k, 3 ≤ k → updN b 2 q k = b k := fun k hk => if_neg (by omega)
  have af : ∀ pl, acF (updN b 2 q) pl = acF b pl := fun pl => acF_same e3 (fun k _ => ek _ (by omega))
  refine ⟨ca, ba, ac, a0, a1, li, el, mo, fc, fb, f, hs0, by rw [e2, e3]; exact hset_s _ _ _, (hset_n _ _ (ne9 eca ea (by intro z; cases z))).trans eca, (hset_n _ _ (ne9 eba ea (by intro z; cases z))).trans eba, (hset_n _ _ (ne9 eac ea (by intro z; cases z))).trans eac, by rw [af]; exact (hset_n _ _ (ne9 ea0 ea (by intro z; cases z))).trans ea0, by rw [af]; exact (hset_n _ _ (ne9 ea1 ea (by intro z; cases z))).trans ea1, by rw [e3]; exact (hset_n _ _ (ne9 eli ea (by intro z; cases z))).trans eli, (hset_n _ _ (ne9 eel ea (by intro z; cases z))).trans eel, by rw [e3]; exact hc, fun k hk => ?_, fun v hv => ?_, fun v hv hq => ?_⟩
  · rw [e3] at hk
    obtain ⟨z, z1, z2⟩ := hmv k hk
    rw [ek _ (by omega)]
    exact ⟨z, z1, (hset_n _ _ (ne9 z2 ea (by intro z; cases z))).trans z2⟩
  · rw [ek _ (by omega)]
    exact hfc v hv
  · rw [ek _ (by omega)]
    unfold fr at hq hfb
    rw [ek _ (by omega)] at hq
    exact hfb v hv hq
theorem hset_fr {g : AH} {z : Nat} {c : va_E} {sz : Nat} (h : sz ≤ z) : ∀ q, q < sz → hset g z c q = g q := fun q hq => hset_n _ _ (by omega)
theorem SI.fld {u u' : CU} {g : AH} {K : Nat} (h1 : u'.1 = u.1) (h2 : u'.2.1 = u.2.1) (h3 : u'.2.2.1 = u.2.2.1) (h4 : u'.2.2.2.1 0 = u.2.2.2.1 0) (hI : SI g u K) : SI g u' K := by
  obtain ⟨⟨k, hk, x1, x2, x3⟩, x4⟩ := hI
  refine ⟨⟨k, hk, ?_, ?_, ?_⟩, fun gr e => ?_⟩
  · rw [h1]; exact x1
  · rw [h2]; exact x2
  · rw [h2]; exact x3
  · rw [h4] at e
    obtain ⟨b, k2, e1, e2, e3, e4⟩ := x4 gr e
    exact ⟨b, k2, e1, e2, e3, e4.congr (congrFun h1 2) (congrFun h1 3) (congrFun h2 0) (congrFun h2 1) (congrFun h2 2) h3⟩
/-- a board in a slot -/
theorem CS.slot {o sz K : Nat} {u : CU} {g : AH} {s : SS} (hC : CS o sz u g K s) {p z : Nat} {b : BT} (hb : BO9 g z b) : CS o sz (cur u 2 (va_up (u.2.2.2.1 2) p (some z))) g K (s.1, s.2.1, slU s.2.2.1 p b, s.2.2.2) := by
  obtain ⟨h1, h2, h3, h4, ⟨hd, hs, h5, h5', h5''⟩, h6, h7, h8, h9⟩ := hC
  refine ⟨h1, h2, h3.fld rfl rfl rfl rfl, h4, ⟨hd, hs, h5.same rfl rfl rfl, h5', h5''⟩, fun i hi => ?_, h7, h8, h9⟩
  show (slU s.2.2.1 p b i = none ∧ va_up (u.2.2.2.1 2) p (some z) i = none) ∨ ∃ a b', slU s.2.2.1 p b i = some b' ∧ va_up (u.2.2.2.1 2) p (some z) i = some a ∧ BO9 g a b'
  unfold slU
  by_cases e : i = p
  · rw [if_pos e, e, va_up_self]
    exact Or.inr ⟨z, b, rfl, rfl, hb⟩
  · rw [if_neg e, va_up_ne _ _ e]
    exact h6 i hi
/-- another board and history -/
theorem CS.his {o sz K z hd2 : Nat} {u u' : CU} {g : AH} {s : SS} {hs : List Nat} {b2 : BT} {ks : List BT} (hC : CS o sz u g K s) (hS : SB u u') (hz : u'.2.2.2.2 = z) (hq : DQ u' hd2 hs) (hl : hs.length = ks.length) (hbo : ∀ i, i < hs.length → BO9 g (hs.getD i 0) (ks.getD i kzero)) (hb2 : BO9 g z b2) : CS o sz u' g K (b2, ks, s.2.2) := by
  obtain ⟨h1, h2, h3, h4, -, h6, h7, h8, h9⟩ := hC
  obtain ⟨y1, y2, y3, y4⟩ := id hS
  refine ⟨h1, h2, hS.si h3, by rw [hz]; exact hb2, ⟨hd2, _, hq, hl, hbo⟩, fun i hi => ?_, ?_, ?_, ?_⟩
  · rw [y4 2 (by decide)]
    exact h6 i hi
  · unfold CSb at *
    rw [y1 0 (by decide) (by decide), y2]
    exact h7
  · rw [y1 1 (by decide) (by decide)]
    exact h8
  · unfold CSw at *
    rw [y1 6 (by decide) (by decide), y2]
    exact h9
theorem take_bo {g : AH} {z : Nat} {h0 : List Nat} {ks : List BT} (hl : (h0 ++ [z]).length = ks.length) (h : ∀ i, i < (h0 ++ [z]).length → BO9 g ((h0 ++ [z]).getD i 0) (ks.getD i kzero)) : BO9 g z (ks.getD (ks.length - 1) kzero) ∧ h0.length = (ks.take (ks.length - 1)).length ∧ ∀ i, i < h0.length → BO9 g (h0.getD i 0) ((ks.take (ks.length - 1)).getD i kzero) := by
  simp only [List.length_append, List.length_cons, List.length_nil] at hl h
  refine ⟨?_, ?_, fun i hi => ?_⟩
  · have := h h0.length (by omega)
    rw [show ks.length - 1 = h0.length by omega]
    simpa using this
  · rw [List.length_take]
    omega
  · have := h i (by omega)
    rw [show (h0 ++ [z]).getD i 0 = h0.getD i 0 by simp [List.getD, List.getElem?_append_left hi]] at this
    rw [show (ks.take (ks.length - 1)).getD i kzero = ks.getD i kzero by rw [List.getD_eq_getElem?_getD, List.getD_eq_getElem?_getD, List.getElem?_take, if_pos (by omega)]]
    exact this
set_option maxRecDepth 100000 in
theorem pc_setPasses {γ : Gm} (hG : GF γ) (l : Launch) {o : Nat} {u : CU} {g : AH} {sz : Nat} {mi : Nat} (hB : GBO γ mi) (hX : GEX γ l) {K : Nat} {s : SS} (hC : CS o sz u g K s) (hA : WA s.1) (hm9 : s.1 3 < 4096) (p : Int32) : MX γ l yX1_setPasses cX1_setPasses 3 (some .int) 21 465 13 (6 + cpS (s.1 3)) [.ref o, .int p] (ch o u g) sz (PCV o K (spSet s p)) (PCX o K "java/lang/IllegalArgumentException" "" (spSet s p)) := by
  refine mx_start hG (by decide) (Nat.le_of_ble_eq_true rfl) (fun x C => ?_)
  obtain ⟨hSp, hsz, hSI, ⟨gr, cap, hbc, hg, hc9⟩, hrest⟩ := id hC
  obtain ⟨a, hcu⟩ : ∃ a, u.2.2.2.2 = a := ⟨_, rfl⟩
  rw [hcu] at hbc
  obtain ⟨b, hbs⟩ : ∃ b, s.1 = b := ⟨_, rfl⟩
  rw [hbs] at hbc hg hA hm9
  have hb : BRD g a gr b := hbc.brd hg
  obtain ⟨hd, hs, hq9, hql, hbo⟩ := id hC.2.2.2.2.1
  obtain ⟨ws, hws⟩ : ∃ ws, cpS (s.1 3) = ws := ⟨_, rfl⟩
  have hws3 : ws = cpS (b 3) := by rw [← hws, hbs]
  obtain ⟨ca, ba, v3, v4, fc, fb, eb, eca, eba, hg, hfc, hfb⟩ := id hb
  obtain ⟨gl, gn, fl, fn, eg, egl, egn, hgl, hgn⟩ := id hg
  refine aw_dom (fun hD0 => ?_)
  have hDg := dm_g hSp hD0
  refine aw_iload_n C rfl rfl dX1_setPasses_0 ?_
  refine aw_i2l C (rfl) dX1_setPasses_1 ?_
  refine aw_lconst C (v := (nI 0).toInt64) (by decide) dX1_setPasses_2 ?_
  refine aw_ldc2 C q1730 dX1_setPasses_3 ?_
  refine aw_topl (show (9 : Int64) = (nI 9).toInt64 from by decide) ?_
  refine aw_callSRR C (cp_inRange hG l p (nI 0) (nI 9)) q1273 q1274 q95 q1275 (n9 := 3) (by decide +kernel) rfl (Nat.le_of_ble_eq_true rfl) (Nat.le_of_ble_eq_true rfl) (by dsimp only; omega) (by dsimp only; omega) rfl (Nat.le_of_ble_eq_true rfl) dX1_setPasses_6 ?_
  refine aw_callSQ C (rq_Argument hG l hX (isI p (nI 0) (nI 9))) q1276 q1277 q95 q1278 (n9 := 1) (by decide +kernel) rfl (Nat.le_of_ble_eq_true rfl) (Nat.le_of_ble_eq_true rfl) (by dsimp only; omega) (by dsimp only; omega) rfl (Nat.le_of_ble_eq_true rfl) dX1_setPasses_9 (by omega) (by omega) (fun e sz' q => by have z : spSet s p = ((1, nI 0), s) := (by unfold spSet; rw [if_pos e]); rw [z]; exact ⟨Or.inl ⟨rfl, rfl⟩, u, g, rfl, hC.mono q⟩) (fun e => ?_)
  obtain ⟨p1, rfl, -, hp1⟩ := isI_ex (by decide) (by decide) e
  refine aw_aload_n C rfl rfl dX1_setPasses_12 ?_
  refine aw_getf C ck0 1 (by decide) q665 (fun _ z => z) (ch_at (i := 0) rfl) rfl dX1_setPasses_13 ?_
  refine aw_topV (congrArg Value.ref hcu) ?_
  refine aw_getfN C ck2 5 (by decide) q626 (fun _ z => z) (ch_le hSp _ _ eb) rfl dX1_setPasses_16 ?_
  refine aw_istore_n C rfl (by decide) rfl dX1_setPasses_19 ?_
  refine aw_aload_n C rfl rfl dX1_setPasses_20 ?_
  refine aw_callV C ck0 (co_changed hG l hB hSp hbc hg hA hm9 hsz hcu hq9 (bo_cell hbo)) q1702 q1704 qs40 q95 q1705 (ch_at (i := 0) rfl) (n9 := 0) (by decide +kernel) rfl (Nat.le_of_ble_eq_true rfl) (Nat.le_of_ble_eq_true rfl) (by dsimp only; omega) (by dsimp only; omega) rfl (Nat.le_of_ble_eq_true rfl) dX1_setPasses_21 (fun _ _ _ z => z.elim) (fun v9 h1 s1 hp => ?_)
  obtain ⟨rfl, cz1, cz2, u1, g1, rfl, hSB1, hcu1, ⟨hd1, hq1⟩, fr1, hbc1, hSp1⟩ := hp
  refine aw_dom (fun hD1 => ?_)
  have hDg1 := dm_g hSp1 hD1
  have hgs1 : GRS (ch o u1 g1) sz gr b := ((hg.s hDg).fr fr1).le (ch_le hSp1)
  have hbh1 : BC (ch o u1 g1) sz sz gr b (cpC (b 3)) := hbc1.le (ch_le hSp1)
  have ec9 := hbc1
  obtain ⟨ca9, ba9, ac9, a09, a19, li9, el9, mo9, fc9, fb9, f9, hX9⟩ := ec9
  have es9 := ch_le (u := u1) hSp1 _ _ hX9.2.1
  refine aw_iload_n C rfl rfl dX1_setPasses_24 ?_
  refine aw_putfN C ck2 5 (by decide) q626 (fun _ z => z) rfl rfl (ty := .int) rfl rfl es9 (show 5 < 7 by decide) dX1_setPasses_25 ?_
  refine aw_hp (ch_new _ (by omega)) ?_
  refine aw_iload_n C rfl rfl dX1_setPasses_28 ?_
  refine aw_iret C rfl dX1_setPasses_29 (by omega) (by omega) ?_
  have e9 : spSet s (nI p1) = ((0, nI (b 2)), (updN b 2 p1, keepS s.1 s.2.1, s.2.2)) := by
    unfold spSet
    rw [if_neg (by rw [e]; decide), nt_n (by omega), hbs]
  rw [e9]
  exact ⟨rfl, rfl, u1, _, rfl, (hC.chg hDg hcu hql hbo (fun q hq => (hset_fr (Nat.le_refl _) q hq).trans (fr1 q hq)) (by omega) hSB1 (SX.rf u1) hcu1 hq1 ((hSB1.si hSI).fr hDg (fun q hq => (hset_fr (Nat.le_refl _) q hq).trans (fr1 q hq))) ⟨gr, cpC (b 3), (hX9.up2 p1).s (Nat.zero_le _), GRP.st (st_up2 b p1) hA.1.2.1 (hg.fr hDg (fun q hq => (hset_fr (Nat.le_refl _) q hq).trans (fr1 q hq))), Nat.le_trans (cpC_le _) (by omega)⟩)⟩
set_option maxRecDepth 100000 in
theorem pc_undo {γ : Gm} (hG : GF γ) (l : Launch) {o : Nat} {u : CU} {g : AH} {sz : Nat} (hX : GEX γ l) {K : Nat} {s : SS} (hC : CS o sz u g K s) : MX γ l yX1_undo cX1_undo 1 (some .int) 7 141 1 6 [.ref o] (ch o u g) sz (PCV o K (spUndo s)) (PCX o K "java/lang/IllegalStateException" "" (spUndo s)) := by
  refine mx_start hG (by decide) (Nat.le_of_ble_eq_true rfl) (fun x C => ?_)
  obtain ⟨hSp, hsz, hSI, -, hrest⟩ := id hC
  obtain ⟨hd, hs, hq9, hql, hbo⟩ := id hC.2.2.2.2.1
  refine aw_aload_n C rfl rfl dX1_undo_0 ?_
  refine aw_getf C ck0 2 (by decide) q666 (fun _ z => z) (ch_at (i := 0) rfl) rfl dX1_undo_1 ?_
  refine aw_callVRR C ck15 (dq_isEmpty hG l hq9.2.2.1 hq9.2.2.2.1 hq9.1 hq9.t) q1781 q1782 q1783 q119 q1784 (Or.inl (ch_at (i := 28) rfl)) (n9 := 0) (by decide +kernel) rfl (Nat.le_of_ble_eq_true rfl) (Nat.le_of_ble_eq_true rfl) (by dsimp only; omega) (by dsimp only; omega) rfl (Nat.le_of_ble_eq_true rfl) dX1_undo_4 ?_
  refine aw_bit_ne0 C (tgt := 14) dX1_undo_7 (by decide) (fun gE => ?_) (fun gE => ?_)
  · refine aw_iconst C (v := nI 0) (by decide) dX1_undo_14 ?_
    refine aw_top (show _ = nI (if decide (0 < hs.length) = true then 1 else 0) from by first | rw [if_pos (decide_eq_true (by have z1 := hq9.1; have z2 := hq9.2.1; have z3 := of_decide_eq_false gE; omega))] | rw [if_neg (fun z => absurd (of_decide_eq_true z) (by have z1 := hq9.1; have z2 := hq9.2.1; have z3 := of_decide_eq_true gE; omega))]) ?_
    refine aw_callSQ C (rq_State hG l hX (decide (0 < hs.length))) q1236 q1237 q95 q1238 (n9 := 1) (by decide +kernel) rfl (Nat.le_of_ble_eq_true rfl) (Nat.le_of_ble_eq_true rfl) (by dsimp only; omega) (by dsimp only; omega) rfl (Nat.le_of_ble_eq_true rfl) dX1_undo_15 (by omega) (by omega) (fun e sz' q => by have z : spUndo s = ((1, nI 0), s) := (by unfold spUndo; rw [if_pos (by have := of_decide_eq_false e; omega)]); rw [z]; exact ⟨Or.inl ⟨rfl, rfl⟩, u, g, rfl, hC.mono q⟩) (fun e => ?_)
    have hl0 : 0 < hs.length := of_decide_eq_true e
    obtain ⟨h0, z, rfl⟩ : ∃ h0 z, hs = h0 ++ [z] := ⟨hs.dropLast, hs.getLast (List.ne_nil_of_length_pos hl0), (List.dropLast_concat_getLast _).symm⟩
    obtain ⟨hz, hq1⟩ := hq9.last
    obtain ⟨fz, hz9⟩ := bo_cell hbo z (by simp)
    obtain ⟨t1, t2, t3⟩ := take_bo hql hbo
    have hl1 := hq1.1
    have hl2 := hq1.2.1
    refine aw_aload_n C rfl rfl dX1_undo_18 ?_
    refine aw_aload_n C rfl rfl dX1_undo_19 ?_
    refine aw_getf C ck0 2 (by decide) q666 (fun _ z => z) (ch_at (i := 0) rfl) rfl dX1_undo_20 ?_
    refine aw_callVPv C ck15 (dq_removeLast hG l hq9.2.2.1 hq9.2.2.2.1 hq9.1 hq9.t hz) q1785 q1786 q1787 q119 q1788 (ch_at (i := 28) rfl) (n9 := 0) (by decide +kernel) rfl (Nat.le_of_ble_eq_true rfl) (Nat.le_of_ble_eq_true rfl) (by dsimp only; omega) (by dsimp only; omega) rfl (Nat.le_of_ble_eq_true rfl) dX1_undo_23 ?_
    refine aw_castS C ck2 q186 (ch_le hSp _ _ hz9) dX1_undo_26 ?_
    refine cw_board C q665 dX1_undo_29 ?_
    refine aw_aload_n C rfl rfl dX1_undo_32 ?_
    refine aw_getf C ck0 2 (by decide) q666 (fun _ z => z) (ch_at (i := 0) rfl) rfl dX1_undo_33 ?_
    refine aw_callVRR C ck15 (dq_size hG l hq1.2.2.1 hq1.2.2.2.1 hq1.1 hq1.t) q1449 q1450 q1451 q119 q1452 (Or.inl (ch_at (i := 28) rfl)) (n9 := 0) (by decide +kernel) rfl (Nat.le_of_ble_eq_true rfl) (Nat.le_of_ble_eq_true rfl) (by dsimp only; omega) (by dsimp only; omega) rfl (Nat.le_of_ble_eq_true rfl) dX1_undo_36 ?_
    refine aw_iret C rfl dX1_undo_39 (by omega) (by omega) ?_
    have e9 : spUndo s = ((0, nI (s.2.1.length - 1)), (s.2.1.getD (s.2.1.length - 1) kzero, s.2.1.take (s.2.1.length - 1), s.2.2)) := by
      unfold spUndo
      rw [if_neg (by omega)]
    rw [e9]
    rw [List.length_append] at hql
    simp only [List.length_cons, List.length_nil] at hql
    refine ⟨rfl, by rw [show (((hd + h0.length) % 17 + 17 - hd) % 17) = s.2.1.length - 1 by omega], _, g, rfl, hC.his ⟨fun i i1 i2 => if_neg i2, rfl, rfl, fun j j1 => if_neg j1⟩ rfl (dq_board hq1) t2 t3 t1⟩
  · refine aw_iconst C (v := nI 1) (by decide) dX1_undo_10 ?_
    refine aw_goto C (tgt := 15) dX1_undo_11 (by decide) ?_
    refine aw_top (show _ = nI (if decide (0 < hs.length) = true then 1 else 0) from by first | rw [if_pos (decide_eq_true (by have z1 := hq9.1; have z2 := hq9.2.1; have z3 := of_decide_eq_false gE; omega))] | rw [if_neg (fun z => absurd (of_decide_eq_true z) (by have z1 := hq9.1; have z2 := hq9.2.1; have z3 := of_decide_eq_true gE; omega))]) ?_
    refine aw_callSQ C (rq_State hG l hX (decide (0 < hs.length))) q1236 q1237 q95 q1238 (n9 := 1) (by decide +kernel) rfl (Nat.le_of_ble_eq_true rfl) (Nat.le_of_ble_eq_true rfl) (by dsimp only; omega) (by dsimp only; omega) rfl (Nat.le_of_ble_eq_true rfl) dX1_undo_15 (by omega) (by omega) (fun e sz' q => by have z : spUndo s = ((1, nI 0), s) := (by unfold spUndo; rw [if_pos (by have := of_decide_eq_false e; omega)]); rw [z]; exact ⟨Or.inl ⟨rfl, rfl⟩, u, g, rfl, hC.mono q⟩) (fun e => ?_)
    have hl0 : 0 < hs.length := of_decide_eq_true e
    obtain ⟨h0, z, rfl⟩ : ∃ h0 z, hs = h0 ++ [z] := ⟨hs.dropLast, hs.getLast (List.ne_nil_of_length_pos hl0), (List.dropLast_concat_getLast _).symm⟩
    obtain ⟨hz, hq1⟩ := hq9.last
    obtain ⟨fz, hz9⟩ := bo_cell hbo z (by simp)
    obtain ⟨t1, t2, t3⟩ := take_bo hql hbo
    have hl1 := hq1.1
    have hl2 := hq1.2.1
    refine aw_aload_n C rfl rfl dX1_undo_18 ?_
    refine aw_aload_n C rfl rfl dX1_undo_19 ?_
    refine aw_getf C ck0 2 (by decide) q666 (fun _ z => z) (ch_at (i := 0) rfl) rfl dX1_undo_20 ?_
    refine aw_callVPv C ck15 (dq_removeLast hG l hq9.2.2.1 hq9.2.2.2.1 hq9.1 hq9.t hz) q1785 q1786 q1787 q119 q1788 (ch_at (i := 28) rfl) (n9 := 0) (by decide +kernel) rfl (Nat.le_of_ble_eq_true rfl) (Nat.le_of_ble_eq_true rfl) (by dsimp only; omega) (by dsimp only; omega) rfl (Nat.le_of_ble_eq_true rfl) dX1_undo_23 ?_
    refine aw_castS C ck2 q186 (ch_le hSp _ _ hz9) dX1_undo_26 ?_
    refine cw_board C q665 dX1_undo_29 ?_
    refine aw_aload_n C rfl rfl dX1_undo_32 ?_
    refine aw_getf C ck0 2 (by decide) q666 (fun _ z => z) (ch_at (i := 0) rfl) rfl dX1_undo_33 ?_
    refine aw_callVRR C ck15 (dq_size hG l hq1.2.2.1 hq1.2.2.2.1 hq1.1 hq1.t) q1449 q1450 q1451 q119 q1452 (Or.inl (ch_at (i := 28) rfl)) (n9 := 0) (by decide +kernel) rfl (Nat.le_of_ble_eq_true rfl) (Nat.le_of_ble_eq_true rfl) (by dsimp only; omega) (by dsimp only; omega) rfl (Nat.le_of_ble_eq_true rfl) dX1_undo_36 ?_
    refine aw_iret C rfl dX1_undo_39 (by omega) (by omega) ?_
    have e9 : spUndo s = ((0, nI (s.2.1.length - 1)), (s.2.1.getD (s.2.1.length - 1) kzero, s.2.1.take (s.2.1.length - 1), s.2.2)) := by
      unfold spUndo
      rw [if_neg (by omega)]
    rw [e9]
    rw [List.length_append] at hql
    simp only [List.length_cons, List.length_nil] at hql
    refine ⟨rfl, by rw [show (((hd + h0.length) % 17 + 17 - hd) % 17) = s.2.1.length - 1 by omega], _, g, rfl, hC.his ⟨fun i i1 i2 => if_neg i2, rfl, rfl, fun j j1 => if_neg j1⟩ rfl (dq_board hq1) t2 t3 t1⟩
set_option maxRecDepth 100000 in
theorem pc_save {γ : Gm} (hG : GF γ) (l : Launch) {o : Nat} {u : CU} {g : AH} {sz : Nat} {mi : Nat} (hB : GBO γ mi) (hX : GEX γ l) {K : Nat} {s : SS} (hC : CS o sz u g K s) (hA : WA s.1) (p : Int32) : MX γ l yX1_save cX1_save 2 (some .int) 20 445 13 (6 + cpS (s.1 3)) [.ref o, .int p] (ch o u g) sz (PCV o K (spSave s p)) (PCX o K "java/lang/IndexOutOfBoundsException" "" (spSave s p)) := by
  refine mx_start hG (by decide) (Nat.le_of_ble_eq_true rfl) (fun x C => ?_)
  obtain ⟨hSp, hsz, hSI, ⟨gr, cap, hbc, hg, hc9⟩, hrest⟩ := id hC
  obtain ⟨a, hcu⟩ : ∃ a, u.2.2.2.2 = a := ⟨_, rfl⟩
  rw [hcu] at hbc
  obtain ⟨b, hbs⟩ : ∃ b, s.1 = b := ⟨_, rfl⟩
  rw [hbs] at hbc hg hA
  have hb : BRD g a gr b := hbc.brd hg
  have hm9 := hA.m
  obtain ⟨ws, hws⟩ : ∃ ws, cpS (s.1 3) = ws := ⟨_, rfl⟩
  have hws3 : ws = cpS (b 3) := by rw [← hws, hbs]
  obtain ⟨ca, ba, ac, a0, a1, li, el, mo, fc, fb, f, -, eb, -, -, -, -, -, eli, eel, -⟩ := id hbc
  refine aw_dom (fun hD0 => ?_)
  have hDg := dm_g hSp hD0
  refine aw_iload_n C rfl rfl dX1_save_0 ?_
  refine aw_iconst C (v := nI 2) (by decide) dX1_save_1 ?_
  refine aw_callSQ C (rq_Index hG l hX p (nI 2)) q1548 q1549 q95 q1550 (n9 := 2) (by decide +kernel) rfl (Nat.le_of_ble_eq_true rfl) (Nat.le_of_ble_eq_true rfl) (by dsimp only; omega) (by dsimp only; omega) rfl (Nat.le_of_ble_eq_true rfl) dX1_save_2 (by omega) (by omega) (fun e sz' q => by have z : spSave s p = ((1, nI 0), s) := (by unfold spSave; rw [if_pos (show isI p (nI 0) (nI 1) = false from e)]); rw [z]; exact ⟨Or.inl ⟨rfl, rfl⟩, u, g, rfl, hC.mono q⟩) (fun e => ?_)
  have e : isI p (nI 0) (nI 1) = true := e
  obtain ⟨p1, rfl, -, hp1⟩ := isI_ex (by decide) (by decide) e
  refine aw_aload_n C rfl rfl dX1_save_5 ?_
  refine aw_getf C ck0 3 (by decide) q667 (fun _ z => z) (ch_at (i := 0) rfl) rfl dX1_save_6 ?_
  refine aw_iload_n C rfl rfl dX1_save_9 ?_
  refine aw_aload_n C rfl rfl dX1_save_10 ?_
  refine aw_getf C ck0 1 (by decide) q665 (fun _ z => z) (ch_at (i := 0) rfl) rfl dX1_save_11 ?_
  refine aw_topV (congrArg Value.ref hcu) ?_
  refine aw_callV C ck2 (bo_copy hG l hB.1 hB.2.1 cas8 hB.2.2 (hbc.le (ch_le hSp)) hD0 (by omega)) q887 q888 q889 q97 q890 ((ch_le hSp _ _ eb)) (n9 := 0) (by decide +kernel) rfl (Nat.le_of_ble_eq_true rfl) (Nat.le_of_ble_eq_true rfl) (by dsimp only; omega) (by dsimp only; omega) rfl (Nat.le_of_ble_eq_true rfl) dX1_save_14 (fun _ _ _ z => z.elim) (fun v9 h1 s1 hp => ?_)
  obtain ⟨rfl, c1, c2, c3, c4⟩ := hp
  refine aw_dom (fun hD1 => ?_)
  obtain ⟨g1, rfl, q1, q2⟩ := ch_split hsz c3
  have hSp1 := hSp.fr hsz q1
  have c4g := BC.spl rfl q2 c4
  have ec9 := c4g
  obtain ⟨ca9, ba9, ac9, a09, a19, li9, el9, mo9, fc9, fb9, f9, hX9⟩ := ec9
  have es9 := ch_le (u := u) hSp1 _ _ hX9.2.1
  refine cw_slots C (show p1 < 2 by omega) es9 dX1_save_17 ?_
  refine aw_aload_n C rfl rfl dX1_save_18 ?_
  refine aw_getf C ck0 1 (by decide) q665 (fun _ z => z) (ch_at (i := 0) rfl) rfl dX1_save_19 ?_
  refine aw_topV (congrArg Value.ref hcu) ?_
  refine aw_getfN C ck2 4 (by decide) q622 (fun _ z => z) (ch_le hSp1 _ _ ((q1 a (hDg.lt eb)).trans eb)) rfl dX1_save_22 ?_
  refine aw_callF C ck12 (al_size hG l (ch_le hSp1 _ _ ((q1 li (hDg.lt eli)).trans eli)) (ch_le hSp1 _ _ ((q1 el (hDg.lt eel)).trans eel))) q1083 q1086 q1088 q102 q1090 hB.2.1.2.2.2.1 (ch_le hSp1 _ _ ((q1 li (hDg.lt eli)).trans eli)) (n9 := 0) (by decide +kernel) rfl (Nat.le_of_ble_eq_true rfl) (Nat.le_of_ble_eq_true rfl) (by dsimp only; omega) (by dsimp only; omega) rfl (Nat.le_of_ble_eq_true rfl) dX1_save_25 (fun _ _ _ z => z.elim) (fun v9 h9 sz9 hp9 => ?_)
  obtain ⟨rfl, rfl, rfl⟩ := hp9
  refine aw_top rfl ?_
  refine aw_iret C rfl dX1_save_30 (by omega) (by omega) ?_
  have e9 : spSave s (nI p1) = ((0, nI (b 3)), (s.1, s.2.1, slU s.2.2.1 p1 b, s.2.2.2)) := by
    unfold spSave
    rw [if_neg (by rw [e]; decide), nt_n (by omega), hbs]
  rw [e9]
  exact ⟨rfl, rfl, _, g1, rfl, (hC.ev hDg q1 (by omega)).slot ⟨gr, _, c4g.s (Nat.zero_le _), hg.fr hDg q1, Nat.le_trans (cpC_le _) (by omega)⟩⟩
set_option maxRecDepth 100000 in
theorem pc_restore {γ : Gm} (hG : GF γ) (l : Launch) {o : Nat} {u : CU} {g : AH} {sz : Nat} {mi : Nat} (hB : GBO γ mi) (hX : GEX γ l) {K : Nat} {s : SS} (hC : CS o sz u g K s) {m : Nat} (hsl : ∀ i b, i < 2 → s.2.2.1 i = some b → b 3 ≤ 4096 ∧ cpS (b 3) ≤ m) (p : Int32) : MX γ l yX1_restore cX1_restore 2 (some .int) 20 445 14 (12 + m) [.ref o, .int p] (ch o u g) sz (PCV o K (spRest s p)) (PCX o K "java/lang/IndexOutOfBoundsException" "java/lang/IllegalStateException" (spRest s p)) := by
  refine mx_start hG (by decide) (Nat.le_of_ble_eq_true rfl) (fun x C => ?_)
  obtain ⟨hSp, hsz, hSI, ⟨gr, cap, hbc, hg, hc9⟩, hrest⟩ := id hC
  obtain ⟨a, hcu⟩ : ∃ a, u.2.2.2.2 = a := ⟨_, rfl⟩
  rw [hcu] at hbc
  obtain ⟨b, hbs⟩ : ∃ b, s.1 = b := ⟨_, rfl⟩
  rw [hbs] at hbc hg
  have hb : BRD g a gr b := hbc.brd hg
  obtain ⟨hd, hs, hq9, hql, hbo⟩ := id hC.2.2.2.2.1
  obtain ⟨ca, ba, ac, a0, a1, li, el, mo, fc, fb, f, -, eb, -⟩ := id hbc
  refine aw_dom (fun hD0 => ?_)
  have hDg := dm_g hSp hD0
  refine aw_iload_n C rfl rfl dX1_restore_0 ?_
  refine aw_iconst C (v := nI 2) (by decide) dX1_restore_1 ?_
  refine aw_callSQ C (rq_Index hG l hX p (nI 2)) q1548 q1549 q95 q1550 (n9 := 2) (by decide +kernel) rfl (Nat.le_of_ble_eq_true rfl) (Nat.le_of_ble_eq_true rfl) (by dsimp only; omega) (by dsimp only; omega) rfl (Nat.le_of_ble_eq_true rfl) dX1_restore_2 (by omega) (by omega) (fun e sz' q => by have z : spRest s p = ((1, nI 0), s) := (by unfold spRest; rw [if_pos (show isI p (nI 0) (nI 1) = false from e)]); rw [z]; exact ⟨Or.inl ⟨rfl, rfl⟩, u, g, rfl, hC.mono q⟩) (fun e => ?_)
  have e : isI p (nI 0) (nI 1) = true := e
  obtain ⟨p1, rfl, -, hp1⟩ := isI_ex (by decide) (by decide) e
  rcases hC.2.2.2.2.2.1 p1 (by omega) with ⟨hs2, hu2⟩ | ⟨za, bz, hs2, hu2, grz, capz, hbz, hgz, hcz⟩
  · refine aw_aload_n C rfl rfl dX1_restore_5 ?_
    refine aw_getf C ck0 3 (by decide) q667 (fun _ z => z) (ch_at (i := 0) rfl) rfl dX1_restore_6 ?_
    refine aw_iload_n C rfl rfl dX1_restore_9 ?_
    refine aw_aald C (t := 7) (by decide) rfl (ch_at (i := 30) rfl) (show p1 < 2 by omega) (by decide) dX1_restore_10 ?_
    refine aw_topV (show _ = Value.null from by rw [hu2]; rfl) ?_
    refine aw_ifnullN C (tgt := 18) dX1_restore_11 (by decide) ?_
    refine aw_iconst C (v := nI 0) (by decide) dX1_restore_18 ?_
    refine aw_top (show nI 0 = nI (if false = true then 1 else 0) from rfl) ?_
    refine aw_callSQ C (rq_State hG l hX false) q1236 q1237 q95 q1238 (n9 := 1) (by decide +kernel) rfl (Nat.le_of_ble_eq_true rfl) (Nat.le_of_ble_eq_true rfl) (by dsimp only; omega) (by dsimp only; omega) rfl (Nat.le_of_ble_eq_true rfl) dX1_restore_19 (by omega) (by omega) (fun e2 sz' q => by have z : spRest s (nI p1) = ((2, nI 0), s) := (by unfold spRest; rw [if_neg (by rw [e]; decide), nt_n (by omega), if_pos (by rw [hs2]; rfl)]); rw [z]; exact ⟨Or.inr ⟨rfl, rfl⟩, u, g, rfl, hC.mono q⟩) (fun e2 => ?_)
    cases e2
  · obtain ⟨hmz, hcpz⟩ := hsl p1 bz (by omega) hs2
    have eza : g za = _ := hbz.choose_spec.choose_spec.choose_spec.choose_spec.choose_spec.choose_spec.choose_spec.choose_spec.choose_spec.choose_spec.choose_spec.2.1
    refine aw_aload_n C rfl rfl dX1_restore_5 ?_
    refine aw_getf C ck0 3 (by decide) q667 (fun _ z => z) (ch_at (i := 0) rfl) rfl dX1_restore_6 ?_
    refine aw_iload_n C rfl rfl dX1_restore_9 ?_
    refine aw_aaldS C (t := 7) (by decide) rfl (ch_at (i := 30) rfl) (show p1 < 2 by omega) (by decide) hu2 dX1_restore_10 ?_
    refine aw_ifnull C dX1_restore_11 ?_
    refine aw_iconst C (v := nI 1) (by decide) dX1_restore_14 ?_
    refine aw_goto C (tgt := 19) dX1_restore_15 (by decide) ?_
    refine aw_top (show nI 1 = nI (if true = true then 1 else 0) from rfl) ?_
    refine aw_callSQ C (rq_State hG l hX true) q1236 q1237 q95 q1238 (n9 := 1) (by decide +kernel) rfl (Nat.le_of_ble_eq_true rfl) (Nat.le_of_ble_eq_true rfl) (by dsimp only; omega) (by dsimp only; omega) rfl (Nat.le_of_ble_eq_true rfl) dX1_restore_19 (by omega) (by omega) (fun e2 sz' q => by cases e2) (fun e2 => ?_)
    refine aw_aload_n C rfl rfl dX1_restore_22 ?_
    refine aw_aload_n C rfl rfl dX1_restore_23 ?_
    refine aw_getf C ck0 3 (by decide) q667 (fun _ z => z) (ch_at (i := 0) rfl) rfl dX1_restore_24 ?_
    refine aw_iload_n C rfl rfl dX1_restore_27 ?_
    refine aw_aaldS C (t := 7) (by decide) rfl (ch_at (i := 30) rfl) (show p1 < 2 by omega) (by decide) hu2 dX1_restore_28 ?_
    refine aw_callV C ck2 (bo_copy hG l hB.1 hB.2.1 cas8 hB.2.2 (hbz.le (ch_le hSp)) hD0 (by omega)) q887 q888 q889 q97 q890 (ch_le hSp _ _ eza) (n9 := 0) (by decide +kernel) rfl (Nat.le_of_ble_eq_true rfl) (Nat.le_of_ble_eq_true rfl) (by dsimp only; omega) (by dsimp only; omega) rfl (Nat.le_of_ble_eq_true rfl) dX1_restore_29 (fun _ _ _ z => z.elim) (fun v9 h1 s1 hp => ?_)
    obtain ⟨rfl, c1, c2, c3, c4⟩ := hp
    refine aw_dom (fun hD1 => ?_)
    obtain ⟨g1, rfl, q1, q2⟩ := ch_split hsz c3
    have hSp1 := hSp.fr hsz q1
    have c4g := BC.spl rfl q2 c4
    have ec9 := c4g
    obtain ⟨ca9, ba9, ac9, a09, a19, li9, el9, mo9, fc9, fb9, f9, hX9⟩ := ec9
    have es9 := ch_le (u := u) hSp1 _ _ hX9.2.1
    refine aw_callV C ck0 (co_become hG l (a := a) (a2 := sz) hcu (ch_le hSp1 _ _ ((q1 a (hDg.lt eb)).trans eb)) hq9 (fun z hz => ⟨_, ch_le hSp1 _ _ ((q1 z (hDg.lt (bo_cell hbo z hz).choose_spec)).trans (bo_cell hbo z hz).choose_spec)⟩)) q1445 q1447 qs33 q95 q1448 (ch_at (i := 0) rfl) (n9 := 1) (by decide +kernel) rfl (Nat.le_of_ble_eq_true rfl) (Nat.le_of_ble_eq_true rfl) (by dsimp only; omega) (by dsimp only; omega) rfl (Nat.le_of_ble_eq_true rfl) dX1_restore_32 (fun _ _ _ z => z.elim) (fun v9 h3 s3 hp => ?_)
    obtain ⟨rfl, rfl, u3, rfl, hx3, hcu3, hd3, hq3⟩ := hp
    refine aw_aload_n C rfl rfl dX1_restore_35 ?_
    refine aw_getf C ck0 1 (by decide) q665 (fun _ z => z) (ch_at (i := 0) rfl) rfl dX1_restore_36 ?_
    refine aw_topV (congrArg Value.ref hcu3) ?_
    refine aw_getfN C ck2 4 (by decide) q622 (fun _ z => z) (ch_le hSp1 _ _ hX9.2.1) rfl dX1_restore_39 ?_
    refine aw_callF C ck12 (al_size hG l (ch_le hSp1 _ _ hX9.2.2.2.2.2.2.2.1) (ch_le hSp1 _ _ hX9.2.2.2.2.2.2.2.2.1)) q1083 q1086 q1088 q102 q1090 hB.2.1.2.2.2.1 (ch_le hSp1 _ _ hX9.2.2.2.2.2.2.2.1) (n9 := 0) (by decide +kernel) rfl (Nat.le_of_ble_eq_true rfl) (Nat.le_of_ble_eq_true rfl) (by dsimp only; omega) (by dsimp only; omega) rfl (Nat.le_of_ble_eq_true rfl) dX1_restore_42 (fun _ _ _ z => z.elim) (fun v9 h9 sz9 hp9 => ?_)
    obtain ⟨rfl, rfl, rfl⟩ := hp9
    refine aw_top rfl ?_
    refine aw_iret C rfl dX1_restore_47 (by omega) (by omega) ?_
    have e9 : spRest s (nI p1) = ((0, nI (bz 3)), (bz, keepS s.1 s.2.1, s.2.2)) := by
      unfold spRest
      rw [if_neg (by rw [e]; decide), nt_n (by omega), hs2, if_neg (fun z => by cases z)]
      rfl
    rw [e9]
    exact ⟨rfl, rfl, u3, g1, rfl, hC.chg hDg hcu hql hbo q1 (by omega) hx3 (SX.rf u3) hcu3 hq3 ((hx3.si hSI).fr hDg q1) ⟨grz, _, c4g.s (Nat.zero_le _), hgz.fr hDg q1, Nat.le_trans (cpC_le _) (by omega)⟩⟩
