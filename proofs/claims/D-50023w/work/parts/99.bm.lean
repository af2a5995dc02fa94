/-! move -/
theorem isI_last {m : Int32} {n : Nat} (hn : n ≤ 4096) (h : isI m (nI 0) (nI n - nI 1) = true) : ∃ k, m = nI k ∧ k < n := by
  by_cases e : n = 0
  · subst e
    have z := of_decide_eq_true h
    exact absurd (Int32.le_trans z.1 z.2) (by decide)
  · rw [pk_sub (show 1 ≤ n by omega)] at h
    obtain ⟨k, h1, -, h2⟩ := isI_ex (by omega) (by omega) h
    exact ⟨k, h1, by omega⟩
set_option maxRecDepth 100000 in
theorem pc_move {γ : Gm} (hG : GF γ) (l : Launch) {o : Nat} {u : CU} {g : AH} {sz : Nat} {mi : Nat} (hB : GBO γ mi) (hX : GEX γ l) {K : Nat} {s : SS} (hC : CS o sz u g K s) (hA : WA s.1) (m w : Int32) : MX γ l yX1_move cX1_move 3 (some .int) 7 161 2 12 [.ref o, .int m, .int w] (ch o u g) sz (PCV o K (spMove s.1 m w, s)) (PCX o K "java/lang/IndexOutOfBoundsException" "java/lang/IllegalArgumentException" (spMove s.1 m w, s)) := by
  refine mx_start hG (by decide) (Nat.le_of_ble_eq_true rfl) (fun x C => ?_)
  obtain ⟨hSp, hsz, hI9, ⟨gr, cap, hbc, hg, hc9⟩, hrest⟩ := id hC
  obtain ⟨a, hcu⟩ : ∃ a, u.2.2.2.2 = a := ⟨_, rfl⟩
  rw [hcu] at hbc
  obtain ⟨b, hbs⟩ : ∃ b, s.1 = b := ⟨_, rfl⟩
  rw [hbs] at hbc hg hA
  have hb : BRD g a gr b := hbc.brd hg
  obtain ⟨ca, ba, ac, a0, a1, li, el, mo, fc, fb, f, -, eb, -, -, -, -, -, eli, eel, ⟨hCN, hMc, hcap, hcm⟩, hmv, -⟩ := id hbc
  refine aw_iload_n C rfl rfl dX1_move_0 ?_
  refine aw_aload_n C rfl rfl dX1_move_1 ?_
  refine aw_getf C ck0 1 (by decide) q665 (fun _ z => z) (ch_at (i := 0) rfl) rfl dX1_move_2 ?_
  refine aw_topV (congrArg Value.ref hcu) ?_
  refine aw_getfN C ck2 4 (by decide) q622 (fun _ z => z) ((ch_le hSp _ _ eb)) rfl dX1_move_5 ?_
  refine aw_callF C ck12 (al_size hG l (ch_le hSp _ _ eli) (ch_le hSp _ _ eel)) q1083 q1086 q1088 q102 q1090 hB.2.1.2.2.2.1 (ch_le hSp _ _ eli) (n9 := 0) (by decide +kernel) rfl (Nat.le_of_ble_eq_true rfl) (Nat.le_of_ble_eq_true rfl) (by dsimp only; omega) (by dsimp only; omega) rfl (Nat.le_of_ble_eq_true rfl) dX1_move_8 (fun _ _ _ z => z.elim) (fun v9 h9 sz9 hp9 => ?_)
  obtain ⟨rfl, rfl, rfl⟩ := hp9
  refine aw_top rfl ?_
  refine aw_callSQ C (rq_Index hG l hX m (nI (b 3))) q1548 q1549 q95 q1550 (n9 := 2) (by decide +kernel) rfl (Nat.le_of_ble_eq_true rfl) (Nat.le_of_ble_eq_true rfl) (by dsimp only; omega) (by dsimp only; omega) rfl (Nat.le_of_ble_eq_true rfl) dX1_move_13 (by omega) (by omega) (fun e sz' q => ⟨Or.inl ⟨by unfold spMove; rw [hbs, if_pos e], rfl⟩, u, g, rfl, hC.mono q⟩) (fun e => ?_)
  refine aw_iload_n C rfl rfl dX1_move_16 ?_
  refine aw_i2l C (rfl) dX1_move_17 ?_
  refine aw_lconst C (v := (nI 0).toInt64) (by decide) dX1_move_18 ?_
  refine aw_ldc2 C q1738 dX1_move_19 ?_
  refine aw_topl (show (3 : Int64) = (nI 3).toInt64 from by decide) ?_
  refine aw_callSRR C (cp_inRange hG l w (nI 0) (nI 3)) q1273 q1274 q95 q1275 (n9 := 3) (by decide +kernel) rfl (Nat.le_of_ble_eq_true rfl) (Nat.le_of_ble_eq_true rfl) (by dsimp only; omega) (by dsimp only; omega) rfl (Nat.le_of_ble_eq_true rfl) dX1_move_22 ?_
  refine aw_callSQ C (rq_Argument hG l hX (isI w (nI 0) (nI 3))) q1276 q1277 q95 q1278 (n9 := 1) (by decide +kernel) rfl (Nat.le_of_ble_eq_true rfl) (Nat.le_of_ble_eq_true rfl) (by dsimp only; omega) (by dsimp only; omega) rfl (Nat.le_of_ble_eq_true rfl) dX1_move_25 (by omega) (by omega) (fun e2 sz' q => ⟨Or.inr ⟨by unfold spMove; rw [hbs, if_neg (by rw [e]; decide), if_pos e2], rfl⟩, u, g, rfl, hC.mono q⟩) (fun e2 => ?_)
  obtain ⟨m1, rfl, hm1⟩ := isI_last hA.m e
  obtain ⟨w1, rfl, -, hw1⟩ := isI_ex (by decide) (by decide) e2
  obtain ⟨z, z1, z2⟩ := hmv m1 hm1
  refine aw_aload_n C rfl rfl dX1_move_28 ?_
  refine aw_getf C ck0 1 (by decide) q665 (fun _ z => z) (ch_at (i := 0) rfl) rfl dX1_move_29 ?_
  refine aw_topV (congrArg Value.ref hcu) ?_
  refine aw_getfN C ck2 4 (by decide) q622 (fun _ z => z) ((ch_le hSp _ _ eb)) rfl dX1_move_32 ?_
  refine aw_iload_n C rfl rfl dX1_move_35 ?_
  refine aw_callFPv C ck12 (al_get hG l (ch_le hSp _ _ eli) (ch_le hSp _ _ eel) (i := m1) (z := z) hm1 hMc (by omega) z1) q1092 q1095 q1097 q102 q1099 hB.2.1.2.2.2.2.1 (ch_le hSp _ _ eli) (n9 := 1) (by decide +kernel) rfl (Nat.le_of_ble_eq_true rfl) (Nat.le_of_ble_eq_true rfl) (by dsimp only; omega) (by dsimp only; omega) rfl (Nat.le_of_ble_eq_true rfl) dX1_move_36 ?_
  refine aw_castS C ck8 q1739 (ch_le hSp _ _ z2) dX1_move_41 ?_
  refine aw_iload_n C rfl rfl dX1_move_44 ?_
  refine aw_callVRR C ck8 (mv_get hG l (ch_le hSp _ _ z2) hw1) q1740 q1741 q1742 q125 q1743 (Or.inl (ch_le hSp _ _ z2)) (n9 := 1) (by decide +kernel) rfl (Nat.le_of_ble_eq_true rfl) (Nat.le_of_ble_eq_true rfl) (by dsimp only; omega) (by dsimp only; omega) rfl (Nat.le_of_ble_eq_true rfl) dX1_move_45 ?_
  refine aw_iret C rfl dX1_move_48 (by omega) (by omega) ?_
  have e0 : spMove b (nI m1) (nI w1) = (0, mvd (b (40 + m1)) w1) := by
    have := hA.m
    unfold spMove
    rw [if_neg (by rw [e]; decide), if_neg (by rw [e2]; decide), nt_n (by omega), nt_n (by omega)]
  refine ⟨by rw [hbs, e0], ?_, u, g, rfl, hC⟩
  rw [hbs, e0]
  rcases (show w1 = 0 ∨ w1 = 1 ∨ w1 = 2 ∨ w1 = 3 by omega) with z | z | z | z <;> subst z <;> rfl
