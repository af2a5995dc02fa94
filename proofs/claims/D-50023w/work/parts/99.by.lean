/-! valueWithout -/
theorem tg_gb {b : BT} {S : Nat} (hS : SY b) (hW : WB b) (h2 : S < 2 ^ b 0) : GB 9 (tgF (fun p => G b p (b (31 + low p))) (pts b S S)) := by
  have h9 := hW.2.1
  have hp9 : S < 512 := Nat.lt_of_lt_of_le h2 (Nat.pow_le_pow_right (by omega) h9)
  have h := tgA_gb (g := fun p => G b p (b (31 + low p))) hS h2 h9 (fun p q1 q2 => gv_gb 9 b p _ hS h9 hW.2.2.2.1 (lt_of_sub h2 q1)) S hp9 (rcl_self b _) 0 (0, 0, 0) ⟨(by decide : (0 : Nat) < 32), Nat.zero_le _, Nat.zero_le _⟩
  have h4 := pop_le _ hp9
  obtain ⟨a1, a2, a3⟩ := h
  refine ⟨a1, ?_, ?_⟩
  · show (tgA _ _ _).2.1 ≤ 9; omega
  · show (tgA _ _ _).2.2 ≤ 9; omega
set_option maxRecDepth 100000 in
theorem pc_valueWithout {γ : Gm} (hG : GF γ) (l : Launch) {o : Nat} {u : CU} {g : AH} {sz : Nat} (hX : GEX γ l) {K : Nat} (hK : K + 1 < 2 ^ 30) {s : SS} (hC : CS o sz u g K s) (hA : WA s.1) (hBI : BI s.1) (v : Int32) : MX γ l yX1_valueWithout cX1_valueWithout 2 (some .int) 40 1379 3 18 [.ref o, .int v] (ch o u g) sz (PCV o (K + 1) (spVw s.1 v, s)) (PCX o (K + 1) "java/lang/IndexOutOfBoundsException" "java/util/NoSuchElementException" (spVw s.1 v, s)) := by
  refine mx_start hG (by decide) (Nat.le_of_ble_eq_true rfl) (fun x C => ?_)
  obtain ⟨hSp, hsz, hSI, ⟨gr, cap, hbc, hg, hc9⟩, hrest⟩ := id hC
  obtain ⟨a, hcu⟩ : ∃ a, u.2.2.2.2 = a := ⟨_, rfl⟩
  rw [hcu] at hbc
  obtain ⟨b, hbs⟩ : ∃ b, s.1 = b := ⟨_, rfl⟩
  rw [hbs] at hbc hg hA hBI
  have hb : BRD g a gr b := hbc.brd hg
  obtain ⟨ca, ba, v3, v4, fc, fb, eb, eca, eba, hg, hfc, hfb⟩ := id hb
  obtain ⟨gl, gn, fl, fn, eg, egl, egn, hgl, hgn⟩ := id hg
  have hN := hA.1.2.1
  refine aw_aload_n C rfl rfl dX1_valueWithout_0 ?_
  refine aw_iload_n C rfl rfl dX1_valueWithout_1 ?_
  refine aw_callVQ C ck0 (rq_Vertex hG l hX hSp hb hA.1 hcu v) q1544 q1546 qs36 q95 q1547 (ch_at (i := 0) rfl) (n9 := 1) (by decide +kernel) rfl (Nat.le_of_ble_eq_true rfl) (Nat.le_of_ble_eq_true rfl) (by dsimp only; omega) (by dsimp only; omega) rfl (Nat.le_of_ble_eq_true rfl) dX1_valueWithout_2 (by omega) (by omega) (fun e sz' q => ⟨Or.inl ⟨by unfold spVw; rw [hbs, if_pos e], rfl⟩, u, g, rfl, (hC.mono q).leK (Nat.le_succ _)⟩) (fun e => ?_)
  obtain ⟨v1, rfl, hv1⟩ := isV_ex hN hA.1.1 e
  refine aw_aload_n C rfl rfl dX1_valueWithout_5 ?_
  refine aw_iload_n C rfl rfl dX1_valueWithout_6 ?_
  refine aw_callVRR C ck0 (co_isFree hG l hSp hb hA.1 hcu (v := v1) (by omega)) q1202 q1204 qs20 q95 q1205 (Or.inl (ch_at (i := 0) rfl)) (n9 := 1) (by decide +kernel) rfl (Nat.le_of_ble_eq_true rfl) (Nat.le_of_ble_eq_true rfl) (by dsimp only; omega) (by dsimp only; omega) rfl (Nat.le_of_ble_eq_true rfl) dX1_valueWithout_7 ?_
  refine aw_callSQ C (rq_Element hG l hX (fr b v1)) q1619 q1620 q95 q1621 (n9 := 1) (by decide +kernel) rfl (Nat.le_of_ble_eq_true rfl) (Nat.le_of_ble_eq_true rfl) (by dsimp only; omega) (by dsimp only; omega) rfl (Nat.le_of_ble_eq_true rfl) dX1_valueWithout_10 (by omega) (by omega) (fun e3 sz' q => ⟨Or.inr ⟨by unfold spVw; rw [hbs, if_neg (by rw [e]; decide), nt_n (by omega), if_pos e3], rfl⟩, u, g, rfl, (hC.mono q).leK (Nat.le_succ _)⟩) (fun e3 => ?_)
  refine aw_aload_n C rfl rfl dX1_valueWithout_13 ?_
  refine aw_getf C ck0 1 (by decide) q665 (fun _ z => z) (ch_at (i := 0) rfl) rfl dX1_valueWithout_14 ?_
  refine aw_topV (congrArg Value.ref hcu) ?_
  refine aw_callSRR C (bo_vp hG l (hb.le (ch_le hSp)) hA.2.2.2.1) q702 q703 q95 q704 (n9 := 1) (by decide +kernel) rfl (Nat.le_of_ble_eq_true rfl) (Nat.le_of_ble_eq_true rfl) (by dsimp only; omega) (by dsimp only; omega) rfl (Nat.le_of_ble_eq_true rfl) dX1_valueWithout_17 ?_
  refine aw_aload_n C rfl rfl dX1_valueWithout_20 ?_
  refine aw_getf C ck0 0 (by decide) q664 (fun _ z => z) (ch_at (i := 0) rfl) rfl dX1_valueWithout_21 ?_
  refine aw_aload_n C rfl rfl dX1_valueWithout_24 ?_
  refine aw_getf C ck0 1 (by decide) q665 (fun _ z => z) (ch_at (i := 0) rfl) rfl dX1_valueWithout_25 ?_
  refine aw_topV (congrArg Value.ref hcu) ?_
  refine aw_aload_n C rfl rfl dX1_valueWithout_28 ?_
  refine aw_getf C ck0 1 (by decide) q665 (fun _ z => z) (ch_at (i := 0) rfl) rfl dX1_valueWithout_29 ?_
  refine aw_topV (congrArg Value.ref hcu) ?_
  refine aw_callVRR C ck2 (bd_free hG l (hb.le (ch_le hSp)) hA.1) q705 q706 q707 q97 q708 (Or.inl (ch_le hSp _ _ eb)) (n9 := 0) (by decide +kernel) rfl (Nat.le_of_ble_eq_true rfl) (Nat.le_of_ble_eq_true rfl) (by dsimp only; omega) (by dsimp only; omega) rfl (Nat.le_of_ble_eq_true rfl) dX1_valueWithout_32 ?_
  refine aw_iconst C (v := nI 1) (by decide) dX1_valueWithout_35 ?_
  refine aw_iload_n C rfl rfl dX1_valueWithout_36 ?_
  refine aw_ishlN C (by omega) dX1_valueWithout_37 ?_
  refine aw_iconst C (v := -1) (by decide) dX1_valueWithout_38 ?_
  refine aw_ixor C dX1_valueWithout_39 ?_
  refine aw_iandNot C dX1_valueWithout_40 ?_
  refine aw_callVI C ck1 (se_together hG l hSp hb hA.1 hA.2.2.1 hK (nd_lt (freeS_lt2 b)) (fun w hw => by rw [nd_bit] at hw; simp at hw; exact fr_of hw.1) (Or.inl hSI)) q709 q710 q711 q96 q712 (ch_at (i := 1) rfl) (n9 := 2) (by decide +kernel) rfl (Nat.le_of_ble_eq_true rfl) (Nat.le_of_ble_eq_true rfl) (by dsimp only; omega) (by dsimp only; omega) rfl (Nat.le_of_ble_eq_true rfl) dX1_valueWithout_41 (fun r u2 hp => ?_)
  obtain ⟨rfl, hx2, hq2⟩ := hp
  obtain ⟨hi1, hi2, hi3⟩ := tg_gb (S := nd (freeS b) (1 <<< v1)) hA.2.2.1 hA.1 (nd_lt (freeS_lt2 b))
  obtain ⟨i, hi⟩ : ∃ i, i = (tgF (fun p => G b p (b (31 + low p))) (pts b (nd (freeS b) (1 <<< v1)) (nd (freeS b) (1 <<< v1)))) := ⟨_, rfl⟩
  rw [← hi]
  rw [← hi] at hi1 hi2 hi3
  have hil := pq_lt (i := i) hi1 (by omega) (by omega)
  refine aw_callSRR C (cp_value hG l (p := pq i) (by omega)) q796 q782 q95 q783 (n9 := 1) (by decide +kernel) rfl (Nat.le_of_ble_eq_true rfl) (Nat.le_of_ble_eq_true rfl) (by dsimp only; omega) (by dsimp only; omega) rfl (Nat.le_of_ble_eq_true rfl) dX1_valueWithout_44 ?_
  refine aw_top (show _ = nI i.1 from by rw [pq_v (by omega) (by omega)]) ?_
  refine aw_ixorN C dX1_valueWithout_47 ?_
  refine aw_iret C rfl dX1_valueWithout_48 (by omega) (by omega) ?_
  have e0 : spVw b (nI v1) = (0, nI (valW b v1)) := by
    unfold spVw
    rw [if_neg (by rw [e]; decide), nt_n (by omega), if_neg (by rw [e3]; decide)]
  have ew := vw_law hA hBI hv1 e3
  rw [← hi, Nat.xor_comm] at ew
  exact ⟨by rw [hbs, e0], by rw [hbs, e0, ← ew], u2, g, rfl, hC.sx hx2 (hq2.si hg hA.1)⟩
