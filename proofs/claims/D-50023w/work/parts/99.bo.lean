/-! bestMove -/
set_option maxRecDepth 100000 in
theorem pc_bestMove {γ : Gm} (hG : GF γ) (l : Launch) {o : Nat} {u : CU} {g : AH} {sz : Nat} {ρ : Nat} (hU : RUL γ ρ) (hI : FRU γ) {ic : Nat} {ad : Nat → Nat} (hI9 : GIN γ ic ad) {mi : Nat} (hB : GBO γ mi) (hX : GEX γ l) {K : Nat} (hK : K + 1 < 2 ^ 30) {s : SS} (hC : CS o sz u g K s) (hA : WA s.1) (hm9 : s.1 3 < 4096) : MX γ l yX1_bestMove cX1_bestMove 1 (some .int) 44 1467 (3 + 14 * cnM s.1) (12 + wS (s.1 3) * cnM s.1) [.ref o] (ch o u g) sz (PCV o (K + 1) (spBest s.1, s)) (PCX o K "java/util/NoSuchElementException" "" (spBest s.1, s)) := by
  refine mx_start hG (by decide) (Nat.le_of_ble_eq_true rfl) (fun x C => ?_)
  obtain ⟨hSp, hsz, hSI, ⟨gr, cap, hbc, hg, hc9⟩, hrest⟩ := id hC
  obtain ⟨a, hcu⟩ : ∃ a, u.2.2.2.2 = a := ⟨_, rfl⟩
  rw [hcu] at hbc
  obtain ⟨b, hbs⟩ : ∃ b, s.1 = b := ⟨_, rfl⟩
  rw [hbs] at hbc hg hA hm9
  have hb : BRD g a gr b := hbc.brd hg
  have hcn9 : cnM s.1 = cnM b := by rw [hbs]
  have hws9 : wS (s.1 3) * cnM s.1 = wS (b 3) * cnM b := by rw [hbs]
  obtain ⟨ca, ba, v3, v4, fc, fb, eb, eca, eba, hg, hfc, hfb⟩ := id hb
  obtain ⟨gl, gn, fl, fn, eg, egl, egn, hgl, hgn⟩ := id hg
  refine aw_dom (fun hD0 => ?_)
  have hDg := dm_g hSp hD0
  refine aw_aload_n C rfl rfl dX1_bestMove_0 ?_
  refine aw_getf C ck0 1 (by decide) q665 (fun _ z => z) (ch_at (i := 0) rfl) rfl dX1_bestMove_1 ?_
  refine aw_topV (congrArg Value.ref hcu) ?_
  refine aw_callVRR C ck2 (bd_isOver hG l hU hI (hb.le (ch_le hSp)) hA.1 hA.2.2.2.1) q1514 q1515 q1516 q97 q1517 (Or.inl (ch_le hSp _ _ eb)) (n9 := 0) (by decide +kernel) rfl (Nat.le_of_ble_eq_true rfl) (Nat.le_of_ble_eq_true rfl) (by dsimp only; omega) (by dsimp only; omega) rfl (Nat.le_of_ble_eq_true rfl) dX1_bestMove_4 ?_
  refine aw_bit_ne0 C (tgt := 14) dX1_bestMove_7 (by decide) (fun gO => ?_) (fun gO => ?_)
  · refine aw_iconst C (v := nI 0) (by decide) dX1_bestMove_14 ?_
    refine aw_top (show _ = nI (if (!over b) = true then 1 else 0) from by rw [gO]; rfl) ?_
    refine aw_callSQ C (rq_Element hG l hX (!over b)) q1619 q1620 q95 q1621 (n9 := 1) (by decide +kernel) rfl (Nat.le_of_ble_eq_true rfl) (Nat.le_of_ble_eq_true rfl) (by dsimp only; omega) (by dsimp only; omega) rfl (Nat.le_of_ble_eq_true rfl) dX1_bestMove_15 (by omega) (by omega) (fun e3 sz' q => ⟨Or.inl ⟨by unfold spBest; rw [hbs, if_pos (by simpa using e3)], rfl⟩, u, g, rfl, hC.mono q⟩) (fun e3 => ?_)
    refine aw_aload_n C rfl rfl dX1_bestMove_18 ?_
    refine aw_aload_n C rfl rfl dX1_bestMove_19 ?_
    refine aw_getf C ck0 1 (by decide) q665 (fun _ z => z) (ch_at (i := 0) rfl) rfl dX1_bestMove_20 ?_
    refine aw_topV (congrArg Value.ref hcu) ?_
    refine aw_callV C ck0 (mf_moveFor hG l hU hI hI9 hB hSp hbc hg hA hm9 hsz hK (Or.inl hSI)) q1631 q1633 qs39 q95 q1634 (ch_at (i := 0) rfl) (n9 := 1) (by decide +kernel) rfl (Nat.le_of_ble_eq_true rfl) (Nat.le_of_ble_eq_true rfl) (by dsimp only; omega) (by dsimp only; omega) rfl (Nat.le_of_ble_eq_true rfl) dX1_bestMove_23 (fun _ _ _ z => z.elim) (fun v9 h3 s3 hp => ?_)
    obtain ⟨rfl, q1, q2, u3, g3, rfl, hC3⟩ := CS.rva hDg hg hA.1 hC hp
    refine aw_top rfl ?_
    refine aw_iret C rfl dX1_bestMove_26 (by omega) (by omega) ?_
    have eo : ¬ over b = true := fun z => by rw [z] at e3; cases e3
    exact ⟨by unfold spBest; rw [hbs, if_neg eo], by unfold spBest; rw [hbs, if_neg eo], u3, g3, rfl, hC3⟩
  · refine aw_iconst C (v := nI 1) (by decide) dX1_bestMove_10 ?_
    refine aw_goto C (tgt := 15) dX1_bestMove_11 (by decide) ?_
    refine aw_top (show _ = nI (if (!over b) = true then 1 else 0) from by rw [gO]; rfl) ?_
    refine aw_callSQ C (rq_Element hG l hX (!over b)) q1619 q1620 q95 q1621 (n9 := 1) (by decide +kernel) rfl (Nat.le_of_ble_eq_true rfl) (Nat.le_of_ble_eq_true rfl) (by dsimp only; omega) (by dsimp only; omega) rfl (Nat.le_of_ble_eq_true rfl) dX1_bestMove_15 (by omega) (by omega) (fun e3 sz' q => ⟨Or.inl ⟨by unfold spBest; rw [hbs, if_pos (by simpa using e3)], rfl⟩, u, g, rfl, hC.mono q⟩) (fun e3 => ?_)
    refine aw_aload_n C rfl rfl dX1_bestMove_18 ?_
    refine aw_aload_n C rfl rfl dX1_bestMove_19 ?_
    refine aw_getf C ck0 1 (by decide) q665 (fun _ z => z) (ch_at (i := 0) rfl) rfl dX1_bestMove_20 ?_
    refine aw_topV (congrArg Value.ref hcu) ?_
    refine aw_callV C ck0 (mf_moveFor hG l hU hI hI9 hB hSp hbc hg hA hm9 hsz hK (Or.inl hSI)) q1631 q1633 qs39 q95 q1634 (ch_at (i := 0) rfl) (n9 := 1) (by decide +kernel) rfl (Nat.le_of_ble_eq_true rfl) (Nat.le_of_ble_eq_true rfl) (by dsimp only; omega) (by dsimp only; omega) rfl (Nat.le_of_ble_eq_true rfl) dX1_bestMove_23 (fun _ _ _ z => z.elim) (fun v9 h3 s3 hp => ?_)
    obtain ⟨rfl, q1, q2, u3, g3, rfl, hC3⟩ := CS.rva hDg hg hA.1 hC hp
    refine aw_top rfl ?_
    refine aw_iret C rfl dX1_bestMove_26 (by omega) (by omega) ?_
    have eo : ¬ over b = true := fun z => by rw [z] at e3; cases e3
    exact ⟨by unfold spBest; rw [hbs, if_neg eo], by unfold spBest; rw [hbs, if_neg eo], u3, g3, rfl, hC3⟩
