/-! valueIf -/
set_option maxRecDepth 100000 in
theorem pc_valueIf {γ : Gm} (hG : GF γ) (l : Launch) {o : Nat} {u : CU} {g : AH} {sz : Nat} {ρ : Nat} (hU : RUL γ ρ) (hI : FRU γ) {mi : Nat} (hB : GBO γ mi) (hX : GEX γ l) {K : Nat} (hK : K + 1 < 2 ^ 30) {s : SS} (hC : CS o sz u g K s) (hA : WA s.1) (hm9 : s.1 3 < 4096) (v c : Int32) : MX γ l yX1_valueIf cX1_valueIf 3 (some .int) 41 1400 17 (18 + wS (s.1 3)) [.ref o, .int v, .int c] (ch o u g) sz (PCV o (K + 1) (spVif s.1 v c, s)) (PCX o K "java/lang/IndexOutOfBoundsException" "java/util/NoSuchElementException" (spVif s.1 v c, s)) := by
  refine mx_start hG (by decide) (Nat.le_of_ble_eq_true rfl) (fun x C => ?_)
  obtain ⟨hSp, hsz, hSI, ⟨gr, cap, hbc, hg, hc9⟩, hrest⟩ := id hC
  obtain ⟨a, hcu⟩ : ∃ a, u.2.2.2.2 = a := ⟨_, rfl⟩
  rw [hcu] at hbc
  obtain ⟨b, hbs⟩ : ∃ b, s.1 = b := ⟨_, rfl⟩
  rw [hbs] at hbc hg hA hm9
  have hb : BRD g a gr b := hbc.brd hg
  have hws9 : wS (s.1 3) = wS (b 3) := by rw [hbs]
  have hR0 : SR g u K gr b := Or.inl hSI
  obtain ⟨ca, ba, v3, v4, fc, fb, eb, eca, eba, hg, hfc, hfb⟩ := id hb
  obtain ⟨gl, gn, fl, fn, eg, egl, egn, hgl, hgn⟩ := id hg
  have hN := hA.1.2.1
  have hC3 := hA.1.2.2.2.1
  refine aw_dom (fun hD0 => ?_)
  have hDg := dm_g hSp hD0
  refine aw_aload_n C rfl rfl dX1_valueIf_0 ?_
  refine aw_iload_n C rfl rfl dX1_valueIf_1 ?_
  refine aw_iload_n C rfl rfl dX1_valueIf_2 ?_
  refine aw_callVQ C ck0 (rq_Pair hG l hX hSp hb hA.1 hcu v c) q1583 q1585 qs37 q95 q1586 (ch_at (i := 0) rfl) (n9 := 2) (by decide +kernel) rfl (Nat.le_of_ble_eq_true rfl) (Nat.le_of_ble_eq_true rfl) (by dsimp only; omega) (by dsimp only; omega) rfl (Nat.le_of_ble_eq_true rfl) dX1_valueIf_3 (by omega) (by omega) (fun e sz' q => ⟨Or.inl ⟨by unfold spVif; rw [hbs, if_pos e], rfl⟩, u, g, rfl, hC.mono q⟩) (fun e => ?_)
  have e2 := e
  rw [Bool.and_eq_true] at e2
  obtain ⟨v1, rfl, hv1⟩ := isV_ex hN hA.1.1 e2.1
  obtain ⟨c1, rfl, hc1⟩ := isC_ex hC3 hA.1.2.2.1 e2.2
  refine aw_getsN C hU.1 q1587 (fun _ z => z) dX1_valueIf_6 ?_
  refine aw_aload_n C rfl rfl dX1_valueIf_9 ?_
  refine aw_getf C ck0 1 (by decide) q665 (fun _ z => z) (ch_at (i := 0) rfl) rfl dX1_valueIf_10 ?_
  refine aw_topV (congrArg Value.ref hcu) ?_
  refine aw_iload_n C rfl rfl dX1_valueIf_13 ?_
  refine aw_iload_n C rfl rfl dX1_valueIf_14 ?_
  refine aw_callVOR C  (bd_reason hG l hU hI (hb.le (ch_le hSp)) hA.1 (by omega) (by omega)) q1588 q822 q823 q2248 q824 hU.2 (n9 := 3) (by decide +kernel) rfl (Nat.le_of_ble_eq_true rfl) (Nat.le_of_ble_eq_true rfl) (by dsimp only; omega) (by dsimp only; omega) rfl (Nat.le_of_ble_eq_true rfl) dX1_valueIf_15 ?_
  have hwl := why_le b v1 c1
  refine aw_ifN_ne C (tgt := 25) (by omega) dX1_valueIf_18 (by decide) (fun gW => ?_) (fun gW => ?_)
  · refine aw_iconst C (v := nI 0) (by decide) dX1_valueIf_25 ?_
    refine aw_top (show _ = nI (if decide (why b v1 c1 = 0) = true then 1 else 0) from by first | rw [if_pos (decide_eq_true gW)] | rw [if_neg (fun z => gW (of_decide_eq_true z))]) ?_
    refine aw_callSQ C (rq_Element hG l hX (decide (why b v1 c1 = 0))) q1619 q1620 q95 q1621 (n9 := 1) (by decide +kernel) rfl (Nat.le_of_ble_eq_true rfl) (Nat.le_of_ble_eq_true rfl) (by dsimp only; omega) (by dsimp only; omega) rfl (Nat.le_of_ble_eq_true rfl) dX1_valueIf_26 (by omega) (by omega) (fun e3 sz' q => ⟨Or.inr ⟨by unfold spVif; rw [hbs, if_neg (by rw [e]; decide), nt_n (by omega), nt_n (by omega), if_pos (by have := of_decide_eq_false e3; omega)], rfl⟩, u, g, rfl, hC.mono q⟩) (fun e3 => ?_)
    have hw0 : why b v1 c1 = 0 := of_decide_eq_true e3
    have hdiv : (4 * v1 + c1) / 4 = v1 := by omega
    have hmod : (4 * v1 + c1) % 4 = c1 := by omega
    have hPO : PO b (4 * v1 + c1) := Or.inl ⟨by omega, by unfold cb; rw [hdiv, hmod]; exact decide_eq_true ⟨hc1, hw0⟩⟩
    obtain ⟨i, hi9⟩ : ∃ i, i = 4 * v1 + c1 := ⟨_, rfl⟩
    rw [← hi9] at hPO
    refine aw_aload_n C rfl rfl dX1_valueIf_29 ?_
    refine aw_aload_n C rfl rfl dX1_valueIf_30 ?_
    refine aw_iconst C (v := nI 4) (by decide) dX1_valueIf_31 ?_
    refine aw_iload_n C rfl rfl dX1_valueIf_32 ?_
    refine aw_imulN C dX1_valueIf_33 ?_
    refine aw_iload_n C rfl rfl dX1_valueIf_34 ?_
    refine aw_iaddN C dX1_valueIf_35 ?_
    rw [← hi9]
    refine aw_callV C ck0 (ev_behind hG l hB hSp hbc hg hA hm9 hcu hPO) q883 q885 qs12 q95 q886 (ch_at (i := 0) rfl) (n9 := 1) (by decide +kernel) rfl (Nat.le_of_ble_eq_true rfl) (Nat.le_of_ble_eq_true rfl) (by dsimp only; omega) (by dsimp only; omega) rfl (Nat.le_of_ble_eq_true rfl) dX1_valueIf_36 (fun _ _ _ z => z.elim) (fun v9 h2 s2 hp => ?_)
    obtain ⟨rfl, z1, z2, hfr2, cap', k4⟩ := hp
    obtain ⟨g1, rfl, q1, q2⟩ := ch_split hsz hfr2
    have hSp1 := hSp.fr hsz q1
    have hg1 : GRP g1 gr (nxB b i) := GRP.st (nxB_st i) hA.1.2.1 (hg.fr hDg q1)
    have hb1 : BRD g1 sz gr (nxB b i) := (BC.spl rfl q2 k4).brd hg1
    have hR1 : SR g1 u K gr (nxB b i) := SR.fr hDg q1 (nxB_st i) (Or.inl hSI)
    refine aw_callV C ck0 (co_valueOf hG l hSp1 hb1 (nxW hA hm9 hPO).1 (nxW hA hm9 hPO).2.2.1 (nxW hA hm9 hPO).2.2.2.1 hK hR1) q698 q700 qs1 q95 q701 (ch_at (i := 0) rfl) (n9 := 1) (by decide +kernel) rfl (Nat.le_of_ble_eq_true rfl) (Nat.le_of_ble_eq_true rfl) (by dsimp only; omega) (by dsimp only; omega) rfl (Nat.le_of_ble_eq_true rfl) dX1_valueIf_39 (fun _ _ _ z => z.elim) (fun v9 h3 s3 hp => ?_)
    obtain ⟨rfl, r3, u3, rfl, rfl, rfl, hx3, hr3⟩ := hp
    refine aw_top rfl ?_
    refine aw_iret C rfl dX1_valueIf_42 (by omega) (by omega) ?_
    have e9 : spVif b (nI v1) (nI c1) = (0, nI ((BB (nxB b i)).1 ^^^ nxB b i 2 % 2)) := by
      unfold spVif
      rw [if_neg (by rw [e]; decide), nt_n (by omega), nt_n (by omega), if_neg (by omega), hi9, nxB_lay hN (by omega), hdiv, hmod, bb_layM hN, layM_2]
    exact ⟨by rw [hbs, e9], by rw [hbs, e9], u3, g1, rfl, (hC.ev hDg q1 (by omega)).sx hx3 (SR.si (hr3.st (nxB_st i).sy) (hg.fr hDg q1) hA.1)⟩
  · refine aw_iconst C (v := nI 1) (by decide) dX1_valueIf_21 ?_
    refine aw_goto C (tgt := 26) dX1_valueIf_22 (by decide) ?_
    refine aw_top (show _ = nI (if decide (why b v1 c1 = 0) = true then 1 else 0) from by first | rw [if_pos (decide_eq_true gW)] | rw [if_neg (fun z => gW (of_decide_eq_true z))]) ?_
    refine aw_callSQ C (rq_Element hG l hX (decide (why b v1 c1 = 0))) q1619 q1620 q95 q1621 (n9 := 1) (by decide +kernel) rfl (Nat.le_of_ble_eq_true rfl) (Nat.le_of_ble_eq_true rfl) (by dsimp only; omega) (by dsimp only; omega) rfl (Nat.le_of_ble_eq_true rfl) dX1_valueIf_26 (by omega) (by omega) (fun e3 sz' q => ⟨Or.inr ⟨by unfold spVif; rw [hbs, if_neg (by rw [e]; decide), nt_n (by omega), nt_n (by omega), if_pos (by have := of_decide_eq_false e3; omega)], rfl⟩, u, g, rfl, hC.mono q⟩) (fun e3 => ?_)
    have hw0 : why b v1 c1 = 0 := of_decide_eq_true e3
    have hdiv : (4 * v1 + c1) / 4 = v1 := by omega
    have hmod : (4 * v1 + c1) % 4 = c1 := by omega
    have hPO : PO b (4 * v1 + c1) := Or.inl ⟨by omega, by unfold cb; rw [hdiv, hmod]; exact decide_eq_true ⟨hc1, hw0⟩⟩
    obtain ⟨i, hi9⟩ : ∃ i, i = 4 * v1 + c1 := ⟨_, rfl⟩
    rw [← hi9] at hPO
    refine aw_aload_n C rfl rfl dX1_valueIf_29 ?_
    refine aw_aload_n C rfl rfl dX1_valueIf_30 ?_
    refine aw_iconst C (v := nI 4) (by decide) dX1_valueIf_31 ?_
    refine aw_iload_n C rfl rfl dX1_valueIf_32 ?_
    refine aw_imulN C dX1_valueIf_33 ?_
    refine aw_iload_n C rfl rfl dX1_valueIf_34 ?_
    refine aw_iaddN C dX1_valueIf_35 ?_
    rw [← hi9]
    refine aw_callV C ck0 (ev_behind hG l hB hSp hbc hg hA hm9 hcu hPO) q883 q885 qs12 q95 q886 (ch_at (i := 0) rfl) (n9 := 1) (by decide +kernel) rfl (Nat.le_of_ble_eq_true rfl) (Nat.le_of_ble_eq_true rfl) (by dsimp only; omega) (by dsimp only; omega) rfl (Nat.le_of_ble_eq_true rfl) dX1_valueIf_36 (fun _ _ _ z => z.elim) (fun v9 h2 s2 hp => ?_)
    obtain ⟨rfl, z1, z2, hfr2, cap', k4⟩ := hp
    obtain ⟨g1, rfl, q1, q2⟩ := ch_split hsz hfr2
    have hSp1 := hSp.fr hsz q1
    have hg1 : GRP g1 gr (nxB b i) := GRP.st (nxB_st i) hA.1.2.1 (hg.fr hDg q1)
    have hb1 : BRD g1 sz gr (nxB b i) := (BC.spl rfl q2 k4).brd hg1
    have hR1 : SR g1 u K gr (nxB b i) := SR.fr hDg q1 (nxB_st i) (Or.inl hSI)
    refine aw_callV C ck0 (co_valueOf hG l hSp1 hb1 (nxW hA hm9 hPO).1 (nxW hA hm9 hPO).2.2.1 (nxW hA hm9 hPO).2.2.2.1 hK hR1) q698 q700 qs1 q95 q701 (ch_at (i := 0) rfl) (n9 := 1) (by decide +kernel) rfl (Nat.le_of_ble_eq_true rfl) (Nat.le_of_ble_eq_true rfl) (by dsimp only; omega) (by dsimp only; omega) rfl (Nat.le_of_ble_eq_true rfl) dX1_valueIf_39 (fun _ _ _ z => z.elim) (fun v9 h3 s3 hp => ?_)
    obtain ⟨rfl, r3, u3, rfl, rfl, rfl, hx3, hr3⟩ := hp
    refine aw_top rfl ?_
    refine aw_iret C rfl dX1_valueIf_42 (by omega) (by omega) ?_
    have e9 : spVif b (nI v1) (nI c1) = (0, nI ((BB (nxB b i)).1 ^^^ nxB b i 2 % 2)) := by
      unfold spVif
      rw [if_neg (by rw [e]; decide), nt_n (by omega), nt_n (by omega), if_neg (by omega), hi9, nxB_lay hN (by omega), hdiv, hmod, bb_layM hN, layM_2]
    exact ⟨by rw [hbs, e9], by rw [hbs, e9], u3, g1, rfl, (hC.ev hDg q1 (by omega)).sx hx3 (SR.si (hr3.st (nxB_st i).sy) (hg.fr hDg q1) hA.1)⟩
