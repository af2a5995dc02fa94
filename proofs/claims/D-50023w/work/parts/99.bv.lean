/-! part -/
theorem CS.leK {o sz K K' : Nat} {u : CU} {g : AH} {s : SS} (h : CS o sz u g K s) (hK : K ≤ K') : CS o sz u g K' s := ⟨h.1, h.2.1, h.2.2.1.le hK, h.2.2.2⟩
theorem prt_no {b : BT} {p : Int32} {n : Nat} (hn : n = (pts b (freeS b) (freeS b)).length) (hn9 : n ≤ 4096) (h : isI p (nI 0) (nI n - nI 1) = false) : prtS b p = 0 := by
  unfold prtS
  by_cases e : p < 0
  · rw [if_pos e]
  · rw [if_neg e]
    have h0 : 0 ≤ p.toInt := by
      have e2 := e
      rw [Int32.lt_iff_toInt_lt] at e2
      have : (0 : Int32).toInt = 0 := rfl
      omega
    have hp : (nt p : Int) = p.toInt := Int.toNat_of_nonneg h0
    by_cases q : nt p < n
    · exfalso
      have : isI p (nI 0) (nI n - nI 1) = true := by
        refine decide_eq_true ⟨?_, ?_⟩
        · rw [Int32.le_iff_toInt_le, nI_int (by omega)]
          exact h0
        · rw [pk_sub (show 1 ≤ n by omega), Int32.le_iff_toInt_le, nI_int (by omega)]
          omega
      rw [this] at h
      cases h
    · unfold partS
      rw [List.getD_eq_getElem?_getD, List.getElem?_eq_none (by omega)]
      rfl
theorem prt_yes {b : BT} {k : Nat} (hk : k < 2 ^ 31) : prtS b (nI k) = partS b k := by
  unfold prtS
  rw [if_neg, nt_n hk]
  rw [Int32.lt_iff_toInt_lt, nI_int hk]
  have : (0 : Int32).toInt = 0 := rfl
  omega
set_option maxRecDepth 100000 in
theorem pc_part {γ : Gm} (hG : GF γ) (l : Launch) {o : Nat} {u : CU} {g : AH} {sz : Nat} {ρ : Nat} (hU : RUL γ ρ) (hI : FRU γ) {mi : Nat} (hB : GBO γ mi) (hX : GEX γ l) {K : Nat} (hK : K + 1 < 2 ^ 30) {s : SS} (hC : CS o sz u g K s) (hA : WA s.1) (p w : Int32) : MX γ l yX1_part cX1_part 5 (some .int) 40 1373 22 118 [.ref o, .int p, .int w] (ch o u g) sz (PCV o (K + 1) (spPrt s.1 p w, s)) (PCX o (K + 1) "java/lang/IndexOutOfBoundsException" "java/lang/IllegalArgumentException" (spPrt s.1 p w, s)) := by
  refine mx_start hG (by decide) (Nat.le_of_ble_eq_true rfl) (fun x C => ?_)
  obtain ⟨hSp, hsz, hSI, ⟨gr, cap, hbc, hg, hc9⟩, hrest⟩ := id hC
  obtain ⟨a, hcu⟩ : ∃ a, u.2.2.2.2 = a := ⟨_, rfl⟩
  rw [hcu] at hbc
  obtain ⟨b, hbs⟩ : ∃ b, s.1 = b := ⟨_, rfl⟩
  rw [hbs] at hbc hg hA
  have hb : BRD g a gr b := hbc.brd hg
  obtain ⟨ca, ba, v3, v4, fc, fb, eb, eca, eba, hg, hfc, hfb⟩ := id hb
  obtain ⟨gl, gn, fl, fn, eg, egl, egn, hgl, hgn⟩ := id hg
  have hN := hA.1.2.1
  have hF := freeS_lt (b := b) hN
  have hnp := npts_le (b := b) hF
  have hnp2 : (pts b (freeS b) (freeS b)).length ≤ 9 := hnp
  refine aw_dom (fun hD0 => ?_)
  have hDg := dm_g hSp hD0
  refine aw_aload_n C rfl rfl dX1_part_0 ?_
  refine aw_getf C ck0 1 (by decide) q665 (fun _ z => z) (ch_at (i := 0) rfl) rfl dX1_part_1 ?_
  refine aw_topV (congrArg Value.ref hcu) ?_
  refine aw_callV C ck2 (bo_parts hG l hB (hb.le (ch_le hSp)) hA.1 hA.2.2.1 hD0) q1059 q1060 q1061 q97 q1062 (ch_le hSp _ _ eb) (n9 := 0) (by decide +kernel) rfl (Nat.le_of_ble_eq_true rfl) (Nat.le_of_ble_eq_true rfl) (by dsimp only; omega) (by dsimp only; omega) rfl (Nat.le_of_ble_eq_true rfl) dX1_part_4 (fun _ _ _ z => z.elim) (fun v9 h1 s1 hp => ?_)
  obtain ⟨rfl, c1, c2, c3, cap1, el, mo, f, hp⟩ := hp
  obtain ⟨g1, rfl, q1, -⟩ := ch_split hsz c3
  have hSp1 := hSp.fr hsz q1
  have hb1 : BRD g1 a gr b := hb.fr hDg q1
  have hg1 : GRP g1 gr b := hg.fr hDg q1
  have eb1 := ch_le (u := u) hSp1 _ _ ((q1 a (hDg.lt eb)).trans eb)
  have hC1 := hC.ev hDg q1 c1
  refine aw_astore_n C rfl (by decide) rfl dX1_part_7 ?_
  refine aw_iload_n C rfl rfl dX1_part_8 ?_
  refine aw_aload_n C rfl rfl dX1_part_9 ?_
  refine aw_callF C ck12 (al_size hG l hp.1 hp.2.1) q1083 q1086 q1088 q102 q1090 hB.2.1.2.2.2.1 hp.1 (n9 := 0) (by decide +kernel) rfl (Nat.le_of_ble_eq_true rfl) (Nat.le_of_ble_eq_true rfl) (by dsimp only; omega) (by dsimp only; omega) rfl (Nat.le_of_ble_eq_true rfl) dX1_part_10 (fun _ _ _ z => z.elim) (fun v9 h9 sz9 hp9 => ?_)
  obtain ⟨rfl, rfl, rfl⟩ := hp9
  refine aw_top rfl ?_
  refine aw_callSQ C (rq_Index hG l hX p (nI (pts b (freeS b) (freeS b)).length)) q1548 q1549 q95 q1550 (n9 := 2) (by decide +kernel) rfl (Nat.le_of_ble_eq_true rfl) (Nat.le_of_ble_eq_true rfl) (by dsimp only; omega) (by dsimp only; omega) rfl (Nat.le_of_ble_eq_true rfl) dX1_part_15 (by omega) (by omega) (fun e sz' q => ⟨Or.inl ⟨by unfold spPrt; rw [hbs, if_pos (prt_no rfl (by omega) e)], rfl⟩, u, g1, rfl, (hC1.mono q).leK (Nat.le_succ _)⟩) (fun eI => ?_)
  obtain ⟨p1, rfl, hp1⟩ := isI_last (by omega) eI
  have hps : 0 < partS b p1 := partS_pos hN hp1
  obtain ⟨hvd, hS5, -⟩ := partS_form hN (show ¬ partS b p1 = 0 by omega)
  have hcp := hp.2.2.2.2.1
  obtain ⟨z, z1, z2⟩ := hp.2.2.2.2.2 p1 hp1
  obtain ⟨S, hSe⟩ : ∃ S, partS b p1 = S := ⟨_, rfl⟩
  rw [show (pts b (freeS b) (freeS b)).getD p1 0 = S from hSe] at z2
  rw [hSe] at hps hvd hS5
  have hlow := (low_bit S hS5 hps).2.1
  have hba := hA.1.b3 (v := low S) hlow
  have hprs : prtS b (nI p1) = S := (prt_yes (by omega)).trans hSe
  refine aw_aload_n C rfl rfl dX1_part_18 ?_
  refine aw_iload_n C rfl rfl dX1_part_19 ?_
  refine aw_callFPv C ck12 (al_get hG l hp.1 hp.2.1 (i := p1) (z := z) (by omega) hp.2.2.2.1 (by omega) z1) q1092 q1095 q1097 q102 q1099 hB.2.1.2.2.2.2.1 hp.1 (n9 := 1) (by decide +kernel) rfl (Nat.le_of_ble_eq_true rfl) (Nat.le_of_ble_eq_true rfl) (by dsimp only; omega) (by dsimp only; omega) rfl (Nat.le_of_ble_eq_true rfl) dX1_part_20 ?_
  refine aw_castS C ck9 q1110 z2 dX1_part_25 ?_
  refine aw_astore C (by decide) rfl dX1_part_28 ?_
  refine aw_iload_n C rfl rfl dX1_part_30 ?_
  cases e : isI w (nI 0) (nI 7) with
  | false =>
    refine aw_tableOut C (tgt := 159) dX1_part_31 (isI_no (by decide) e) (by decide) ?_
    exact aw_throw0 C hX.1 hX.2 xf_Argument xn_all xw_Argument.1 xw_Argument.2.1 xw_Argument.2.2 dX1_part_159 dX1_part_162 dX1_part_163 dX1_part_166 (Nat.le_of_ble_eq_true rfl) (Nat.le_of_ble_eq_true rfl) (Nat.le_of_ble_eq_true rfl) (Nat.le_of_ble_eq_true rfl) (Nat.le_of_ble_eq_true rfl) (Nat.le_of_ble_eq_true rfl) (fun sz' q => ⟨Or.inr ⟨by unfold spPrt; rw [hbs, hprs, if_neg (by omega), if_pos e], rfl⟩, u, g1, rfl, (hC1.mono q).leK (Nat.le_succ _)⟩)
  | true =>
    obtain ⟨w1, rfl, -, hw1⟩ := isI_ex (by decide) (by decide) e
    have ew : spPrt s.1 (nI p1) (nI w1) = (0, prtN b S w1) := by
      unfold spPrt
      rw [hbs, hprs, if_neg (by omega), if_neg (by rw [e]; decide), nt_n (by omega)]
    rw [ew]
    obtain rfl | rfl | rfl | rfl | rfl | rfl | rfl | rfl : w1 = 0 ∨ w1 = 1 ∨ w1 = 2 ∨ w1 = 3 ∨ w1 = 4 ∨ w1 = 5 ∨ w1 = 6 ∨ w1 = 7 := by omega
    · refine aw_tableIn C (off := 45) (tgt := 76) dX1_part_31 (by decide) (by decide) (by decide) (by decide) ?_
      refine aw_aload C rfl dX1_part_76 ?_
      refine aw_callVRR C ck9 (pt_size hG l z2 hS5) q1596 q1597 q1598 q129 q1599 (Or.inl z2) (n9 := 0) (by decide +kernel) rfl (Nat.le_of_ble_eq_true rfl) (Nat.le_of_ble_eq_true rfl) (by dsimp only; omega) (by dsimp only; omega) rfl (Nat.le_of_ble_eq_true rfl) dX1_part_78 ?_
      exact aw_iret C rfl dX1_part_81 (by omega) (by omega) ⟨rfl, rfl, u, g1, rfl, hC1.leK (Nat.le_succ _)⟩
    · refine aw_tableIn C (off := 51) (tgt := 82) dX1_part_31 (by decide) (by decide) (by decide) (by decide) ?_
      refine aw_aload C rfl dX1_part_82 ?_
      refine aw_callVRR C ck9 (pt_least hG l z2 hS5 hps) q1601 q1602 q1603 q129 q1604 (Or.inl z2) (n9 := 0) (by decide +kernel) rfl (Nat.le_of_ble_eq_true rfl) (Nat.le_of_ble_eq_true rfl) (by dsimp only; omega) (by dsimp only; omega) rfl (Nat.le_of_ble_eq_true rfl) dX1_part_84 ?_
      exact aw_iret C rfl dX1_part_87 (by omega) (by omega) ⟨rfl, rfl, u, g1, rfl, hC1.leK (Nat.le_succ _)⟩
    · refine aw_tableIn C (off := 57) (tgt := 88) dX1_part_31 (by decide) (by decide) (by decide) (by decide) ?_
      refine aw_aload C rfl dX1_part_88 ?_
      refine aw_callVRR C ck9 (pt_ban hG l z2) q1116 q1117 q1118 q129 q1119 (Or.inl z2) (n9 := 0) (by decide +kernel) rfl (Nat.le_of_ble_eq_true rfl) (Nat.le_of_ble_eq_true rfl) (by dsimp only; omega) (by dsimp only; omega) rfl (Nat.le_of_ble_eq_true rfl) dX1_part_90 ?_
      exact aw_iret C rfl dX1_part_93 (by omega) (by omega) ⟨rfl, rfl, u, g1, rfl, hC1.leK (Nat.le_succ _)⟩
    · refine aw_tableIn C (off := 63) (tgt := 94) dX1_part_31 (by decide) (by decide) (by decide) (by decide) ?_
      refine aw_aload_n C rfl rfl dX1_part_94 ?_
      refine aw_aload C rfl dX1_part_95 ?_
      refine aw_callVRR C ck9 (pt_set hG l z2) q1115 q1079 q1080 q129 q1081 (Or.inl z2) (n9 := 0) (by decide +kernel) rfl (Nat.le_of_ble_eq_true rfl) (Nat.le_of_ble_eq_true rfl) (by dsimp only; omega) (by dsimp only; omega) rfl (Nat.le_of_ble_eq_true rfl) dX1_part_97 ?_
      refine aw_callVRR C ck0 (co_edgesIn hG l hSp1 hb1 hA.1 hcu hS5) q1606 q1608 qs38 q95 q1609 (Or.inl (ch_at (i := 0) rfl)) (n9 := 1) (by decide +kernel) rfl (Nat.le_of_ble_eq_true rfl) (Nat.le_of_ble_eq_true rfl) (by dsimp only; omega) (by dsimp only; omega) rfl (Nat.le_of_ble_eq_true rfl) dX1_part_100 ?_
      exact aw_iret C rfl dX1_part_103 (by omega) (by omega) ⟨rfl, rfl, u, g1, rfl, hC1.leK (Nat.le_succ _)⟩
    · refine aw_tableIn C (off := 73) (tgt := 104) dX1_part_31 (by decide) (by decide) (by decide) (by decide) ?_
      refine aw_aload_n C rfl rfl dX1_part_104 ?_
      refine aw_getf C ck0 1 (by decide) q665 (fun _ z => z) (ch_at (i := 0) rfl) rfl dX1_part_105 ?_
      refine aw_topV (congrArg Value.ref hcu) ?_
      refine aw_aload C rfl dX1_part_108 ?_
      refine aw_callVRR C ck9 (pt_set hG l z2) q1115 q1079 q1080 q129 q1081 (Or.inl z2) (n9 := 0) (by decide +kernel) rfl (Nat.le_of_ble_eq_true rfl) (Nat.le_of_ble_eq_true rfl) (by dsimp only; omega) (by dsimp only; omega) rfl (Nat.le_of_ble_eq_true rfl) dX1_part_110 ?_
      refine aw_callVRR C ck2 (bd_pairs hG l hU hI (hb1.le (ch_le hSp1)) hA.1 hS5) q1529 q1519 q1520 q97 q1521 (Or.inl eb1) (n9 := 1) (by decide +kernel) rfl (Nat.le_of_ble_eq_true rfl) (Nat.le_of_ble_eq_true rfl) (by dsimp only; omega) (by dsimp only; omega) rfl (Nat.le_of_ble_eq_true rfl) dX1_part_113 ?_
      exact aw_iret C rfl dX1_part_116 (by omega) (by omega) ⟨rfl, rfl, u, g1, rfl, hC1.leK (Nat.le_succ _)⟩
    · refine aw_tableIn C (off := 86) (tgt := 117) dX1_part_31 (by decide) (by decide) (by decide) (by decide) ?_
      refine aw_aload_n C rfl rfl dX1_part_117 ?_
      refine aw_aload_n C rfl rfl dX1_part_118 ?_
      refine aw_getf C ck0 1 (by decide) q665 (fun _ z => z) (ch_at (i := 0) rfl) rfl dX1_part_119 ?_
      refine aw_topV (congrArg Value.ref hcu) ?_
      refine aw_aload C rfl dX1_part_122 ?_
      refine aw_callVI C ck0 (co_of hG l hSp1 hb1 hA.1 hA.2.2.1 hK (Or.inl (hSI.fr hDg q1)) z2 hvd.1 hps hvd.2.1 hba) q1111 q1113 qs19 q95 q1114 (ch_at (i := 0) rfl) (n9 := 2) (by decide +kernel) rfl (Nat.le_of_ble_eq_true rfl) (Nat.le_of_ble_eq_true rfl) (by dsimp only; omega) (by dsimp only; omega) rfl (Nat.le_of_ble_eq_true rfl) dX1_part_124 (fun r u2 hp2 => ?_)
      obtain ⟨rfl, hx2, hq2⟩ := hp2
      obtain ⟨hi1, hi2, hi3⟩ := G_gb hA.2.2.1 hA.1 hvd.1 (b (31 + low S))
      obtain ⟨i, hi⟩ : ∃ i, i = G b S (b (31 + low S)) := ⟨_, rfl⟩
      rw [← hi]
      rw [← hi] at hi1 hi2 hi3
      have hil := pq_lt (i := i) hi1 (by omega) (by omega)
      refine aw_callSRR C (cp_value hG l (p := pq i) (by omega)) q796 q782 q95 q783 (n9 := 1) (by decide +kernel) rfl (Nat.le_of_ble_eq_true rfl) (Nat.le_of_ble_eq_true rfl) (by dsimp only; omega) (by dsimp only; omega) rfl (Nat.le_of_ble_eq_true rfl) dX1_part_127 ?_
      refine aw_top (show _ = nI i.1 from by rw [pq_v (by omega) (by omega)]) ?_
      exact aw_iret C rfl dX1_part_130 (by omega) (by omega) ⟨rfl, by first | rfl | (rw [hi]; rfl), u2, g1, rfl, hC1.sx hx2 (hq2.si hg1 hA.1)⟩
    · refine aw_tableIn C (off := 100) (tgt := 131) dX1_part_31 (by decide) (by decide) (by decide) (by decide) ?_
      refine aw_aload_n C rfl rfl dX1_part_131 ?_
      refine aw_aload_n C rfl rfl dX1_part_132 ?_
      refine aw_getf C ck0 1 (by decide) q665 (fun _ z => z) (ch_at (i := 0) rfl) rfl dX1_part_133 ?_
      refine aw_topV (congrArg Value.ref hcu) ?_
      refine aw_aload C rfl dX1_part_136 ?_
      refine aw_callVI C ck0 (co_of hG l hSp1 hb1 hA.1 hA.2.2.1 hK (Or.inl (hSI.fr hDg q1)) z2 hvd.1 hps hvd.2.1 hba) q1111 q1113 qs19 q95 q1114 (ch_at (i := 0) rfl) (n9 := 2) (by decide +kernel) rfl (Nat.le_of_ble_eq_true rfl) (Nat.le_of_ble_eq_true rfl) (by dsimp only; omega) (by dsimp only; omega) rfl (Nat.le_of_ble_eq_true rfl) dX1_part_138 (fun r u2 hp2 => ?_)
      obtain ⟨rfl, hx2, hq2⟩ := hp2
      obtain ⟨hi1, hi2, hi3⟩ := G_gb hA.2.2.1 hA.1 hvd.1 (b (31 + low S))
      obtain ⟨i, hi⟩ : ∃ i, i = G b S (b (31 + low S)) := ⟨_, rfl⟩
      rw [← hi]
      rw [← hi] at hi1 hi2 hi3
      have hil := pq_lt (i := i) hi1 (by omega) (by omega)
      refine aw_callSRR C (cp_longest hG l (p := pq i) (by omega)) q1049 q785 q95 q786 (n9 := 1) (by decide +kernel) rfl (Nat.le_of_ble_eq_true rfl) (Nat.le_of_ble_eq_true rfl) (by dsimp only; omega) (by dsimp only; omega) rfl (Nat.le_of_ble_eq_true rfl) dX1_part_141 ?_
      refine aw_top (show _ = nI i.2.1 from by rw [pq_l (by omega) (by omega)]) ?_
      exact aw_iret C rfl dX1_part_144 (by omega) (by omega) ⟨rfl, by first | rfl | (rw [hi]; rfl), u2, g1, rfl, hC1.sx hx2 (hq2.si hg1 hA.1)⟩
    · refine aw_tableIn C (off := 114) (tgt := 145) dX1_part_31 (by decide) (by decide) (by decide) (by decide) ?_
      refine aw_aload_n C rfl rfl dX1_part_145 ?_
      refine aw_aload_n C rfl rfl dX1_part_146 ?_
      refine aw_getf C ck0 1 (by decide) q665 (fun _ z => z) (ch_at (i := 0) rfl) rfl dX1_part_147 ?_
      refine aw_topV (congrArg Value.ref hcu) ?_
      refine aw_aload C rfl dX1_part_150 ?_
      refine aw_callVI C ck0 (co_of hG l hSp1 hb1 hA.1 hA.2.2.1 hK (Or.inl (hSI.fr hDg q1)) z2 hvd.1 hps hvd.2.1 hba) q1111 q1113 qs19 q95 q1114 (ch_at (i := 0) rfl) (n9 := 2) (by decide +kernel) rfl (Nat.le_of_ble_eq_true rfl) (Nat.le_of_ble_eq_true rfl) (by dsimp only; omega) (by dsimp only; omega) rfl (Nat.le_of_ble_eq_true rfl) dX1_part_152 (fun r u2 hp2 => ?_)
      obtain ⟨rfl, hx2, hq2⟩ := hp2
      obtain ⟨hi1, hi2, hi3⟩ := G_gb hA.2.2.1 hA.1 hvd.1 (b (31 + low S))
      obtain ⟨i, hi⟩ : ∃ i, i = G b S (b (31 + low S)) := ⟨_, rfl⟩
      rw [← hi]
      rw [← hi] at hi1 hi2 hi3
      have hil := pq_lt (i := i) hi1 (by omega) (by omega)
      refine aw_callSRR C (cp_shortest hG l (p := pq i)) q1054 q788 q95 q789 (n9 := 1) (by decide +kernel) rfl (Nat.le_of_ble_eq_true rfl) (Nat.le_of_ble_eq_true rfl) (by dsimp only; omega) (by dsimp only; omega) rfl (Nat.le_of_ble_eq_true rfl) dX1_part_155 ?_
      refine aw_top (show _ = nI i.2.2 from by rw [pq_s (by omega) (by omega)]) ?_
      exact aw_iret C rfl dX1_part_158 (by omega) (by omega) ⟨rfl, by first | rfl | (rw [hi]; rfl), u2, g1, rfl, hC1.sx hx2 (hq2.si hg1 hA.1)⟩
