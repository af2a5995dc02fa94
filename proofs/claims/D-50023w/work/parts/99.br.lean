/-! the state behind changes; lay, pass, setPasses -/
theorem GRS.le {h h' : AH} {s0 gr : Nat} {b : BT} (H : HLE h h') (g : GRS h s0 gr b) : GRS h' s0 gr b := by
  obtain ⟨gl, gn, fl, fn, hl, e1, e2, e3, e4⟩ := g
  exact ⟨gl, gn, fl, fn, hl, H _ _ e1, H _ _ e2, H _ _ e3, e4⟩
theorem app_bo {g : AH} {a : Nat} {b : BT} (ha : BO9 g a b) : ∀ (hs : List Nat) (ks : List BT), hs.length = ks.length → (∀ i, i < hs.length → BO9 g (hs.getD i 0) (ks.getD i kzero)) → ∀ i, i < (hs ++ [a]).length → BO9 g ((hs ++ [a]).getD i 0) ((ks ++ [b]).getD i kzero)
  | [], [], _, _, i, hi => by
    have : i = 0 := by simp at hi; omega
    subst this
    exact ha
  | x :: hs, y :: ks, hl, h, 0, _ => h 0 (by simp)
  | x :: hs, y :: ks, hl, h, i + 1, hi => app_bo ha hs ks (by simpa using hl) (fun j hj => h (j + 1) (by simpa using hj)) i (by simpa using hi)
theorem tail_bo {g : AH} : ∀ (hs : List Nat) (ks : List BT), hs.length = ks.length → (∀ i, i < hs.length → BO9 g (hs.getD i 0) (ks.getD i kzero)) → hs.tail.length = ks.tail.length ∧ ∀ i, i < hs.tail.length → BO9 g (hs.tail.getD i 0) (ks.tail.getD i kzero)
  | [], [], _, h => ⟨rfl, h⟩
  | x :: hs, y :: ks, hl, h => ⟨by simpa using hl, fun i hi => h (i + 1) (by simpa using hi)⟩
theorem keep_bo {g : AH} {a : Nat} {b : BT} {hs : List Nat} {ks : List BT} (ha : BO9 g a b) (hl : hs.length = ks.length) (h : ∀ i, i < hs.length → BO9 g (hs.getD i 0) (ks.getD i kzero)) : (keepL a hs).length = (keepS b ks).length ∧ ∀ i, i < (keepL a hs).length → BO9 g ((keepL a hs).getD i 0) ((keepS b ks).getD i kzero) := by
  unfold keepL keepS
  by_cases e : hs.length = 8
  · rw [if_pos e, if_pos (by omega)]
    obtain ⟨h1, h2⟩ := tail_bo hs ks hl h
    exact ⟨by rw [List.length_append, List.length_append, h1]; rfl, app_bo ha _ _ h1 h2⟩
  · rw [if_neg e, if_neg (by omega)]
    exact ⟨by rw [List.length_append, List.length_append, hl]; rfl, app_bo ha _ _ hl h⟩
theorem bo_cell {g : AH} {hs : List Nat} {ks : List BT} (h : ∀ i, i < hs.length → BO9 g (hs.getD i 0) (ks.getD i kzero)) : ∀ z ∈ hs, ∃ fz, g z = some (.inr (2, fz)) := fun z hz => by
  obtain ⟨i, hi, e⟩ := List.getElem_of_mem hz
  obtain ⟨gr, cap, hb, -⟩ := h i hi
  have e2 : hs.getD i 0 = z := by rw [List.getD, List.getElem?_eq_getElem hi]; exact e
  rw [e2] at hb
  obtain ⟨ca, ba, ac, a0, a1, li, el, mo, fc, fb, f, hX⟩ := hb
  exact ⟨_, hX.2.1⟩
/-- the state behind: a new board at z, the old one in the history -/
theorem CS.chg {o sz sz' K K2 : Nat} {u u' u2 : CU} {g g2 : AH} {s : SS} {a z hd2 : Nat} {hs : List Nat} {b2 : BT} (hC : CS o sz u g K s) (hDg : Dm g sz) (hcu : u.2.2.2.2 = a) (hl : hs.length = s.2.1.length) (hbo : ∀ i, i < hs.length → BO9 g (hs.getD i 0) (s.2.1.getD i kzero)) (hfr : ∀ q, q < sz → g2 q = g q) (hle : sz ≤ sz') (hS : SB u u') (hx : SX u' u2) (hz : u'.2.2.2.2 = z) (hq2 : DQ u' hd2 (keepL a hs)) (hI : SI g2 u2 K2) (hb2 : BO9 g2 z b2) : CS o sz' u2 g2 K2 (b2, keepS s.1 s.2.1, s.2.2) := by
  obtain ⟨h1, h2, h3, h4, -, h6, h7, h8, h9⟩ := hC
  rw [hcu] at h4
  obtain ⟨x1, x2, ⟨x3, -⟩, x4⟩ := hx
  obtain ⟨y1, y2, y3, y4⟩ := hS
  obtain ⟨k1, k2⟩ := keep_bo (h4.fr hDg hfr) hl (fun i hi => (hbo i hi).fr hDg hfr)
  refine ⟨h1.fr h2 hfr, by omega, hI, by rw [x4, hz]; exact hb2, ⟨hd2, _, hq2.same (x1 4 (by decide) (by decide)) (x1 5 (by decide) (by decide)) (x3 1 (by decide)), k1, k2⟩, fun i hi => ?_, ?_, ?_, ?_⟩
  · rw [x3 2 (by decide), y4 2 (by decide)]
    rcases h6 i hi with z | ⟨a, b, z1, z2, z3⟩
    · exact Or.inl z
    · exact Or.inr ⟨a, b, z1, z2, z3.fr hDg hfr⟩
  · unfold CSb at *
    rw [x1 0 (by decide) (by decide), y1 0 (by decide) (by decide), x2 3 (by decide) (by decide), y2]
    exact h7
  · rw [x1 1 (by decide) (by decide), y1 1 (by decide) (by decide)]
    exact h8
  · unfold CSw at *
    rw [x1 6 (by decide) (by decide), y1 6 (by decide) (by decide), x2 4 (by decide) (by decide), y2]
    exact h9
theorem nwL_le {cap M : Nat} (h : M = cap) (hc : cap ≤ 4200) : nwL cap (M + 1 - cap) (cap >>> 1) ≤ 8200 := by
  unfold nwL
  rw [Nat.shiftRight_eq_div_pow]
  split <;> omega
theorem cap_le {cap cap' M : Nat} (hc : cap ≤ 16 + M) (hM : M ≤ 4096) (h : cap' = cap ∧ M < cap ∨ cap' = nwL cap (M + 1 - cap) (cap >>> 1) ∧ M = cap) : cap' ≤ 8200 := by
  rcases h with ⟨h1, h2⟩ | ⟨h1, h2⟩
  · omega
  · rw [h1]; exact nwL_le h2 (by omega)
set_option maxRecDepth 100000 in
theorem pc_lay {γ : Gm} (hG : GF γ) (l : Launch) {o : Nat} {u : CU} {g : AH} {sz : Nat} {ρ : Nat} (hU : RUL γ ρ) (hI : FRU γ) {mi : Nat} (hB : GBO γ mi) (hX : GEX γ l) {K : Nat} {s : SS} (hC : CS o sz u g K s) (hA : WA s.1) (hm9 : s.1 3 < 4096) (v c : Int32) : MX γ l yX1_lay cX1_lay 4 (some .int) 21 465 17 (18 + wS (s.1 3)) [.ref o, .int v, .int c] (ch o u g) sz (PCV o K (spLay s v c)) (PCX o K "java/lang/IndexOutOfBoundsException" "java/lang/IllegalStateException" (spLay s v c)) := by
  refine mx_start hG (by decide) (Nat.le_of_ble_eq_true rfl) (fun x C => ?_)
  obtain ⟨hSp, hsz, hSI, ⟨gr, cap, hbc, hg, hc9⟩, hrest⟩ := id hC
  obtain ⟨a, hcu⟩ : ∃ a, u.2.2.2.2 = a := ⟨_, rfl⟩
  rw [hcu] at hbc
  obtain ⟨b, hbs⟩ : ∃ b, s.1 = b := ⟨_, rfl⟩
  rw [hbs] at hbc hg hA hm9
  have hb : BRD g a gr b := hbc.brd hg
  obtain ⟨hd, hs, hq9, hql, hbo⟩ := id hC.2.2.2.2.1
  obtain ⟨ws, hws⟩ : ∃ ws, wS (s.1 3) = ws := ⟨_, rfl⟩
  have hws3 : ws = cpS (b 3) + (4 + gwS (b 3)) := by rw [← hws, hbs]; rfl
  obtain ⟨ca, ba, v3, v4, fc, fb, eb, eca, eba, hg, hfc, hfb⟩ := id hb
  obtain ⟨gl, gn, fl, fn, eg, egl, egn, hgl, hgn⟩ := id hg
  have hN := hA.1.2.1
  have hC3 := hA.1.2.2.2.1
  refine aw_dom (fun hD0 => ?_)
  have hDg := dm_g hSp hD0
  refine aw_aload_n C rfl rfl dX1_lay_0 ?_
  refine aw_iload_n C rfl rfl dX1_lay_1 ?_
  refine aw_iload_n C rfl rfl dX1_lay_2 ?_
  refine aw_callVQ C ck0 (rq_Pair hG l hX hSp hb hA.1 hcu v c) q1583 q1585 qs37 q95 q1586 (ch_at (i := 0) rfl) (n9 := 2) (by decide +kernel) rfl (Nat.le_of_ble_eq_true rfl) (Nat.le_of_ble_eq_true rfl) (by dsimp only; omega) (by dsimp only; omega) rfl (Nat.le_of_ble_eq_true rfl) dX1_lay_3 (by omega) (by omega) (fun e sz' q => ⟨Or.inl ⟨by unfold spLay; rw [hbs, if_pos e], rfl⟩, u, g, rfl, by have z : (spLay s v c).2 = s := (by unfold spLay; rw [hbs, if_pos e]); rw [z]; exact hC.mono q⟩) (fun e => ?_)
  have e2 := e
  rw [Bool.and_eq_true] at e2
  obtain ⟨v1, rfl, hv1⟩ := isV_ex hN hA.1.1 e2.1
  obtain ⟨c1, rfl, hc1⟩ := isC_ex hC3 hA.1.2.2.1 e2.2
  refine aw_getsN C hU.1 q1587 (fun _ z => z) dX1_lay_6 ?_
  refine aw_aload_n C rfl rfl dX1_lay_9 ?_
  refine aw_getf C ck0 1 (by decide) q665 (fun _ z => z) (ch_at (i := 0) rfl) rfl dX1_lay_10 ?_
  refine aw_topV (congrArg Value.ref hcu) ?_
  refine aw_iload_n C rfl rfl dX1_lay_13 ?_
  refine aw_iload_n C rfl rfl dX1_lay_14 ?_
  refine aw_callVOR C  (bd_reason hG l hU hI (hb.le (ch_le hSp)) hA.1 (by omega) (by omega)) q1588 q822 q823 q2248 q824 hU.2 (n9 := 3) (by decide +kernel) rfl (Nat.le_of_ble_eq_true rfl) (Nat.le_of_ble_eq_true rfl) (by dsimp only; omega) (by dsimp only; omega) rfl (Nat.le_of_ble_eq_true rfl) dX1_lay_15 ?_
  have hwl := why_le b v1 c1
  refine aw_ifN_ne C (tgt := 25) (by omega) dX1_lay_18 (by decide) (fun gW => ?_) (fun gW => ?_)
  · refine aw_iconst C (v := nI 0) (by decide) dX1_lay_25 ?_
    refine aw_top (show _ = nI (if decide (why b v1 c1 = 0) = true then 1 else 0) from by first | rw [if_pos (decide_eq_true gW)] | rw [if_neg (fun z => gW (of_decide_eq_true z))]) ?_
    refine aw_callSQ C (rq_State hG l hX (decide (why b v1 c1 = 0))) q1236 q1237 q95 q1238 (n9 := 1) (by decide +kernel) rfl (Nat.le_of_ble_eq_true rfl) (Nat.le_of_ble_eq_true rfl) (by dsimp only; omega) (by dsimp only; omega) rfl (Nat.le_of_ble_eq_true rfl) dX1_lay_26 (by omega) (by omega) (fun e3 sz' q => by have z : spLay s (nI v1) (nI c1) = ((2, nI 0), s) := (by unfold spLay; rw [hbs, if_neg (by rw [e]; decide), nt_n (by omega), nt_n (by omega), if_pos (by have := of_decide_eq_false e3; omega)]); rw [z]; exact ⟨Or.inr ⟨rfl, rfl⟩, u, g, rfl, hC.mono q⟩) (fun e3 => ?_)
    have hw0 : why b v1 c1 = 0 := of_decide_eq_true e3
    have hfree : (freeS b).testBit v1 = true := by
      rw [freeS_bit, cols_free ((why_0 hA.1 (by omega)).1 hw0)]
      simp
      omega
    have hWA := wa_layM hA hm9 hv1 hc1
    refine aw_aload_n C rfl rfl dX1_lay_29 ?_
    refine aw_callV C ck0 (co_changed hG l hB hSp hbc hg hA hm9 hsz hcu hq9 (bo_cell hbo)) q1702 q1704 qs40 q95 q1705 (ch_at (i := 0) rfl) (n9 := 0) (by decide +kernel) rfl (Nat.le_of_ble_eq_true rfl) (Nat.le_of_ble_eq_true rfl) (by dsimp only; omega) (by dsimp only; omega) rfl (Nat.le_of_ble_eq_true rfl) dX1_lay_30 (fun _ _ _ z => z.elim) (fun v9 h1 s1 hp => ?_)
    obtain ⟨rfl, cz1, cz2, u1, g1, rfl, hSB1, hcu1, ⟨hd1, hq1⟩, fr1, hbc1, hSp1⟩ := hp
    refine aw_dom (fun hD1 => ?_)
    have hDg1 := dm_g hSp1 hD1
    have hgs1 : GRS (ch o u1 g1) sz gr b := ((hg.s hDg).fr fr1).le (ch_le hSp1)
    have hbh1 : BC (ch o u1 g1) sz sz gr b (cpC (b 3)) := hbc1.le (ch_le hSp1)
    have ec9 := hbh1
    obtain ⟨ca9, ba9, ac9, a09, a19, li9, el9, mo9, fc9, fb9, f9, hX9⟩ := ec9
    have es9 := hX9.2.1
    refine aw_astore_n C rfl (by decide) rfl dX1_lay_33 ?_
    refine aw_aload_n C rfl rfl dX1_lay_34 ?_
    refine aw_iload_n C rfl rfl dX1_lay_35 ?_
    refine aw_iload_n C rfl rfl dX1_lay_36 ?_
    refine aw_callV C ck2 (bm_lay hG l hB hbh1 hgs1 hA.1 hA.2.2.1 hD1 (by omega) (Nat.le_trans (cpC_le _) (by omega)) (v := v1) (c := c1) (by omega) hc1 hfree (gs := gwS (b 3)) (fun e => by unfold gwS; rw [if_pos e]; exact Nat.le_refl _)) q1706 q1037 q1038 q97 q1039 es9 (n9 := 2) (by decide +kernel) rfl (Nat.le_of_ble_eq_true rfl) (Nat.le_of_ble_eq_true rfl) (by dsimp only; omega) (by dsimp only; omega) rfl (Nat.le_of_ble_eq_true rfl) dX1_lay_37 (fun _ _ _ z => z.elim) (fun v9 h2 s2 hp => ?_)
    obtain ⟨rfl, k1, k2, k3, cap', hcl, k4⟩ := hp
    obtain ⟨g2, rfl, fr2, up2⟩ := ch_split hsz k3
    have hSp2 := hSp1.fr hsz fr2
    have fr02 : ∀ q, q < sz → g2 q = g q := fun q hq => (fr2 q hq).trans (fr1 q hq)
    have hg2 : GRP g2 gr (layM b v1 c1) := GRP.st (st_layM b v1 c1) hA.1.2.1 (hg.fr hDg fr02)
    have hbc2 := BC.spl rfl up2 k4
    have hb2 : BRD g2 sz gr (layM b v1 c1) := hbc2.brd hg2
    obtain ⟨ca2, ba2, v32, v42, fc2, fb2, eb2, eca2, eba2, hg2', hfc2, hfb2⟩ := id hb2
    obtain ⟨gl2, gn2, fl2, fn2, eg2, egl2, egn2, hgl2, hgn2⟩ := id hg2'
    refine aw_aload_n C rfl rfl dX1_lay_40 ?_
    refine aw_getfN C ck2 0 (by decide) q612 (fun _ z => z) (ch_le hSp2 _ _ eb2) rfl dX1_lay_41 ?_
    refine aw_aload_n C rfl rfl dX1_lay_44 ?_
    refine aw_callVRR C ck2 (bd_free hG l (hb2.le (ch_le hSp2)) hWA.1) q705 q706 q707 q97 q708 (Or.inl (ch_le hSp2 _ _ eb2)) (n9 := 0) (by decide +kernel) rfl (Nat.le_of_ble_eq_true rfl) (Nat.le_of_ble_eq_true rfl) (by dsimp only; omega) (by dsimp only; omega) rfl (Nat.le_of_ble_eq_true rfl) dX1_lay_45 ?_
    refine aw_callVRR C ck3 (bd_countParts hG l (hg2.le (ch_le hSp2)) hWA.1.2.1 hWA.2.2.1 (freeS_lt2 _)) q1513 q995 q996 q98 q997 (Or.inl (ch_le hSp2 _ _ eg2)) (n9 := 1) (by decide +kernel) rfl (Nat.le_of_ble_eq_true rfl) (Nat.le_of_ble_eq_true rfl) (by dsimp only; omega) (by dsimp only; omega) rfl (Nat.le_of_ble_eq_true rfl) dX1_lay_48 ?_
    refine aw_iret C rfl dX1_lay_51 (by omega) (by omega) ?_
    have e9 : spLay s (nI v1) (nI c1) = ((0, nI (npts (layM b v1 c1) (freeS (layM b v1 c1)))), (layM b v1 c1, keepS s.1 s.2.1, s.2.2)) := by
      unfold spLay
      rw [hbs, if_neg (by rw [e]; decide), nt_n (by omega), nt_n (by omega), if_neg (by omega)]
    rw [e9]
    exact ⟨rfl, rfl, u1, g2, rfl, (hC.chg hDg hcu hql hbo fr02 (by omega) hSB1 (SX.rf u1) hcu1 hq1 ((hSB1.si hSI).fr hDg fr02) ⟨gr, cap', hbc2.s (Nat.zero_le _), hg2, cap_le (cpC_le _) (by omega) hcl⟩)⟩
  · refine aw_iconst C (v := nI 1) (by decide) dX1_lay_21 ?_
    refine aw_goto C (tgt := 26) dX1_lay_22 (by decide) ?_
    refine aw_top (show _ = nI (if decide (why b v1 c1 = 0) = true then 1 else 0) from by first | rw [if_pos (decide_eq_true gW)] | rw [if_neg (fun z => gW (of_decide_eq_true z))]) ?_
    refine aw_callSQ C (rq_State hG l hX (decide (why b v1 c1 = 0))) q1236 q1237 q95 q1238 (n9 := 1) (by decide +kernel) rfl (Nat.le_of_ble_eq_true rfl) (Nat.le_of_ble_eq_true rfl) (by dsimp only; omega) (by dsimp only; omega) rfl (Nat.le_of_ble_eq_true rfl) dX1_lay_26 (by omega) (by omega) (fun e3 sz' q => by have z : spLay s (nI v1) (nI c1) = ((2, nI 0), s) := (by unfold spLay; rw [hbs, if_neg (by rw [e]; decide), nt_n (by omega), nt_n (by omega), if_pos (by have := of_decide_eq_false e3; omega)]); rw [z]; exact ⟨Or.inr ⟨rfl, rfl⟩, u, g, rfl, hC.mono q⟩) (fun e3 => ?_)
    have hw0 : why b v1 c1 = 0 := of_decide_eq_true e3
    have hfree : (freeS b).testBit v1 = true := by
      rw [freeS_bit, cols_free ((why_0 hA.1 (by omega)).1 hw0)]
      simp
      omega
    have hWA := wa_layM hA hm9 hv1 hc1
    refine aw_aload_n C rfl rfl dX1_lay_29 ?_
    refine aw_callV C ck0 (co_changed hG l hB hSp hbc hg hA hm9 hsz hcu hq9 (bo_cell hbo)) q1702 q1704 qs40 q95 q1705 (ch_at (i := 0) rfl) (n9 := 0) (by decide +kernel) rfl (Nat.le_of_ble_eq_true rfl) (Nat.le_of_ble_eq_true rfl) (by dsimp only; omega) (by dsimp only; omega) rfl (Nat.le_of_ble_eq_true rfl) dX1_lay_30 (fun _ _ _ z => z.elim) (fun v9 h1 s1 hp => ?_)
    obtain ⟨rfl, cz1, cz2, u1, g1, rfl, hSB1, hcu1, ⟨hd1, hq1⟩, fr1, hbc1, hSp1⟩ := hp
    refine aw_dom (fun hD1 => ?_)
    have hDg1 := dm_g hSp1 hD1
    have hgs1 : GRS (ch o u1 g1) sz gr b := ((hg.s hDg).fr fr1).le (ch_le hSp1)
    have hbh1 : BC (ch o u1 g1) sz sz gr b (cpC (b 3)) := hbc1.le (ch_le hSp1)
    have ec9 := hbh1
    obtain ⟨ca9, ba9, ac9, a09, a19, li9, el9, mo9, fc9, fb9, f9, hX9⟩ := ec9
    have es9 := hX9.2.1
    refine aw_astore_n C rfl (by decide) rfl dX1_lay_33 ?_
    refine aw_aload_n C rfl rfl dX1_lay_34 ?_
    refine aw_iload_n C rfl rfl dX1_lay_35 ?_
    refine aw_iload_n C rfl rfl dX1_lay_36 ?_
    refine aw_callV C ck2 (bm_lay hG l hB hbh1 hgs1 hA.1 hA.2.2.1 hD1 (by omega) (Nat.le_trans (cpC_le _) (by omega)) (v := v1) (c := c1) (by omega) hc1 hfree (gs := gwS (b 3)) (fun e => by unfold gwS; rw [if_pos e]; exact Nat.le_refl _)) q1706 q1037 q1038 q97 q1039 es9 (n9 := 2) (by decide +kernel) rfl (Nat.le_of_ble_eq_true rfl) (Nat.le_of_ble_eq_true rfl) (by dsimp only; omega) (by dsimp only; omega) rfl (Nat.le_of_ble_eq_true rfl) dX1_lay_37 (fun _ _ _ z => z.elim) (fun v9 h2 s2 hp => ?_)
    obtain ⟨rfl, k1, k2, k3, cap', hcl, k4⟩ := hp
    obtain ⟨g2, rfl, fr2, up2⟩ := ch_split hsz k3
    have hSp2 := hSp1.fr hsz fr2
    have fr02 : ∀ q, q < sz → g2 q = g q := fun q hq => (fr2 q hq).trans (fr1 q hq)
    have hg2 : GRP g2 gr (layM b v1 c1) := GRP.st (st_layM b v1 c1) hA.1.2.1 (hg.fr hDg fr02)
    have hbc2 := BC.spl rfl up2 k4
    have hb2 : BRD g2 sz gr (layM b v1 c1) := hbc2.brd hg2
    obtain ⟨ca2, ba2, v32, v42, fc2, fb2, eb2, eca2, eba2, hg2', hfc2, hfb2⟩ := id hb2
    obtain ⟨gl2, gn2, fl2, fn2, eg2, egl2, egn2, hgl2, hgn2⟩ := id hg2'
    refine aw_aload_n C rfl rfl dX1_lay_40 ?_
    refine aw_getfN C ck2 0 (by decide) q612 (fun _ z => z) (ch_le hSp2 _ _ eb2) rfl dX1_lay_41 ?_
    refine aw_aload_n C rfl rfl dX1_lay_44 ?_
    refine aw_callVRR C ck2 (bd_free hG l (hb2.le (ch_le hSp2)) hWA.1) q705 q706 q707 q97 q708 (Or.inl (ch_le hSp2 _ _ eb2)) (n9 := 0) (by decide +kernel) rfl (Nat.le_of_ble_eq_true rfl) (Nat.le_of_ble_eq_true rfl) (by dsimp only; omega) (by dsimp only; omega) rfl (Nat.le_of_ble_eq_true rfl) dX1_lay_45 ?_
    refine aw_callVRR C ck3 (bd_countParts hG l (hg2.le (ch_le hSp2)) hWA.1.2.1 hWA.2.2.1 (freeS_lt2 _)) q1513 q995 q996 q98 q997 (Or.inl (ch_le hSp2 _ _ eg2)) (n9 := 1) (by decide +kernel) rfl (Nat.le_of_ble_eq_true rfl) (Nat.le_of_ble_eq_true rfl) (by dsimp only; omega) (by dsimp only; omega) rfl (Nat.le_of_ble_eq_true rfl) dX1_lay_48 ?_
    refine aw_iret C rfl dX1_lay_51 (by omega) (by omega) ?_
    have e9 : spLay s (nI v1) (nI c1) = ((0, nI (npts (layM b v1 c1) (freeS (layM b v1 c1)))), (layM b v1 c1, keepS s.1 s.2.1, s.2.2)) := by
      unfold spLay
      rw [hbs, if_neg (by rw [e]; decide), nt_n (by omega), nt_n (by omega), if_neg (by omega)]
    rw [e9]
    exact ⟨rfl, rfl, u1, g2, rfl, (hC.chg hDg hcu hql hbo fr02 (by omega) hSB1 (SX.rf u1) hcu1 hq1 ((hSB1.si hSI).fr hDg fr02) ⟨gr, cap', hbc2.s (Nat.zero_le _), hg2, cap_le (cpC_le _) (by omega) hcl⟩)⟩
set_option maxRecDepth 100000 in
theorem pc_pass {γ : Gm} (hG : GF γ) (l : Launch) {o : Nat} {u : CU} {g : AH} {sz : Nat} {mi : Nat} (hB : GBO γ mi) (hX : GEX γ l) {K : Nat} {s : SS} (hC : CS o sz u g K s) (hA : WA s.1) (hm9 : s.1 3 < 4096) : MX γ l yX1_pass cX1_pass 2 (some .int) 21 465 15 (12 + wS (s.1 3)) [.ref o] (ch o u g) sz (PCV o K (spPass s)) (PCX o K "java/lang/IllegalStateException" "" (spPass s)) := by
  refine mx_start hG (by decide) (Nat.le_of_ble_eq_true rfl) (fun x C => ?_)
  obtain ⟨hSp, hsz, hSI, ⟨gr, cap, hbc, hg, hc9⟩, hrest⟩ := id hC
  obtain ⟨a, hcu⟩ : ∃ a, u.2.2.2.2 = a := ⟨_, rfl⟩
  rw [hcu] at hbc
  obtain ⟨b, hbs⟩ : ∃ b, s.1 = b := ⟨_, rfl⟩
  rw [hbs] at hbc hg hA hm9
  have hb : BRD g a gr b := hbc.brd hg
  obtain ⟨hd, hs, hq9, hql, hbo⟩ := id hC.2.2.2.2.1
  obtain ⟨ws, hws⟩ : ∃ ws, wS (s.1 3) = ws := ⟨_, rfl⟩
  have hws3 : ws = cpS (b 3) + (4 + gwS (b 3)) := by rw [← hws, hbs]; rfl
  obtain ⟨ca, ba, v3, v4, fc, fb, eb, eca, eba, hg, hfc, hfb⟩ := id hb
  obtain ⟨gl, gn, fl, fn, eg, egl, egn, hgl, hgn⟩ := id hg
  have hL9 := hA.2.2.2.1
  refine aw_dom (fun hD0 => ?_)
  have hDg := dm_g hSp hD0
  refine aw_aload_n C rfl rfl dX1_pass_0 ?_
  refine aw_getf C ck0 1 (by decide) q665 (fun _ z => z) (ch_at (i := 0) rfl) rfl dX1_pass_1 ?_
  refine aw_topV (congrArg Value.ref hcu) ?_
  refine aw_getfN C ck2 5 (by decide) q626 (fun _ z => z) (ch_le hSp _ _ eb) rfl dX1_pass_4 ?_
  refine aw_ifN_le C (tgt := 14) (by omega) dX1_pass_7 (by decide) (fun gW => ?_) (fun gW => ?_)
  · refine aw_iconst C (v := nI 0) (by decide) dX1_pass_14 ?_
    refine aw_top (show _ = nI (if decide (0 < b 2) = true then 1 else 0) from by first | rw [if_pos (decide_eq_true (by omega))] | rw [if_neg (fun z => absurd (of_decide_eq_true z) (by omega))]) ?_
    refine aw_callSQ C (rq_State hG l hX (decide (0 < b 2))) q1236 q1237 q95 q1238 (n9 := 1) (by decide +kernel) rfl (Nat.le_of_ble_eq_true rfl) (Nat.le_of_ble_eq_true rfl) (by dsimp only; omega) (by dsimp only; omega) rfl (Nat.le_of_ble_eq_true rfl) dX1_pass_15 (by omega) (by omega) (fun e3 sz' q => by have z : spPass s = ((1, nI 0), s) := (by unfold spPass; rw [hbs, if_pos (by have := of_decide_eq_false e3; omega)]); rw [z]; exact ⟨Or.inl ⟨rfl, rfl⟩, u, g, rfl, hC.mono q⟩) (fun e3 => ?_)
    have hp2 : 0 < b 2 := of_decide_eq_true e3
    have hWA := wa_passM hA hm9
    refine aw_aload_n C rfl rfl dX1_pass_18 ?_
    refine aw_callV C ck0 (co_changed hG l hB hSp hbc hg hA hm9 hsz hcu hq9 (bo_cell hbo)) q1702 q1704 qs40 q95 q1705 (ch_at (i := 0) rfl) (n9 := 0) (by decide +kernel) rfl (Nat.le_of_ble_eq_true rfl) (Nat.le_of_ble_eq_true rfl) (by dsimp only; omega) (by dsimp only; omega) rfl (Nat.le_of_ble_eq_true rfl) dX1_pass_19 (fun _ _ _ z => z.elim) (fun v9 h1 s1 hp => ?_)
    obtain ⟨rfl, cz1, cz2, u1, g1, rfl, hSB1, hcu1, ⟨hd1, hq1⟩, fr1, hbc1, hSp1⟩ := hp
    refine aw_dom (fun hD1 => ?_)
    have hDg1 := dm_g hSp1 hD1
    have hgs1 : GRS (ch o u1 g1) sz gr b := ((hg.s hDg).fr fr1).le (ch_le hSp1)
    have hbh1 : BC (ch o u1 g1) sz sz gr b (cpC (b 3)) := hbc1.le (ch_le hSp1)
    have ec9 := hbh1
    obtain ⟨ca9, ba9, ac9, a09, a19, li9, el9, mo9, fc9, fb9, f9, hX9⟩ := ec9
    have es9 := hX9.2.1
    refine aw_astore_n C rfl (by decide) rfl dX1_pass_22 ?_
    refine aw_aload_n C rfl rfl dX1_pass_23 ?_
    refine aw_callV C ck2 (bm_pass hG l hB hbh1 hgs1 hA.1 hA.2.2.1 hD1 (by omega) (Nat.le_trans (cpC_le _) (by omega)) hp2 hA.2.2.2.1 (gs := gwS (b 3)) (fun e => by unfold gwS; rw [if_pos e]; exact Nat.le_refl _)) q1714 q985 q986 q97 q987 es9 (n9 := 0) (by decide +kernel) rfl (Nat.le_of_ble_eq_true rfl) (Nat.le_of_ble_eq_true rfl) (by dsimp only; omega) (by dsimp only; omega) rfl (Nat.le_of_ble_eq_true rfl) dX1_pass_24 (fun _ _ _ z => z.elim) (fun v9 h2 s2 hp => ?_)
    obtain ⟨rfl, k1, k2, k3, cap', hcl, k4⟩ := hp
    obtain ⟨g2, rfl, fr2, up2⟩ := ch_split hsz k3
    have hSp2 := hSp1.fr hsz fr2
    have fr02 : ∀ q, q < sz → g2 q = g q := fun q hq => (fr2 q hq).trans (fr1 q hq)
    have hg2 : GRP g2 gr (passM b) := GRP.st (st_passM b) hA.1.2.1 (hg.fr hDg fr02)
    have hbc2 := BC.spl rfl up2 k4
    have hb2 : BRD g2 sz gr (passM b) := hbc2.brd hg2
    obtain ⟨ca2, ba2, v32, v42, fc2, fb2, eb2, eca2, eba2, hg2', hfc2, hfb2⟩ := id hb2
    obtain ⟨gl2, gn2, fl2, fn2, eg2, egl2, egn2, hgl2, hgn2⟩ := id hg2'
    refine aw_aload_n C rfl rfl dX1_pass_27 ?_
    refine aw_getfN C ck2 5 (by decide) q626 (fun _ z => z) (ch_le hSp2 _ _ eb2) rfl dX1_pass_28 ?_
    refine aw_iret C rfl dX1_pass_31 (by omega) (by omega) ?_
    have e9 : spPass s = ((0, nI (b 2 - 1)), (passM b, keepS s.1 s.2.1, s.2.2)) := by
      unfold spPass
      rw [hbs, if_neg (by omega)]
    rw [e9]
    exact ⟨rfl, by rw [passM_2], u1, g2, rfl, (hC.chg hDg hcu hql hbo fr02 (by omega) hSB1 (SX.rf u1) hcu1 hq1 ((hSB1.si hSI).fr hDg fr02) ⟨gr, cap', hbc2.s (Nat.zero_le _), hg2, cap_le (cpC_le _) (by omega) hcl⟩)⟩
  · refine aw_iconst C (v := nI 1) (by decide) dX1_pass_10 ?_
    refine aw_goto C (tgt := 15) dX1_pass_11 (by decide) ?_
    refine aw_top (show _ = nI (if decide (0 < b 2) = true then 1 else 0) from by first | rw [if_pos (decide_eq_true (by omega))] | rw [if_neg (fun z => absurd (of_decide_eq_true z) (by omega))]) ?_
    refine aw_callSQ C (rq_State hG l hX (decide (0 < b 2))) q1236 q1237 q95 q1238 (n9 := 1) (by decide +kernel) rfl (Nat.le_of_ble_eq_true rfl) (Nat.le_of_ble_eq_true rfl) (by dsimp only; omega) (by dsimp only; omega) rfl (Nat.le_of_ble_eq_true rfl) dX1_pass_15 (by omega) (by omega) (fun e3 sz' q => by have z : spPass s = ((1, nI 0), s) := (by unfold spPass; rw [hbs, if_pos (by have := of_decide_eq_false e3; omega)]); rw [z]; exact ⟨Or.inl ⟨rfl, rfl⟩, u, g, rfl, hC.mono q⟩) (fun e3 => ?_)
    have hp2 : 0 < b 2 := of_decide_eq_true e3
    have hWA := wa_passM hA hm9
    refine aw_aload_n C rfl rfl dX1_pass_18 ?_
    refine aw_callV C ck0 (co_changed hG l hB hSp hbc hg hA hm9 hsz hcu hq9 (bo_cell hbo)) q1702 q1704 qs40 q95 q1705 (ch_at (i := 0) rfl) (n9 := 0) (by decide +kernel) rfl (Nat.le_of_ble_eq_true rfl) (Nat.le_of_ble_eq_true rfl) (by dsimp only; omega) (by dsimp only; omega) rfl (Nat.le_of_ble_eq_true rfl) dX1_pass_19 (fun _ _ _ z => z.elim) (fun v9 h1 s1 hp => ?_)
    obtain ⟨rfl, cz1, cz2, u1, g1, rfl, hSB1, hcu1, ⟨hd1, hq1⟩, fr1, hbc1, hSp1⟩ := hp
    refine aw_dom (fun hD1 => ?_)
    have hDg1 := dm_g hSp1 hD1
    have hgs1 : GRS (ch o u1 g1) sz gr b := ((hg.s hDg).fr fr1).le (ch_le hSp1)
    have hbh1 : BC (ch o u1 g1) sz sz gr b (cpC (b 3)) := hbc1.le (ch_le hSp1)
    have ec9 := hbh1
    obtain ⟨ca9, ba9, ac9, a09, a19, li9, el9, mo9, fc9, fb9, f9, hX9⟩ := ec9
    have es9 := hX9.2.1
    refine aw_astore_n C rfl (by decide) rfl dX1_pass_22 ?_
    refine aw_aload_n C rfl rfl dX1_pass_23 ?_
    refine aw_callV C ck2 (bm_pass hG l hB hbh1 hgs1 hA.1 hA.2.2.1 hD1 (by omega) (Nat.le_trans (cpC_le _) (by omega)) hp2 hA.2.2.2.1 (gs := gwS (b 3)) (fun e => by unfold gwS; rw [if_pos e]; exact Nat.le_refl _)) q1714 q985 q986 q97 q987 es9 (n9 := 0) (by decide +kernel) rfl (Nat.le_of_ble_eq_true rfl) (Nat.le_of_ble_eq_true rfl) (by dsimp only; omega) (by dsimp only; omega) rfl (Nat.le_of_ble_eq_true rfl) dX1_pass_24 (fun _ _ _ z => z.elim) (fun v9 h2 s2 hp => ?_)
    obtain ⟨rfl, k1, k2, k3, cap', hcl, k4⟩ := hp
    obtain ⟨g2, rfl, fr2, up2⟩ := ch_split hsz k3
    have hSp2 := hSp1.fr hsz fr2
    have fr02 : ∀ q, q < sz → g2 q = g q := fun q hq => (fr2 q hq).trans (fr1 q hq)
    have hg2 : GRP g2 gr (passM b) := GRP.st (st_passM b) hA.1.2.1 (hg.fr hDg fr02)
    have hbc2 := BC.spl rfl up2 k4
    have hb2 : BRD g2 sz gr (passM b) := hbc2.brd hg2
    obtain ⟨ca2, ba2, v32, v42, fc2, fb2, eb2, eca2, eba2, hg2', hfc2, hfb2⟩ := id hb2
    obtain ⟨gl2, gn2, fl2, fn2, eg2, egl2, egn2, hgl2, hgn2⟩ := id hg2'
    refine aw_aload_n C rfl rfl dX1_pass_27 ?_
    refine aw_getfN C ck2 5 (by decide) q626 (fun _ z => z) (ch_le hSp2 _ _ eb2) rfl dX1_pass_28 ?_
    refine aw_iret C rfl dX1_pass_31 (by omega) (by omega) ?_
    have e9 : spPass s = ((0, nI (b 2 - 1)), (passM b, keepS s.1 s.2.1, s.2.2)) := by
      unfold spPass
      rw [hbs, if_neg (by omega)]
    rw [e9]
    exact ⟨rfl, by rw [passM_2], u1, g2, rfl, (hC.chg hDg hcu hql hbo fr02 (by omega) hSB1 (SX.rf u1) hcu1 hq1 ((hSB1.si hSI).fr hDg fr02) ⟨gr, cap', hbc2.s (Nat.zero_le _), hg2, cap_le (cpC_le _) (by omega) hcl⟩)⟩
