/-! the state behind calls that make cells; falls -/
theorem BO9.fr {g g' : AH} {sz a : Nat} {b : BT} (hD : Dm g sz) (hq : ∀ q, q < sz → g' q = g q) (h : BO9 g a b) : BO9 g' a b := by
  obtain ⟨gr, cap, h1, h2, h3⟩ := h
  exact ⟨gr, cap, h1.fr hD hq, h2.fr hD hq, h3⟩
theorem CS.ev {o sz sz' K : Nat} {u : CU} {g g' : AH} {s : SS} (hD : Dm g sz) (hq : ∀ q, q < sz → g' q = g q) (hle : sz ≤ sz') (h : CS o sz u g K s) : CS o sz' u g' K s := by
  obtain ⟨h1, h2, h3, h4, ⟨hd, hs, h5, h5', h5''⟩, h6, h7, h8, h9⟩ := h
  refine ⟨h1.fr h2 hq, by omega, h3.fr hD hq, h4.fr hD hq, ⟨hd, hs, h5, h5', fun i hi => (h5'' i hi).fr hD hq⟩, fun i hi => ?_, h7, h8, h9⟩
  rcases h6 i hi with z | ⟨a, b, z1, z2, z3⟩
  · exact Or.inl z
  · exact Or.inr ⟨a, b, z1, z2, z3.fr hD hq⟩
/-- behind an evaluator -/
theorem CS.rva {o sz sz' K n gr : Nat} {u : CU} {g : AH} {s : SS} {b : BT} {v : Option Value} {h' : AH} {r : Int32} (hD : Dm g sz) (hg : GRP g gr b) (hW : WB b) (h : CS o sz u g K s) (hr : RVA o sz u g K gr b n r v h' sz') : v = some (.int r) ∧ sz ≤ sz' ∧ sz' ≤ sz + n ∧ ∃ u' g', h' = ch o u' g' ∧ CS o sz' u' g' (K + 1) s := by
  obtain ⟨rfl, h1, h2, u', g', rfl, hx, hq, hs, -⟩ := hr
  exact ⟨rfl, h1, h2, u', g', rfl, (h.ev hD hq h1).sx hx (hs.si (hg.fr hD hq) hW)⟩
set_option maxRecDepth 100000 in
theorem co_isFree {γ : Gm} (hG : GF γ) (l : Launch) {o : Nat} {u : CU} {g : AH} {sz : Nat} {gr a : Nat} {b : BT} (hSp : Sep o g) (hb : BRD g a gr b) (hW : WB b) (hcu : u.2.2.2.2 = a) {v : Nat} (hv : v < 9) : MX γ l yX1_isFree cX1_isFree 2 (some .boolean) 0 0 0 0 [.ref o, .int (nI v)] (ch o u g) sz (RI (ch o u g) sz (nI (if fr b v = true then 1 else 0))) NX := by
  refine mx_start hG (by decide) (Nat.le_of_ble_eq_true rfl) (fun x C => ?_)
  obtain ⟨ca, ba, v3, v4, fc, fb, eb, eca, eba, hg, hfc, hfb⟩ := id hb
  obtain ⟨gl, gn, fl, fn, eg, egl, egn, hgl, hgn⟩ := id hg
  have ho := hW.o3 hv
  refine aw_aload_n C rfl rfl dX1_isFree_0 ?_
  refine aw_getf C ck0 1 (by decide) q665 (fun _ z => z) (ch_at (i := 0) rfl) rfl dX1_isFree_1 ?_
  refine aw_topV (congrArg Value.ref hcu) ?_
  refine aw_getfN C ck2 1 (by decide) q615 (fun _ z => z) (ch_le hSp _ _ eb) rfl dX1_isFree_4 ?_
  refine aw_iload_n C rfl rfl dX1_isFree_7 ?_
  refine aw_ialdN C (ch_le hSp _ _ eca) (by omega) (by decide) dX1_isFree_8 ?_
  refine aw_top ((hfc _ (by omega))) ?_
  refine aw_iconst C (v := -1) (by decide) dX1_isFree_9 ?_
  refine aw_icmp_ne C (tgt := 17) dX1_isFree_10 (by decide) (fun g9 => ?_) (fun g9 => ?_)
  · refine aw_iconst C (v := nI 0) (by decide) dX1_isFree_17 ?_
    exact aw_zret C rfl (by decide) dX1_isFree_18 (Nat.le_refl _) (Nat.le_refl _) ⟨by first | rw [if_pos (fr_yes ho g9)] | (rw [if_neg (by rw [fr_no ho g9]; decide)]; done), rfl, rfl⟩
  · refine aw_iconst C (v := nI 1) (by decide) dX1_isFree_13 ?_
    refine aw_goto C (tgt := 18) dX1_isFree_14 (by decide) ?_
    exact aw_zret C rfl (by decide) dX1_isFree_18 (Nat.le_refl _) (Nat.le_refl _) ⟨by first | rw [if_pos (fr_yes ho g9)] | (rw [if_neg (by rw [fr_no ho g9]; decide)]; done), rfl, rfl⟩
set_option maxRecDepth 100000 in
theorem pc_falls {γ : Gm} (hG : GF γ) (l : Launch) {o : Nat} {u : CU} {g : AH} {sz : Nat} (hX : GEX γ l) {K : Nat} {s : SS} (hC : CS o sz u g K s) (hA : WA s.1) (v : Int32) : MX γ l yX1_falls cX1_falls 2 (some .int) 8 182 3 18 [.ref o, .int v] (ch o u g) sz (PCV o K (spFall s.1 v, s)) (PCX o K "java/lang/IndexOutOfBoundsException" "java/util/NoSuchElementException" (spFall s.1 v, s)) := by
  refine mx_start hG (by decide) (Nat.le_of_ble_eq_true rfl) (fun x C => ?_)
  obtain ⟨hSp, hsz, hI9, ⟨gr, cap, hbc, hg, hc9⟩, hrest⟩ := id hC
  obtain ⟨a, hcu⟩ : ∃ a, u.2.2.2.2 = a := ⟨_, rfl⟩
  rw [hcu] at hbc
  obtain ⟨b, hbs⟩ : ∃ b, s.1 = b := ⟨_, rfl⟩
  rw [hbs] at hbc hg hA
  have hb : BRD g a gr b := hbc.brd hg
  obtain ⟨ca, ba, v3, v4, fc, fb, eb, eca, eba, hg, hfc, hfb⟩ := id hb
  obtain ⟨gl, gn, fl, fn, eg, egl, egn, hgl, hgn⟩ := id hg
  have hN := hA.1.2.1
  refine aw_aload_n C rfl rfl dX1_falls_0 ?_
  refine aw_iload_n C rfl rfl dX1_falls_1 ?_
  refine aw_callVQ C ck0 (rq_Vertex hG l hX hSp hb hA.1 hcu v) q1544 q1546 qs36 q95 q1547 (ch_at (i := 0) rfl) (n9 := 1) (by decide +kernel) rfl (Nat.le_of_ble_eq_true rfl) (Nat.le_of_ble_eq_true rfl) (by dsimp only; omega) (by dsimp only; omega) rfl (Nat.le_of_ble_eq_true rfl) dX1_falls_2 (by omega) (by omega) (fun e sz' q => ⟨Or.inl ⟨by unfold spFall; rw [hbs, if_pos e], rfl⟩, u, g, rfl, by have z : spFall b v = (1, nI 0) := (by unfold spFall; rw [if_pos e]); exact hC.mono q⟩) (fun e => ?_)
  obtain ⟨v1, rfl, hv1⟩ := isV_ex hN hA.1.1 e
  refine aw_aload_n C rfl rfl dX1_falls_5 ?_
  refine aw_iload_n C rfl rfl dX1_falls_6 ?_
  refine aw_callVRR C ck0 (co_isFree hG l hSp hb hA.1 hcu (v := v1) (by omega)) q1202 q1204 qs20 q95 q1205 (Or.inl (ch_at (i := 0) rfl)) (n9 := 1) (by decide +kernel) rfl (Nat.le_of_ble_eq_true rfl) (Nat.le_of_ble_eq_true rfl) (by dsimp only; omega) (by dsimp only; omega) rfl (Nat.le_of_ble_eq_true rfl) dX1_falls_7 ?_
  refine aw_callSQ C (rq_Element hG l hX (fr b v1)) q1619 q1620 q95 q1621 (n9 := 1) (by decide +kernel) rfl (Nat.le_of_ble_eq_true rfl) (Nat.le_of_ble_eq_true rfl) (by dsimp only; omega) (by dsimp only; omega) rfl (Nat.le_of_ble_eq_true rfl) dX1_falls_10 (by omega) (by omega) (fun e3 sz' q => ⟨Or.inr ⟨by unfold spFall; rw [hbs, if_neg (by rw [e]; decide), nt_n (by omega), if_pos e3], rfl⟩, u, g, rfl, hC.mono q⟩) (fun e3 => ?_)
  refine aw_aload_n C rfl rfl dX1_falls_13 ?_
  refine aw_getf C ck0 1 (by decide) q665 (fun _ z => z) (ch_at (i := 0) rfl) rfl dX1_falls_14 ?_
  refine aw_topV (congrArg Value.ref hcu) ?_
  refine aw_getfN C ck2 0 (by decide) q612 (fun _ z => z) (ch_le hSp _ _ eb) rfl dX1_falls_17 ?_
  refine aw_aload_n C rfl rfl dX1_falls_20 ?_
  refine aw_getf C ck0 1 (by decide) q665 (fun _ z => z) (ch_at (i := 0) rfl) rfl dX1_falls_21 ?_
  refine aw_topV (congrArg Value.ref hcu) ?_
  refine aw_iload_n C rfl rfl dX1_falls_24 ?_
  refine aw_callVRR C ck2 (bd_partSet hG l (hb.le (ch_le hSp)) hA.1 (by omega)) q1687 q834 q835 q97 q836 (Or.inl (ch_le hSp _ _ eb)) (n9 := 1) (by decide +kernel) rfl (Nat.le_of_ble_eq_true rfl) (Nat.le_of_ble_eq_true rfl) (by dsimp only; omega) (by dsimp only; omega) rfl (Nat.le_of_ble_eq_true rfl) dX1_falls_25 ?_
  have hR := rch_lt (b := b) (v := v1) (by omega) (freeS_lt hN)
  have hRb : nd (rch b v1 (freeS b)) (1 <<< v1) < 2 ^ b 0 := nd_lt (lt_of_sub (freeS_lt2 b) (fun i hi => rch_sub (by rw [freeS_bit, e3]; simp; omega) hi))
  refine aw_iconst C (v := nI 1) (by decide) dX1_falls_28 ?_
  refine aw_iload_n C rfl rfl dX1_falls_29 ?_
  refine aw_ishlN C (by omega) dX1_falls_30 ?_
  refine aw_iconst C (v := -1) (by decide) dX1_falls_31 ?_
  refine aw_ixor C dX1_falls_32 ?_
  refine aw_iandNot C dX1_falls_33 ?_
  refine aw_callVRR C ck3 (bd_countParts hG l (hg.le (ch_le hSp)) hN hA.2.2.1 hRb) q1513 q995 q996 q98 q997 (Or.inl (ch_le hSp _ _ eg)) (n9 := 1) (by decide +kernel) rfl (Nat.le_of_ble_eq_true rfl) (Nat.le_of_ble_eq_true rfl) (by dsimp only; omega) (by dsimp only; omega) rfl (Nat.le_of_ble_eq_true rfl) dX1_falls_34 ?_
  refine aw_iret C rfl dX1_falls_37 (by omega) (by omega) ?_
  have e0 : spFall b (nI v1) = (0, nI (npts b (nd (rch b v1 (freeS b)) (1 <<< v1)))) := by
    unfold spFall
    rw [if_neg (by rw [e]; decide), nt_n (by omega), if_neg (by rw [e3]; decide)]
  exact ⟨by rw [hbs, e0], by rw [hbs, e0], u, g, rfl, hC.mono (Nat.le_refl _)⟩
