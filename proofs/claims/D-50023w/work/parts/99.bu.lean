/-! vertex; edges in a set -/
set_option maxRecDepth 100000 in
theorem pc_vertex {γ : Gm} (hG : GF γ) (l : Launch) {o : Nat} {u : CU} {g : AH} {sz : Nat} {ρ : Nat} (hU : RUL γ ρ) (hI : FRU γ) {mi : Nat} (hB : GBO γ mi) (hX : GEX γ l) {K : Nat} {s : SS} (hC : CS o sz u g K s) (hA : WA s.1) (v w : Int32) : MX γ l yX1_vertex cX1_vertex 3 (some .int) 20 447 21 112 [.ref o, .int v, .int w] (ch o u g) sz (PCV o K (spVtx s.1 v w, s)) (PCX o K "java/lang/IndexOutOfBoundsException" "java/lang/IllegalArgumentException" (spVtx s.1 v w, s)) := by
  refine mx_start hG (by decide) (Nat.le_of_ble_eq_true rfl) (fun x C => ?_)
  obtain ⟨hSp, hsz, hI9, ⟨gr, cap, hbc, hg, hc9⟩, hrest⟩ := id hC
  obtain ⟨a, hcu⟩ : ∃ a, u.2.2.2.2 = a := ⟨_, rfl⟩
  rw [hcu] at hbc
  obtain ⟨b, hbs⟩ : ∃ b, s.1 = b := ⟨_, rfl⟩
  rw [hbs] at hbc hg hA
  have hb : BRD g a gr b := hbc.brd hg
  obtain ⟨ca, ba, v3, v4, fc, fb, eb, eca, eba, hg, hfc, hfb⟩ := id hb
  obtain ⟨gl, gn, fl, fn, eg, egl, egn, hgl, hgn⟩ := id hg
  have hN := hA.1.2.1
  have hF := freeS_lt (b := b) hN
  refine aw_dom (fun hD0 => ?_)
  have hDg := dm_g hSp hD0
  refine aw_aload_n C rfl rfl dX1_vertex_0 ?_
  refine aw_iload_n C rfl rfl dX1_vertex_1 ?_
  refine aw_callVQ C ck0 (rq_Vertex hG l hX hSp hb hA.1 hcu v) q1544 q1546 qs36 q95 q1547 (ch_at (i := 0) rfl) (n9 := 1) (by decide +kernel) rfl (Nat.le_of_ble_eq_true rfl) (Nat.le_of_ble_eq_true rfl) (by dsimp only; omega) (by dsimp only; omega) rfl (Nat.le_of_ble_eq_true rfl) dX1_vertex_2 (by omega) (by omega) (fun e sz' q => ⟨Or.inl ⟨by unfold spVtx; rw [hbs, if_pos e], rfl⟩, u, g, rfl, hC.mono q⟩) (fun eV => ?_)
  obtain ⟨v1, rfl, hv1⟩ := isV_ex hN hA.1.1 eV
  refine aw_iload_n C rfl rfl dX1_vertex_5 ?_
  cases e : isI w (nI 0) (nI 5) with
  | false =>
    refine aw_tableOut C (tgt := 125) dX1_vertex_6 (isI_no (by decide) e) (by decide) ?_
    exact aw_throw0 C hX.1 hX.2 xf_Argument xn_all xw_Argument.1 xw_Argument.2.1 xw_Argument.2.2 dX1_vertex_125 dX1_vertex_128 dX1_vertex_129 dX1_vertex_132 (Nat.le_of_ble_eq_true rfl) (Nat.le_of_ble_eq_true rfl) (Nat.le_of_ble_eq_true rfl) (Nat.le_of_ble_eq_true rfl) (Nat.le_of_ble_eq_true rfl) (Nat.le_of_ble_eq_true rfl) (fun sz' q => ⟨Or.inr ⟨by unfold spVtx; rw [hbs, if_neg (by rw [eV]; decide), if_pos e], rfl⟩, u, g, rfl, hC.mono q⟩)
  | true =>
    obtain ⟨w1, rfl, -, hw1⟩ := isI_ex (by decide) (by decide) e
    have ew : spVtx s.1 (nI v1) (nI w1) = (0, vtxN s.1 v1 w1) := by
      unfold spVtx
      rw [hbs, if_neg (by rw [eV]; decide), if_neg (by rw [e]; decide), nt_n (by omega), nt_n (by omega)]
    rw [ew]
    obtain rfl | rfl | rfl | rfl | rfl | rfl : w1 = 0 ∨ w1 = 1 ∨ w1 = 2 ∨ w1 = 3 ∨ w1 = 4 ∨ w1 = 5 := by omega
    · refine aw_tableIn C (off := 38) (tgt := 44) dX1_vertex_6 (by decide) (by decide) (by decide) (by decide) ?_
      refine aw_aload_n C rfl rfl dX1_vertex_44 ?_
      refine aw_getf C ck0 1 (by decide) q665 (fun _ z => z) (ch_at (i := 0) rfl) rfl dX1_vertex_45 ?_
      refine aw_topV (congrArg Value.ref hcu) ?_
      refine aw_getfN C ck2 1 (by decide) q615 (fun _ z => z) (ch_le hSp _ _ eb) rfl dX1_vertex_48 ?_
      refine aw_iload_n C rfl rfl dX1_vertex_51 ?_
      refine aw_ialdN C (ch_le hSp _ _ eca) (by omega) (by decide) dX1_vertex_52 ?_
      refine aw_top ((hfc _ (by omega))) ?_
      exact aw_iret C rfl dX1_vertex_53 (by omega) (by omega) ⟨rfl, by rw [hbs]; rfl, u, g, rfl, hC.mono (Nat.le_refl _)⟩
    · refine aw_tableIn C (off := 48) (tgt := 54) dX1_vertex_6 (by decide) (by decide) (by decide) (by decide) ?_
      refine aw_aload_n C rfl rfl dX1_vertex_54 ?_
      refine aw_getf C ck0 1 (by decide) q665 (fun _ z => z) (ch_at (i := 0) rfl) rfl dX1_vertex_55 ?_
      refine aw_topV (congrArg Value.ref hcu) ?_
      refine aw_getfN C ck2 0 (by decide) q612 (fun _ z => z) (ch_le hSp _ _ eb) rfl dX1_vertex_58 ?_
      refine aw_getfN C ck3 1 (by decide) q206 (fun _ z => z) (ch_le hSp _ _ eg) rfl dX1_vertex_61 ?_
      refine aw_iload_n C rfl rfl dX1_vertex_64 ?_
      refine aw_ialdN C (ch_le hSp _ _ egl) (by omega) (by decide) dX1_vertex_65 ?_
      refine aw_top ((hgl _ (by omega))) ?_
      exact aw_iret C rfl dX1_vertex_66 (by omega) (by omega) ⟨rfl, by rw [hbs]; rfl, u, g, rfl, hC.mono (Nat.le_refl _)⟩
    · refine aw_tableIn C (off := 61) (tgt := 67) dX1_vertex_6 (by decide) (by decide) (by decide) (by decide) ?_
      refine aw_aload_n C rfl rfl dX1_vertex_67 ?_
      refine aw_getf C ck0 1 (by decide) q665 (fun _ z => z) (ch_at (i := 0) rfl) rfl dX1_vertex_68 ?_
      refine aw_topV (congrArg Value.ref hcu) ?_
      refine aw_iload_n C rfl rfl dX1_vertex_71 ?_
      refine aw_callVRR C ck2 (bd_layable hG l hU hI (hb.le (ch_le hSp)) hA.1 (v := v1) (by omega)) q1566 q1523 q1524 q97 q1525 (Or.inl (ch_le hSp _ _ eb)) (n9 := 1) (by decide +kernel) rfl (Nat.le_of_ble_eq_true rfl) (Nat.le_of_ble_eq_true rfl) (by dsimp only; omega) (by dsimp only; omega) rfl (Nat.le_of_ble_eq_true rfl) dX1_vertex_72 ?_
      exact aw_iret C rfl dX1_vertex_75 (by omega) (by omega) ⟨rfl, by rw [hbs]; rfl, u, g, rfl, hC.mono (Nat.le_refl _)⟩
    · refine aw_tableIn C (off := 70) (tgt := 76) dX1_vertex_6 (by decide) (by decide) (by decide) (by decide) ?_
      refine aw_aload_n C rfl rfl dX1_vertex_76 ?_
      refine aw_getf C ck0 1 (by decide) q665 (fun _ z => z) (ch_at (i := 0) rfl) rfl dX1_vertex_77 ?_
      refine aw_topV (congrArg Value.ref hcu) ?_
      refine aw_getfN C ck2 0 (by decide) q612 (fun _ z => z) (ch_le hSp _ _ eb) rfl dX1_vertex_80 ?_
      refine aw_getfN C ck3 2 (by decide) q211 (fun _ z => z) (ch_le hSp _ _ eg) rfl dX1_vertex_83 ?_
      refine aw_iload_n C rfl rfl dX1_vertex_86 ?_
      refine aw_ialdN C (ch_le hSp _ _ egn) (by omega) (by decide) dX1_vertex_87 ?_
      refine aw_top ((hgn _ (by omega))) ?_
      refine aw_callSRR C (cp_bitCount hG l (hA.1.n9 (by omega))) q749 q750 q118 q751 (n9 := 1) (by decide +kernel) rfl (Nat.le_of_ble_eq_true rfl) (Nat.le_of_ble_eq_true rfl) (by dsimp only; omega) (by dsimp only; omega) rfl (Nat.le_of_ble_eq_true rfl) dX1_vertex_88 ?_
      exact aw_iret C rfl dX1_vertex_91 (by omega) (by omega) ⟨rfl, by rw [hbs]; rfl, u, g, rfl, hC.mono (Nat.le_refl _)⟩
    · refine aw_tableIn C (off := 86) (tgt := 92) dX1_vertex_6 (by decide) (by decide) (by decide) (by decide) ?_
      refine aw_aload_n C rfl rfl dX1_vertex_92 ?_
      refine aw_getf C ck0 1 (by decide) q665 (fun _ z => z) (ch_at (i := 0) rfl) rfl dX1_vertex_93 ?_
      refine aw_topV (congrArg Value.ref hcu) ?_
      refine aw_iload_n C rfl rfl dX1_vertex_96 ?_
      refine aw_callV C ck2 (bo_partNumber hG l hB (hb.le (ch_le hSp)) hA.1 hA.2.2.1 hD0 hv1) q1567 q1568 q1569 q97 q1570 (ch_le hSp _ _ eb) (n9 := 1) (by decide +kernel) rfl (Nat.le_of_ble_eq_true rfl) (Nat.le_of_ble_eq_true rfl) (by dsimp only; omega) (by dsimp only; omega) rfl (Nat.le_of_ble_eq_true rfl) dX1_vertex_97 (fun _ _ _ z => z.elim) (fun v9 h1 s1 hp => ?_)
      obtain ⟨rfl, c1, c2, c3⟩ := hp
      obtain ⟨g1, rfl, q1, -⟩ := ch_split hsz c3
      refine aw_top rfl ?_
      exact aw_iret C rfl dX1_vertex_100 (by omega) (by omega) ⟨rfl, by rw [hbs]; rfl, u, g1, rfl, hC.ev hDg q1 c1⟩
    · refine aw_tableIn C (off := 95) (tgt := 101) dX1_vertex_6 (by decide) (by decide) (by decide) (by decide) ?_
      refine aw_aload_n C rfl rfl dX1_vertex_101 ?_
      refine aw_getf C ck0 1 (by decide) q665 (fun _ z => z) (ch_at (i := 0) rfl) rfl dX1_vertex_102 ?_
      refine aw_topV (congrArg Value.ref hcu) ?_
      refine aw_getfN C ck2 0 (by decide) q612 (fun _ z => z) (ch_le hSp _ _ eb) rfl dX1_vertex_105 ?_
      refine aw_getfN C ck3 2 (by decide) q211 (fun _ z => z) (ch_le hSp _ _ eg) rfl dX1_vertex_108 ?_
      refine aw_iload_n C rfl rfl dX1_vertex_111 ?_
      refine aw_ialdN C (ch_le hSp _ _ egn) (by omega) (by decide) dX1_vertex_112 ?_
      refine aw_top ((hgn _ (by omega))) ?_
      refine aw_aload_n C rfl rfl dX1_vertex_113 ?_
      refine aw_getf C ck0 1 (by decide) q665 (fun _ z => z) (ch_at (i := 0) rfl) rfl dX1_vertex_114 ?_
      refine aw_topV (congrArg Value.ref hcu) ?_
      refine aw_callVRR C ck2 (bd_free hG l (hb.le (ch_le hSp)) hA.1) q705 q706 q707 q97 q708 (Or.inl (ch_le hSp _ _ eb)) (n9 := 0) (by decide +kernel) rfl (Nat.le_of_ble_eq_true rfl) (Nat.le_of_ble_eq_true rfl) (by dsimp only; omega) (by dsimp only; omega) rfl (Nat.le_of_ble_eq_true rfl) dX1_vertex_117 ?_
      refine aw_iandN C dX1_vertex_120 ?_
      refine aw_callSRR C (cp_bitCount hG l (Nat.lt_of_le_of_lt Nat.and_le_right hF)) q749 q750 q118 q751 (n9 := 1) (by decide +kernel) rfl (Nat.le_of_ble_eq_true rfl) (Nat.le_of_ble_eq_true rfl) (by dsimp only; omega) (by dsimp only; omega) rfl (Nat.le_of_ble_eq_true rfl) dX1_vertex_121 ?_
      exact aw_iret C rfl dX1_vertex_124 (by omega) (by omega) ⟨rfl, by rw [hbs]; rfl, u, g, rfl, hC.mono (Nat.le_refl _)⟩
set_option maxRecDepth 100000 in
theorem co_edgesIn {γ : Gm} (hG : GF γ) (l : Launch) {o : Nat} {u : CU} {g : AH} {sz : Nat} {gr a : Nat} {b : BT} (hSp : Sep o g) (hb : BRD g a gr b) (hW : WB b) (hcu : u.2.2.2.2 = a) {S : Nat} (hS : S < 512) : MX γ l yX1_edgesIn cX1_edgesIn 4 (some .int) 1 21 0 0 [.ref o, .int (nI S)] (ch o u g) sz (RI (ch o u g) sz (nI (edgeB b S / 2))) NX := by
  refine mx_start hG (by decide) (Nat.le_of_ble_eq_true rfl) (fun x C => ?_)
  obtain ⟨ca, ba, v3, v4, fc, fb, eb, eca, eba, hg, hfc, hfb⟩ := id hb
  obtain ⟨gl, gn, fl, fn, eg, egl, egn, hgl, hgn⟩ := id hg
  have hN := hW.2.1
  have key : ∀ j v c, v ≤ b 0 → b 0 + 1 ≤ v + j → c = sumF (fun v => if S.testBit v = true then pop (b (13 + v) &&& S) else 0) v → AW γ l x (QX γ x 0 0 (RI (ch o u g) sz (nI (edgeB b S / 2))) NX) 4 (ch o u g) sz 0 0 4 [(0, .ref o), (1, .int (nI S)), (2, .int (nI c)), (3, .int (nI v))] [] := by
    intro j
    induction j with
    | zero => intro v c h1 h2 hs; exact absurd h2 (by omega)
    | succ j ih =>
      intro v c h1 h2 hs
      have hcb := sumF_leN (N := 9) (f := (fun v => if S.testBit v = true then pop (b (13 + v) &&& S) else 0)) (m := 9) (fun w hw => by split; exact pop_le _ (Nat.lt_of_le_of_lt Nat.and_le_right hS); omega) v (by omega)
      rw [← hs] at hcb
      refine aw_iload_n C rfl rfl dX1_edgesIn_4 ?_
      refine aw_aload_n C rfl rfl dX1_edgesIn_5 ?_
      refine aw_getf C ck0 1 (by decide) q665 (fun _ z => z) (ch_at (i := 0) rfl) rfl dX1_edgesIn_6 ?_
      refine aw_topV (congrArg Value.ref hcu) ?_
      refine aw_getfN C ck2 0 (by decide) q612 (fun _ z => z) (ch_le hSp _ _ eb) rfl dX1_edgesIn_9 ?_
      refine aw_getfN C ck3 3 (by decide) q217 (fun _ z => z) (ch_le hSp _ _ eg) rfl dX1_edgesIn_12 ?_
      refine aw_icmpN_ge C (tgt := 56) (by omega) (by omega) dX1_edgesIn_15 (by decide) (fun gN => ?_) (fun gN => ?_)
      · refine aw_iload_n C rfl rfl dX1_edgesIn_56 ?_
        refine aw_iconst C (v := nI 2) (by decide) dX1_edgesIn_57 ?_
        refine aw_idivN C (by omega) (by omega) (by omega) dX1_edgesIn_58 ?_
        exact aw_iret C rfl dX1_edgesIn_59 (Nat.le_refl _) (Nat.le_refl _) ⟨by rw [hs, show v = b 0 by omega]; rfl, rfl, rfl⟩
      · refine aw_iload_n C rfl rfl dX1_edgesIn_18 ?_
        refine aw_iload_n C rfl rfl dX1_edgesIn_19 ?_
        refine aw_iload_n C rfl rfl dX1_edgesIn_20 ?_
        refine aw_callSRR C (cp_has hG l (by omega) (by omega)) q1610 q154 q95 q155 (n9 := 2) (by decide +kernel) rfl (Nat.le_of_ble_eq_true rfl) (Nat.le_of_ble_eq_true rfl) (Nat.zero_le _) (Nat.zero_le _) rfl (Nat.le_of_ble_eq_true rfl) dX1_edgesIn_21 ?_
        refine aw_bit_eq0 C (tgt := 47) dX1_edgesIn_24 (by decide) (fun gB => ?_) (fun gB => ?_)
        · refine aw_iconst C (v := nI 0) (by decide) dX1_edgesIn_47 ?_
          refine aw_iaddN C dX1_edgesIn_48 ?_
          refine aw_istore_n C rfl (by decide) rfl dX1_edgesIn_49 ?_
          refine aw_iinc1 C rfl (by decide) rfl dX1_edgesIn_50 ?_
          refine aw_goto C (tgt := 4) dX1_edgesIn_53 (by decide) ?_
          exact aw_lo (ih (v + 1) _ (by omega) (by omega) (by first | (rw [sumF, hs]; simp [*]; done) | (rw [sumF, hs]; done))) ⟨rfl, rfl, rfl, rfl, trivial⟩
        · refine aw_aload_n C rfl rfl dX1_edgesIn_27 ?_
          refine aw_getf C ck0 1 (by decide) q665 (fun _ z => z) (ch_at (i := 0) rfl) rfl dX1_edgesIn_28 ?_
          refine aw_topV (congrArg Value.ref hcu) ?_
          refine aw_getfN C ck2 0 (by decide) q612 (fun _ z => z) (ch_le hSp _ _ eb) rfl dX1_edgesIn_31 ?_
          refine aw_getfN C ck3 2 (by decide) q211 (fun _ z => z) (ch_le hSp _ _ eg) rfl dX1_edgesIn_34 ?_
          refine aw_iload_n C rfl rfl dX1_edgesIn_37 ?_
          refine aw_ialdN C (ch_le hSp _ _ egn) (by omega) (by decide) dX1_edgesIn_38 ?_
          refine aw_top ((hgn _ (by omega))) ?_
          refine aw_iload_n C rfl rfl dX1_edgesIn_39 ?_
          refine aw_iandN C dX1_edgesIn_40 ?_
          refine aw_callSRR C (cp_bitCount hG l (Nat.lt_of_le_of_lt Nat.and_le_right hS)) q749 q750 q118 q751 (n9 := 1) (by decide +kernel) rfl (Nat.le_of_ble_eq_true rfl) (Nat.le_of_ble_eq_true rfl) (Nat.zero_le _) (Nat.zero_le _) rfl (Nat.le_of_ble_eq_true rfl) dX1_edgesIn_41 ?_
          refine aw_goto C (tgt := 48) dX1_edgesIn_44 (by decide) ?_
          refine aw_iaddN C dX1_edgesIn_48 ?_
          refine aw_istore_n C rfl (by decide) rfl dX1_edgesIn_49 ?_
          refine aw_iinc1 C rfl (by decide) rfl dX1_edgesIn_50 ?_
          refine aw_goto C (tgt := 4) dX1_edgesIn_53 (by decide) ?_
          exact aw_lo (ih (v + 1) _ (by omega) (by omega) (by first | (rw [sumF, hs]; simp [*]; done) | (rw [sumF, hs]; done))) ⟨rfl, rfl, rfl, rfl, trivial⟩
  refine aw_iconst C (v := nI 0) (by decide) dX1_edgesIn_0 ?_
  refine aw_istore_n C rfl (by decide) rfl dX1_edgesIn_1 ?_
  refine aw_iconst C (v := nI 0) (by decide) dX1_edgesIn_2 ?_
  refine aw_istore_n C rfl (by decide) rfl dX1_edgesIn_3 ?_
  exact aw_lo (key (b 0 + 1) 0 0 (Nat.zero_le _) (by omega) rfl) ⟨rfl, rfl, rfl, rfl, trivial⟩
