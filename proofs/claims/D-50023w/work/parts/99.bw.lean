/-! meanValue -/
theorem ch_cr {o : Nat} {u : CU} {g : AH} {z cap : Nat} {f : Nat → Option Nat} (hc : cap ≠ 17) (e : ch o u g z = some (rfs 4 cap f)) : g z = some (rfs 4 cap f) := by
  unfold ch at e
  split at e
  · exact e
  · split at e
    · rename_i c q
      exfalso
      have e2 : c = rfs 4 cap f := Option.some.inj e
      subst e2
      unfold ccell at q
      split at q
      · cases q
      · unfold rfs at q
        split at q
        all_goals first | (cases q; done) | (injection q with q; injection q with q; injection q with q1 q2; injection q2 with q2 q3; omega) | (injection q with q; injection q with q; injection q with q1 q2; omega)
    · exact e
theorem LPT.g {o : Nat} {u : CU} {g : AH} {li : Nat} {b : BT} {L : List Nat} {m cap el : Nat} {mo : Int32} {f : Nat → Option Nat} (h : LPT (ch o u g) li b L m cap el mo f) : LPT g li b L m cap el mo f := by
  obtain ⟨e1, e2, h3, h4, h5, h6⟩ := h
  exact ⟨ch_ci (by decide) e1, ch_cr (by omega) e2, h3, h4, h5, fun k hk => by
    obtain ⟨z, z1, z2⟩ := h6 k hk
    exact ⟨z, z1, ch_ci (by decide) z2⟩⟩
theorem LPT.le {g g' : AH} {li : Nat} {b : BT} {L : List Nat} {m cap el : Nat} {mo : Int32} {f : Nat → Option Nat} (H : HLE g g') (h : LPT g li b L m cap el mo f) : LPT g' li b L m cap el mo f := by
  obtain ⟨e1, e2, h3, h4, h5, h6⟩ := h
  exact ⟨H _ _ e1, H _ _ e2, h3, h4, h5, fun k hk => by
    obtain ⟨z, z1, z2⟩ := h6 k hk
    exact ⟨z, z1, H _ _ z2⟩⟩
def PCF (o K : Nat) (r : UInt32) (s : SS) : Option Value → AH → Nat → Prop := fun v h' sz' => v = some (.float r) ∧ ∃ u' g', h' = ch o u' g' ∧ CS o sz' u' g' K s
set_option maxRecDepth 100000 in
theorem pc_meanValue {γ : Gm} (hG : GF γ) (l : Launch) {o : Nat} {u : CU} {g : AH} {sz : Nat} {mi : Nat} (hB : GBO γ mi) {K : Nat} (hK : K + 1 < 2 ^ 30) {s : SS} (hC : CS o sz u g K s) (hA : WA s.1) : MX γ l yX1_meanValue cX1_meanValue 4 (some .float) 40 1373 20 106 [.ref o] (ch o u g) sz (PCF o (K + 1) (meanF s.1) s) NX := by
  refine mx_start hG (by decide) (Nat.le_of_ble_eq_true rfl) (fun x C => ?_)
  obtain ⟨hSp, hsz, hSI, ⟨gr, cap, hbc, hg, hc9⟩, hrest⟩ := id hC
  obtain ⟨a, hcu⟩ : ∃ a, u.2.2.2.2 = a := ⟨_, rfl⟩
  rw [hcu] at hbc
  obtain ⟨b, hbs⟩ : ∃ b, s.1 = b := ⟨_, rfl⟩
  rw [hbs] at hbc hg hA
  have hb : BRD g a gr b := hbc.brd hg
  obtain ⟨ca, ba, v3, v4, fc, fb, eb, eca, eba, hg, hfc, hfb⟩ := id hb
  obtain ⟨gl, gn, fl, fn, eg, egl, egn, hgl, hgn⟩ := id hg
  have hN := hA.1.2.1
  have hF := freeS_lt (b := b) hN
  have hnp := npts_le (b := b) hF
  have hnp2 : (pts b (freeS b) (freeS b)).length ≤ 9 := hnp
  refine aw_dom (fun hD0 => ?_)
  have hDg := dm_g hSp hD0
  refine aw_aload_n C rfl rfl dX1_meanValue_0 ?_
  refine aw_getf C ck0 1 (by decide) q665 (fun _ z => z) (ch_at (i := 0) rfl) rfl dX1_meanValue_1 ?_
  refine aw_topV (congrArg Value.ref hcu) ?_
  refine aw_callV C ck2 (bo_parts hG l hB (hb.le (ch_le hSp)) hA.1 hA.2.2.1 hD0) q1059 q1060 q1061 q97 q1062 (ch_le hSp _ _ eb) (n9 := 0) (by decide +kernel) rfl (Nat.le_of_ble_eq_true rfl) (Nat.le_of_ble_eq_true rfl) (by dsimp only; omega) (by dsimp only; omega) rfl (Nat.le_of_ble_eq_true rfl) dX1_meanValue_4 (fun _ _ _ z => z.elim) (fun v9 h1 s1 hp => ?_)
  obtain ⟨rfl, c1, c2, c3, cap1, el, mo, f, hp⟩ := hp
  obtain ⟨g1, rfl, q1, -⟩ := ch_split hsz c3
  have hSp1 := hSp.fr hsz q1
  have hb1 : BRD g1 a gr b := hb.fr hDg q1
  have hg1 : GRP g1 gr b := hg.fr hDg q1
  have eb1 := ch_le (u := u) hSp1 _ _ ((q1 a (hDg.lt eb)).trans eb)
  have hC1 := hC.ev hDg q1 c1
  have hpg := hp.g
  refine aw_astore_n C rfl (by decide) rfl dX1_meanValue_7 ?_
  refine aw_iconst C (v := nI 0) (by decide) dX1_meanValue_8 ?_
  refine aw_istore_n C rfl (by decide) rfl dX1_meanValue_9 ?_
  refine aw_iconst C (v := nI 0) (by decide) dX1_meanValue_10 ?_
  refine aw_istore_n C rfl (by decide) rfl dX1_meanValue_11 ?_
  have key : ∀ j k c u1, k ≤ (pts b (freeS b) (freeS b)).length → (pts b (freeS b) (freeS b)).length + 1 ≤ k + j → c = meanS b k → SX u u1 → SR g1 u1 K gr b → AW γ l x (QX γ x 20 106 (PCF o (K + 1) (meanF s.1) s) NX) 4 (ch o u1 g1) s1 20 106 12 [(0, .ref o), (1, .ref sz), (2, .int (nI c)), (3, .int (nI k))] [] := by
    intro j
    induction j with
    | zero => intro k c u1 h1 h2 hsm hx1 hr1; exact absurd h2 (by omega)
    | succ j ih =>
      intro k c u1 h1 h2 hsm hx1 hr1
      have hp := hpg.le (ch_le (u := u1) hSp1)
      have hms : meanS b k ≤ k * 31 := sumF_leN (N := k) (m := 31) (f := fun k => (G b (partS b k) (b (31 + low (partS b k)))).1) (fun w hw => by have hpw := partS_pos hN (b := b) (k := w) (by show w < (pts b (freeS b) (freeS b)).length; omega); obtain ⟨hvd, -, -⟩ := partS_form hN (show ¬ partS b w = 0 by omega); have := (G_gb hA.2.2.1 hA.1 hvd.1 (b (31 + low (partS b w)))).1; omega) k (Nat.le_refl _)
      rw [← hsm] at hms
      refine aw_iload_n C rfl rfl dX1_meanValue_12 ?_
      refine aw_aload_n C rfl rfl dX1_meanValue_13 ?_
      refine aw_callF C ck12 (al_size hG l hp.1 hp.2.1) q1083 q1086 q1088 q102 q1090 hB.2.1.2.2.2.1 hp.1 (n9 := 0) (by decide +kernel) rfl (Nat.le_of_ble_eq_true rfl) (Nat.le_of_ble_eq_true rfl) (by dsimp only; omega) (by dsimp only; omega) rfl (Nat.le_of_ble_eq_true rfl) dX1_meanValue_14 (fun _ _ _ z => z.elim) (fun v9 h9 sz9 hp9 => ?_)
      obtain ⟨rfl, rfl, rfl⟩ := hp9
      refine aw_top rfl ?_
      refine aw_icmpN_ge C (tgt := 52) (by omega) (by omega) dX1_meanValue_19 (by decide) (fun gN => ?_) (fun gN => ?_)
      · refine aw_aload_n C rfl rfl dX1_meanValue_52 ?_
        refine aw_callF C ck12 (al_isEmpty hG l hp.1 hp.2.1 (by omega)) q1122 q1125 q1127 q102 q1129 hB.2.1.2.2.2.2.2 hp.1 (n9 := 0) (by decide +kernel) rfl (Nat.le_of_ble_eq_true rfl) (Nat.le_of_ble_eq_true rfl) (by dsimp only; omega) (by dsimp only; omega) rfl (Nat.le_of_ble_eq_true rfl) dX1_meanValue_53 (fun _ _ _ z => z.elim) (fun v9 h9 sz9 hp9 => ?_)
        obtain ⟨rfl, rfl, rfl⟩ := hp9
        refine aw_top rfl ?_
        refine aw_ifN_eq C (tgt := 65) (by split <;> omega) dX1_meanValue_58 (by decide) (fun gE => ?_) (fun gE => ?_)
        · have hne9 : ¬ (pts b (freeS b) (freeS b)).length = 0 := by
            intro z
            rw [if_pos z] at gE
            cases gE
          refine aw_iload_n C rfl rfl dX1_meanValue_65 ?_
          refine aw_i2f C dX1_meanValue_66 ?_
          refine aw_aload_n C rfl rfl dX1_meanValue_67 ?_
          refine aw_callF C ck12 (al_size hG l hp.1 hp.2.1) q1083 q1086 q1088 q102 q1090 hB.2.1.2.2.2.1 hp.1 (n9 := 0) (by decide +kernel) rfl (Nat.le_of_ble_eq_true rfl) (Nat.le_of_ble_eq_true rfl) (by dsimp only; omega) (by dsimp only; omega) rfl (Nat.le_of_ble_eq_true rfl) dX1_meanValue_68 (fun _ _ _ z => z.elim) (fun v9 h9 sz9 hp9 => ?_)
          obtain ⟨rfl, rfl, rfl⟩ := hp9
          refine aw_top rfl ?_
          refine aw_i2f C dX1_meanValue_73 ?_
          refine aw_fdiv C (mean_ne (by omega) (by omega) (by omega)) dX1_meanValue_74 ?_
          refine aw_fret C rfl dX1_meanValue_75 (by omega) (by omega) ?_
          refine ⟨?_, u1, g1, rfl, (hC.ev hDg q1 c1).sx hx1 (hr1.si hg1 hA.1)⟩
          rw [hbs]
          unfold meanF npts
          first
            | (rw [if_pos (by omega)]; done)
            | (rw [if_neg (by omega), hsm, show k = (pts b (freeS b) (freeS b)).length by omega]; done)
        · have hz9 : (pts b (freeS b) (freeS b)).length = 0 := by
            by_cases z : (pts b (freeS b) (freeS b)).length = 0
            · exact z
            · rw [if_neg z] at gE
              exact absurd rfl gE
          refine aw_fconst0 C dX1_meanValue_61 ?_
          refine aw_goto C (tgt := 75) dX1_meanValue_62 (by decide) ?_
          refine aw_fret C rfl dX1_meanValue_75 (by omega) (by omega) ?_
          refine ⟨?_, u1, g1, rfl, (hC.ev hDg q1 c1).sx hx1 (hr1.si hg1 hA.1)⟩
          rw [hbs]
          unfold meanF npts
          first
            | (rw [if_pos (by omega)]; done)
            | (rw [if_neg (by omega), hsm, show k = (pts b (freeS b) (freeS b)).length by omega]; done)
      · have hk9 : k < (pts b (freeS b) (freeS b)).length := by omega
        have hps : 0 < partS b k := partS_pos hN hk9
        obtain ⟨hvd, hS5, -⟩ := partS_form hN (show ¬ partS b k = 0 by omega)
        have hcp := hp.2.2.2.2.1
        obtain ⟨z, z1, z2⟩ := hp.2.2.2.2.2 k hk9
        have z2 : ch o u1 g1 z = some (.inr (9, ptF b (partS b k))) := z2
        have hlow := (low_bit (partS b k) hS5 hps).2.1
        have hba := hA.1.b3 (v := low (partS b k)) hlow
        refine aw_iload_n C rfl rfl dX1_meanValue_22 ?_
        refine aw_aload_n C rfl rfl dX1_meanValue_23 ?_
        refine aw_aload_n C rfl rfl dX1_meanValue_24 ?_
        refine aw_getf C ck0 1 (by decide) q665 (fun _ z => z) (ch_at (i := 0) rfl) rfl dX1_meanValue_25 ?_
        refine aw_topV (congrArg Value.ref (hx1.2.2.2.trans hcu)) ?_
        refine aw_aload_n C rfl rfl dX1_meanValue_28 ?_
        refine aw_iload_n C rfl rfl dX1_meanValue_29 ?_
        refine aw_callFPv C ck12 (al_get hG l hp.1 hp.2.1 (i := k) (z := z) (by omega) hp.2.2.2.1 (by omega) z1) q1092 q1095 q1097 q102 q1099 hB.2.1.2.2.2.2.1 hp.1 (n9 := 1) (by decide +kernel) rfl (Nat.le_of_ble_eq_true rfl) (Nat.le_of_ble_eq_true rfl) (by dsimp only; omega) (by dsimp only; omega) rfl (Nat.le_of_ble_eq_true rfl) dX1_meanValue_30 ?_
        refine aw_castS C ck9 q1110 z2 dX1_meanValue_35 ?_
        refine aw_callVI C ck0 (co_of hG l hSp1 hb1 hA.1 hA.2.2.1 hK hr1 z2 hvd.1 hps hvd.2.1 hba) q1111 q1113 qs19 q95 q1114 (ch_at (i := 0) rfl) (n9 := 2) (by decide +kernel) rfl (Nat.le_of_ble_eq_true rfl) (Nat.le_of_ble_eq_true rfl) (by dsimp only; omega) (by dsimp only; omega) rfl (Nat.le_of_ble_eq_true rfl) dX1_meanValue_38 (fun r u2 hp2 => ?_)
        obtain ⟨rfl, hx2, hq2⟩ := hp2
        obtain ⟨hi1, hi2, hi3⟩ := G_gb hA.2.2.1 hA.1 hvd.1 (b (31 + low (partS b k)))
        obtain ⟨i, hi⟩ : ∃ i, i = G b (partS b k) (b (31 + low (partS b k))) := ⟨_, rfl⟩
        rw [← hi]
        rw [← hi] at hi1 hi2 hi3
        have hil := pq_lt (i := i) hi1 (by omega) (by omega)
        refine aw_callSRR C (cp_value hG l (p := pq i) (by omega)) q796 q782 q95 q783 (n9 := 1) (by decide +kernel) rfl (Nat.le_of_ble_eq_true rfl) (Nat.le_of_ble_eq_true rfl) (by dsimp only; omega) (by dsimp only; omega) rfl (Nat.le_of_ble_eq_true rfl) dX1_meanValue_41 ?_
        refine aw_top (show _ = nI i.1 from by rw [pq_v (by omega) (by omega)]) ?_
        refine aw_iaddN C dX1_meanValue_44 ?_
        refine aw_istore_n C rfl (by decide) rfl dX1_meanValue_45 ?_
        refine aw_iinc1 C rfl (by decide) rfl dX1_meanValue_46 ?_
        refine aw_goto C (tgt := 12) dX1_meanValue_49 (by decide) ?_
        refine aw_lo (ih (k + 1) _ u2 (by omega) (by omega) (by rw [meanS, sumF, hi]; exact congrArg (fun z => z + _) hsm) (hx1.tr hx2) (Or.inr hq2)) ⟨rfl, rfl, rfl, rfl, trivial⟩
  exact aw_lo (key ((pts b (freeS b) (freeS b)).length + 1) 0 0 u (Nat.zero_le _) (by omega) rfl (SX.rf u) (Or.inl (hSI.fr hDg q1))) ⟨rfl, rfl, rfl, rfl, trivial⟩
