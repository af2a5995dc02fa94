/-! playOut -/
theorem SR.keep {g : AH} {u : CU} {K gr : Nat} {b : BT} (h : SR g u K gr b) (hg : GRP g gr b) (hW : WB b) (hK : K + 1 < 2 ^ 30) : ∃ K', K' ≤ K ∧ SR g u K' gr b ∧ ∀ u' g', SX u u' → HLE g g' → SR g' u' K' gr b → SR g u' K gr b := by
  rcases h with ⟨⟨k, hk, hT⟩, h2⟩ | ⟨h1, k, hk, hT⟩
  · have ek : nt (u.1 2) = k := by rw [hT.1, nt_n (by omega)]
    refine ⟨k, hk, Or.inl ⟨⟨k, Nat.le_refl _, hT⟩, fun gr' e => ?_⟩, fun u' g' hx hl hr => ?_⟩
    · obtain ⟨b', k2, hk2, h3, h4, h5⟩ := h2 gr' e
      have e2 : nt (u.1 2) = k2 := by rw [h5.1.1, nt_n (by omega)]
      exact ⟨b', k2, by omega, h3, h4, h5⟩
    · rcases hr with ⟨⟨k', hk', hT'⟩, h2'⟩ | ⟨e1, k1, hk1, t1⟩
      · have ek' : nt (u'.1 2) = k' := by rw [hT'.1, nt_n (by omega)]
        have hle := hx.2.2.1.2.1
        have hr0 := hx.2.2.1.2.2 (by omega)
        refine Or.inl ⟨⟨k', by omega, hT'⟩, fun gr' e => ?_⟩
        obtain ⟨b1, k1, hk1, g1, w1, t1⟩ := h2' gr' e
        rw [hr0] at e
        obtain ⟨b2, k2, hk2, g2, w2, t2⟩ := h2 gr' e
        exact ⟨b2, k1, by omega, g2, w2, t1.st (GRP.same g1 (g2.le hl) w1 w2)⟩
      · exact Or.inr ⟨e1, k1, by omega, t1⟩
  · have ek : nt (u.1 2) = k := by rw [hT.1.1, nt_n (by omega)]
    refine ⟨k - 1, by omega, Or.inr ⟨h1, k, by omega, hT⟩, fun u' g' hx hl hr => ?_⟩
    rcases hr with ⟨⟨k', hk', hT'⟩, h2'⟩ | ⟨e1, k1, hk1, t1⟩
    · have ek' : nt (u'.1 2) = k' := by rw [hT'.1, nt_n (by omega)]
      have hle := hx.2.2.1.2.1
      have hr0 := hx.2.2.1.2.2 (by omega)
      have e : u'.2.2.2.1 0 0 = some gr := by rw [hr0]; exact h1
      obtain ⟨b1, k1, hk1, g1, w1, t1⟩ := h2' gr e
      exact Or.inr ⟨e, k1, by omega, t1.st (GRP.same g1 (hg.le hl) w1 hW)⟩
    · exact Or.inr ⟨e1, k1, by omega, t1⟩
theorem hle_fr {g g' : AH} {sz : Nat} (hD : Dm g sz) (hq : ∀ q, q < sz → g' q = g q) : HLE g g' := fun a c e => (hq a (hD.lt e)).trans e
theorem mvOk.po {b : BT} {x : Nat} (hA : WA b) (h : mvOk b x) : 1 ≤ x ∧ x ≤ 101 ∧ PO b (x - 1) := by
  have hN := hA.1.2.1
  have hC := hA.1.2.2.2.1
  rcases h with ⟨rfl, h⟩ | ⟨v, c, h1, h2, h3, rfl⟩
  · exact ⟨by decide, by decide, Or.inr ⟨rfl, h⟩⟩
  · refine ⟨by omega, by omega, Or.inl ⟨by omega, ?_⟩⟩
    rw [cb_cols hA.1 (by omega), show (4 * v + c + 1 - 1) / 4 = v by omega, show (4 * v + c + 1 - 1) % 4 = c by omega]
    exact h3
theorem step_nx {b : BT} (h : 1 ≤ bestN b) : nxB b (bestN b - 1) = stepM b := by
  unfold nxB stepM
  by_cases e : bestN b = 101
  · rw [if_pos (by omega), if_pos e]
  · rw [if_neg (by omega), if_neg e]
/-- slots of a growing list; its places behind -/
def gwF (M cap : Nat) : Nat := if M = cap then nwL cap (M + 1 - cap) (cap >>> 1) else 0
def cpN (M cap : Nat) : Nat := if M = cap then nwL cap (M + 1 - cap) (cap >>> 1) else cap
/-- cells, slots of playing -/
def plC : Nat → BT → Nat
  | 0, _ => 0
  | f + 1, b => if over b = true then 0 else (4 + 14 * cnM b) + plC f (stepM b)
def plS : Nat → BT → Nat → Nat
  | 0, _, _ => 0
  | f + 1, b, cap => if over b = true then 0 else (10 + wS (b 3) * cnM b + gwF (b 3) cap) + plS f (stepM b) (cpN (b 3) cap)
set_option maxRecDepth 100000 in
theorem pc_playOut {γ : Gm} (hG : GF γ) (l : Launch) {o : Nat} {u : CU} {g : AH} {sz : Nat} {ρ : Nat} (hU : RUL γ ρ) (hI : FRU γ) {ic : Nat} {ad : Nat → Nat} (hI9 : GIN γ ic ad) {mi : Nat} (hB : GBO γ mi) (hX : GEX γ l) {K : Nat} (hK : K + 1 < 2 ^ 30) {s : SS} (hC : CS o sz u g K s) (hA : WA s.1) (hm9 : s.1 3 + 20 ≤ 4096) (p : Int32) : MX γ l yX1_playOut cX1_playOut 4 (some .int) 44 1467 (14 + plC (nt p) s.1) (12 + cpS (s.1 3) + plS (nt p) s.1 (cpC (s.1 3))) [.ref o, .int p] (ch o u g) sz (PCV o (K + 1) (spPlay s p)) (PCX o K "java/lang/IllegalArgumentException" "" (spPlay s p)) := by
  refine mx_start hG (by decide) (Nat.le_of_ble_eq_true rfl) (fun x C => ?_)
  obtain ⟨hSp, hsz, hSI, ⟨gr, cap, hbc, hg, hc9⟩, hrest⟩ := id hC
  obtain ⟨a, hcu⟩ : ∃ a, u.2.2.2.2 = a := ⟨_, rfl⟩
  rw [hcu] at hbc
  obtain ⟨b, hbs⟩ : ∃ b, s.1 = b := ⟨_, rfl⟩
  rw [hbs] at hbc hg hA hm9
  have hb : BRD g a gr b := hbc.brd hg
  obtain ⟨hd, hs, hq9, hql, hbo⟩ := id hC.2.2.2.2.1
  obtain ⟨ws, hws⟩ : ∃ ws, cpS (s.1 3) = ws := ⟨_, rfl⟩
  have hws3 : ws = cpS (b 3) := by rw [← hws, hbs]
  have hm9' := hm9
  have hm9 : b 3 < 4096 := by omega
  obtain ⟨ca, ba, v3, v4, fc, fb, eb, eca, eba, hg, hfc, hfb⟩ := id hb
  obtain ⟨gl, gn, fl, fn, eg, egl, egn, hgl, hgn⟩ := id hg
  have hN := hA.1.2.1
  refine aw_dom (fun hD0 => ?_)
  have hDg := dm_g hSp hD0
  refine aw_iload_n C rfl rfl dX1_playOut_0 ?_
  refine aw_i2l C (rfl) dX1_playOut_1 ?_
  refine aw_lconst C (v := (nI 1).toInt64) (by decide) dX1_playOut_2 ?_
  refine aw_ldc2 C q1722 dX1_playOut_3 ?_
  refine aw_topl (show (20 : Int64) = (nI 20).toInt64 from by decide) ?_
  refine aw_callSRR C (cp_inRange hG l p (nI 1) (nI 20)) q1273 q1274 q95 q1275 (n9 := 3) (by decide +kernel) rfl (Nat.le_of_ble_eq_true rfl) (Nat.le_of_ble_eq_true rfl) (by dsimp only; omega) (by dsimp only; omega) rfl (Nat.le_of_ble_eq_true rfl) dX1_playOut_6 ?_
  refine aw_callSQ C (rq_Argument hG l hX (isI p (nI 1) (nI 20))) q1276 q1277 q95 q1278 (n9 := 1) (by decide +kernel) rfl (Nat.le_of_ble_eq_true rfl) (Nat.le_of_ble_eq_true rfl) (by dsimp only; omega) (by dsimp only; omega) rfl (Nat.le_of_ble_eq_true rfl) dX1_playOut_9 (by omega) (by omega) (fun e sz' q => by have z : spPlay s p = ((1, nI 0), s) := (by unfold spPlay; rw [if_pos e]); rw [z]; exact ⟨Or.inl ⟨rfl, rfl⟩, u, g, rfl, hC.mono q⟩) (fun e => ?_)
  obtain ⟨p1, rfl, hp0, hp1⟩ := isI_ex (by decide) (by decide) e
  have hpC : plC (nt (nI p1)) s.1 = plC p1 b := by rw [nt_n (by omega), hbs]
  have hpS : plS (nt (nI p1)) s.1 (cpC (s.1 3)) = plS p1 b (cpC (b 3)) := by rw [nt_n (by omega), hbs]
  refine aw_aload_n C rfl rfl dX1_playOut_12 ?_
  refine aw_callV C ck0 (co_changed hG l hB hSp hbc hg hA hm9 hsz hcu hq9 (bo_cell hbo)) q1702 q1704 qs40 q95 q1705 (ch_at (i := 0) rfl) (n9 := 0) (by decide +kernel) rfl (Nat.le_of_ble_eq_true rfl) (Nat.le_of_ble_eq_true rfl) (by dsimp only; omega) (by dsimp only; omega) rfl (Nat.le_of_ble_eq_true rfl) dX1_playOut_13 (fun _ _ _ z => z.elim) (fun v9 h1 s1 hp => ?_)
  obtain ⟨rfl, cz1, cz2, u1, g1, rfl, hSB1, hcu1, ⟨hd1, hq1⟩, fr1, hbc1, hSp1⟩ := hp
  refine aw_dom (fun hD1 => ?_)
  have hDg1 := dm_g hSp1 hD1
  have hgs1 : GRS (ch o u1 g1) sz gr b := ((hg.s hDg).fr fr1).le (ch_le hSp1)
  have hbh1 : BC (ch o u1 g1) sz sz gr b (cpC (b 3)) := hbc1.le (ch_le hSp1)
  have ec9 := hbh1
  obtain ⟨ca9, ba9, ac9, a09, a19, li9, el9, mo9, fc9, fb9, f9, hX9⟩ := ec9
  have es9 := hX9.2.1
  refine aw_astore_n C rfl (by decide) rfl dX1_playOut_16 ?_
  refine aw_iconst C (v := nI 0) (by decide) dX1_playOut_17 ?_
  refine aw_istore_n C rfl (by decide) rfl dX1_playOut_18 ?_
  have key : ∀ j f i b5 cap5 u5 g5 s5 k5 n5, f + 1 ≤ j → f + i = p1 → plG f b5 i = plG p1 b 0 → SX u1 u5 → (∀ q, q < sz → g5 q = g q) → BC g5 sz sz gr b5 cap5 → SR g u5 K gr b5 → Sep o g5 → ST b b5 → WA b5 → b5 3 + f ≤ 4096 → cap5 ≤ 8200 → sz ≤ s5 → k5 + plC f b5 ≤ (14 + plC (nt (nI p1)) s.1) → n5 + plS f b5 cap5 ≤ (12 + cpS (s.1 3) + plS (nt (nI p1)) s.1 (cpC (s.1 3))) → AW γ l x (QX γ x (14 + plC (nt (nI p1)) s.1) (12 + cpS (s.1 3) + plS (nt (nI p1)) s.1 (cpC (s.1 3))) (PCV o (K + 1) (spPlay s (nI p1))) (PCX o K "java/lang/IllegalArgumentException" "" (spPlay s (nI p1)))) 4 (ch o u5 g5) s5 k5 n5 19 [(0, .ref o), (1, .int (nI p1)), (2, .ref sz), (3, .int (nI i))] [] := by
    intro j
    induction j with
    | zero => intro f i b5 cap5 u5 g5 s5 k5 n5 h2 hfi hpl hx5 fr5 hbc5 hr5 hSp5 hst5 hA5 hm5 hc5 hs5 hk5 hn5; exact absurd h2 (by omega)
    | succ j ih =>
      intro f i b5 cap5 u5 g5 s5 k5 n5 h2 hfi hpl hx5 fr5 hbc5 hr5 hSp5 hst5 hA5 hm5 hc5 hs5 hk5 hn5
      refine aw_dom (fun hD5 => ?_)
      have hDg5 := dm_g hSp5 hD5
      have hgb : GRP g gr b5 := GRP.st hst5 hN hg
      have hg5 : GRP g5 gr b5 := hgb.fr hDg fr5
      have hb5 : BRD g5 sz gr b5 := hbc5.brd hg5
      obtain ⟨ca5, ba5, v35, v45, fc5, fb5, eb5, -⟩ := id hb5
      refine aw_iload_n C rfl rfl dX1_playOut_19 ?_
      refine aw_iload_n C rfl rfl dX1_playOut_20 ?_
      refine aw_icmpN_ge C (tgt := 46) (by omega) (by omega) dX1_playOut_21 (by decide) (fun gL => ?_) (fun gL => ?_)
      · refine aw_iload_n C rfl rfl dX1_playOut_46 ?_
        refine aw_iret C rfl dX1_playOut_47 (by omega) (by omega) ?_
        have hfin : plG p1 b 0 = (b5, i) := by
          rw [← hpl]
          first
            | (rw [show f = 0 by omega]; rfl)
            | (obtain ⟨f, rfl⟩ : ∃ f', f = f' + 1 := ⟨f - 1, by omega⟩; rw [plG, if_pos gO])
        have e9 : spPlay s (nI p1) = ((0, nI i), (b5, keepS s.1 s.2.1, s.2.2)) := by
          unfold spPlay
          rw [if_neg (by rw [e]; decide), nt_n (by omega), hbs, hfin]
        rw [e9]
        exact ⟨rfl, rfl, u5, g5, rfl, hC.chg hDg hcu hql hbo fr5 hs5 hSB1 hx5 hcu1 hq1 ((hr5.si hgb hA5.1).fr hDg fr5) ⟨gr, cap5, hbc5.s (Nat.zero_le _), hg5, hc5⟩⟩
      · refine aw_aload_n C rfl rfl dX1_playOut_24 ?_
        refine aw_callVRR C ck2 (bd_isOver hG l hU hI (hb5.le (ch_le hSp5)) hA5.1 hA5.2.2.2.1) q1514 q1515 q1516 q97 q1517 (Or.inl (ch_le hSp5 _ _ eb5)) (n9 := 0) (by decide +kernel) rfl (Nat.le_of_ble_eq_true rfl) (Nat.le_of_ble_eq_true rfl) (by dsimp only; omega) (by dsimp only; omega) rfl (Nat.le_of_ble_eq_true rfl) dX1_playOut_25 ?_
        refine aw_bit_ne0 C (tgt := 46) dX1_playOut_28 (by decide) (fun gO => ?_) (fun gO => ?_)
        · refine aw_iload_n C rfl rfl dX1_playOut_46 ?_
          refine aw_iret C rfl dX1_playOut_47 (by omega) (by omega) ?_
          have hfin : plG p1 b 0 = (b5, i) := by
            rw [← hpl]
            first
              | (rw [show f = 0 by omega]; rfl)
              | (obtain ⟨f, rfl⟩ : ∃ f', f = f' + 1 := ⟨f - 1, by omega⟩; rw [plG, if_pos gO])
          have e9 : spPlay s (nI p1) = ((0, nI i), (b5, keepS s.1 s.2.1, s.2.2)) := by
            unfold spPlay
            rw [if_neg (by rw [e]; decide), nt_n (by omega), hbs, hfin]
          rw [e9]
          exact ⟨rfl, rfl, u5, g5, rfl, hC.chg hDg hcu hql hbo fr5 hs5 hSB1 hx5 hcu1 hq1 ((hr5.si hgb hA5.1).fr hDg fr5) ⟨gr, cap5, hbc5.s (Nat.zero_le _), hg5, hc5⟩⟩
        · refine aw_aload_n C rfl rfl dX1_playOut_31 ?_
          refine aw_aload_n C rfl rfl dX1_playOut_32 ?_
          refine aw_aload_n C rfl rfl dX1_playOut_33 ?_
          have hov : ¬ over b5 = true := by rw [gO]; decide
          obtain ⟨f, rfl⟩ : ∃ f', f = f' + 1 := ⟨f - 1, by omega⟩
          have epC : plC (f + 1) b5 = (4 + 14 * cnM b5) + plC f (stepM b5) := by rw [plC, if_neg hov]
          have epS : plS (f + 1) b5 cap5 = (10 + wS (b5 3) * cnM b5 + gwF (b5 3) cap5) + plS f (stepM b5) (cpN (b5 3) cap5) := by rw [plS, if_neg hov]
          rw [epC] at hk5
          rw [epS] at hn5
          obtain ⟨K9, hK9, hr9, hkp⟩ := hr5.keep hgb hA5.1 hK
          refine aw_callV C ck0 (mf_moveFor hG l hU hI hI9 hB hSp5 hbc5 hg5 hA5 (by omega) (by omega) (K := K9) (by omega) (SR.fr hDg fr5 (ST.rf b5) hr9)) q1631 q1633 qs39 q95 q1634 (ch_at (i := 0) rfl) (n9 := 1) (by decide +kernel) rfl (Nat.le_of_ble_eq_true rfl) (Nat.le_of_ble_eq_true rfl) (by dsimp only; omega) (by dsimp only; omega) rfl (Nat.le_of_ble_eq_true rfl) dX1_playOut_34 (fun _ _ _ z => z.elim) (fun v9 h6 s6 hp => ?_)
          obtain ⟨rfl, z1, z2, u6, g6, rfl, hx6, q6, hr6, hSp6⟩ := hp
          have fr6 : ∀ q, q < sz → g6 q = g q := fun q hq => (q6 q (by omega)).trans (fr5 q hq)
          have hr7 := hkp u6 g6 hx6 (hle_fr hDg fr6) hr6
          obtain ⟨hm1, hm2, hPO⟩ := mvOk.po hA5 (bestN_ok hA5 hov)
          have hsm := stepM_ok hA5 (by omega) hov
          have hnx := step_nx hm1
          refine aw_dom (fun hD6 => ?_)
          have hbc6 : BC g6 sz sz gr b5 cap5 := hbc5.fr hDg5 q6
          have hgs6 : GRS (ch o u6 g6) sz gr b5 := GRS.st hst5 hN (((hg.s hDg).fr fr6).le (ch_le hSp6))
          refine aw_top (pk_sub hm1) ?_
          refine aw_callV C ck2 (bm_makes hG l hB (hbc6.le (ch_le hSp6)) hgs6 hA5.1 hA5.2.2.1 hD6 (by omega) hc5 hA5.2.2.2.1 (m := bestN b5 - 1) (b2 := stepM b5) (by rw [← hnx]; exact hPO.mk hA5.1) (gs := gwF (b5 3) cap5) (fun e => by unfold gwF; rw [if_pos e]; exact Nat.le_refl _)) q980 q981 q982 q97 q983 (ch_le hSp6 _ _ ((q6 sz (hDg5.lt eb5)).trans eb5)) (n9 := 1) (by decide +kernel) rfl (Nat.le_of_ble_eq_true rfl) (Nat.le_of_ble_eq_true rfl) (by dsimp only; omega) (by dsimp only; omega) rfl (Nat.le_of_ble_eq_true rfl) dX1_playOut_37 (fun _ _ _ z => z.elim) (fun v9 h7 s7 hp => ?_)
          obtain ⟨rfl, k1, k2, k3, cap', hcl, k4⟩ := hp
          obtain ⟨g7, rfl, fr7, up7⟩ := ch_split hsz k3
          have hSp7 := hSp6.fr hsz fr7
          have hbc7 := BC.spl rfl up7 k4
          have hcn : cap' = cpN (b5 3) cap5 := by
            unfold cpN
            rcases hcl with ⟨e1, e2⟩ | ⟨e1, e2⟩
            · rw [if_neg (by omega), e1]
            · rw [if_pos e2, e1]
          have hc7 : cap' ≤ 8200 := by
            rcases hcl with ⟨e1, e2⟩ | ⟨e1, e2⟩
            · omega
            · rw [e1]; exact nwL_le e2 (by omega)
          refine aw_iinc1 C rfl (by decide) rfl dX1_playOut_40 ?_
          refine aw_goto C (tgt := 19) dX1_playOut_43 (by decide) ?_
          refine aw_lo (ih f (i + 1) (stepM b5) cap' u6 g7 s7 _ _ (by omega) (by omega) (by rw [← hpl, plG, if_neg hov]) (hx5.tr hx6) (fun q hq => (fr7 q hq).trans (fr6 q hq)) hbc7 (hr7.st hsm.2.1) hSp7 (hst5.tr hsm.2.1) hsm.1 (by rw [hsm.2.2]; omega) hc7 (by omega) (by omega) (by rw [hcn]; omega)) ⟨rfl, rfl, rfl, rfl, trivial⟩
  exact aw_lo (key (p1 + 1) p1 0 b (cpC (b 3)) u1 g1 s1 _ _ (Nat.le_refl _) (by omega) rfl (SX.rf u1) fr1 hbc1 (Or.inl ((hSB1.si hSI))) hSp1 (ST.rf b) hA (by omega) (Nat.le_trans (cpC_le _) (by omega)) (by omega) (by omega) (by omega)) ⟨rfl, rfl, rfl, rfl, trivial⟩
