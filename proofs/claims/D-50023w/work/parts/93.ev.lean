/-! boards behind moves: behind, wins, how good a move is -/
theorem ccell_hi {o : Nat} {u : CU} {i : Nat} (h : 34 ≤ i) : ccell o u i = none := by
  cases q : ccell o u i with
  | none => rfl
  | some c =>
    have := ccell_fx (o := o) (u := u) (i := i) (by rw [q]; simp)
    unfold cfx at this
    simp at this
    omega
/-- a heap that agrees below sz with the component's: its fixed cells over another heap of boards -/
theorem ch_split {o sz : Nat} {u : CU} {g h' : AH} (ho : o + 34 ≤ sz) (hq : ∀ q, q < sz → h' q = ch o u g q) : ∃ g', h' = ch o u g' ∧ (∀ q, q < sz → g' q = g q) ∧ ∀ q, sz ≤ q → g' q = h' q := by
  refine ⟨fun q => if q < sz then g q else h' q, ?_, fun q h => if_pos h, fun q h => if_neg (by omega)⟩
  funext q
  by_cases h : q < sz
  · rw [hq q h]
    unfold ch
    simp only [h, if_true]
  · unfold ch
    rw [if_neg (by omega), ccell_hi (by omega)]
    exact (if_neg h).symm
theorem ch_ci {o : Nat} {u : CU} {g : AH} {z ci : Nat} {fs : List Value} (hc : ci ≠ 0 ∧ ci ≠ 1 ∧ ci ≠ 13 ∧ ci ≠ 15) (e : ch o u g z = some (.inr (ci, fs))) : g z = some (.inr (ci, fs)) := by
  unfold ch at e
  split at e
  · exact e
  · split at e
    · rename_i c q
      exfalso
      have e2 : c = .inr (ci, fs) := Option.some.inj e
      subst e2
      unfold ccell at q
      split at q
      · cases q
      · split at q
        all_goals first | (cases q; done) | (unfold rfs at q; cases q; done) | (injection q with q; injection q with q; injection q with q1 q2; omega)
    · exact e
theorem dm_g {o sz : Nat} {u : CU} {g : AH} (hSp : Sep o g) (hD : Dm (ch o u g) sz) : Dm g sz := fun q hq => by
  cases e : g q with
  | none => exact absurd e hq
  | some c => exact hD.lt (ch_le hSp q c e)
theorem BC.spl {o sz a gr : Nat} {u : CU} {g h' : AH} {b : BT} {cap : Nat} (e : h' = ch o u g) (hq : ∀ q, sz ≤ q → g q = h' q) (hb : BC h' sz a gr b cap) : BC g sz a gr b cap := by
  obtain ⟨ca, ba, ac, a0, a1, li, el, mo, fc, fb, f, hs0, e1, e2, e3, e4, e5, e6, e7, e8, g1, g2, g3⟩ := hb
  refine ⟨ca, ba, ac, a0, a1, li, el, mo, fc, fb, f, hs0, (hq _ (by omega)).trans e1, (hq _ (by omega)).trans e2, (hq _ (by omega)).trans e3, (hq _ (by omega)).trans e4, (hq _ (by omega)).trans e5, (hq _ (by omega)).trans e6, (hq _ (by omega)).trans e7, (hq _ (by omega)).trans e8, g1, fun k hk => ?_, g3⟩
  obtain ⟨z, z1, z2⟩ := g2 k hk
  rw [e] at z2
  exact ⟨z, z1, ch_ci (by decide) z2⟩
theorem GRP.fr {g g' : AH} {sz gr : Nat} {b : BT} (hD : Dm g sz) (hq : ∀ q, q < sz → g' q = g q) (h : GRP g gr b) : GRP g' gr b := ((h.s hD).fr hq).g
theorem SI.fr {g g' : AH} {sz K : Nat} {u : CU} (hD : Dm g sz) (hq : ∀ q, q < sz → g' q = g q) (h : SI g u K) : SI g' u K := by
  refine ⟨h.1, fun gr e => ?_⟩
  obtain ⟨b, k, h1, h2, h3⟩ := h.2 gr e
  exact ⟨b, k, h1, h2.fr hD hq, h3⟩
theorem SR.fr {g g' : AH} {sz K gr : Nat} {u : CU} {b b' : BT} (hD : Dm g sz) (hq : ∀ q, q < sz → g' q = g q) (hT : ST b b') (h : SR g u K gr b) : SR g' u K gr b' := by
  rcases h with h | ⟨h1, k, h2, h3⟩
  · exact Or.inl (h.fr hD hq)
  · exact Or.inr ⟨h1, k, h2, h3.st hT⟩
theorem Sep.fr {o sz : Nat} {g g' : AH} (hS : Sep o g) (ho : o + 34 ≤ sz) (hq : ∀ q, q < sz → g' q = g q) : Sep o g' := fun i hi => by
  have : o + i < sz := by
    unfold cfx at hi
    simp at hi
    omega
  rw [hq _ this]
  exact hS i hi
/-- slots of a copy that makes one move -/
def gwS (M : Nat) : Nat := if M = cpC M then nwL (cpC M) (M + 1 - cpC M) (cpC M >>> 1) else 0
def wS (M : Nat) : Nat := cpS M + (4 + gwS M)
theorem cpC_le (M : Nat) : cpC M ≤ 16 + M := by
  unfold cpC nwL
  split
  · split <;> omega
  · omega
/-- answers a number; the search may know more, new cells stand behind, all below is the same -/
def RVA (o sz : Nat) (u : CU) (g : AH) (K gr : Nat) (b : BT) (n : Nat) (r : Int32) : Option Value → AH → Nat → Prop := fun v h' sz' => v = some (.int r) ∧ sz ≤ sz' ∧ sz' ≤ sz + n ∧ ∃ u' g', h' = ch o u' g' ∧ SX u u' ∧ (∀ q, q < sz → g' q = g q) ∧ SR g' u' K gr b ∧ Sep o g'
theorem grs_ch {o sz gr : Nat} {u : CU} {g h' : AH} {b : BT} (hSp : Sep o g) (hDg : Dm g sz) (hg : GRP g gr b) (hq : ∀ q, q < sz → h' q = ch o u g q) : GRS h' sz gr b := by
  obtain ⟨gl, gn, fl, fn, ⟨l1, l2, l3⟩, e1, e2, e3, e4⟩ := hg.s hDg
  exact ⟨gl, gn, fl, fn, ⟨l1, l2, l3⟩, (hq _ l1).trans (ch_le hSp _ _ e1), (hq _ l2).trans (ch_le hSp _ _ e2), (hq _ l3).trans (ch_le hSp _ _ e3), e4⟩
theorem nxW {b : BT} {i : Nat} (hA : WA b) (hm : b 3 < 4096) (h : PO b i) : WA (nxB b i) := h.wa hA hm
theorem st_back {b b' : BT} (h : ST b b') : ST b' b := h.sy
theorem SR.st {g : AH} {K gr : Nat} {u : CU} {b b' : BT} (h : SR g u K gr b) (hT : ST b b') : SR g u K gr b' := by
  rcases h with h | ⟨h1, k, h2, h3⟩
  · exact Or.inl h
  · exact Or.inr ⟨h1, k, h2, h3.st hT⟩
set_option maxRecDepth 100000 in
theorem ev_behind {γ : Gm} (hG : GF γ) (l : Launch) {o : Nat} {u : CU} {g : AH} {sz : Nat} {mi : Nat} (hB : GBO γ mi) {s0 gr a : Nat} {b : BT} {cap : Nat} (hSp : Sep o g) (hbc : BC g s0 a gr b cap) (hg : GRP g gr b) (hA : WA b) (hm9 : b 3 < 4096) (hcu : u.2.2.2.2 = a) {i : Nat} (hPO : PO b i) : MX γ l yX1_behind cX1_behind 3 (some (.object "ColourDuel$Board")) 20 445 14 (wS (b 3)) [.ref o, .int (nI i)] (ch o u g) sz (fun v h' sz' => v = some (.ref sz) ∧ sz < sz' ∧ sz' ≤ sz + 14 ∧ (∀ q, q < sz → h' q = ch o u g q) ∧ ∃ cap', BC h' sz sz gr (nxB b i) cap') NX := by
  refine mx_start hG (by decide) (Nat.le_of_ble_eq_true rfl) (fun x C => ?_)
  have hws : wS (b 3) = cpS (b 3) + (4 + gwS (b 3)) := rfl
  have hb : BRD g a gr b := hbc.brd hg
  obtain ⟨ca, ba, v3, v4, fc, fb, eb, eca, eba, hg, hfc, hfb⟩ := id hb
  obtain ⟨gl, gn, fl, fn, eg, egl, egn, hgl, hgn⟩ := id hg
  refine aw_dom (fun hD0 => ?_)
  have hDg := dm_g hSp hD0
  refine aw_aload_n C rfl rfl dX1_behind_0 ?_
  refine aw_getf C ck0 1 (by decide) q665 (fun _ z => z) (ch_at (i := 0) rfl) rfl dX1_behind_1 ?_
  refine aw_topV (congrArg Value.ref hcu) ?_
  refine aw_callV C ck2 (bo_copy hG l hB.1 hB.2.1 cas8 hB.2.2 (hbc.le (ch_le hSp)) hD0 (by omega)) q887 q888 q889 q97 q890 ((ch_le hSp _ _ eb)) (n9 := 0) (by decide +kernel) rfl (Nat.le_of_ble_eq_true rfl) (Nat.le_of_ble_eq_true rfl) (by dsimp only; omega) (by dsimp only; omega) rfl (Nat.le_of_ble_eq_true rfl) dX1_behind_4 (fun _ _ _ z => z.elim) (fun v9 h1 s1 hp => ?_)
  obtain ⟨rfl, c1, c2, c3, c4⟩ := hp
  refine aw_dom (fun hD1 => ?_)
  have ec9 := c4
  obtain ⟨ca9, ba9, ac9, a09, a19, li9, el9, mo9, fc9, fb9, f9, hX9⟩ := ec9
  have es9 := hX9.2.1
  refine aw_astore_n C rfl (by decide) rfl dX1_behind_7 ?_
  refine aw_aload_n C rfl rfl dX1_behind_8 ?_
  refine aw_iload_n C rfl rfl dX1_behind_9 ?_
  refine aw_callV C ck2 (bm_makes hG l hB c4 (grs_ch hSp hDg hg c3) hA.1 hA.2.2.1 hD1 (by omega) (Nat.le_trans (cpC_le _) (by omega)) hA.2.2.2.1 (hPO.mk hA.1) (gs := gwS (b 3)) (fun e => by unfold gwS; rw [if_pos e]; exact Nat.le_refl _)) q980 q981 q982 q97 q983 es9 (n9 := 1) (by decide +kernel) rfl (Nat.le_of_ble_eq_true rfl) (Nat.le_of_ble_eq_true rfl) (by dsimp only; omega) (by dsimp only; omega) rfl (Nat.le_of_ble_eq_true rfl) dX1_behind_10 (fun _ _ _ z => z.elim) (fun v9 h2 s2 hp => ?_)
  obtain ⟨rfl, k1, k2, k3, cap', -, k4⟩ := hp
  refine aw_aload_n C rfl rfl dX1_behind_13 ?_
  exact aw_aret C rfl (Or.inl ⟨_, rfl⟩) (Or.inr ⟨_, rfl⟩) dX1_behind_14 (by omega) (by omega) ⟨rfl, by omega, by omega, fun q hq => (k3 q hq).trans (c3 q hq), cap', k4⟩
set_option maxRecDepth 100000 in
theorem ev_wins {γ : Gm} (hG : GF γ) (l : Launch) {o : Nat} {u : CU} {g : AH} {sz : Nat} {mi : Nat} (hB : GBO γ mi) {s0 gr a : Nat} {b : BT} {cap : Nat} (hSp : Sep o g) (hbc : BC g s0 a gr b cap) (hg : GRP g gr b) (hA : WA b) (hm9 : b 3 < 4096) (hsz : o + 34 ≤ sz) (hcu : u.2.2.2.2 = a) {i : Nat} (hPO : PO b i) {K : Nat} (hK : K + 1 < 2 ^ 30) (hR : SR g u K gr b) : MX γ l yX1_wins cX1_wins 2 (some .boolean) 41 1400 14 (wS (b 3)) [.ref o, .int (nI i)] (ch o u g) sz (RVA o sz u g K gr b 14 (nI (if (BB (nxB b i)).1 ^^^ nxB b i 2 % 2 = 0 then 1 else 0))) NX := by
  refine mx_start hG (by decide) (Nat.le_of_ble_eq_true rfl) (fun x C => ?_)
  have hws : wS (b 3) = cpS (b 3) + (4 + gwS (b 3)) := rfl
  have hb : BRD g a gr b := hbc.brd hg
  refine aw_dom (fun hD0 => ?_)
  have hDg := dm_g hSp hD0
  refine aw_aload_n C rfl rfl dX1_wins_0 ?_
  refine aw_aload_n C rfl rfl dX1_wins_1 ?_
  refine aw_iload_n C rfl rfl dX1_wins_2 ?_
  refine aw_callV C ck0 (ev_behind hG l hB hSp hbc hg hA hm9 hcu hPO) q883 q885 qs12 q95 q886 (ch_at (i := 0) rfl) (n9 := 1) (by decide +kernel) rfl (Nat.le_of_ble_eq_true rfl) (Nat.le_of_ble_eq_true rfl) (by dsimp only; omega) (by dsimp only; omega) rfl (Nat.le_of_ble_eq_true rfl) dX1_wins_3 (fun _ _ _ z => z.elim) (fun v9 h2 s2 hp => ?_)
  obtain ⟨rfl, z1, z2, hfr2, cap', k4⟩ := hp
  obtain ⟨g1, rfl, q1, q2⟩ := ch_split hsz hfr2
  have hSp1 := hSp.fr hsz q1
  have hg1 : GRP g1 gr (nxB b i) := GRP.st (nxB_st i) hA.1.2.1 (hg.fr hDg q1)
  have hb1 : BRD g1 sz gr (nxB b i) := (BC.spl rfl q2 k4).brd hg1
  have hR1 : SR g1 u K gr (nxB b i) := hR.fr hDg q1 (nxB_st i)
  refine aw_callV C ck0 (co_valueOf hG l hSp1 hb1 (nxW hA hm9 hPO).1 (nxW hA hm9 hPO).2.2.1 (nxW hA hm9 hPO).2.2.2.1 hK hR1) q698 q700 qs1 q95 q701 (ch_at (i := 0) rfl) (n9 := 1) (by decide +kernel) rfl (Nat.le_of_ble_eq_true rfl) (Nat.le_of_ble_eq_true rfl) (by dsimp only; omega) (by dsimp only; omega) rfl (Nat.le_of_ble_eq_true rfl) dX1_wins_6 (fun _ _ _ z => z.elim) (fun v9 h3 s3 hp => ?_)
  obtain ⟨rfl, r3, u3, rfl, rfl, rfl, hx3, hr3⟩ := hp
  have hxx := Nat.xor_lt_two_pow (n := 5) (bb_gb (nxW hA hm9 hPO).2.2.1 (nxW hA hm9 hPO).1).1 (show nxB b i 2 % 2 < 2 ^ 5 by omega)
  refine aw_top rfl ?_
  refine aw_ifN_ne C (tgt := 16) (by omega) dX1_wins_9 (by decide) (fun g9 => ?_) (fun g9 => ?_)
  · refine aw_iconst C (v := nI 0) (by decide) dX1_wins_16 ?_
    refine aw_zret C rfl (by decide) dX1_wins_17 (by omega) (by omega) ?_
    refine ⟨congrArg (fun z => some (Value.int (nI z))) (by first | rw [if_pos g9] | rw [if_neg g9]), by omega, by omega, u3, g1, rfl, hx3, q1, ?_, hSp1⟩
    exact hr3.st (nxB_st i).sy
  · refine aw_iconst C (v := nI 1) (by decide) dX1_wins_12 ?_
    refine aw_goto C (tgt := 17) dX1_wins_13 (by decide) ?_
    refine aw_zret C rfl (by decide) dX1_wins_17 (by omega) (by omega) ?_
    refine ⟨congrArg (fun z => some (Value.int (nI z))) (by first | rw [if_pos g9] | rw [if_neg g9]), by omega, by omega, u3, g1, rfl, hx3, q1, ?_, hSp1⟩
    exact hr3.st (nxB_st i).sy
set_option maxRecDepth 100000 in
theorem ev_of {γ : Gm} (hG : GF γ) (l : Launch) {o : Nat} {u : CU} {g : AH} {sz : Nat} {mi : Nat} (hB : GBO γ mi) {s0 gr a : Nat} {b : BT} {cap : Nat} (hSp : Sep o g) (hbc : BC g s0 a gr b cap) (hg : GRP g gr b) (hA : WA b) (hm9 : b 3 < 4096) (hsz : o + 34 ≤ sz) {ra : Nat} {v0 v1 : Int32} (er : g ra = some (.inr (11, [.int v0, .int v1, .ref a, .ref o]))) {i : Nat} (hPO : PO b i) {K : Nat} (hK : K + 1 < 2 ^ 30) (hR : SR g u K gr b) : MX γ l yX13_of cX13_of 3 (some .int) 41 1400 14 (wS (b 3)) [.ref ra, .int (nI i)] (ch o u g) sz (RVA o sz u g K gr b 14 (nI (rt b i))) NX := by
  refine mx_start hG (by decide) (Nat.le_of_ble_eq_true rfl) (fun x C => ?_)
  have hws : wS (b 3) = cpS (b 3) + (4 + gwS (b 3)) := rfl
  have hb : BRD g a gr b := hbc.brd hg
  obtain ⟨ca, ba, v3, v4, fc, fb, eb, eca, eba, hg, hfc, hfb⟩ := id hb
  obtain ⟨gl, gn, fl, fn, eg, egl, egn, hgl, hgn⟩ := id hg
  refine aw_dom (fun hD0 => ?_)
  have hDg := dm_g hSp hD0
  refine aw_aload_n C rfl rfl dX13_of_0 ?_
  refine aw_getf C ck11 2 (by decide) q1644 (fun _ z => z) (ch_le hSp _ _ er) rfl dX13_of_1 ?_
  refine aw_callV C ck2 (bo_copy hG l hB.1 hB.2.1 cas8 hB.2.2 (hbc.le (ch_le hSp)) hD0 (by omega)) q1669 q888 q889 q97 q890 ((ch_le hSp _ _ eb)) (n9 := 0) (by decide +kernel) rfl (Nat.le_of_ble_eq_true rfl) (Nat.le_of_ble_eq_true rfl) (by dsimp only; omega) (by dsimp only; omega) rfl (Nat.le_of_ble_eq_true rfl) dX13_of_4 (fun _ _ _ z => z.elim) (fun v9 h1 s1 hp => ?_)
  obtain ⟨rfl, c1, c2, c3, c4⟩ := hp
  refine aw_dom (fun hD1 => ?_)
  have ec9 := c4
  obtain ⟨ca9, ba9, ac9, a09, a19, li9, el9, mo9, fc9, fb9, f9, hX9⟩ := ec9
  have es9 := hX9.2.1
  refine aw_astore_n C rfl (by decide) rfl dX13_of_7 ?_
  refine aw_aload_n C rfl rfl dX13_of_8 ?_
  refine aw_iload_n C rfl rfl dX13_of_9 ?_
  refine aw_callV C ck2 (bm_makes hG l hB c4 (grs_ch hSp hDg hg c3) hA.1 hA.2.2.1 hD1 (by omega) (Nat.le_trans (cpC_le _) (by omega)) hA.2.2.2.1 (hPO.mk hA.1) (gs := gwS (b 3)) (fun e => by unfold gwS; rw [if_pos e]; exact Nat.le_refl _)) q1670 q981 q982 q97 q983 es9 (n9 := 1) (by decide +kernel) rfl (Nat.le_of_ble_eq_true rfl) (Nat.le_of_ble_eq_true rfl) (by dsimp only; omega) (by dsimp only; omega) rfl (Nat.le_of_ble_eq_true rfl) dX13_of_10 (fun _ _ _ z => z.elim) (fun v9 h2 s2 hp => ?_)
  obtain ⟨rfl, k1, k2, k3, cap', -, k4⟩ := hp
  have hfr2 : ∀ q, q < sz → h2 q = ch o u g q := fun q hq => (k3 q hq).trans (c3 q hq)
  obtain ⟨g1, rfl, q1, q2⟩ := ch_split hsz hfr2
  have hSp1 := hSp.fr hsz q1
  have hg1 : GRP g1 gr (nxB b i) := GRP.st (nxB_st i) hA.1.2.1 (hg.fr hDg q1)
  have hb1 : BRD g1 sz gr (nxB b i) := (BC.spl rfl q2 k4).brd hg1
  have hR1 : SR g1 u K gr (nxB b i) := hR.fr hDg q1 (nxB_st i)
  have er1 := (q1 ra (hDg.lt er)).trans er
  have hWA := nxW hA hm9 hPO
  have hxx := Nat.xor_lt_two_pow (n := 5) (bb_gb hWA.2.2.1 hWA.1).1 (show nxB b i 2 % 2 < 2 ^ 5 by omega)
  refine aw_aload_n C rfl rfl dX13_of_13 ?_
  refine aw_getf C ck11 3 (by decide) q1645 (fun _ z => z) (ch_le hSp1 _ _ er1) rfl dX13_of_14 ?_
  refine aw_aload_n C rfl rfl dX13_of_17 ?_
  refine aw_callVN C ck0 (co_valueOf hG l hSp1 hb1 (nxW hA hm9 hPO).1 (nxW hA hm9 hPO).2.2.1 (nxW hA hm9 hPO).2.2.2.1 hK hR1) q1671 q700 qs1 q95 q701 (ch_at (i := 0) rfl) (n9 := 1) (by decide +kernel) rfl (Nat.le_of_ble_eq_true rfl) (Nat.le_of_ble_eq_true rfl) (by dsimp only; omega) (by dsimp only; omega) rfl (Nat.le_of_ble_eq_true rfl) dX13_of_18 (fun _ _ _ z => z.elim) (fun v9 h3 s3 hp => ?_)
  obtain ⟨rfl, r3, u3, rfl, rfl, rfl, hx3, hr3⟩ := hp
  refine aw_top rfl ?_
  refine aw_ifN_ne C (tgt := 29) (by omega) dX13_of_21 (by decide) (fun g21 => ?_) (fun g21 => ?_)
  · refine aw_aload_n C rfl rfl dX13_of_29 ?_
    refine aw_getf C ck11 3 (by decide) q1645 (fun _ z => z) (ch_le hSp1 _ _ er1) rfl dX13_of_30 ?_
    refine aw_aload_n C rfl rfl dX13_of_33 ?_
    refine aw_callVN C ck0 (co_longestOf hG l hSp1 hb1 (nxW hA hm9 hPO).1 (nxW hA hm9 hPO).2.2.1 (nxW hA hm9 hPO).2.2.2.1 hK hr3) q1672 q1047 qs18 q95 q1048 (ch_at (i := 0) rfl) (n9 := 1) (by decide +kernel) rfl (Nat.le_of_ble_eq_true rfl) (Nat.le_of_ble_eq_true rfl) (by dsimp only; omega) (by dsimp only; omega) rfl (Nat.le_of_ble_eq_true rfl) dX13_of_34 (fun _ _ _ z => z.elim) (fun v9 h4 s4 hp => ?_)
    obtain ⟨rfl, r4, u4, rfl, rfl, rfl, hx4, hr4⟩ := hp
    refine aw_top rfl ?_
    refine aw_iret C rfl dX13_of_37 (by omega) (by omega) ?_
    first
    | exact ⟨congrArg (fun z => some (Value.int (nI z))) (by unfold rt; rw [if_pos g21]), by omega, by omega, u3, g1, rfl, hx3, q1, hr3.st (nxB_st i).sy, hSp1⟩
    | exact ⟨congrArg (fun z => some (Value.int (nI z))) (by unfold rt; rw [if_neg g21]), by omega, by omega, u4, g1, rfl, hx3.tr hx4, q1, hr4.st (nxB_st i).sy, hSp1⟩
  · refine aw_bipush C (v := nI 100) (by decide) dX13_of_24 ?_
    refine aw_goto C (tgt := 37) dX13_of_26 (by decide) ?_
    refine aw_iret C rfl dX13_of_37 (by omega) (by omega) ?_
    first
    | exact ⟨congrArg (fun z => some (Value.int (nI z))) (by unfold rt; rw [if_pos g21]), by omega, by omega, u3, g1, rfl, hx3, q1, hr3.st (nxB_st i).sy, hSp1⟩
    | exact ⟨congrArg (fun z => some (Value.int (nI z))) (by unfold rt; rw [if_neg g21]), by omega, by omega, u4, g1, rfl, hx3.tr hx4, q1, hr4.st (nxB_st i).sy, hSp1⟩
