/-! the best move, all winning moves -/
theorem gt_m0 : ∀ r, r < 128 → nI 0 - nI 1 < nI r := by decide +kernel
theorem gt_m {m r : Nat} (hm : m < 128) (hr : r < 128) : (nI m - nI 1 < nI r) ↔ m ≤ r := by
  by_cases e : m = 0
  · subst e
    exact ⟨fun _ => Nat.zero_le _, fun _ => gt_m0 r hr⟩
  · rw [pk_sub (show 1 ≤ m by omega), nI_ltI (by omega) (by omega)]
    omega
theorem GRP.m {g : AH} {m gr ci : Nat} {b : BT} {fs : List Value} {c : va_E} (em : g m = some (.inr (ci, fs))) (hc : ci ≠ 3) (h : GRP g gr b) : GRP (hset g m c) gr b := by
  obtain ⟨gl, gn, fl, fn, e1, e2, e3, e4⟩ := h
  refine ⟨gl, gn, fl, fn, (hset_n _ _ (ne9 e1 em (fun z => ?_))).trans e1, (hset_n _ _ (ne9 e2 em (fun z => ?_))).trans e2, (hset_n _ _ (ne9 e3 em (fun z => ?_))).trans e3, e4⟩
  · injection z with z
    injection z with z1 z2
    exact hc z1.symm
  · cases z
  · cases z
theorem SI.m {g : AH} {m K ci : Nat} {u : CU} {fs : List Value} {c : va_E} (em : g m = some (.inr (ci, fs))) (hc : ci ≠ 3) (h : SI g u K) : SI (hset g m c) u K := by
  refine ⟨h.1, fun gr e => ?_⟩
  obtain ⟨b, k, h1, h2, h3⟩ := h.2 gr e
  exact ⟨b, k, h1, h2.m em hc, h3⟩
theorem SR.m {g : AH} {m K gr ci : Nat} {u : CU} {b : BT} {fs : List Value} {c : va_E} (em : g m = some (.inr (ci, fs))) (hc : ci ≠ 3) (h : SR g u K gr b) : SR (hset g m c) u K gr b := by
  rcases h with h | h
  · exact Or.inl (h.m em hc)
  · exact Or.inr h
theorem SI.le2 {g g' : AH} {K : Nat} {u : CU} (hl : HLE g g') (h : SI g u K) : SI g' u K := by
  refine ⟨h.1, fun gr e => ?_⟩
  obtain ⟨b, k, h1, h2, h3⟩ := h.2 gr e
  exact ⟨b, k, h1, h2.le hl, h3⟩
theorem SR.le2 {g g' : AH} {K gr : Nat} {u : CU} {b : BT} (hl : HLE g g') (h : SR g u K gr b) : SR g' u K gr b := by
  rcases h with h | h
  · exact Or.inl (h.le2 hl)
  · exact Or.inr h
theorem rt_le {b : BT} {i : Nat} (hA : WA (nxB b i)) : rt b i ≤ 100 := by
  have := bb_le hA.2.2.1 hA.1
  have := hA.2.2.2.1
  unfold rt
  split <;> omega
theorem ofr_le {b : BT} {p : Nat × Nat} {i : Nat} (h : rt b i ≤ 100) (hp : p.2 < 128) : (ofr b p i).2 < 128 := by
  unfold ofr
  split
  · show rt b i + 1 < 128
    omega
  · exact hp
theorem BRD.fr {g g' : AH} {sz a gr : Nat} {b : BT} (hD : Dm g sz) (hq : ∀ q, q < sz → g' q = g q) (h : BRD g a gr b) : BRD g' a gr b := by
  obtain ⟨ca, ba, v3, v4, fc, fb, e1, e2, e3, e4, e5⟩ := h
  exact ⟨ca, ba, v3, v4, fc, fb, (hq _ (hD.lt e1)).trans e1, (hq _ (hD.lt e2)).trans e2, (hq _ (hD.lt e3)).trans e3, e4.fr hD hq, e5⟩
theorem BC.fr {g g' : AH} {sz s0 a gr : Nat} {b : BT} {cap : Nat} (hD : Dm g sz) (hq : ∀ q, q < sz → g' q = g q) (h : BC g s0 a gr b cap) : BC g' s0 a gr b cap := by
  obtain ⟨ca, ba, ac, a0, a1, li, el, mo, fc, fb, f, g0, e1, e2, e3, e4, e5, e6, e7, e8, g1, g2, g3⟩ := h
  refine ⟨ca, ba, ac, a0, a1, li, el, mo, fc, fb, f, g0, (hq _ (hD.lt e1)).trans e1, (hq _ (hD.lt e2)).trans e2, (hq _ (hD.lt e3)).trans e3, (hq _ (hD.lt e4)).trans e4, (hq _ (hD.lt e5)).trans e5, (hq _ (hD.lt e6)).trans e6, (hq _ (hD.lt e7)).trans e7, (hq _ (hD.lt e8)).trans e8, g1, fun k hk => ?_, g3⟩
  obtain ⟨z, z1, z2⟩ := g2 k hk
  exact ⟨z, z1, (hq _ (hD.lt z2)).trans z2⟩
theorem hset_c {g : AH} {p q : Nat} (c d : va_E) (h : p ≠ q) : hset (hset g p c) q d = hset (hset g q d) p c := hset_comm g c d h
theorem cn_le {b : BT} {i : Nat} (hA : WA b) (h : PTT b i) : cbN b i ≤ cnM b := by
  rcases h with z | z
  · exact Nat.le_trans (Nat.le_succ _) (pl_s hA z).2.2.2.2
  · rw [z]; exact Nat.le_refl _
section KN
variable {γ : Gm} {l : Launch} {x : WX} {y : MethodName} {cc : ByteArray} {nL : Nat} {ret : Option FieldType} {rm : Room} {et : List ExceptionTableEntry} {Q : State → Prop} {h : AH} {sz k n pc : Nat} {L : LV} {st : List Value}
variable {y9 : MethodName} {b9 : ByteArray} {nL9 : Nat} {ret9 : Option FieldType} {f9 lo9 mc ms index : Nat} {As : List Value} {st0 : List Value} {h' : AH} {sz' : Nat}
theorem aw_kn {k2 n2 : Nat} (kk : AW γ l x Q nL h sz k n pc L st) (hk : k2 = k) (hn : n2 = n) : AW γ l x Q nL h sz k2 n2 pc L st := by rw [hk, hn]; exact kk
end KN
set_option maxRecDepth 100000 in
theorem ra_init0 {γ : Gm} (hG : GF γ) (l : Launch) {h : AH} {sz : Nat} {ra : Nat} {v2 v3 : Value} (er : h ra = some (.inr (11, [.int 0, .int 0, v2, v3]))) : MX γ l yX12_init cX12_init 1 none 1 12 0 0 [.ref ra] h sz (PE none (hset h ra (.inr (11, [.int (-1), .int (-1), v2, v3]))) sz) NX := by
  refine mx_start hG (by decide) (Nat.le_of_ble_eq_true rfl) (fun x C => ?_)
  refine aw_aload_n C rfl rfl dX12_init_0 ?_
  refine aw_objInit C q1643 q142 q143 (Nat.le_of_ble_eq_true rfl) (Nat.le_of_ble_eq_true rfl) dX12_init_1 ?_
  refine aw_aload_n C rfl rfl dX12_init_4 ?_
  refine aw_iconst C (v := -1) (by decide) dX12_init_5 ?_
  refine aw_putf C ck11 0 (by decide) q1646 (fun _ z => z) rfl rfl (ty := .int) rfl rfl er (show 0 < 4 by decide) dX12_init_6 ?_
  refine aw_aload_n C rfl rfl dX12_init_9 ?_
  refine aw_iconst C (v := -1) (by decide) dX12_init_10 ?_
  refine aw_putf C ck11 1 (by decide) q1648 (fun _ z => z) rfl rfl (ty := .int) rfl rfl (hset_s _ _ _) (show 1 < 4 by decide) dX12_init_11 ?_
  rw [hset_hset]
  exact aw_vret C rfl dX12_init_14 (Nat.le_refl _) (Nat.le_refl _) ⟨rfl, rfl, rfl⟩
set_option maxRecDepth 100000 in
theorem ra_init {γ : Gm} (hG : GF γ) (l : Launch) {h : AH} {sz : Nat} {ra a o : Nat} (er : h ra = some (.inr (11, [.int 0, .int 0, .null, .null]))) : MX γ l yX13_init cX13_init 3 none 2 32 0 0 [.ref ra, .ref o, .ref a] h sz (PE none (hset h ra (.inr (11, [.int (-1), .int (-1), .ref a, .ref o]))) sz) NX := by
  refine mx_start hG (by decide) (Nat.le_of_ble_eq_true rfl) (fun x C => ?_)
  refine aw_aload_n C rfl rfl dX13_init_0 ?_
  refine aw_aload_n C rfl rfl dX13_init_1 ?_
  refine aw_putfF C ck11 3 (by decide) q1645 (fun _ z => z) rfl rfl rfl (ty := (.object "ColourDuel")) rfl rfl rfl er (show 3 < 4 by decide) dX13_init_2 ?_
  refine aw_aload_n C rfl rfl dX13_init_5 ?_
  refine aw_aload_n C rfl rfl dX13_init_6 ?_
  refine aw_putfF C ck11 2 (by decide) q1644 (fun _ z => z) rfl rfl rfl (ty := (.object "ColourDuel$Board")) rfl rfl rfl (hset_s _ _ _) (show 2 < 4 by decide) dX13_init_7 ?_
  rw [hset_hset]
  refine aw_aload_n C rfl rfl dX13_init_10 ?_
  refine aw_callIPN C (ra_init0 hG l (hset_s _ _ _)) q1640 q1641 q133 q1642 rfl (n9 := 0) (by decide +kernel) rfl (Nat.le_of_ble_eq_true rfl) (Nat.le_of_ble_eq_true rfl) (Nat.zero_le _) (Nat.zero_le _) rfl (Nat.le_of_ble_eq_true rfl) dX13_init_11 ?_
  rw [hset_hset]
  exact aw_vret C rfl dX13_init_14 (Nat.le_refl _) (Nat.le_refl _) ⟨rfl, rfl, rfl⟩
set_option maxRecDepth 100000 in
theorem ra_offer {γ : Gm} (hG : GF γ) (l : Launch) {o : Nat} {u : CU} {g : AH} {sz : Nat} {mi : Nat} (hB : GBO γ mi) {s0 gr a : Nat} {b : BT} {cap : Nat} (hSp : Sep o g) (hbc : BC g s0 a gr b cap) (hg : GRP g gr b) (hA : WA b) (hm9 : b 3 < 4096) (hsz : o + 34 ≤ sz) {ra : Nat} (hra : o + 34 ≤ ra) {p : Nat × Nat} (hp2 : p.2 < 128) (er : g ra = some (.inr (11, [.int (nI p.1 - nI 1), .int (nI p.2 - nI 1), .ref a, .ref o]))) {i : Nat} (hPO : PO b i) {K : Nat} (hK : K + 1 < 2 ^ 30) (hR : SR g u K gr b) : MX γ l yX12_offer cX12_offer 3 none 42 1422 14 (wS (b 3)) [.ref ra, .int (nI i)] (ch o u g) sz (fun v h' sz' => v = none ∧ sz ≤ sz' ∧ sz' ≤ sz + 14 ∧ ∃ u' g', h' = ch o u' g' ∧ SX u u' ∧ (∀ q, q < sz → q ≠ ra → g' q = g q) ∧ g' ra = some (.inr (11, [.int (nI (ofr b p i).1 - nI 1), .int (nI (ofr b p i).2 - nI 1), .ref a, .ref o])) ∧ SR g' u' K gr b ∧ Sep o g') NX := by
  refine mx_start hG (by decide) (Nat.le_of_ble_eq_true rfl) (fun x C => ?_)
  have hws : wS (b 3) = cpS (b 3) + (4 + gwS (b 3)) := rfl
  have hb : BRD g a gr b := hbc.brd hg
  obtain ⟨ca, ba, v3, v4, fc, fb, eb, eca, eba, hg, hfc, hfb⟩ := id hb
  obtain ⟨gl, gn, fl, fn, eg, egl, egn, hgl, hgn⟩ := id hg
  refine aw_dom (fun hD0 => ?_)
  have hDg := dm_g hSp hD0
  refine aw_aload_n C rfl rfl dX12_offer_0 ?_
  refine aw_iload_n C rfl rfl dX12_offer_1 ?_
  refine aw_callA C ck11 (owner := "ColourDuel$Rating") (xm := ⟨"ColourDuel$Rating", "of", "(I)I"⟩) (ev_of hG l hB hSp hbc hg hA hm9 hsz er hPO hK hR) q1663 q1665 q1666 q1667 q134 q1668 q1664 (ch_le hSp _ _ er) (n9 := 1) (by decide +kernel) rfl (Nat.le_of_ble_eq_true rfl) (Nat.le_of_ble_eq_true rfl) (by dsimp only; omega) (by dsimp only; omega) rfl (Nat.le_of_ble_eq_true rfl) dX12_offer_2 (fun _ _ _ z => z.elim) (fun v9 h3 s3 hp => ?_)
  obtain ⟨rfl, z1, z2, u3, g3, rfl, hx3, q3, hr3, hSp3⟩ := hp
  have er3 := (q3 ra (hDg.lt er)).trans er
  have hrt := rt_le (nxW hA hm9 hPO)
  refine aw_top rfl ?_
  refine aw_istore_n C rfl (by decide) rfl dX12_offer_5 ?_
  refine aw_iload_n C rfl rfl dX12_offer_6 ?_
  refine aw_aload_n C rfl rfl dX12_offer_7 ?_
  refine aw_getf C ck11 1 (by decide) q1648 (fun _ z => z) (ch_le hSp3 _ _ er3) rfl dX12_offer_8 ?_
  refine aw_icmp_gt C (tgt := 15) dX12_offer_11 (by decide) (fun g11 => ?_) (fun g11 => ?_)
  · refine aw_aload_n C rfl rfl dX12_offer_15 ?_
    refine aw_iload_n C rfl rfl dX12_offer_16 ?_
    refine aw_putf C ck11 1 (by decide) q1648 (fun _ z => z) rfl rfl (ty := .int) rfl rfl (ch_le hSp3 _ _ er3) (show 1 < 4 by decide) dX12_offer_17 ?_
    rw [ch_new _ hra]
    refine aw_aload_n C rfl rfl dX12_offer_20 ?_
    refine aw_iload_n C rfl rfl dX12_offer_21 ?_
    refine aw_putf C ck11 0 (by decide) q1646 (fun _ z => z) rfl rfl (ty := .int) rfl rfl (ch_le (hSp3.new _ hra) _ _ (hset_s _ _ _)) (show 0 < 4 by decide) dX12_offer_22 ?_
    rw [ch_new _ hra, hset_hset]
    refine aw_vret C rfl dX12_offer_25 (by omega) (by omega) ?_
    have hle : p.2 ≤ rt b i := (gt_m hp2 (by omega)).mp g11
    refine ⟨rfl, by omega, by omega, u3, _, rfl, hx3, fun q hq hne => (hset_n _ _ hne).trans (q3 q hq), ?_, hr3.m er3 (by decide), hSp3.new _ hra⟩
    rw [hset_s, ofr, if_pos hle]
    show some (Sum.inr (11, [Value.int (nI i), Value.int (nI (rt b i)), _, _])) = _
    rw [pk_s i, pk_s (rt b i)]
  · refine aw_vret C rfl dX12_offer_14 (by omega) (by omega) ?_
    have hle : ¬ p.2 ≤ rt b i := fun z => g11 ((gt_m hp2 (by omega)).mpr z)
    refine ⟨rfl, by omega, by omega, u3, g3, rfl, hx3, fun q hq _ => q3 q hq, ?_, hr3, hSp3⟩
    rw [er3, ofr, if_neg hle]
set_option maxRecDepth 100000 in
theorem mf_moveFor {γ : Gm} (hG : GF γ) (l : Launch) {o : Nat} {u : CU} {g : AH} {sz : Nat} {ρ : Nat} (hU : RUL γ ρ) (hI : FRU γ) {ic : Nat} {ad : Nat → Nat} (hI9 : GIN γ ic ad) {mi : Nat} (hB : GBO γ mi) {s0 gr a : Nat} {b : BT} {cap : Nat} (hSp : Sep o g) (hbc : BC g s0 a gr b cap) (hg : GRP g gr b) (hA : WA b) (hm9 : b 3 < 4096) (hsz : o + 34 ≤ sz) {K : Nat} (hK : K + 1 < 2 ^ 30) (hR : SR g u K gr b) : MX γ l yX1_moveFor cX1_moveFor 4 (some .int) 43 1444 (2 + 14 * cnM b) (6 + wS (b 3) * cnM b) [.ref o, .ref a] (ch o u g) sz (RVA o sz u g K gr b (2 + 14 * cnM b) (nI (bestN b) - nI 1)) NX := by
  refine mx_start hG (by decide) (Nat.le_of_ble_eq_true rfl) (fun x C => ?_)
  have hws : wS (b 3) = cpS (b 3) + (4 + gwS (b 3)) := rfl
  have hb : BRD g a gr b := hbc.brd hg
  obtain ⟨ca, ba, v3, v4, fc, fb, eb, eca, eba, hg, hfc, hfb⟩ := id hb
  obtain ⟨gl, gn, fl, fn, eg, egl, egn, hgl, hgn⟩ := id hg

  refine aw_dom (fun hD0 => ?_)
  have hDg := dm_g hSp hD0
  have key : ∀ j i u1 g1 s1, PTT b i → (BS b i).2 < 128 → SX u u1 → (∀ q, q < sz → g1 q = g q) → g1 sz = some (.inr (11, [.int (nI (BS b i).1 - nI 1), .int (nI (BS b i).2 - nI 1), .ref a, .ref o])) → g1 (sz + 1) = some (.inr (10, [.int (nI i), .ref a])) → SR g1 u1 K gr b → Sep o g1 → sz + 2 ≤ s1 → s1 ≤ sz + 2 + 14 * cbN b i → cnM b + 1 ≤ cbN b i + j → AW γ l x (QX γ x (2 + 14 * cnM b) (6 + wS (b 3) * cnM b) (RVA o sz u g K gr b (2 + 14 * cnM b) (nI (bestN b) - nI 1)) NX) 4 (ch o u1 g1) s1 (2 + 14 * cbN b i) (6 + wS (b 3) * cbN b i) 15 [(0, .ref o), (1, .ref a), (2, .ref sz), (3, .ref (sz + 1))] [] := by
    intro j
    induction j with
    | zero => intro i u1 g1 s1 hPt hp2 hx1 fr1 er1 em1 hr1 hSp1 hs1 hs2 h2; exact absurd h2 (by have := cn_le hA hPt; omega)
    | succ j ih =>
      intro i u1 g1 s1 hPt hp2 hx1 fr1 er1 em1 hr1 hSp1 hs1 hs2 h2
      have hNN := hA.1.2.1
      have hi101 : i ≤ 101 := by
        rcases hPt with (⟨z, -⟩ | ⟨z, -⟩) | z <;> omega
      have hb1 : BRD g1 a gr b := hb.fr hDg fr1
      have hcn := cn_le hA hPt
      have hmle0 : wS (b 3) * cbN b i ≤ wS (b 3) * cnM b := Nat.mul_le_mul_left _ hcn
      refine aw_aload_n C rfl rfl dX1_moveFor_15 ?_
      refine aw_callVRR C ck10 (mo_hasNext hG l (ch_le hSp1 _ _ em1) (by omega)) q847 q848 q849 q131 q850 (Or.inl (ch_le hSp1 _ _ em1)) (n9 := 0) (by decide +kernel) rfl (Nat.le_of_ble_eq_true rfl) (Nat.le_of_ble_eq_true rfl) (by dsimp only; omega) (by dsimp only; omega) rfl (Nat.le_of_ble_eq_true rfl) dX1_moveFor_16 ?_
      refine aw_top (show _ = nI (if decide (i ≤ 100) = true then 1 else 0) from by simp only [decide_eq_true_eq]) ?_
      refine aw_bit_eq0 C (tgt := 36) dX1_moveFor_19 (by decide) (fun g19 => ?_) (fun g19 => ?_)
      · refine aw_aload_n C rfl rfl dX1_moveFor_36 ?_
        refine aw_getfN C ck11 0 (by decide) q1647 (fun _ z => z) (ch_le hSp1 _ _ er1) rfl dX1_moveFor_37 ?_
        refine aw_iret C rfl dX1_moveFor_40 (by omega) (by omega) ?_
        have e101 : i = 101 := hPt.resolve_left (fun z => by
          have : ¬ i ≤ 100 := fun y => by rw [decide_eq_true y] at g19; cases g19
          rcases z with ⟨z, -⟩ | ⟨z, -⟩
          · have := hA.1.2.1
            omega
          · omega)
        subst e101
        exact ⟨by rw [← bs_all hA], by omega, by unfold cnM; omega, u1, g1, rfl, hx1, fr1, hr1, hSp1⟩
      · have hi9 : i ≤ 100 := of_decide_eq_true g19
        have hPO : PO b i := hPt.resolve_right (fun z => by omega)
        obtain ⟨s1', s2', s3', s4', s5'⟩ := pl_s hA hPO
        have hmul : wS (b 3) * (cbN b i + 1) = wS (b 3) * cbN b i + wS (b 3) := Nat.mul_succ _ _
        have hmle : wS (b 3) * (cbN b i + 1) ≤ wS (b 3) * cnM b := Nat.mul_le_mul_left _ s5'
        refine aw_aload_n C rfl rfl dX1_moveFor_22 ?_
        refine aw_aload_n C rfl rfl dX1_moveFor_23 ?_
        refine aw_callVPv C ck10 (mo_next hG l hU hI hI9 (ch_le hSp1 _ _ em1) (hb1.le (ch_le hSp1)) hA.1 hA.2.2.2.1 hi9) q851 q852 q853 q131 q854 (ch_le hSp1 _ _ em1) (n9 := 0) (by decide +kernel) rfl (Nat.le_of_ble_eq_true rfl) (Nat.le_of_ble_eq_true rfl) (by dsimp only; omega) (by dsimp only; omega) rfl (Nat.le_of_ble_eq_true rfl) dX1_moveFor_24 ?_
        rw [ch_new _ (by omega)]
        refine aw_callVOR C (in_intValue hG l hI9 (k9 := i + 128) (by omega)) q875 q876 q877 q118 q878 (hI9.o (by omega)) (n9 := 0) (by decide +kernel) rfl (Nat.le_of_ble_eq_true rfl) (Nat.le_of_ble_eq_true rfl) (by dsimp only; omega) (by dsimp only; omega) rfl (Nat.le_of_ble_eq_true rfl) dX1_moveFor_27 ?_
        refine aw_top (vb_n i (by omega)) ?_
        have hSp2 := hSp1.new (.inr (10, [.int (nI (stl b (i + 1))), .ref a])) (show o + 34 ≤ sz + 1 by omega)
        have fr2 : ∀ q, q < sz → (hset g1 (sz + 1) (.inr (10, [.int (nI (stl b (i + 1))), .ref a]))) q = g q := fun q hq => (hset_n _ _ (by omega)).trans (fr1 q hq)
        have hbc2 := hbc.fr hDg fr2
        have hg2 := hg.fr hDg fr2
        have er2 : (hset g1 (sz + 1) (.inr (10, [.int (nI (stl b (i + 1))), .ref a]))) sz = some (.inr (11, [.int (nI (BS b i).1 - nI 1), .int (nI (BS b i).2 - nI 1), .ref a, .ref o])) := (hset_n _ _ (by omega)).trans er1
        have em2 : (hset g1 (sz + 1) (.inr (10, [.int (nI (stl b (i + 1))), .ref a]))) (sz + 1) = some (.inr (10, [.int (nI (stl b (i + 1))), .ref a])) := hset_s _ _ _
        have hr2 := hr1.m (c := .inr (10, [.int (nI (stl b (i + 1))), .ref a])) em1 (by decide)
        have hrt := rt_le (nxW hA hm9 hPO)
        refine aw_callU C ck11 (owner := "ColourDuel$Rating") (xm := ⟨"ColourDuel$Rating", "offer", "(I)V"⟩) (ra_offer hG l hB hSp2 hbc2 hg2 hA hm9 (by omega) (by omega) hp2 er2 hPO hK hr2) q1658 q1660 q1661 q1659 q133 q1662 rfl (ch_le hSp2 _ _ er2) (n9 := 1) (by decide +kernel) rfl (Nat.le_of_ble_eq_true rfl) (Nat.le_of_ble_eq_true rfl) (by dsimp only; omega) (by dsimp only; omega) rfl (Nat.le_of_ble_eq_true rfl) dX1_moveFor_30 (fun _ _ _ z => z.elim) (fun v9 h4 s4 hp => ?_)
        obtain ⟨rfl, w1, w2, u4, g4, rfl, hx4, q4, er4, hr4, hSp4⟩ := hp
        refine aw_goto C (tgt := 15) dX1_moveFor_33 (by decide) ?_
        have hp' : (BS b (stl b (i + 1))).2 < 128 := by rw [s3']; exact ofr_le hrt hp2
        refine aw_lo (aw_kn (ih (stl b (i + 1)) u4 g4 s4 s1' hp' (hx1.tr hx4) (fun q hq => (q4 q (by omega) (by omega)).trans (fr2 q hq)) (by rw [s3']; exact er4) ((q4 (sz + 1) (by omega) (by omega)).trans em2) hr4 hSp4 (by omega) (by rw [s2']; omega) (by rw [s2']; omega)) (by rw [s2']; omega) (by rw [s2', hmul]; omega)) ⟨rfl, rfl, rfl, rfl, trivial⟩
  refine aw_new C ck11 (fs := [.int 0, .int 0, .null, .null]) q1635 q1636 q134 (by decide) (by dsimp only; omega) (by dsimp only; omega) dX1_moveFor_0 ?_
  refine aw_dup C rfl dX1_moveFor_3 ?_
  refine aw_aload_n C rfl rfl dX1_moveFor_4 ?_
  refine aw_aload_n C rfl rfl dX1_moveFor_5 ?_
  refine aw_callIP C (ra_init hG l (hset_s _ _ _)) q1637 q1638 q134 q1639 rfl (n9 := 2) (by decide +kernel) rfl (Nat.le_of_ble_eq_true rfl) (Nat.le_of_ble_eq_true rfl) (by dsimp only; omega) (by dsimp only; omega) rfl (Nat.le_of_ble_eq_true rfl) dX1_moveFor_6 ?_
  rw [hset_hset, ch_new _ hsz]
  refine aw_astore_n C rfl (by decide) rfl dX1_moveFor_9 ?_
  refine aw_dom (fun hD0' => ?_)
  have hSp0 := hSp.new (.inr (11, [.int (-1), .int (-1), .ref a, .ref o])) hsz
  have hb0 : BRD (hset g sz (.inr (11, [.int (-1), .int (-1), .ref a, .ref o]))) a gr b := hb.le (HLE.push hDg _)
  have lea := hDg.lt eb
  refine aw_aload_n C rfl rfl dX1_moveFor_10 ?_
  refine aw_callVPv C ck2 (mo_all hG l hU hI (hb0.le (ch_le hSp0)) hA.1 hA.2.2.2.1 hD0') q801 q802 q803 q97 q804 (ch_le hSp0 _ _ ((hset_n _ _ (by omega)).trans eb)) (n9 := 0) (by decide +kernel) rfl (Nat.le_of_ble_eq_true rfl) (Nat.le_of_ble_eq_true rfl) (by dsimp only; omega) (by dsimp only; omega) rfl (Nat.le_of_ble_eq_true rfl) dX1_moveFor_11 ?_
  rw [ch_new _ (by omega)]
  refine aw_astore_n C rfl (by decide) rfl dX1_moveFor_14 ?_
  obtain ⟨p1, p2, p3, p4⟩ := pl_0 hA.1
  have hl2 : HLE g (hset (hset g sz (.inr (11, [.int (-1), .int (-1), .ref a, .ref o]))) (sz + 1) (.inr (10, [.int (nI (stl b 0)), .ref a]))) := (HLE.push hDg _).tr (HLE.push (hDg.push _) _)
  refine aw_lo (aw_kn (key (cnM b + 1) (stl b 0) u (hset (hset g sz (.inr (11, [.int (-1), .int (-1), .ref a, .ref o]))) (sz + 1) (.inr (10, [.int (nI (stl b 0)), .ref a]))) (sz + 2) p1 (by rw [p3]; decide) (SX.rf u) (fun q hq => (hset_n _ _ (by omega)).trans (hset_n _ _ (by omega))) (by rw [p3, hset_n _ _ (by omega), hset_s]; rfl) (hset_s _ _ _) (hR.le2 hl2) (hSp0.new _ (by omega)) (Nat.le_refl _) (by omega) (by omega)) (by rw [p2]) (by rw [p2]; rfl)) ⟨rfl, rfl, rfl, rfl, trivial⟩
set_option maxRecDepth 100000 in
theorem mf_winningMoves {γ : Gm} (hG : GF γ) (l : Launch) {o : Nat} {u : CU} {g : AH} {sz : Nat} {ρ : Nat} (hU : RUL γ ρ) (hI : FRU γ) {ic : Nat} {ad : Nat → Nat} (hI9 : GIN γ ic ad) {mi : Nat} (hB : GBO γ mi) {s0 gr a : Nat} {b : BT} {cap : Nat} (hSp : Sep o g) (hbc : BC g s0 a gr b cap) (hg : GRP g gr b) (hA : WA b) (hm9 : b 3 < 4096) (hsz : o + 34 ≤ sz) (hcu : u.2.2.2.2 = a) {K : Nat} (hK : K + 1 < 2 ^ 30) (hR : SR g u K gr b) : MX γ l yX1_winningMoves cX1_winningMoves 3 (some .int) 42 1421 (1 + 14 * cnM b) (2 + wS (b 3) * cnM b) [.ref o] (ch o u g) sz (RVA o sz u g K gr b (1 + 14 * cnM b) (nI ((if passW b = true then 1 else 0) + sumF (fun v => pop (winS b v)) (b 0)))) NX := by
  refine mx_start hG (by decide) (Nat.le_of_ble_eq_true rfl) (fun x C => ?_)
  have hws : wS (b 3) = cpS (b 3) + (4 + gwS (b 3)) := rfl
  have hb : BRD g a gr b := hbc.brd hg
  obtain ⟨ca, ba, v3, v4, fc, fb, eb, eca, eba, hg, hfc, hfb⟩ := id hb
  obtain ⟨gl, gn, fl, fn, eg, egl, egn, hgl, hgn⟩ := id hg
  refine aw_dom (fun hD0 => ?_)
  have hDg := dm_g hSp hD0
  have key : ∀ j i u1 g1 s1, PTT b i → SX u u1 → (∀ q, q < sz → g1 q = g q) → g1 sz = some (.inr (10, [.int (nI i), .ref a])) → SR g1 u1 K gr b → Sep o g1 → sz + 1 ≤ s1 → s1 ≤ sz + 1 + 14 * cbN b i → cnM b + 1 ≤ cbN b i + j → AW γ l x (QX γ x (1 + 14 * cnM b) (2 + wS (b 3) * cnM b) (RVA o sz u g K gr b (1 + 14 * cnM b) (nI ((if passW b = true then 1 else 0) + sumF (fun v => pop (winS b v)) (b 0)))) NX) 3 (ch o u1 g1) s1 (1 + 14 * cbN b i) (2 + wS (b 3) * cbN b i) 10 [(0, .ref o), (1, .int (nI (WC b i))), (2, .ref sz)] [] := by
    intro j
    induction j with
    | zero => intro i u1 g1 s1 hPt hx1 fr1 em1 hr1 hSp1 hs1 hs2 h2; exact absurd h2 (by have := cn_le hA hPt; omega)
    | succ j ih =>
      intro i u1 g1 s1 hPt hx1 fr1 em1 hr1 hSp1 hs1 hs2 h2
      have hNN := hA.1.2.1
      have hi101 : i ≤ 101 := by
        rcases hPt with (⟨z, -⟩ | ⟨z, -⟩) | z <;> omega
      have hb1 : BRD g1 a gr b := hb.fr hDg fr1
      have hcn := cn_le hA hPt
      have hmle0 : wS (b 3) * cbN b i ≤ wS (b 3) * cnM b := Nat.mul_le_mul_left _ hcn
      refine aw_aload_n C rfl rfl dX1_winningMoves_10 ?_
      refine aw_callVRR C ck10 (mo_hasNext hG l (ch_le hSp1 _ _ em1) (by omega)) q847 q848 q849 q131 q850 (Or.inl (ch_le hSp1 _ _ em1)) (n9 := 0) (by decide +kernel) rfl (Nat.le_of_ble_eq_true rfl) (Nat.le_of_ble_eq_true rfl) (by dsimp only; omega) (by dsimp only; omega) rfl (Nat.le_of_ble_eq_true rfl) dX1_winningMoves_11 ?_
      refine aw_top (show _ = nI (if decide (i ≤ 100) = true then 1 else 0) from by simp only [decide_eq_true_eq]) ?_
      refine aw_bit_eq0 C (tgt := 42) dX1_winningMoves_14 (by decide) (fun g19 => ?_) (fun g19 => ?_)
      · refine aw_iload_n C rfl rfl dX1_winningMoves_42 ?_
        refine aw_iret C rfl dX1_winningMoves_43 (by omega) (by omega) ?_
        have e101 : i = 101 := hPt.resolve_left (fun z => by
          have : ¬ i ≤ 100 := fun y => by rw [decide_eq_true y] at g19; cases g19
          rcases z with ⟨z, -⟩ | ⟨z, -⟩
          · have := hA.1.2.1
            omega
          · omega)
        subst e101
        exact ⟨by rw [← wc_all hA.1], by omega, by unfold cnM; omega, u1, g1, rfl, hx1, fr1, hr1, hSp1⟩
      · have hi9 : i ≤ 100 := of_decide_eq_true g19
        have hPO : PO b i := hPt.resolve_right (fun z => by omega)
        obtain ⟨s1', s2', s3', s4', s5'⟩ := pl_s hA hPO
        have hmul : wS (b 3) * (cbN b i + 1) = wS (b 3) * cbN b i + wS (b 3) := Nat.mul_succ _ _
        have hmle : wS (b 3) * (cbN b i + 1) ≤ wS (b 3) * cnM b := Nat.mul_le_mul_left _ s5'
        refine aw_iload_n C rfl rfl dX1_winningMoves_17 ?_
        refine aw_aload_n C rfl rfl dX1_winningMoves_18 ?_
        refine aw_aload_n C rfl rfl dX1_winningMoves_19 ?_
        refine aw_callVPv C ck10 (mo_next hG l hU hI hI9 (ch_le hSp1 _ _ em1) (hb1.le (ch_le hSp1)) hA.1 hA.2.2.2.1 hi9) q851 q852 q853 q131 q854 (ch_le hSp1 _ _ em1) (n9 := 0) (by decide +kernel) rfl (Nat.le_of_ble_eq_true rfl) (Nat.le_of_ble_eq_true rfl) (by dsimp only; omega) (by dsimp only; omega) rfl (Nat.le_of_ble_eq_true rfl) dX1_winningMoves_20 ?_
        rw [ch_new _ (by omega)]
        refine aw_callVOR C (in_intValue hG l hI9 (k9 := i + 128) (by omega)) q875 q876 q877 q118 q878 (hI9.o (by omega)) (n9 := 0) (by decide +kernel) rfl (Nat.le_of_ble_eq_true rfl) (Nat.le_of_ble_eq_true rfl) (by dsimp only; omega) (by dsimp only; omega) rfl (Nat.le_of_ble_eq_true rfl) dX1_winningMoves_23 ?_
        refine aw_top (vb_n i (by omega)) ?_
        have hSp2 := hSp1.new (.inr (10, [.int (nI (stl b (i + 1))), .ref a])) (show o + 34 ≤ sz by omega)
        have fr2 : ∀ q, q < sz → (hset g1 sz (.inr (10, [.int (nI (stl b (i + 1))), .ref a]))) q = g q := fun q hq => (hset_n _ _ (by omega)).trans (fr1 q hq)
        have hbc2 := hbc.fr hDg fr2
        have hg2 := hg.fr hDg fr2
        have em2 : (hset g1 sz (.inr (10, [.int (nI (stl b (i + 1))), .ref a]))) sz = some (.inr (10, [.int (nI (stl b (i + 1))), .ref a])) := hset_s _ _ _
        have hr2 := hr1.m (c := .inr (10, [.int (nI (stl b (i + 1))), .ref a])) em1 (by decide)
        refine aw_callV C ck0 (ev_wins hG l hB hSp2 hbc2 hg2 hA hm9 (by omega) (hx1.2.2.2.trans hcu) hPO hK hr2) q879 q881 qs11 q95 q882 (ch_at (i := 0) rfl) (n9 := 1) (by decide +kernel) rfl (Nat.le_of_ble_eq_true rfl) (Nat.le_of_ble_eq_true rfl) (by dsimp only; omega) (by dsimp only; omega) rfl (Nat.le_of_ble_eq_true rfl) dX1_winningMoves_26 (fun _ _ _ z => z.elim) (fun v9 h4 s4 hp => ?_)
        obtain ⟨rfl, w1, w2, u4, g4, rfl, hx4, q4, hr4, hSp4⟩ := hp
        refine aw_top (show _ = nI (if decide ((BB (nxB b i)).1 ^^^ nxB b i 2 % 2 = 0) = true then 1 else 0) from by simp only [decide_eq_true_eq]) ?_
        refine aw_bit_eq0 C (tgt := 36) dX1_winningMoves_29 (by decide) (fun g29 => ?_) (fun g29 => ?_)
        · refine aw_iconst C (v := nI 0) (by decide) dX1_winningMoves_36 ?_
          refine aw_iaddN C dX1_winningMoves_37 ?_
          refine aw_istore_n C rfl (by decide) rfl dX1_winningMoves_38 ?_
          refine aw_goto C (tgt := 10) dX1_winningMoves_39 (by decide) ?_
          refine aw_lo (aw_kn (ih (stl b (i + 1)) u4 g4 s4 s1' (hx1.tr hx4) (fun q hq => (q4 q (by omega)).trans (fr2 q hq)) ((q4 sz (by omega)).trans em2) hr4 hSp4 (by omega) (by rw [s2']; omega) (by rw [s2']; omega)) (by rw [s2']; omega) (by rw [s2', hmul]; omega)) ⟨rfl, ?_, rfl, trivial⟩
          rw [s4']
          first
          | (rw [if_pos (of_decide_eq_true g29)]; rfl)
          | (rw [if_neg (of_decide_eq_false g29)]; rfl)
        · refine aw_iconst C (v := nI 1) (by decide) dX1_winningMoves_32 ?_
          refine aw_goto C (tgt := 37) dX1_winningMoves_33 (by decide) ?_
          refine aw_iaddN C dX1_winningMoves_37 ?_
          refine aw_istore_n C rfl (by decide) rfl dX1_winningMoves_38 ?_
          refine aw_goto C (tgt := 10) dX1_winningMoves_39 (by decide) ?_
          refine aw_lo (aw_kn (ih (stl b (i + 1)) u4 g4 s4 s1' (hx1.tr hx4) (fun q hq => (q4 q (by omega)).trans (fr2 q hq)) ((q4 sz (by omega)).trans em2) hr4 hSp4 (by omega) (by rw [s2']; omega) (by rw [s2']; omega)) (by rw [s2']; omega) (by rw [s2', hmul]; omega)) ⟨rfl, ?_, rfl, trivial⟩
          rw [s4']
          first
          | (rw [if_pos (of_decide_eq_true g29)]; rfl)
          | (rw [if_neg (of_decide_eq_false g29)]; rfl)
  refine aw_iconst C (v := nI 0) (by decide) dX1_winningMoves_0 ?_
  refine aw_istore_n C rfl (by decide) rfl dX1_winningMoves_1 ?_
  refine aw_aload_n C rfl rfl dX1_winningMoves_2 ?_
  refine aw_getf C ck0 1 (by decide) q665 (fun _ z => z) (ch_at (i := 0) rfl) rfl dX1_winningMoves_3 ?_
  refine aw_topV (congrArg Value.ref hcu) ?_
  refine aw_callVPv C ck2 (mo_all hG l hU hI (hb.le (ch_le hSp)) hA.1 hA.2.2.2.1 hD0) q801 q802 q803 q97 q804 ((ch_le hSp _ _ eb)) (n9 := 0) (by decide +kernel) rfl (Nat.le_of_ble_eq_true rfl) (Nat.le_of_ble_eq_true rfl) (by dsimp only; omega) (by dsimp only; omega) rfl (Nat.le_of_ble_eq_true rfl) dX1_winningMoves_6 ?_
  rw [ch_new _ hsz]
  refine aw_astore_n C rfl (by decide) rfl dX1_winningMoves_9 ?_
  obtain ⟨p1, p2, p3, p4⟩ := pl_0 hA.1
  refine aw_lo (aw_kn (key (cnM b + 1) (stl b 0) u (hset g sz (.inr (10, [.int (nI (stl b 0)), .ref a]))) (sz + 1) p1 (SX.rf u) (fun q hq => hset_n _ _ (by omega)) (hset_s _ _ _) (hR.le2 (HLE.push hDg _)) (hSp.new _ hsz) (Nat.le_refl _) (by omega) (by omega)) (by rw [p2]) (by rw [p2]; rfl)) ⟨rfl, by rw [p4]; rfl, rfl, trivial⟩
