/-! boards: pass, makes -/
set_option maxRecDepth 100000 in
theorem bm_pass {γ : Gm} (hG : GF γ) (l : Launch) {h : AH} {sz : Nat} {mi : Nat} (hB : GBO γ mi) {s0 a gr : Nat} {b : BT} {cap : Nat} (hb : BC h s0 a gr b cap) (hs : GRS h s0 gr b) (hW : WB b) (hY : SY b) (hD : Dm h sz) (hm9 : b 3 ≤ 4096) (hc9 : cap ≤ 8200) (hp0 : 0 < b 2) (hp9 : b 2 ≤ 9) {gs : Nat} (hgs : b 3 = cap → (nwL cap (b 3 + 1 - cap) (cap >>> 1)) ≤ gs) : MX γ l yX3_pass cX3_pass 1 none 8 193 2 (4 + gs) [.ref a] h sz (fun v9 h' sz' => v9 = none ∧ sz < sz' ∧ sz' ≤ sz + 2 ∧ (∀ q, q < s0 → h' q = h q) ∧ ∃ cap', (cap' = cap ∧ b 3 < cap ∨ cap' = (nwL cap (b 3 + 1 - cap) (cap >>> 1)) ∧ b 3 = cap) ∧ BC h' s0 a gr (passM b) cap') NX := by
  refine mx_start hG (by decide) (Nat.le_of_ble_eq_true rfl) (fun x C => ?_)
  obtain ⟨ca, ba, ac, a0, a1, li, el, mo, fc, fb, f, hX⟩ := hb
  obtain ⟨hs0, ea, eca, eba, eac, ea0, ea1, eli, eel, ⟨hCN, hMc, hcap, hcm⟩, hmv, hfc, hfb⟩ := id hX
  obtain ⟨ap, hzp, hap⟩ := acR_p (b := b) (a0 := a0) (a1 := a1)
  have eap : h ap = some (.inr (4, acF b (b 3 % 2))) := by
    rcases hap with ⟨q1, q2⟩ | ⟨q1, q2⟩
    · rw [q1, q2]; exact ea0
    · rw [q1, q2]; exact ea1
  have hsp : s0 ≤ ap := by rcases hap with ⟨q1, -⟩ | ⟨q1, -⟩ <;> omega
  have lap := hD.lt eap
  have hN := hW.2.1
  obtain ⟨gl, gn, fl, fn, hgs0, eg, egl, egn, hgl, hgn⟩ := id hs
  have n_a_ap : a ≠ ap := ne9 ea eap (by intro z; cases z)
  have n_ca_ap : ca ≠ ap := ne9 eca eap (by intro z; cases z)
  have n_ba_ap : ba ≠ ap := ne9 eba eap (by intro z; cases z)
  have n_ac_ap : ac ≠ ap := ne9 eac eap (by intro z; cases z)
  have n_li_ap : li ≠ ap := ne9 eli eap (by intro z; cases z)
  have n_el_ap : el ≠ ap := ne9 eel eap (by intro z; cases z)
  have n_a_ca : a ≠ ca := ne9 ea eca (by intro z; cases z)
  have n_a_ba : a ≠ ba := ne9 ea eba (by intro z; cases z)
  have n_ac_ca : ac ≠ ca := ne9 eac eca (by intro z; cases z)
  have n_ac_ba : ac ≠ ba := ne9 eac eba (by intro z; cases z)
  have n_a0_ca : a0 ≠ ca := ne9 ea0 eca (by intro z; cases z)
  have n_a0_ba : a0 ≠ ba := ne9 ea0 eba (by intro z; cases z)
  have n_a1_ca : a1 ≠ ca := ne9 ea1 eca (by intro z; cases z)
  have n_a1_ba : a1 ≠ ba := ne9 ea1 eba (by intro z; cases z)
  have n_li_ca : li ≠ ca := ne9 eli eca (by intro z; cases z)
  have n_li_ba : li ≠ ba := ne9 eli eba (by intro z; cases z)
  have n_el_ca : el ≠ ca := ne9 eel eca (by intro z; cases z)
  have n_el_ba : el ≠ ba := ne9 eel eba (by intro z; cases z)
  have hE := hX.el
  have hb0 := hX.y.brd hs.g
  have n_ca_a : ca ≠ a := ne9 eca ea (by intro z; cases z)
  have n_ba_a : ba ≠ a := ne9 eba ea (by intro z; cases z)
  have n_ac_a : ac ≠ a := ne9 eac ea (by intro z; cases z)
  have n_a0_a : a0 ≠ a := ne9 ea0 ea (by intro z; cases z)
  have n_a1_a : a1 ≠ a := ne9 ea1 ea (by intro z; cases z)
  have n_li_a : li ≠ a := ne9 eli ea (by intro z; cases z)
  have n_el_a : el ≠ a := ne9 eel ea (by intro z; cases z)
  refine aw_aload_n C rfl rfl dX3_pass_0 ?_
  refine aw_dup C rfl dX3_pass_1 ?_
  refine aw_getf C ck2 5 (by decide) q623 (fun _ z => z) ea rfl dX3_pass_2 ?_
  refine aw_iconst C (v := nI 1) (by decide) dX3_pass_5 ?_
  refine aw_isubN C (by omega) dX3_pass_6 ?_
  refine aw_putf C ck2 5 (by decide) q623 (fun _ z => z) rfl rfl (ty := .int) rfl rfl ea (show 5 < 7 by decide) dX3_pass_7 ?_
  refine aw_aload_n C rfl rfl dX3_pass_10 ?_
  refine aw_getf C ck2 3 (by decide) q619 (fun _ z => z) (hset_s _ _ _) rfl dX3_pass_11 ?_
  refine aw_aload_n C rfl rfl dX3_pass_14 ?_
  refine aw_getf C ck2 6 (by decide) q627 (fun _ z => z) (hset_s _ _ _) rfl dX3_pass_15 ?_
  refine aw_aaldS C (t := 6) (by decide) rfl ((hset_n _ _ n_ac_a).trans eac) (show b 3 % 2 < 2 by omega) (by decide) hzp dX3_pass_18 ?_
  refine aw_dup C rfl dX3_pass_19 ?_
  refine aw_getfN C ck4 1 (by decide) q245 (fun _ z => z) ((hset_n _ _ n_a_ap.symm).trans eap) rfl dX3_pass_20 ?_
  refine aw_iconst C (v := nI 1) (by decide) dX3_pass_23 ?_
  refine aw_iaddN C dX3_pass_24 ?_
  refine aw_putfN C ck4 1 (by decide) q245 (fun _ z => z) rfl rfl (ty := .int) rfl rfl ((hset_n _ _ n_a_ap.symm).trans eap) (show 1 < 5 by decide) dX3_pass_25 ?_
  refine aw_gh (fun h3 eh3 => ?_)
  have hfr3 : ∀ q, q < s0 → h3 q = h q := fun q hq => by rw [eh3, hset_n _ _ (by omega), hset_n _ _ (by omega)]
  have p2 : h3 ap = some (.inr (4, [.int (nI (accS b (b 3 % 2) 0 (b 3))), .int (nI (accS b (b 3 % 2) 1 (b 3) + 1)), .int (nI (accS b (b 3 % 2) 2 (b 3))), .int (nI (accS b (b 3 % 2) 3 (b 3))), .int (nI (accC b (b 3 % 2) (b 3)))])) := by rw [eh3, hset_s]; rfl
  have pa : h3 a = some (.inr (2, [.ref gr, .ref ca, .ref ba, .ref ac, .ref li, .int (nI (b 2 - 1)), .int (nI (b 3 % 2))])) := by rw [eh3, hset_n _ _ n_a_ap, hset_s]; rfl
  have p1 : ∀ q, q ≠ ap → q ≠ a → h3 q = h q := fun q q1 q2 => by rw [eh3, hset_n _ _ q1, hset_n _ _ q2]
  have hD3 : Dm h3 sz := by
    rw [eh3]
    exact (hD.set _ (hD.lt ea)).set _ lap
  clear eh3
  obtain ⟨B0, B1, eB0, eB1, hB0, hB1⟩ : ∃ B0 B1, h3 a0 = some (.inr (4, B0)) ∧ h3 a1 = some (.inr (4, B1)) ∧ B0 = acF (passM b) 0 ∧ B1 = acF (passM b) 1 := by
    rw [acF_pass hN, acF_pass hN]
    rcases hap with ⟨q1, q2⟩ | ⟨q1, q2⟩
    · rw [q2] at p2 ⊢
      exact ⟨_, _, by rw [← q1]; exact p2, (p1 a1 (fun z => hs0.2.2.2.2.2.2.2.2.2 (q1.symm.trans z.symm)) n_a1_a).trans ea1, rfl, rfl⟩
    · rw [q2] at p2 ⊢
      exact ⟨_, _, (p1 a0 (fun z => hs0.2.2.2.2.2.2.2.2.2 (z.trans q1)) n_a0_a).trans ea0, by rw [← q1]; exact p2, rfl, rfl⟩
  have hy3 : BY h3 s0 a gr (updN b 2 (b 2 - 1)) cap ca ba ac a0 a1 li el mo fc fb f B0 B1 := by
    refine ⟨hs0, pa, (p1 ca n_ca_ap n_ca_a).trans eca, (p1 ba n_ba_ap n_ba_a).trans eba, (p1 ac n_ac_ap n_ac_a).trans eac, eB0, eB1, (p1 li n_li_ap n_li_a).trans eli, (p1 el n_el_ap n_el_a).trans eel, ⟨hCN, hMc, hcap, hcm⟩, fun k hk => ?_, fun w hw => ?_, fun w hw hq => ?_⟩
    · obtain ⟨z, z1, z2⟩ := hmv k hk
      refine ⟨z, z1, (p1 z (ne9 z2 eap (by intro z; cases z)) (ne9 z2 ea (by intro z; cases z))).trans ?_⟩
      rw [show updN b 2 (b 2 - 1) (40 + k) = b (40 + k) from if_neg (by omega)]
      exact z2
    · rw [show updN b 2 (b 2 - 1) (22 + w) = b (22 + w) from if_neg (by omega)]
      exact hfc w hw
    · rw [show updN b 2 (b 2 - 1) (31 + w) = b (31 + w) from if_neg (by omega)]
      refine hfb w hw ?_
      unfold fr at hq ⊢
      rw [show updN b 2 (b 2 - 1) (22 + w) = b (22 + w) from if_neg (by omega)] at hq
      exact hq
  refine aw_aload_n C rfl rfl dX3_pass_28 ?_
  refine aw_iconst C (v := -1) (by decide) dX3_pass_29 ?_
  refine aw_iconst C (v := -1) (by decide) dX3_pass_30 ?_
  refine aw_callV C ck2 (bm_goesOn hG l hB (b := updN b 2 (b 2 - 1)) (A0 := B0) (A1 := B1) hy3 (GRS.st (st_up2 b _) hN (hs.fr hfr3)) (wb_low hW (fun k k2 _ _ => if_neg k2)) (sy_congr ((st_up2 b _).sg hN) hY) hD3 hm9 hc9 (vx := 0) (cx := 0) (by decide) (by decide) (by decide) (by decide) (gs := gs) hgs) q988 q990 qs15 q97 q991 pa (n9 := 2) (by decide +kernel) rfl (Nat.le_of_ble_eq_true rfl) (Nat.le_of_ble_eq_true rfl) (by dsimp only; omega) (by dsimp only; omega) rfl (Nat.le_of_ble_eq_true rfl) dX3_pass_31 (fun _ _ _ z => z.elim) (fun v9 h4 sz9 hp => ?_)
  obtain ⟨rfl, z1, z2, z3, z4⟩ := hp
  refine aw_vret C rfl dX3_pass_34 (by omega) (by omega) ?_
  obtain ⟨cap', el', mo', f', hcs, hy4⟩ := z4 0
  exact ⟨rfl, z1, z2, fun q hq => (z3 q hq).trans (hfr3 q hq), cap', hcs, BY.c hy4 hB0 hB1⟩
set_option maxRecDepth 100000 in
theorem bm_makes {γ : Gm} (hG : GF γ) (l : Launch) {h : AH} {sz : Nat} {mi : Nat} (hB : GBO γ mi) {s0 a gr : Nat} {b : BT} {cap : Nat} (hb : BC h s0 a gr b cap) (hs : GRS h s0 gr b) (hW : WB b) (hY : SY b) (hD : Dm h sz) (hm9 : b 3 ≤ 4096) (hc9 : cap ≤ 8200) (hp9 : b 2 ≤ 9) {m : Nat} {b2 : BT} (hmk : m = 100 ∧ 0 < b 2 ∧ b2 = passM b ∨ ∃ v c, m = 4 * v + c ∧ v < 9 ∧ c < b 1 ∧ (freeS b).testBit v = true ∧ b2 = layM b v c) {gs : Nat} (hgs : b 3 = cap → (nwL cap (b 3 + 1 - cap) (cap >>> 1)) ≤ gs) : MX γ l yX3_makes cX3_makes 2 none 9 218 2 (4 + gs) [.ref a, .int (nI m)] h sz (fun v9 h' sz' => v9 = none ∧ sz < sz' ∧ sz' ≤ sz + 2 ∧ (∀ q, q < s0 → h' q = h q) ∧ ∃ cap', (cap' = cap ∧ b 3 < cap ∨ cap' = (nwL cap (b 3 + 1 - cap) (cap >>> 1)) ∧ b 3 = cap) ∧ BC h' s0 a gr (b2) cap') NX := by
  refine mx_start hG (by decide) (Nat.le_of_ble_eq_true rfl) (fun x C => ?_)
  have hC3 := hW.2.2.2.1
  obtain ⟨ca, ba, ac, a0, a1, li, el, mo, fc, fb, f, hX⟩ := id hb
  have ea := hX.2.1
  have hm31 : m < 2 ^ 31 := by rcases hmk with h | ⟨v, c, e, h1, h2, -, -⟩ <;> omega
  refine aw_iload_n C rfl rfl dX3_makes_0 ?_
  refine aw_bipush C (v := nI 100) (by decide) dX3_makes_1 ?_
  refine aw_icmpN_ne C (tgt := 13) (by omega) (by omega) dX3_makes_3 (by decide) (fun g3 => ?_) (fun g3 => ?_)
  · obtain ⟨v, c, e, h1, h2, h3, rfl⟩ : ∃ v c, m = 4 * v + c ∧ v < 9 ∧ c < b 1 ∧ (freeS b).testBit v = true ∧ b2 = layM b v c := hmk.resolve_left (fun h => by omega)
    refine aw_aload_n C rfl rfl dX3_makes_13 ?_
    refine aw_iload_n C rfl rfl dX3_makes_14 ?_
    refine aw_iconst C (v := nI 4) (by decide) dX3_makes_15 ?_
    refine aw_idivN C (by omega) (by omega) (by omega) dX3_makes_16 ?_
    refine aw_top (show _ = nI v from by rw [show m / 4 = v by omega]) ?_
    refine aw_iload_n C rfl rfl dX3_makes_17 ?_
    refine aw_iconst C (v := nI 4) (by decide) dX3_makes_18 ?_
    refine aw_iremN C (by omega) (by omega) (by omega) dX3_makes_19 ?_
    refine aw_top (show _ = nI c from by rw [show m % 4 = c by omega]) ?_
    refine aw_callV C ck2 (bm_lay hG l hB hb hs hW hY hD hm9 hc9 h1 h2 h3 hgs) q1036 q1037 q1038 q97 q1039 ea (n9 := 2) (by decide +kernel) rfl (Nat.le_of_ble_eq_true rfl) (Nat.le_of_ble_eq_true rfl) (by dsimp only; omega) (by dsimp only; omega) rfl (Nat.le_of_ble_eq_true rfl) dX3_makes_20 (fun _ _ _ z => z.elim) (fun v9 h4 sz9 hp => ?_)
    obtain ⟨rfl, hp⟩ := hp
    refine aw_vret C rfl dX3_makes_23 (by omega) (by omega) ?_
    exact ⟨rfl, hp⟩
  · obtain ⟨-, h1, rfl⟩ : m = 100 ∧ 0 < b 2 ∧ b2 = passM b := by
      rcases hmk with h | ⟨v, c, e, h1, h2, -, -⟩
      · exact h
      · omega
    refine aw_aload_n C rfl rfl dX3_makes_6 ?_
    refine aw_callV C ck2 (bm_pass hG l hB hb hs hW hY hD hm9 hc9 h1 hp9 hgs) q984 q985 q986 q97 q987 ea (n9 := 0) (by decide +kernel) rfl (Nat.le_of_ble_eq_true rfl) (Nat.le_of_ble_eq_true rfl) (by dsimp only; omega) (by dsimp only; omega) rfl (Nat.le_of_ble_eq_true rfl) dX3_makes_7 (fun _ _ _ z => z.elim) (fun v9 h4 sz9 hp => ?_)
    obtain ⟨rfl, hp⟩ := hp
    refine aw_goto C (tgt := 23) dX3_makes_10 (by decide) ?_
    refine aw_vret C rfl dX3_makes_23 (by omega) (by omega) ?_
    exact ⟨rfl, hp⟩
