/-! boards: lay, pass, makes -/
theorem acR_p {b : BT} {a0 a1 : Nat} : ∃ ap, acR a0 a1 (b 3 % 2) = some ap ∧ (ap = a0 ∧ b 3 % 2 = 0 ∨ ap = a1 ∧ b 3 % 2 = 1) := by
  rcases Nat.mod_two_eq_zero_or_one (b 3) with e | e
  · exact ⟨a0, by rw [e]; rfl, Or.inl ⟨rfl, e⟩⟩
  · exact ⟨a1, by rw [e]; rfl, Or.inr ⟨rfl, e⟩⟩
theorem layB_2 (b : BT) (v c : Nat) {k : Nat} (hk : k < 22) : layB b v c k = b k := layB_n _ _ _ (by omega)
set_option maxRecDepth 100000 in
theorem bm_lay {γ : Gm} (hG : GF γ) (l : Launch) {h : AH} {sz : Nat} {mi : Nat} (hB : GBO γ mi) {s0 a gr : Nat} {b : BT} {cap : Nat} (hb : BC h s0 a gr b cap) (hs : GRS h s0 gr b) (hW : WB b) (hY : SY b) (hD : Dm h sz) (hm9 : b 3 ≤ 4096) (hc9 : cap ≤ 8200) {v c : Nat} (hv : v < 9) (hc1 : c < b 1) (hf : (freeS b).testBit v = true) {gs : Nat} (hgs : b 3 = cap → (nwL cap (b 3 + 1 - cap) (cap >>> 1)) ≤ gs) : MX γ l yX3_lay cX3_lay 6 none 8 193 2 (4 + gs) [.ref a, .int (nI v), .int (nI c)] h sz (fun v9 h' sz' => v9 = none ∧ sz < sz' ∧ sz' ≤ sz + 2 ∧ (∀ q, q < s0 → h' q = h q) ∧ ∃ cap', (cap' = cap ∧ b 3 < cap ∨ cap' = (nwL cap (b 3 + 1 - cap) (cap >>> 1)) ∧ b 3 = cap) ∧ BC h' s0 a gr (layM b v c) cap') NX := by
  refine mx_start hG (by decide) (Nat.le_of_ble_eq_true rfl) (fun x C => ?_)
  obtain ⟨ca, ba, ac, a0, a1, li, el, mo, fc, fb, f, hX⟩ := hb
  obtain ⟨hs0, ea, eca, eba, eac, ea0, ea1, eli, eel, ⟨hCN, hMc, hcap, hcm⟩, hmv, hfc, hfb⟩ := id hX
  obtain ⟨ap, hzp, hap⟩ := acR_p (b := b) (a0 := a0) (a1 := a1)
  have eap : h ap = some (.inr (4, acF b (b 3 % 2))) := by
    rcases hap with ⟨q1, q2⟩ | ⟨q1, q2⟩
    · rw [q1, q2]; exact ea0
    · rw [q1, q2]; exact ea1
  have hsp : s0 ≤ ap := by rcases hap with ⟨q1, -⟩ | ⟨q1, -⟩ <;> omega
  have lap := hD.lt eap
  have hN := hW.2.1
  obtain ⟨gl, gn, fl, fn, hgs0, eg, egl, egn, hgl, hgn⟩ := id hs
  have n_a_ap : a ≠ ap := ne9 ea eap (by intro z; cases z)
  have n_ca_ap : ca ≠ ap := ne9 eca eap (by intro z; cases z)
  have n_ba_ap : ba ≠ ap := ne9 eba eap (by intro z; cases z)
  have n_ac_ap : ac ≠ ap := ne9 eac eap (by intro z; cases z)
  have n_li_ap : li ≠ ap := ne9 eli eap (by intro z; cases z)
  have n_el_ap : el ≠ ap := ne9 eel eap (by intro z; cases z)
  have n_a_ca : a ≠ ca := ne9 ea eca (by intro z; cases z)
  have n_a_ba : a ≠ ba := ne9 ea eba (by intro z; cases z)
  have n_ac_ca : ac ≠ ca := ne9 eac eca (by intro z; cases z)
  have n_ac_ba : ac ≠ ba := ne9 eac eba (by intro z; cases z)
  have n_a0_ca : a0 ≠ ca := ne9 ea0 eca (by intro z; cases z)
  have n_a0_ba : a0 ≠ ba := ne9 ea0 eba (by intro z; cases z)
  have n_a1_ca : a1 ≠ ca := ne9 ea1 eca (by intro z; cases z)
  have n_a1_ba : a1 ≠ ba := ne9 ea1 eba (by intro z; cases z)
  have n_li_ca : li ≠ ca := ne9 eli eca (by intro z; cases z)
  have n_li_ba : li ≠ ba := ne9 eli eba (by intro z; cases z)
  have n_el_ca : el ≠ ca := ne9 eel eca (by intro z; cases z)
  have n_el_ba : el ≠ ba := ne9 eel eba (by intro z; cases z)
  have hE := hX.el
  have hb0 := hX.y.brd hs.g
  have hc : c < 3 := by have := hW.2.2.2.1; omega
  have hR := rch_lt (b := b) hv (freeS_lt hN)
  have hRb : nd (rch b v (freeS b)) (1 <<< v) < 2 ^ b 0 := by
    refine nd_lt (Nat.lt_of_le_of_lt (Nat.le_of_testBit fun i hi => ?_) (freeS_lt2 b))
    exact rch_sub hf hi
  have hRr := nd_lt (c := 1 <<< v) hR
  have hnp := npts_le (b := b) hRr
  have k76 : AW γ l x (QX γ x 2 (4 + gs) (fun v9 h' sz' => v9 = none ∧ sz < sz' ∧ sz' ≤ sz + 2 ∧ (∀ q, q < s0 → h' q = h q) ∧ ∃ cap', (cap' = cap ∧ b 3 < cap ∨ cap' = (nwL cap (b 3 + 1 - cap) (cap >>> 1)) ∧ b 3 = cap) ∧ BC h' s0 a gr (layM b v c) cap') NX) 6 (hset h ap (.inr (4, [.int (nI (accS b (b 3 % 2) 0 (b 3) + 1)), .int (nI (accS b (b 3 % 2) 1 (b 3))), .int (nI (accS b (b 3 % 2) 2 (b 3) + if 1 < npts b (nd (rch b v (freeS b)) (1 <<< v)) then 1 else 0)), .int (nI (accS b (b 3 % 2) 3 (b 3))), .int (nI (accC b (b 3 % 2) (b 3)))]))) sz 0 0 76 [(0, .ref a), (1, .int (nI v)), (2, .int (nI c)), (3, .int (nI (nd (rch b v (freeS b)) (1 <<< v)))), (4, .ref ap)] [.int (nI (if (nd (rch b v (freeS b)) (1 <<< v)) = 0 then 1 else 0)), .int (nI (accS b (b 3 % 2) 3 (b 3))), .ref ap] := by
    refine aw_iaddN C dX3_lay_76 ?_
    refine aw_putfN C ck4 3 (by decide) q249 (fun _ z => z) rfl rfl (ty := .int) rfl rfl (hset_s _ _ _) (show 3 < 5 by decide) dX3_lay_77 ?_
    rw [hset_hset]
    refine aw_aload C rfl dX3_lay_80 ?_
    refine aw_dup C rfl dX3_lay_82 ?_
    refine aw_getfN C ck4 4 (by decide) q251 (fun _ z => z) (hset_s _ _ _) rfl dX3_lay_83 ?_
    refine aw_iconst C (v := nI 1) (by decide) dX3_lay_86 ?_
    refine aw_iload_n C rfl rfl dX3_lay_87 ?_
    refine aw_ishlN C (by omega) dX3_lay_88 ?_
    refine aw_iorN C dX3_lay_89 ?_
    refine aw_putfN C ck4 4 (by decide) q251 (fun _ z => z) rfl rfl (ty := .int) rfl rfl (hset_s _ _ _) (show 4 < 5 by decide) dX3_lay_90 ?_
    rw [hset_hset]
    refine aw_gh (fun h1 eh1 => ?_)
    have p1 : ∀ q, q ≠ ap → h1 q = h q := fun q hq => by rw [eh1, hset_n _ _ hq]
    have p2 : h1 ap = some (.inr (4, [.int (nI (accS b (b 3 % 2) 0 (b 3) + 1)), .int (nI (accS b (b 3 % 2) 1 (b 3))), .int (nI (accS b (b 3 % 2) 2 (b 3) + if 1 < npts b (nd (rch b v (freeS b)) (1 <<< v)) then 1 else 0)), .int (nI (accS b (b 3 % 2) 3 (b 3) + if (nd (rch b v (freeS b)) (1 <<< v)) = 0 then 1 else 0)), .int (nI (accC b (b 3 % 2) (b 3) ||| 1 <<< c))])) := by rw [eh1, hset_s]; rfl
    clear eh1
    have hml : ∀ k, k < b 3 → layB b v c (40 + k) = b (40 + k) := fun k hk => by
      unfold layB layO banB
      rw [if_neg (by omega), if_neg (by omega)]
    have hlo : ∀ w, w < 9 → layB b v c (22 + w) = if w = v then c + 1 else b (22 + w) := fun w hw => by
      unfold layB layO banB
      by_cases e : w = v
      · rw [if_pos (by omega), if_pos e]
      · rw [if_neg (by omega), if_neg (by omega), if_neg e]
    have hlb : ∀ w, w < 9 → fr (layB b v c) w = true → layB b v c (31 + w) = if w < b 0 ∧ (nd (rch b v (freeS b)) (1 <<< v)).testBit w = true then c + 1 else b (31 + w) := fun w hw hq => by
      have hwv : ¬ w = v := fun e => by
        have := hlo w hw
        rw [if_pos e] at this
        rw [fr_t, this] at hq
        omega
      unfold layB layO banB
      rw [if_neg (by omega), nd_bit, sh1_bit]
      by_cases e : w < b 0 ∧ (rch b v (freeS b)).testBit w = true
      · rw [if_pos ⟨by omega, by omega, by rw [Nat.add_sub_cancel_left]; exact e.2⟩, if_pos ⟨e.1, by simp [e.2, hwv]⟩]
      · rw [if_neg (fun z => e ⟨by omega, by have := z.2.2; rw [Nat.add_sub_cancel_left] at this; exact this⟩), if_neg (fun z => e ⟨z.1, by have := z.2; simp at this; exact this.1⟩)]
    have key : ∀ j k g, k ≤ b 0 → b 0 + 1 ≤ k + j → (∀ i, i < k → g i = if (nd (rch b v (freeS b)) (1 <<< v)).testBit i = true then nI c else fb i) → (∀ i, k ≤ i → g i = fb i) → AW γ l x (QX γ x 2 (4 + gs) (fun v9 h' sz' => v9 = none ∧ sz < sz' ∧ sz' ≤ sz + 2 ∧ (∀ q, q < s0 → h' q = h q) ∧ ∃ cap', (cap' = cap ∧ b 3 < cap ∨ cap' = (nwL cap (b 3 + 1 - cap) (cap >>> 1)) ∧ b 3 = cap) ∧ BC h' s0 a gr (layM b v c) cap') NX) 6 (hset (hset h1 ca (.inl (0, 9, .inl (upd fc v (nI c))))) ba (.inl (0, 9, .inl g))) sz 0 0 103 [(0, .ref a), (1, .int (nI v)), (2, .int (nI c)), (3, .int (nI (nd (rch b v (freeS b)) (1 <<< v)))), (4, .ref ap), (5, .int (nI k))] [] := by
      intro j
      induction j with
      | zero => intro k g h1x h2 h3 h4; exact absurd h2 (by omega)
      | succ j ih =>
        intro k g h1x h2 h3 h4
        refine aw_iload C rfl dX3_lay_103 ?_
        refine aw_aload_n C rfl rfl dX3_lay_105 ?_
        refine aw_getf C ck2 0 (by decide) q609 (fun _ z => z) ((hset_n _ _ n_a_ba).trans ((hset_n _ _ n_a_ca).trans ((p1 a n_a_ap).trans ea))) rfl dX3_lay_106 ?_
        refine aw_getfN C ck3 3 (by decide) q213 (fun _ z => z) ((hset_n _ _ (by omega)).trans ((hset_n _ _ (by omega)).trans ((p1 gr (by omega)).trans eg))) rfl dX3_lay_109 ?_
        refine aw_icmpN_ge C (tgt := 148) (by omega) (by omega) dX3_lay_112 (by decide) (fun gN => ?_) (fun gN => ?_)
        · have hG9 : ∀ i, i < 9 → fr (layB b v c) i = true → g i = nI (layB b v c (31 + i)) - nI 1 := fun i hi hq => by
            have hfi : fr b i = true := by
              have hq2 := hq
              rw [fr_t, hlo i hi] at hq2
              by_cases e : i = v
              · rw [if_pos e] at hq2
                omega
              · rw [if_neg e] at hq2
                exact fr_t.mpr hq2
            rw [hlb i hi hq]
            by_cases e : i < k
            · rw [h3 i e]
              by_cases q : (nd (rch b v (freeS b)) (1 <<< v)).testBit i = true
              · rw [if_pos q, if_pos ⟨by omega, q⟩]
                exact pk_s c
              · rw [if_neg q, if_neg (fun z => q z.2)]
                exact hfb i hi hfi
            · rw [h4 i (by omega), if_neg (fun z => e (by omega))]
              exact hfb i hi hfi
          have hgN : ∀ i, i < 9 → fr (layB b v c) i = true → g i = nI (layB b v c (31 + i)) - nI 1 := hG9
          have hfr3 : ∀ q, q < s0 → (hset (hset h1 ca (.inl (0, 9, .inl (upd fc v (nI c))))) ba (.inl (0, 9, .inl g))) q = h q := fun q hq => by
            rw [hset_n _ _ (by omega), hset_n _ _ (by omega)]
            exact p1 q (by omega)
          have hX9 := hX.2.1
          obtain ⟨B0, B1, eB0, eB1, hB0, hB1⟩ : ∃ B0 B1, h1 a0 = some (.inr (4, B0)) ∧ h1 a1 = some (.inr (4, B1)) ∧ B0 = acF (layM b v c) 0 ∧ B1 = acF (layM b v c) 1 := by
            rw [acF_lay hN (by omega) (by omega), acF_lay hN (by omega) (by omega)]
            rcases hap with ⟨q1, q2⟩ | ⟨q1, q2⟩
            · rw [q2] at p2 ⊢
              exact ⟨_, _, by rw [← q1]; exact p2, (p1 a1 (fun z => hs0.2.2.2.2.2.2.2.2.2 (q1.symm.trans z.symm))).trans ea1, rfl, rfl⟩
            · rw [q2] at p2 ⊢
              exact ⟨_, _, (p1 a0 (fun z => hs0.2.2.2.2.2.2.2.2.2 (z.trans q1))).trans ea0, by rw [← q1]; exact p2, rfl, rfl⟩
          have hD3 : Dm (hset (hset h1 ca (.inl (0, 9, .inl (upd fc v (nI c))))) ba (.inl (0, 9, .inl g))) sz := by
            have lca := hD.lt eca
            have lba := hD.lt eba
            refine Dm.set (Dm.set (fun q hq => ?_) _ lca) _ lba
            by_cases e : q = ap
            · omega
            · rw [p1 q e] at hq
              exact hD q hq
          have hy3 : BY (hset (hset h1 ca (.inl (0, 9, .inl (upd fc v (nI c))))) ba (.inl (0, 9, .inl g))) s0 a gr (layB b v c) cap ca ba ac a0 a1 li el mo (upd fc v (nI c)) g f B0 B1 := by
            have e2 := layB_2 b v c (k := 2) (by omega)
            have e3 := layB_2 b v c (k := 3) (by omega)
            unfold BY
            rw [e2, e3]
            refine ⟨hs0, ?_, ?_, hset_s _ _ _, ?_, ?_, ?_, ?_, ?_, ⟨hCN, hMc, hcap, hcm⟩, fun k hk => ?_, fun w hw => ?_, hgN⟩
            · rw [hset_n _ _ n_a_ba, hset_n _ _ n_a_ca]
              exact (p1 a n_a_ap).trans ea
            · rw [hset_n _ _ hs0.2.2.2.2.2.2.2.2.1, hset_s]
            · rw [hset_n _ _ n_ac_ba, hset_n _ _ n_ac_ca]
              exact (p1 ac n_ac_ap).trans eac
            · rw [hset_n _ _ n_a0_ba, hset_n _ _ n_a0_ca]
              exact eB0
            · rw [hset_n _ _ n_a1_ba, hset_n _ _ n_a1_ca]
              exact eB1
            · rw [hset_n _ _ n_li_ba, hset_n _ _ n_li_ca]
              exact (p1 li n_li_ap).trans eli
            · rw [hset_n _ _ n_el_ba, hset_n _ _ n_el_ca]
              exact (p1 el n_el_ap).trans eel
            · obtain ⟨z, z1, z2⟩ := hmv k hk
              refine ⟨z, z1, ?_⟩
              rw [hset_n _ _ (ne9 z2 eba (by intro z; cases z)), hset_n _ _ (ne9 z2 eca (by intro z; cases z)), p1 z (ne9 z2 eap (by intro z; cases z)), hml k hk]
              exact z2
            · rw [hlo w hw]
              by_cases e : w = v
              · rw [e, if_pos rfl]
                show upd fc v (nI c) v = _
                rw [pk_us]
                exact pk_s c
              · rw [if_neg e]
                show upd fc v (nI c) w = _
                rw [pk_un e]
                exact hfc w hw
          refine aw_aload_n C rfl rfl dX3_lay_148 ?_
          refine aw_iload_n C rfl rfl dX3_lay_149 ?_
          refine aw_iload_n C rfl rfl dX3_lay_150 ?_
          refine aw_callV C ck2 (bm_goesOn hG l hB (b := layB b v c) (A0 := B0) (A1 := B1) hy3 (GRS.st (st_layB b v c) hN (hs.fr hfr3)) (wb_layB hW hc1) (sy_congr ((st_layB b v c).sg hN) hY) hD3 (by rw [layB_2 _ _ _ (by omega)]; exact hm9) hc9 (vx := v + 1) (cx := c + 1) (by omega) (by omega) (pk_s v) (pk_s c) (gs := gs) (by rw [layB_2 _ _ _ (by omega)]; exact hgs)) q988 q990 qs15 q97 q991 ((hset_n _ _ n_a_ba).trans ((hset_n _ _ n_a_ca).trans ((p1 a n_a_ap).trans ea))) (n9 := 2) (by decide +kernel) rfl (Nat.le_of_ble_eq_true rfl) (Nat.le_of_ble_eq_true rfl) (by dsimp only; omega) (by dsimp only; omega) rfl (Nat.le_of_ble_eq_true rfl) dX3_lay_151 (fun _ _ _ z => z.elim) (fun v9 h4 sz9 hp => ?_)
          obtain ⟨rfl, z1, z2, z3, z4⟩ := hp
          refine aw_vret C rfl dX3_lay_154 (by omega) (by omega) ?_
          obtain ⟨cap', el', mo', f', hcs, hy4⟩ := z4 (npts (layB b v c) (nd (rch b v (freeS b)) (1 <<< v)))
          rw [layB_2 _ _ _ (by omega)] at hcs
          exact ⟨rfl, z1, z2, fun q hq => (z3 q hq).trans (hfr3 q hq), cap', hcs, BY.c hy4 hB0 hB1⟩
        · refine aw_aload_n C rfl rfl dX3_lay_115 ?_
          refine aw_getf C ck2 2 (by decide) q616 (fun _ z => z) ((hset_n _ _ n_a_ba).trans ((hset_n _ _ n_a_ca).trans ((p1 a n_a_ap).trans ea))) rfl dX3_lay_116 ?_
          refine aw_iload C rfl dX3_lay_119 ?_
          refine aw_iload_n C rfl rfl dX3_lay_121 ?_
          refine aw_iload C rfl dX3_lay_122 ?_
          refine aw_callSNR C (cp_has hG l (by omega) (by omega)) q741 q154 q95 q155 (n9 := 2) (by decide +kernel) rfl (Nat.le_of_ble_eq_true rfl) (Nat.le_of_ble_eq_true rfl) (by dsimp only; omega) (by dsimp only; omega) rfl (Nat.le_of_ble_eq_true rfl) dX3_lay_124 ?_
          refine aw_bit_eq0 C (tgt := 134) dX3_lay_127 (by decide) (fun gB => ?_) (fun gB => ?_)
          · refine aw_aload_n C rfl rfl dX3_lay_134 ?_
            refine aw_getf C ck2 2 (by decide) q616 (fun _ z => z) ((hset_n _ _ n_a_ba).trans ((hset_n _ _ n_a_ca).trans ((p1 a n_a_ap).trans ea))) rfl dX3_lay_135 ?_
            refine aw_iload C rfl dX3_lay_138 ?_
            refine aw_ialdN C (hset_s _ _ _) (by omega) (by decide) dX3_lay_140 ?_
            refine aw_iastN C (hset_s _ _ _) (by omega) (by decide) dX3_lay_141 ?_
            rw [hset_hset]
            refine aw_iinc1 C rfl (by decide) rfl dX3_lay_142 ?_
            refine aw_goto C (tgt := 103) dX3_lay_145 (by decide) ?_
            refine aw_lo (ih (k + 1) _ (by omega) (by omega) (fun i hi => ?_) (fun i hi => ?_)) ⟨rfl, rfl, rfl, rfl, rfl, rfl, trivial⟩
            · by_cases e : i = k
              · rw [e]
                show upd g k _ k = _
                rw [pk_us]
                first | rw [if_pos gB] | rw [if_neg (by rw [gB]; decide)]; exact h4 k (Nat.le_refl _)
              · show upd g k _ i = _
                rw [pk_un e]
                exact h3 i (by omega)
            · show upd g k _ i = _
              rw [pk_un (by omega)]
              exact h4 i (by omega)
          · refine aw_iload_n C rfl rfl dX3_lay_130 ?_
            refine aw_goto C (tgt := 141) dX3_lay_131 (by decide) ?_
            refine aw_iastN C (hset_s _ _ _) (by omega) (by decide) dX3_lay_141 ?_
            rw [hset_hset]
            refine aw_iinc1 C rfl (by decide) rfl dX3_lay_142 ?_
            refine aw_goto C (tgt := 103) dX3_lay_145 (by decide) ?_
            refine aw_lo (ih (k + 1) _ (by omega) (by omega) (fun i hi => ?_) (fun i hi => ?_)) ⟨rfl, rfl, rfl, rfl, rfl, rfl, trivial⟩
            · by_cases e : i = k
              · rw [e]
                show upd g k _ k = _
                rw [pk_us]
                first | rw [if_pos gB] | rw [if_neg (by rw [gB]; decide)]; exact h4 k (Nat.le_refl _)
              · show upd g k _ i = _
                rw [pk_un e]
                exact h3 i (by omega)
            · show upd g k _ i = _
              rw [pk_un (by omega)]
              exact h4 i (by omega)
    refine aw_aload_n C rfl rfl dX3_lay_93 ?_
    refine aw_getf C ck2 1 (by decide) q614 (fun _ z => z) ((p1 a n_a_ap).trans ea) rfl dX3_lay_94 ?_
    refine aw_iload_n C rfl rfl dX3_lay_97 ?_
    refine aw_iload_n C rfl rfl dX3_lay_98 ?_
    refine aw_iastN C ((p1 ca n_ca_ap).trans eca) (by omega) (by decide) dX3_lay_99 ?_
    refine aw_iconst C (v := nI 0) (by decide) dX3_lay_100 ?_
    refine aw_istore C (by decide) rfl dX3_lay_101 ?_
    have e9 : hset h1 ca (.inl (0, 9, .inl (upd fc v (nI c)))) = hset (hset h1 ca (.inl (0, 9, .inl (upd fc v (nI c))))) ba (.inl (0, 9, .inl fb)) := (hset_self ((hset_n _ _ hs0.2.2.2.2.2.2.2.2.1.symm).trans ((p1 ba n_ba_ap).trans eba))).symm
    refine aw_hp e9 (aw_lo (key (b 0 + 1) 0 fb (Nat.zero_le _) (by omega) (fun i hi => absurd hi (Nat.not_lt_zero i)) (fun _ _ => rfl)) ⟨rfl, rfl, rfl, rfl, rfl, rfl, trivial⟩)
  have k57 : AW γ l x (QX γ x 2 (4 + gs) (fun v9 h' sz' => v9 = none ∧ sz < sz' ∧ sz' ≤ sz + 2 ∧ (∀ q, q < s0 → h' q = h q) ∧ ∃ cap', (cap' = cap ∧ b 3 < cap ∨ cap' = (nwL cap (b 3 + 1 - cap) (cap >>> 1)) ∧ b 3 = cap) ∧ BC h' s0 a gr (layM b v c) cap') NX) 6 (hset h ap (.inr (4, [.int (nI (accS b (b 3 % 2) 0 (b 3) + 1)), .int (nI (accS b (b 3 % 2) 1 (b 3))), .int (nI (accS b (b 3 % 2) 2 (b 3))), .int (nI (accS b (b 3 % 2) 3 (b 3))), .int (nI (accC b (b 3 % 2) (b 3)))]))) sz 0 0 57 [(0, .ref a), (1, .int (nI v)), (2, .int (nI c)), (3, .int (nI (nd (rch b v (freeS b)) (1 <<< v)))), (4, .ref ap)] [.int (nI (if 1 < npts b (nd (rch b v (freeS b)) (1 <<< v)) then 1 else 0)), .int (nI (accS b (b 3 % 2) 2 (b 3))), .ref ap] := by
    refine aw_iaddN C dX3_lay_57 ?_
    refine aw_putfN C ck4 2 (by decide) q247 (fun _ z => z) rfl rfl (ty := .int) rfl rfl (hset_s _ _ _) (show 2 < 5 by decide) dX3_lay_58 ?_
    rw [hset_hset]
    refine aw_aload C rfl dX3_lay_61 ?_
    refine aw_dup C rfl dX3_lay_63 ?_
    refine aw_getfN C ck4 3 (by decide) q249 (fun _ z => z) (hset_s _ _ _) rfl dX3_lay_64 ?_
    refine aw_iload_n C rfl rfl dX3_lay_67 ?_
    refine aw_ifN_ne C (tgt := 75) (by omega) dX3_lay_68 (by decide) (fun g68 => ?_) (fun g68 => ?_)
    · refine aw_iconst C (v := nI 0) (by decide) dX3_lay_75 ?_
      refine aw_top (show _ = (nI (if (nd (rch b v (freeS b)) (1 <<< v)) = 0 then 1 else 0)) from by first | rw [if_pos g68] | rw [if_neg g68]) ?_
      exact aw_lo k76 ⟨rfl, rfl, rfl, rfl, rfl, trivial⟩
    · refine aw_iconst C (v := nI 1) (by decide) dX3_lay_71 ?_
      refine aw_goto C (tgt := 76) dX3_lay_72 (by decide) ?_
      refine aw_top (show _ = (nI (if (nd (rch b v (freeS b)) (1 <<< v)) = 0 then 1 else 0)) from by first | rw [if_pos g68] | rw [if_neg g68]) ?_
      exact aw_lo k76 ⟨rfl, rfl, rfl, rfl, rfl, trivial⟩
  refine aw_aload_n C rfl rfl dX3_lay_0 ?_
  refine aw_iload_n C rfl rfl dX3_lay_1 ?_
  refine aw_callVRR C ck2 (bd_partSet hG l hb0 hW hv) q1040 q834 q835 q97 q836 (Or.inl ea) (n9 := 1) (by decide +kernel) rfl (Nat.le_of_ble_eq_true rfl) (Nat.le_of_ble_eq_true rfl) (by dsimp only; omega) (by dsimp only; omega) rfl (Nat.le_of_ble_eq_true rfl) dX3_lay_2 ?_
  refine aw_iconst C (v := nI 1) (by decide) dX3_lay_5 ?_
  refine aw_iload_n C rfl rfl dX3_lay_6 ?_
  refine aw_ishlN C (by omega) dX3_lay_7 ?_
  refine aw_iconst C (v := -1) (by decide) dX3_lay_8 ?_
  refine aw_ixor C dX3_lay_9 ?_
  refine aw_iandNot C dX3_lay_10 ?_
  refine aw_istore_n C rfl (by decide) rfl dX3_lay_11 ?_
  refine aw_aload_n C rfl rfl dX3_lay_12 ?_
  refine aw_getf C ck2 3 (by decide) q619 (fun _ z => z) ea rfl dX3_lay_13 ?_
  refine aw_aload_n C rfl rfl dX3_lay_16 ?_
  refine aw_getf C ck2 6 (by decide) q627 (fun _ z => z) ea rfl dX3_lay_17 ?_
  refine aw_aaldS C (t := 6) (by decide) rfl eac (show b 3 % 2 < 2 by omega) (by decide) hzp dX3_lay_20 ?_
  refine aw_astore C (by decide) rfl dX3_lay_21 ?_
  refine aw_aload C rfl dX3_lay_23 ?_
  refine aw_dup C rfl dX3_lay_25 ?_
  refine aw_getfN C ck4 0 (by decide) q243 (fun _ z => z) eap rfl dX3_lay_26 ?_
  refine aw_iconst C (v := nI 1) (by decide) dX3_lay_29 ?_
  refine aw_iaddN C dX3_lay_30 ?_
  refine aw_putfN C ck4 0 (by decide) q243 (fun _ z => z) rfl rfl (ty := .int) rfl rfl eap (show 0 < 5 by decide) dX3_lay_31 ?_
  refine aw_aload C rfl dX3_lay_34 ?_
  refine aw_dup C rfl dX3_lay_36 ?_
  refine aw_getfN C ck4 2 (by decide) q247 (fun _ z => z) (hset_s _ _ _) rfl dX3_lay_37 ?_
  refine aw_aload_n C rfl rfl dX3_lay_40 ?_
  refine aw_getf C ck2 0 (by decide) q609 (fun _ z => z) ((hset_n _ _ n_a_ap).trans ea) rfl dX3_lay_41 ?_
  refine aw_iload_n C rfl rfl dX3_lay_44 ?_
  refine aw_callVRR C ck3 (bd_countParts hG l (hs.fr (fun q hq => hset_n _ _ (by omega))).g hN hY hRb) q994 q995 q996 q98 q997 (Or.inl ((hset_n _ _ (by omega)).trans eg)) (n9 := 1) (by decide +kernel) rfl (Nat.le_of_ble_eq_true rfl) (Nat.le_of_ble_eq_true rfl) (by dsimp only; omega) (by dsimp only; omega) rfl (Nat.le_of_ble_eq_true rfl) dX3_lay_45 ?_
  refine aw_iconst C (v := nI 1) (by decide) dX3_lay_48 ?_
  refine aw_icmpN_le C (tgt := 56) (by omega) (by omega) dX3_lay_49 (by decide) (fun g49 => ?_) (fun g49 => ?_)
  · refine aw_iconst C (v := nI 0) (by decide) dX3_lay_56 ?_
    refine aw_top (show _ = (nI (if 1 < npts b (nd (rch b v (freeS b)) (1 <<< v)) then 1 else 0)) from by first | rw [if_pos (by omega)] | rw [if_neg (by omega)]) ?_
    exact aw_lo k57 ⟨rfl, rfl, rfl, rfl, rfl, trivial⟩
  · refine aw_iconst C (v := nI 1) (by decide) dX3_lay_52 ?_
    refine aw_goto C (tgt := 57) dX3_lay_53 (by decide) ?_
    refine aw_top (show _ = (nI (if 1 < npts b (nd (rch b v (freeS b)) (1 <<< v)) then 1 else 0)) from by first | rw [if_pos (by omega)] | rw [if_neg (by omega)]) ?_
    exact aw_lo k57 ⟨rfl, rfl, rfl, rfl, rfl, trivial⟩
