/-! boards: moves are made -/
theorem ne9 {h : AH} {p q : Nat} {c d : va_E} (h1 : h p = some c) (h2 : h q = some d) (hc : c ≠ d) : p ≠ q := fun e => by
  rw [e, h2] at h1
  exact hc (Option.some.inj h1).symm
/-- a board with accounts of their own -/
def BY (h : AH) (s0 a gr : Nat) (b : BT) (cap ca ba ac a0 a1 li el : Nat) (mo : Int32) (fc fb : Nat → Int32) (f : Nat → Option Nat) (A0 A1 : List Value) : Prop := (s0 ≤ a ∧ s0 ≤ ca ∧ s0 ≤ ba ∧ s0 ≤ ac ∧ s0 ≤ a0 ∧ s0 ≤ a1 ∧ s0 ≤ li ∧ s0 ≤ el ∧ ca ≠ ba ∧ a0 ≠ a1) ∧
  h a = some (.inr (2, [.ref gr, .ref ca, .ref ba, .ref ac, .ref li, .int (nI (b 2)), .int (nI (b 3 % 2))])) ∧ h ca = some (.inl (0, 9, .inl fc)) ∧ h ba = some (.inl (0, 9, .inl fb)) ∧ h ac = some (rfs 6 2 (acR a0 a1)) ∧ h a0 = some (.inr (4, A0)) ∧ h a1 = some (.inr (4, A1)) ∧ h li = some (.inr (12, [.int mo, .ref el, .int (nI (b 3))])) ∧ h el = some (rfs 4 cap f) ∧
  (CN f (b 3) ∧ b 3 ≤ cap ∧ 0 < cap ∧ cap < 2 ^ 18) ∧ (∀ k, k < b 3 → ∃ z, f k = some z ∧ h z = some (.inr (8, moF (b (40 + k))))) ∧ (∀ v, v < 9 → fc v = nI (b (22 + v)) - nI 1) ∧ ∀ v, v < 9 → fr b v = true → fb v = nI (b (31 + v)) - nI 1
theorem BX.y {h : AH} {s0 a gr : Nat} {b : BT} {cap ca ba ac a0 a1 li el : Nat} {mo : Int32} {fc fb : Nat → Int32} {f : Nat → Option Nat} (g : BX h s0 a gr b cap ca ba ac a0 a1 li el mo fc fb f) : BY h s0 a gr b cap ca ba ac a0 a1 li el mo fc fb f (acF b 0) (acF b 1) := g
theorem BY.c {h : AH} {s0 a gr : Nat} {b : BT} {cap ca ba ac a0 a1 li el : Nat} {mo : Int32} {fc fb : Nat → Int32} {f : Nat → Option Nat} {A0 A1 : List Value} (g : BY h s0 a gr b cap ca ba ac a0 a1 li el mo fc fb f A0 A1) (e0 : A0 = acF b 0) (e1 : A1 = acF b 1) : BC h s0 a gr b cap := by
  subst e0 e1
  exact ⟨ca, ba, ac, a0, a1, li, el, mo, fc, fb, f, g⟩
/-- a graph, its cells before s0 -/
def GRS (h : AH) (s0 gr : Nat) (b : BT) : Prop := ∃ (gl gn : Nat) (fl fn : Nat → Int32), (gr < s0 ∧ gl < s0 ∧ gn < s0) ∧ h gr = some (.inr (3, [.int (nI (b 1)), .ref gl, .ref gn, .int (nI (b 0)), .int (nI (edg b))])) ∧ h gl = some (.inl (0, 9, .inl fl)) ∧ h gn = some (.inl (0, 9, .inl fn)) ∧ (∀ v, v < 9 → fl v = nI (b (4 + v))) ∧ ∀ v, v < 9 → fn v = nI (b (13 + v))
theorem GRS.g {h : AH} {s0 gr : Nat} {b : BT} (g : GRS h s0 gr b) : GRP h gr b := by
  obtain ⟨gl, gn, fl, fn, -, g⟩ := g
  exact ⟨gl, gn, fl, fn, g⟩
theorem GRS.fr {h h' : AH} {s0 gr : Nat} {b : BT} (g : GRS h s0 gr b) (hq : ∀ q, q < s0 → h' q = h q) : GRS h' s0 gr b := by
  obtain ⟨gl, gn, fl, fn, ⟨l1, l2, l3⟩, e1, e2, e3, e4⟩ := g
  exact ⟨gl, gn, fl, fn, ⟨l1, l2, l3⟩, (hq _ l1).trans e1, (hq _ l2).trans e2, (hq _ l3).trans e3, e4⟩
theorem GRS.st {h : AH} {s0 gr : Nat} {b b' : BT} (hT : ST b b') (h9 : b 0 ≤ 9) (g : GRS h s0 gr b) : GRS h s0 gr b' := by
  obtain ⟨gl, gn, fl, fn, l1, e1, e2, e3, e4, e5⟩ := g
  refine ⟨gl, gn, fl, fn, l1, ?_, e2, e3, fun v hv => by rw [hT.2.2.1 v hv]; exact e4 v hv, fun v hv => by rw [hT.2.2.2 v hv]; exact e5 v hv⟩
  rw [e1, hT.2.1, hT.1]
  unfold edg
  rw [hT.1, edgeB_st hT h9]
theorem GRP.s {h : AH} {sz gr : Nat} {b : BT} (hD : Dm h sz) (g : GRP h gr b) : GRS h sz gr b := by
  obtain ⟨gl, gn, fl, fn, e1, e2, e3, e4⟩ := g
  exact ⟨gl, gn, fl, fn, ⟨hD.lt e1, hD.lt e2, hD.lt e3⟩, e1, e2, e3, e4⟩
/-- what is carried for boards -/
def GBO (γ : Gm) (mi : Nat) : Prop := GLI γ mi ∧ GFW γ ∧ AOK γ "ColourDuel$Account"
theorem cas8 : Cond.castable "ColourDuel$Move" "java/lang/Object" ∈ lw_tbl := q2266
theorem BY.brd {h : AH} {s0 a gr : Nat} {b : BT} {cap ca ba ac a0 a1 li el : Nat} {mo : Int32} {fc fb : Nat → Int32} {f : Nat → Option Nat} {A0 A1 : List Value} (g : BY h s0 a gr b cap ca ba ac a0 a1 li el mo fc fb f A0 A1) (hg : GRP h gr b) : BRD h a gr b := by
  obtain ⟨-, e1, e2, e3, -, -, -, -, -, -, -, e4, e5⟩ := g
  exact ⟨ca, ba, _, _, fc, fb, e1, e2, e3, hg, e4, e5⟩
theorem BY.el {h : AH} {s0 a gr : Nat} {b : BT} {cap ca ba ac a0 a1 li el : Nat} {mo : Int32} {fc fb : Nat → Int32} {f : Nat → Option Nat} {A0 A1 : List Value} (g : BY h s0 a gr b cap ca ba ac a0 a1 li el mo fc fb f A0 A1) : EL h 8 (b 3) f := fun i hi z hz => by
  obtain ⟨-, -, -, -, -, -, -, -, -, -, g1, -⟩ := g
  obtain ⟨z', e1, e2⟩ := g1 i hi
  rw [e1] at hz
  cases hz
  exact ⟨_, e2⟩
set_option maxRecDepth 100000 in
theorem bm_goesOn {γ : Gm} (hG : GF γ) (l : Launch) {h : AH} {sz : Nat} {mi : Nat} (hB : GBO γ mi) {s0 a gr : Nat} {b : BT} {cap ca ba ac a0 a1 li el : Nat} {mo : Int32} {fc fb : Nat → Int32} {f : Nat → Option Nat} {A0 A1 : List Value} (hy : BY h s0 a gr b cap ca ba ac a0 a1 li el mo fc fb f A0 A1) (hs : GRS h s0 gr b) (hW : WB b) (hY : SY b) (hD : Dm h sz) (hm9 : b 3 ≤ 4096) (hc9 : cap ≤ 8200) {vx cx : Nat} (hv : vx < 16) (hc : cx < 4) {vi ci : Int32} (evi : vi = nI vx - nI 1) (eci : ci = nI cx - nI 1) {gs : Nat} (hgs : b 3 = cap → (nwL cap (b 3 + 1 - cap) (cap >>> 1)) ≤ gs) : MX γ l yX3_goesOn cX3_goesOn 3 none 7 171 2 (4 + gs) [.ref a, .int vi, .int ci] h sz (fun v h' sz' => v = none ∧ sz < sz' ∧ sz' ≤ sz + 2 ∧ (∀ q, q < s0 → h' q = h q) ∧ ∀ pc, ∃ cap' el' mo' f', (cap' = cap ∧ b 3 < cap ∨ cap' = (nwL cap (b 3 + 1 - cap) (cap >>> 1)) ∧ b 3 = cap) ∧ BY h' s0 a gr (noteB b vx cx pc) cap' ca ba ac a0 a1 li el' mo' fc fb f' A0 A1) NX := by
  refine mx_start hG (by decide) (Nat.le_of_ble_eq_true rfl) (fun x C => ?_)
  obtain ⟨hs0, ea, eca, eba, eac, ea0, ea1, eli, eel, ⟨hCN, hMc, hcap, hcm⟩, hmv, hfc, hfb⟩ := id hy
  have la := hD.lt ea
  have lca := hD.lt eca
  have lba := hD.lt eba
  have lac := hD.lt eac
  have la0 := hD.lt ea0
  have la1 := hD.lt ea1
  have lli := hD.lt eli
  have lel := hD.lt eel
  have n_ca_a : ca ≠ a := ne9 eca ea (by intro z; cases z)
  have n_ba_a : ba ≠ a := ne9 eba ea (by intro z; cases z)
  have n_ac_a : ac ≠ a := ne9 eac ea (by intro z; cases z)
  have n_a0_a : a0 ≠ a := ne9 ea0 ea (by intro z; cases z)
  have n_a1_a : a1 ≠ a := ne9 ea1 ea (by intro z; cases z)
  have n_li_a : li ≠ a := ne9 eli ea (by intro z; cases z)
  have n_el_a : el ≠ a := ne9 eel ea (by intro z; cases z)
  have n_ca_li : ca ≠ li := ne9 eca eli (by intro z; cases z)
  have n_ba_li : ba ≠ li := ne9 eba eli (by intro z; cases z)
  have n_ac_li : ac ≠ li := ne9 eac eli (by intro z; cases z)
  have n_a0_li : a0 ≠ li := ne9 ea0 eli (by intro z; cases z)
  have n_a1_li : a1 ≠ li := ne9 ea1 eli (by intro z; cases z)
  have n_el_li : el ≠ li := ne9 eel eli (by intro z; cases z)
  have n_ca_el : ca ≠ el := ne9 eca eel (by intro z; cases z)
  have n_ba_el : ba ≠ el := ne9 eba eel (by intro z; cases z)
  have n_ac_el : ac ≠ el := ne9 eac eel (by intro z; cases z)
  have n_a0_el : a0 ≠ el := ne9 ea0 eel (by intro z; cases z)
  have n_a1_el : a1 ≠ el := ne9 ea1 eel (by intro z; cases z)
  have hN := hW.2.1
  have hE := hy.el
  have hb0 := hy.brd hs.g
  obtain ⟨gl, gn, fl, fn, hgs0, eg, egl, egn, hgl, hgn⟩ := id hs
  refine aw_aload_n C rfl rfl dX3_goesOn_0 ?_
  refine aw_getf C ck2 4 (by decide) q621 (fun _ z => z) ea rfl dX3_goesOn_1 ?_
  refine aw_new C ck8 (fs := [.int 0, .int 0, .int 0, .int 0]) q992 q993 q125 (by decide) (by dsimp only; omega) (by dsimp only; omega) dX3_goesOn_4 ?_
  refine aw_dup C rfl dX3_goesOn_7 ?_
  refine aw_aload_n C rfl rfl dX3_goesOn_8 ?_
  refine aw_getf C ck2 6 (by decide) q627 (fun _ z => z) ((hset_n _ _ (by omega)).trans ea) rfl dX3_goesOn_9 ?_
  refine aw_iload_n C rfl rfl dX3_goesOn_12 ?_
  refine aw_iload_n C rfl rfl dX3_goesOn_13 ?_
  refine aw_aload_n C rfl rfl dX3_goesOn_14 ?_
  refine aw_getf C ck2 0 (by decide) q609 (fun _ z => z) ((hset_n _ _ (by omega)).trans ea) rfl dX3_goesOn_15 ?_
  refine aw_aload_n C rfl rfl dX3_goesOn_18 ?_
  refine aw_callVRR C ck2 (bd_free hG l (hb0.le (HLE.push hD _)) hW) q837 q706 q707 q97 q708 (Or.inl ((hset_n _ _ (by omega)).trans ea)) (n9 := 0) (by decide +kernel) rfl (Nat.le_of_ble_eq_true rfl) (Nat.le_of_ble_eq_true rfl) (by dsimp only; omega) (by dsimp only; omega) rfl (Nat.le_of_ble_eq_true rfl) dX3_goesOn_19 ?_
  refine aw_callVRR C ck3 (bd_countParts hG l (hs.g.le (HLE.push hD _)) hN hY (freeS_lt2 _)) q994 q995 q996 q98 q997 (Or.inl ((hset_n _ _ (by omega)).trans eg)) (n9 := 1) (by decide +kernel) rfl (Nat.le_of_ble_eq_true rfl) (Nat.le_of_ble_eq_true rfl) (by dsimp only; omega) (by dsimp only; omega) rfl (Nat.le_of_ble_eq_true rfl) dX3_goesOn_22 ?_
  refine aw_callIPN C (mv_init hG l (hset_s _ _ _)) q999 q1000 q125 q1001 rfl (n9 := 4) (by decide +kernel) rfl (Nat.le_of_ble_eq_true rfl) (Nat.le_of_ble_eq_true rfl) (by dsimp only; omega) (by dsimp only; omega) rfl (Nat.le_of_ble_eq_true rfl) dX3_goesOn_25 ?_
  rw [hset_hset]
  refine aw_callF C ck12 (al_add hG l hB.1 ck8 cas8 ((hset_n _ _ (by omega)).trans eli) ((hset_n _ _ (by omega)).trans eel) (by omega) (by omega) (hD.push _) hCN hMc hcap hcm (hE.push hD _) (hset_s _ _ _) (by decide) hgs) q1020 q1023 q1025 q102 q1027 hB.2.1.2.2.1 ((hset_n _ _ (by omega)).trans eli) (n9 := 1) (by decide +kernel) rfl (Nat.le_of_ble_eq_true rfl) (Nat.le_of_ble_eq_true rfl) (by dsimp only; omega) (by dsimp only; omega) rfl (Nat.le_of_ble_eq_true rfl) dX3_goesOn_28 (fun _ _ _ z => z.elim) (fun v9 h4 sz9 hp => ?_)
  obtain ⟨rfl, el', cap', hcs, rfl⟩ := hp
  have hel : ∀ p, p < sz → p ≠ el → p ≠ el' := fun p q1 q2 => by rcases hcs with ⟨q, -⟩ | ⟨q, -⟩ <;> omega
  have hes : el' ≠ sz := by rcases hcs with ⟨q, -⟩ | ⟨q, -⟩ <;> omega
  have hez : s0 ≤ el' := by rcases hcs with ⟨q, -⟩ | ⟨q, -⟩ <;> omega
  have hel2 : li ≠ el' := fun q => by rcases hcs with ⟨q1, -⟩ | ⟨q1, -⟩ <;> omega
  refine aw_top rfl ?_
  refine aw_pop C rfl dX3_goesOn_33 ?_
  refine aw_aload_n C rfl rfl dX3_goesOn_34 ?_
  refine aw_iconst C (v := nI 1) (by decide) dX3_goesOn_35 ?_
  refine aw_aload_n C rfl rfl dX3_goesOn_36 ?_
  refine aw_getf C ck2 6 (by decide) q627 (fun _ z => z) ((hset_n _ _ n_li_a.symm).trans ((hset_n _ _ (hel a la n_el_a.symm)).trans ((hset_n _ _ (by omega)).trans ea))) rfl dX3_goesOn_37 ?_
  refine aw_isubN C (by omega) dX3_goesOn_40 ?_
  refine aw_putf C ck2 6 (by decide) q627 (fun _ z => z) rfl rfl (ty := .int) rfl rfl ((hset_n _ _ n_li_a.symm).trans ((hset_n _ _ (hel a la n_el_a.symm)).trans ((hset_n _ _ (by omega)).trans ea))) (show 6 < 7 by decide) dX3_goesOn_41 ?_
  refine aw_vret C rfl dX3_goesOn_44 (by omega) (by omega) ?_
  refine ⟨rfl, by rcases hcs with ⟨-, -, q, -⟩ | ⟨-, -, q, -⟩ <;> omega, by rcases hcs with ⟨-, -, q, -⟩ | ⟨-, -, q, -⟩ <;> omega, fun q hq => ?_, fun pc => ⟨cap', el', mo + nI 1, va_up f (b 3) (some sz), ?_, ?_⟩⟩
  · rw [hset_n _ _ (by omega), hset_n _ _ (by omega), hset_n _ _ (by omega), hset_n _ _ (by omega)]
  · rcases hcs with ⟨-, q1, -, q2⟩ | ⟨-, q1, -, q2⟩
    · exact Or.inl ⟨q1, q2⟩
    · exact Or.inr ⟨q1, q2⟩
  · have e3 := noteB_3 b vx cx pc
    have e2 : noteB b vx cx pc 2 = b 2 := noteB_n b vx cx pc (by omega) (by omega)
    have hw9 := nwL_ge cap (b 3 + 1 - cap) (cap >>> 1)
    have hw8 : nwL cap (b 3 + 1 - cap) (cap >>> 1) ≤ 2 * cap + b 3 + 1 := by
      have : cap >>> 1 ≤ cap := by rw [Nat.shiftRight_eq_div_pow]; exact Nat.div_le_self _ _
      unfold nwL
      split <;> omega
    unfold BY
    refine ⟨⟨hs0.1, hs0.2.1, hs0.2.2.1, hs0.2.2.2.1, hs0.2.2.2.2.1, hs0.2.2.2.2.2.1, hs0.2.2.2.2.2.2.1, hez, hs0.2.2.2.2.2.2.2.2⟩, ?_, ?_, ?_, ?_, ?_, ?_, ?_, ?_, ⟨?_, ?_, ?_, ?_⟩, fun k hk => ?_, fun v hv => ?_, fun v hv hf => ?_⟩
    · rw [hset_s, e2, e3]
      have : 1 - b 3 % 2 = (b 3 + 1) % 2 := by omega
      rw [← this]
      rfl
    · rw [hset_n _ _ n_ca_a, hset_n _ _ n_ca_li, hset_n _ _ (hel ca lca n_ca_el), hset_n _ _ (by omega)]
      exact eca
    · rw [hset_n _ _ n_ba_a, hset_n _ _ n_ba_li, hset_n _ _ (hel ba lba n_ba_el), hset_n _ _ (by omega)]
      exact eba
    · rw [hset_n _ _ n_ac_a, hset_n _ _ n_ac_li, hset_n _ _ (hel ac lac n_ac_el), hset_n _ _ (by omega)]
      exact eac
    · rw [hset_n _ _ n_a0_a, hset_n _ _ n_a0_li, hset_n _ _ (hel a0 la0 n_a0_el), hset_n _ _ (by omega)]
      exact ea0
    · rw [hset_n _ _ n_a1_a, hset_n _ _ n_a1_li, hset_n _ _ (hel a1 la1 n_a1_el), hset_n _ _ (by omega)]
      exact ea1
    · rw [hset_n _ _ n_li_a, hset_s, e3]
    · rw [hset_n _ _ (fun q => by rcases hcs with ⟨q1, -⟩ | ⟨q1, -⟩ <;> omega), hset_n _ _ (fun q => hel2 q.symm), hset_s]
    · rw [e3]; exact hCN.up
    · rcases hcs with ⟨-, q1, -, q2⟩ | ⟨-, q1, -, q2⟩ <;> omega
    · rcases hcs with ⟨-, q1, -, q2⟩ | ⟨-, q1, -, q2⟩ <;> omega
    · rcases hcs with ⟨-, q1, -, q2⟩ | ⟨-, q1, -, q2⟩ <;> omega
    · rw [e3] at hk
      by_cases e : k = b 3
      · subst e
        refine ⟨sz, va_up_self _ _ _, ?_⟩
        rw [hset_n _ _ (by omega), hset_n _ _ (by omega), hset_n _ _ hes.symm, hset_s, noteB_m, moF_E (by omega) hv hc (by have := npts_le (b := b) (freeS_lt hN); omega), evi, eci]
      · obtain ⟨z, z1, z2⟩ := hmv k (by omega)
        have lz := hD.lt z2
        refine ⟨z, (va_up_ne _ _ e).trans z1, ?_⟩
        rw [hset_n _ _ (ne9 z2 ea (by intro z; cases z)), hset_n _ _ (ne9 z2 eli (by intro z; cases z)), hset_n _ _ (hel z lz (ne9 z2 eel (by intro z; cases z))), hset_n _ _ (by omega), noteB_o b vx cx pc (by omega)]
        exact z2
    · rw [noteB_n b vx cx pc (by omega) (by omega)]
      exact hfc v hv
    · rw [noteB_n b vx cx pc (by omega) (by omega)]
      refine hfb v hv ?_
      unfold fr at hf ⊢
      rw [noteB_n b vx cx pc (by omega) (by omega)] at hf
      exact hf
