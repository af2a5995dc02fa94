/-! a changed copy takes the board's place -/
set_option maxRecDepth 100000 in
theorem co_changed {γ : Gm} (hG : GF γ) (l : Launch) {o : Nat} {u : CU} {g : AH} {sz : Nat} {mi : Nat} (hB : GBO γ mi) {s0 gr a : Nat} {b : BT} {cap : Nat} (hSp : Sep o g) (hbc : BC g s0 a gr b cap) (hg : GRP g gr b) (hA : WA b) (hm9 : b 3 < 4096) (hsz : o + 34 ≤ sz) (hcu : u.2.2.2.2 = a) {hd : Nat} {hs : List Nat} (hq : DQ u hd hs) (hbo : ∀ z ∈ hs, ∃ fz, g z = some (.inr (2, fz))) : MX γ l yX1_changed cX1_changed 1 (some (.object "ColourDuel$Board")) 20 445 12 (cpS (b 3)) [.ref o] (ch o u g) sz (fun v h' sz' => v = some (.ref sz) ∧ sz < sz' ∧ sz' ≤ sz + 12 ∧ ∃ u' g', h' = ch o u' g' ∧ SB u u' ∧ u'.2.2.2.2 = sz ∧ (∃ hd', DQ u' hd' (keepL a hs)) ∧ (∀ q, q < sz → g' q = g q) ∧ BC g' sz sz gr b (cpC (b 3)) ∧ Sep o g') NX := by
  refine mx_start hG (by decide) (Nat.le_of_ble_eq_true rfl) (fun x C => ?_)
  have hb : BRD g a gr b := hbc.brd hg
  obtain ⟨ca, ba, v3, v4, fc, fb, eb, eca, eba, hg, hfc, hfb⟩ := id hb
  obtain ⟨gl, gn, fl, fn, eg, egl, egn, hgl, hgn⟩ := id hg
  refine aw_dom (fun hD0 => ?_)
  have hDg := dm_g hSp hD0
  refine aw_aload_n C rfl rfl dX1_changed_0 ?_
  refine aw_aload_n C rfl rfl dX1_changed_1 ?_
  refine aw_getf C ck0 1 (by decide) q665 (fun _ z => z) (ch_at (i := 0) rfl) rfl dX1_changed_2 ?_
  refine aw_topV (congrArg Value.ref hcu) ?_
  refine aw_callV C ck2 (bo_copy hG l hB.1 hB.2.1 cas8 hB.2.2 (hbc.le (ch_le hSp)) hD0 (by omega)) q887 q888 q889 q97 q890 ((ch_le hSp _ _ eb)) (n9 := 0) (by decide +kernel) rfl (Nat.le_of_ble_eq_true rfl) (Nat.le_of_ble_eq_true rfl) (by dsimp only; omega) (by dsimp only; omega) rfl (Nat.le_of_ble_eq_true rfl) dX1_changed_5 (fun _ _ _ z => z.elim) (fun v9 h1 s1 hp => ?_)
  obtain ⟨rfl, c1, c2, c3, c4⟩ := hp
  refine aw_dom (fun hD1 => ?_)
  have ec9 := c4
  obtain ⟨ca9, ba9, ac9, a09, a19, li9, el9, mo9, fc9, fb9, f9, hX9⟩ := ec9
  have es9 := hX9.2.1
  obtain ⟨g1, rfl, q1, q2⟩ := ch_split hsz c3
  have hSp1 := hSp.fr hsz q1
  have c4g := BC.spl rfl q2 c4
  refine aw_callV C ck0 (co_become hG l (a := a) (a2 := sz) hcu (ch_le hSp1 _ _ ((q1 a (hDg.lt eb)).trans eb)) hq (fun z hz => ⟨_, ch_le hSp1 _ _ ((q1 z (hDg.lt (hbo z hz).choose_spec)).trans (hbo z hz).choose_spec)⟩)) q1445 q1447 qs33 q95 q1448 (ch_at (i := 0) rfl) (n9 := 1) (by decide +kernel) rfl (Nat.le_of_ble_eq_true rfl) (Nat.le_of_ble_eq_true rfl) (by dsimp only; omega) (by dsimp only; omega) rfl (Nat.le_of_ble_eq_true rfl) dX1_changed_8 (fun _ _ _ z => z.elim) (fun v9 h3 s3 hp => ?_)
  obtain ⟨rfl, rfl, u3, rfl, hx3, hcu3, hd3, hq3⟩ := hp
  refine aw_aload_n C rfl rfl dX1_changed_11 ?_
  refine aw_getf C ck0 1 (by decide) q665 (fun _ z => z) (ch_at (i := 0) rfl) rfl dX1_changed_12 ?_
  refine aw_topV (congrArg Value.ref hcu3) ?_
  exact aw_aret C rfl (Or.inl ⟨_, rfl⟩) (Or.inr ⟨_, rfl⟩) dX1_changed_15 (by omega) (by omega) ⟨rfl, c1, c2, u3, g1, rfl, hx3, hcu3, ⟨hd3, hq3⟩, q1, c4g, hSp1⟩
