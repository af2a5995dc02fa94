/-! the component stands for a state -/
def BO9 (g : AH) (a : Nat) (b : BT) : Prop := ∃ gr cap, BC g 0 a gr b cap ∧ GRP g gr b ∧ cap ≤ 8200
def CSh (g : AH) (u : CU) (s : SS) : Prop := ∃ hd hs, DQ u hd hs ∧ hs.length = s.2.1.length ∧ ∀ i, i < hs.length → BO9 g (hs.getD i 0) (s.2.1.getD i kzero)
def CSs (g : AH) (u : CU) (s : SS) : Prop := ∀ i, i < 2 → (s.2.2.1 i = none ∧ u.2.2.2.1 2 i = none) ∨ ∃ a b, s.2.2.1 i = some b ∧ u.2.2.2.1 2 i = some a ∧ BO9 g a b
def CSb (u : CU) (s : SS) : Prop := u.1 0 = nI s.2.2.2.1.length ∧ s.2.2.2.1.length ≤ 500 ∧ ∀ i, i < s.2.2.2.1.length → s.2.2.2.1.getD i 0 < 256 ∧ u.2.1 3 i = vp_nar .byte (nI (s.2.2.2.1.getD i 0))
def CSw (u : CU) (s : SS) : Prop := u.1 6 = nI s.2.2.2.2.2.length ∧ s.2.2.2.2.2.length ≤ 16 ∧ ∀ i, i < s.2.2.2.2.2.length → s.2.2.2.2.2.getD i 0 < 128 ∧ u.2.1 4 i = nI (s.2.2.2.2.2.getD i 0)
/-- the component at o with the fixed cells u and the boards' heap g stands for the state s -/
def CS (o sz : Nat) (u : CU) (g : AH) (K : Nat) (s : SS) : Prop := Sep o g ∧ o + 34 ≤ sz ∧ SI g u K ∧ BO9 g u.2.2.2.2 s.1 ∧ CSh g u s ∧ CSs g u s ∧ CSb u s ∧ u.1 1 = s.2.2.2.2.1 ∧ CSw u s
theorem DQ.same {u u' : CU} {hd : Nat} {hs : List Nat} (h4 : u'.1 4 = u.1 4) (h5 : u'.1 5 = u.1 5) (h1 : u'.2.2.2.1 1 = u.2.2.2.1 1) (h : DQ u hd hs) : DQ u' hd hs := by
  unfold DQ at *
  rw [h4, h5, h1]
  exact h
theorem CS.sx {o sz K K' : Nat} {u u' : CU} {g : AH} {s : SS} (hx : SX u u') (hI : SI g u' K') (h : CS o sz u g K s) : CS o sz u' g K' s := by
  obtain ⟨h1, h2, -, h4, ⟨hd, hs, h5, h5'⟩, h6, h7, h8, h9⟩ := h
  obtain ⟨x1, x2, ⟨x3, -⟩, x4⟩ := hx
  refine ⟨h1, h2, hI, by rw [x4]; exact h4, ⟨hd, hs, h5.same (x1 4 (by decide) (by decide)) (x1 5 (by decide) (by decide)) (x3 1 (by decide)), h5'⟩, ?_, ?_, by rw [x1 1 (by decide) (by decide)]; exact h8, ?_⟩
  · unfold CSs at *
    rw [x3 2 (by decide)]
    exact h6
  · unfold CSb at *
    rw [x1 0 (by decide) (by decide), x2 3 (by decide) (by decide)]
    exact h7
  · unfold CSw at *
    rw [x1 6 (by decide) (by decide), x2 4 (by decide) (by decide)]
    exact h9
theorem SR.si {g : AH} {u : CU} {K gr : Nat} {b : BT} (h : SR g u K gr b) (hg : GRP g gr b) (hW : WB b) : SI g u (K + 1) := by
  rcases h with h | h
  · exact h.le (by omega)
  · exact h.si hg hW
/-- a call's end: it answers, or it throws c1 or c2 -/
def PCV (o K : Nat) (x : AS) : Option Value → AH → Nat → Prop := fun v h' sz' => x.1.1 = 0 ∧ v = some (.int x.1.2) ∧ ∃ u' g', h' = ch o u' g' ∧ CS o sz' u' g' K x.2
def PCX (o K : Nat) (c1 c2 : String) (x : AS) : String → AH → Nat → Prop := fun E h' sz' => ((x.1.1 = 1 ∧ E = c1) ∨ (x.1.1 = 2 ∧ E = c2)) ∧ ∃ u' g', h' = ch o u' g' ∧ CS o sz' u' g' K x.2
set_option maxRecDepth 100000 in
theorem pc_value {γ : Gm} (hG : GF γ) (l : Launch) {o : Nat} {u : CU} {g : AH} {sz : Nat} {K : Nat} (hK : K + 1 < 2 ^ 30) {s : SS} (hC : CS o sz u g K s) (hA : WA s.1) : MX γ l yX1_value cX1_value 1 (some .int) 41 1400 0 0 [.ref o] (ch o u g) sz (PCV o (K + 1) ((spVal s.1), s)) NX := by
  refine mx_start hG (by decide) (Nat.le_of_ble_eq_true rfl) (fun x C => ?_)
  obtain ⟨hSp, hsz, hI9, ⟨gr, cap, hbc, hg, hc9⟩, hrest⟩ := id hC
  obtain ⟨a, hcu⟩ : ∃ a, u.2.2.2.2 = a := ⟨_, rfl⟩
  rw [hcu] at hbc
  obtain ⟨b, hbs⟩ : ∃ b, s.1 = b := ⟨_, rfl⟩
  rw [hbs] at hbc hg hA
  have hb : BRD g a gr b := hbc.brd hg
  obtain ⟨ca, ba, v3, v4, fc, fb, eb, eca, eba, hg, hfc, hfb⟩ := id hb
  obtain ⟨gl, gn, fl, fn, eg, egl, egn, hgl, hgn⟩ := id hg
  refine aw_aload_n C rfl rfl dX1_value_0 ?_
  refine aw_aload_n C rfl rfl dX1_value_1 ?_
  refine aw_getf C ck0 1 (by decide) q665 (fun _ z => z) (ch_at (i := 0) rfl) rfl dX1_value_2 ?_
  refine aw_topV (congrArg Value.ref hcu) ?_
  refine aw_callVI C ck0 (co_valueOf hG l hSp hb hA.1 hA.2.2.1 hA.2.2.2.1 hK (Or.inl hI9)) q698 q700 qs1 q95 q701 (ch_at (i := 0) rfl) (n9 := 1) (by decide +kernel) rfl (Nat.le_of_ble_eq_true rfl) (Nat.le_of_ble_eq_true rfl) (Nat.zero_le _) (Nat.zero_le _) rfl (Nat.le_of_ble_eq_true rfl) dX1_value_5 (fun r u2 hp => ?_)
  obtain ⟨rfl, hx2, hq2⟩ := hp
  exact aw_iret C rfl dX1_value_8 (Nat.le_refl _) (Nat.le_refl _) ⟨rfl, by rw [hbs]; rfl, u2, g, rfl, hC.sx hx2 (hq2.si hg hA.1)⟩
set_option maxRecDepth 100000 in
theorem pc_longest {γ : Gm} (hG : GF γ) (l : Launch) {o : Nat} {u : CU} {g : AH} {sz : Nat} {K : Nat} (hK : K + 1 < 2 ^ 30) {s : SS} (hC : CS o sz u g K s) (hA : WA s.1) : MX γ l yX1_longest_2 cX1_longest_2 1 (some .int) 41 1400 0 0 [.ref o] (ch o u g) sz (PCV o (K + 1) ((spLong s.1), s)) NX := by
  refine mx_start hG (by decide) (Nat.le_of_ble_eq_true rfl) (fun x C => ?_)
  obtain ⟨hSp, hsz, hI9, ⟨gr, cap, hbc, hg, hc9⟩, hrest⟩ := id hC
  obtain ⟨a, hcu⟩ : ∃ a, u.2.2.2.2 = a := ⟨_, rfl⟩
  rw [hcu] at hbc
  obtain ⟨b, hbs⟩ : ∃ b, s.1 = b := ⟨_, rfl⟩
  rw [hbs] at hbc hg hA
  have hb : BRD g a gr b := hbc.brd hg
  obtain ⟨ca, ba, v3, v4, fc, fb, eb, eca, eba, hg, hfc, hfb⟩ := id hb
  obtain ⟨gl, gn, fl, fn, eg, egl, egn, hgl, hgn⟩ := id hg
  refine aw_aload_n C rfl rfl dX1_longest_2_0 ?_
  refine aw_aload_n C rfl rfl dX1_longest_2_1 ?_
  refine aw_getf C ck0 1 (by decide) q665 (fun _ z => z) (ch_at (i := 0) rfl) rfl dX1_longest_2_2 ?_
  refine aw_topV (congrArg Value.ref hcu) ?_
  refine aw_callVI C ck0 (co_longestOf hG l hSp hb hA.1 hA.2.2.1 hA.2.2.2.1 hK (Or.inl hI9)) q1045 q1047 qs18 q95 q1048 (ch_at (i := 0) rfl) (n9 := 1) (by decide +kernel) rfl (Nat.le_of_ble_eq_true rfl) (Nat.le_of_ble_eq_true rfl) (Nat.zero_le _) (Nat.zero_le _) rfl (Nat.le_of_ble_eq_true rfl) dX1_longest_2_5 (fun r u2 hp => ?_)
  obtain ⟨rfl, hx2, hq2⟩ := hp
  exact aw_iret C rfl dX1_longest_2_8 (Nat.le_refl _) (Nat.le_refl _) ⟨rfl, by rw [hbs]; rfl, u2, g, rfl, hC.sx hx2 (hq2.si hg hA.1)⟩
set_option maxRecDepth 100000 in
theorem pc_errorPosition {γ : Gm} (hG : GF γ) (l : Launch) {o : Nat} {u : CU} {g : AH} {sz : Nat} {K : Nat} {s : SS} (hC : CS o sz u g K s) : MX γ l yX1_errorPosition cX1_errorPosition 1 (some .int) 0 0 0 0 [.ref o] (ch o u g) sz (PCV o K (spErr s)) NX := by
  refine mx_start hG (by decide) (Nat.le_of_ble_eq_true rfl) (fun x C => ?_)
  refine aw_aload_n C rfl rfl dX1_errorPosition_0 ?_
  refine aw_getf C ck0 6 (by decide) q671 (fun _ z => z) (ch_at (i := 0) rfl) rfl dX1_errorPosition_1 ?_
  exact aw_iret C rfl dX1_errorPosition_4 (Nat.le_refl _) (Nat.le_refl _) ⟨rfl, by rw [hC.2.2.2.2.2.2.2.1]; rfl, u, g, rfl, hC⟩
set_option maxRecDepth 100000 in
theorem pc_shortest {γ : Gm} (hG : GF γ) (l : Launch) {o : Nat} {u : CU} {g : AH} {sz : Nat} {K : Nat} (hK : K + 1 < 2 ^ 30) {s : SS} (hC : CS o sz u g K s) (hA : WA s.1) : MX γ l yX1_shortest_2 cX1_shortest_2 1 (some .int) 40 1379 0 0 [.ref o] (ch o u g) sz (PCV o (K + 1) ((spShort s.1), s)) NX := by
  refine mx_start hG (by decide) (Nat.le_of_ble_eq_true rfl) (fun x C => ?_)
  obtain ⟨hSp, hsz, hI9, ⟨gr, cap, hbc, hg, hc9⟩, hrest⟩ := id hC
  obtain ⟨a, hcu⟩ : ∃ a, u.2.2.2.2 = a := ⟨_, rfl⟩
  rw [hcu] at hbc
  obtain ⟨b, hbs⟩ : ∃ b, s.1 = b := ⟨_, rfl⟩
  rw [hbs] at hbc hg hA
  have hb : BRD g a gr b := hbc.brd hg
  obtain ⟨ca, ba, v3, v4, fc, fb, eb, eca, eba, hg, hfc, hfb⟩ := id hb
  obtain ⟨gl, gn, fl, fn, eg, egl, egn, hgl, hgn⟩ := id hg
  refine aw_aload_n C rfl rfl dX1_shortest_2_0 ?_
  refine aw_getf C ck0 1 (by decide) q665 (fun _ z => z) (ch_at (i := 0) rfl) rfl dX1_shortest_2_1 ?_
  refine aw_topV (congrArg Value.ref hcu) ?_
  refine aw_getfN C ck2 5 (by decide) q626 (fun _ z => z) (ch_le hSp _ _ eb) rfl dX1_shortest_2_4 ?_
  refine aw_aload_n C rfl rfl dX1_shortest_2_7 ?_
  refine aw_getf C ck0 0 (by decide) q664 (fun _ z => z) (ch_at (i := 0) rfl) rfl dX1_shortest_2_8 ?_
  refine aw_aload_n C rfl rfl dX1_shortest_2_11 ?_
  refine aw_getf C ck0 1 (by decide) q665 (fun _ z => z) (ch_at (i := 0) rfl) rfl dX1_shortest_2_12 ?_
  refine aw_topV (congrArg Value.ref hcu) ?_
  refine aw_aload_n C rfl rfl dX1_shortest_2_15 ?_
  refine aw_getf C ck0 1 (by decide) q665 (fun _ z => z) (ch_at (i := 0) rfl) rfl dX1_shortest_2_16 ?_
  refine aw_topV (congrArg Value.ref hcu) ?_
  refine aw_callVRR C ck2 (bd_free hG l (hb.le (ch_le hSp)) hA.1) q705 q706 q707 q97 q708 (Or.inl (ch_le hSp _ _ eb)) (n9 := 0) (by decide +kernel) rfl (Nat.le_of_ble_eq_true rfl) (Nat.le_of_ble_eq_true rfl) (Nat.zero_le _) (Nat.zero_le _) rfl (Nat.le_of_ble_eq_true rfl) dX1_shortest_2_19 ?_
  refine aw_callVI C ck1 (se_together hG l hSp hb hA.1 hA.2.2.1 hK (freeS_lt2 b) (fun v hv => fr_of hv) (Or.inl hI9)) q709 q710 q711 q96 q712 (ch_at (i := 1) rfl) (n9 := 2) (by decide +kernel) rfl (Nat.le_of_ble_eq_true rfl) (Nat.le_of_ble_eq_true rfl) (Nat.zero_le _) (Nat.zero_le _) rfl (Nat.le_of_ble_eq_true rfl) dX1_shortest_2_22 (fun r u2 hp => ?_)
  obtain ⟨rfl, hx2, hq2⟩ := hp
  obtain ⟨hi1, hi2, hi3⟩ := bb_gb hA.2.2.1 hA.1
  obtain ⟨i, hi⟩ : ∃ i, i = BB b := ⟨_, rfl⟩
  rw [show tgF (fun p => G b p (b (31 + low p))) (pts b (freeS b) (freeS b)) = i from hi.symm]
  rw [← hi] at hi1 hi2 hi3
  have hil := pq_lt (i := i) hi1 (by omega) (by omega)
  refine aw_callSRR C (cp_shortest hG l (p := pq i)) q1054 q788 q95 q789 (n9 := 1) (by decide +kernel) rfl (Nat.le_of_ble_eq_true rfl) (Nat.le_of_ble_eq_true rfl) (Nat.zero_le _) (Nat.zero_le _) rfl (Nat.le_of_ble_eq_true rfl) dX1_shortest_2_25 ?_
  refine aw_top (show _ = nI i.2.2 from by rw [pq_s (by omega) (by omega)]) ?_
  refine aw_iaddN C dX1_shortest_2_28 ?_
  refine aw_iret C rfl dX1_shortest_2_29 (Nat.le_refl _) (Nat.le_refl _) ?_
  refine ⟨rfl, ?_, u2, g, rfl, hC.sx hx2 (hq2.si hg hA.1)⟩
  rw [hbs]
  unfold spShort
  rw [← hi, Nat.add_comm]
