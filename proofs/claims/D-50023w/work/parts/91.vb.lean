/-! the iterator's constructor and next; values of boards -/
theorem bb_gb9 {b : BT} (hS : SY b) (hW : WB b) : GB 9 (BB b) := bb_gb hS hW
theorem fr_of {b : BT} {v : Nat} (h : (freeS b).testBit v = true) : fr b v = true := by
  rw [freeS_bit] at h
  simp at h
  exact h.2
set_option maxRecDepth 100000 in
theorem mo_init {γ : Gm} (hG : GF γ) (l : Launch) {h : AH} {sz : Nat} {ρ : Nat} (hU : RUL γ ρ) (hI : FRU γ)  {b : BT} {m a gr : Nat} (em0 : h m = some (.inr (10, [.int 0, .null]))) (hb : BRD h a gr b) (hW : WB b) (hL9 : b 2 ≤ 9) : MX γ l yX11_init cX11_init 2 none 6 133 0 0 [.ref m, .ref a] h sz (PE none (hset h m (.inr (10, [.int (nI (stl b 0)), .ref a]))) sz) NX := by
  refine mx_start hG (by decide) (Nat.le_of_ble_eq_true rfl) (fun x C => ?_)
  refine aw_aload_n C rfl rfl dX11_init_0 ?_
  refine aw_aload_n C rfl rfl dX11_init_1 ?_
  refine aw_putfF C ck10 1 (by decide) q841 (fun _ z => z) rfl rfl rfl (ty := .object "ColourDuel$Board") rfl rfl rfl em0 (show 1 < 2 by decide) dX11_init_2 ?_
  refine aw_aload_n C rfl rfl dX11_init_5 ?_
  refine aw_objInit C q810 q142 q143 (Nat.le_of_ble_eq_true rfl) (Nat.le_of_ble_eq_true rfl) dX11_init_6 ?_
  refine aw_aload_n C rfl rfl dX11_init_9 ?_
  refine aw_iconst C (v := -1) (by decide) dX11_init_10 ?_
  refine aw_putf C ck10 0 (by decide) q840 (fun _ z => z) rfl rfl (ty := .int) rfl rfl (hset_s _ _ _) (show 0 < 2 by decide) dX11_init_11 ?_
  rw [hset_hset]
  refine aw_aload_n C rfl rfl dX11_init_14 ?_
  refine aw_callVP C ck10 (mo_settles hG l hU hI (i0 := 0) (hset_s _ _ _) (by decide) (hb.m10 em0) hW hL9 (by decide)) q811 q813 qs9 q131 q814 (hset_s _ _ _) (n9 := 0) (by decide +kernel) rfl (Nat.le_of_ble_eq_true rfl) (Nat.le_of_ble_eq_true rfl) (Nat.zero_le _) (Nat.zero_le _) rfl (Nat.le_of_ble_eq_true rfl) dX11_init_15 ?_
  rw [hset_hset]
  exact aw_vret C rfl dX11_init_18 (Nat.le_refl _) (Nat.le_refl _) ⟨rfl, rfl, rfl⟩
set_option maxRecDepth 100000 in
theorem mo_next {γ : Gm} (hG : GF γ) (l : Launch) {h : AH} {sz : Nat} {ρ : Nat} (hU : RUL γ ρ) (hI : FRU γ) {ic : Nat} {ad : Nat → Nat} (hI9 : GIN γ ic ad)  {b : BT} {m a gr i : Nat} (em : h m = some (.inr (10, [.int (nI i), .ref a]))) (hb : BRD h a gr b) (hW : WB b) (hL9 : b 2 ≤ 9) (hi : i ≤ 100) : MX γ l yX11_next cX11_next 2 (some (.object "java/lang/Integer")) 6 133 0 0 [.ref m] h sz (PE (some (.ref (ad (i + 128)))) (hset h m (.inr (10, [.int (nI (stl b (i + 1))), .ref a]))) sz) NX := by
  refine mx_start hG (by decide) (Nat.le_of_ble_eq_true rfl) (fun x C => ?_)
  refine aw_aload_n C rfl rfl dX11_next_0 ?_
  refine aw_getf C ck10 0 (by decide) q840 (fun _ z => z) em rfl dX11_next_1 ?_
  refine aw_istore_n C rfl (by decide) rfl dX11_next_4 ?_
  refine aw_aload_n C rfl rfl dX11_next_5 ?_
  refine aw_callVP C ck10 (mo_settles hG l hU hI (i0 := i + 1) em (by rw [nI_add]) hb hW hL9 (by omega)) q811 q813 qs9 q131 q814 em (n9 := 0) (by decide +kernel) rfl (Nat.le_of_ble_eq_true rfl) (Nat.le_of_ble_eq_true rfl) (Nat.zero_le _) (Nat.zero_le _) rfl (Nat.le_of_ble_eq_true rfl) dX11_next_6 ?_
  refine aw_iload_n C rfl rfl dX11_next_9 ?_
  refine aw_callSPv C (in_valueOf hG l hI9 (i := i) (by omega)) q855 q856 q118 q857 (n9 := 1) (by decide +kernel) rfl (Nat.le_of_ble_eq_true rfl) (Nat.le_of_ble_eq_true rfl) (Nat.zero_le _) (Nat.zero_le _) rfl (Nat.le_of_ble_eq_true rfl) dX11_next_10 ?_
  exact aw_aret C rfl (Or.inl ⟨_, rfl⟩) (Or.inr ⟨_, rfl⟩) dX11_next_13 (Nat.le_refl _) (Nat.le_refl _) ⟨rfl, rfl, rfl⟩
set_option maxRecDepth 100000 in
theorem mo_all {γ : Gm} (hG : GF γ) (l : Launch) {h : AH} {sz : Nat} {ρ : Nat} (hU : RUL γ ρ) (hI : FRU γ)  {b : BT} {a gr : Nat} (hb : BRD h a gr b) (hW : WB b) (hL9 : b 2 ≤ 9) (hD : Dm h sz) : MX γ l yX3_allMoves cX3_allMoves 1 (some (.object "ColourDuel$Board$Moves")) 7 154 1 2 [.ref a] h sz (PE (some (.ref sz)) (hset h sz (.inr (10, [.int (nI (stl b 0)), .ref a]))) (sz + 1)) NX := by
  refine mx_start hG (by decide) (Nat.le_of_ble_eq_true rfl) (fun x C => ?_)
  refine aw_new C ck10 (fs := [.int 0, .null]) q805 q806 q131 (by decide) (by dsimp only; omega) (by dsimp only; omega) dX3_allMoves_0 ?_
  refine aw_dup C rfl dX3_allMoves_3 ?_
  refine aw_aload_n C rfl rfl dX3_allMoves_4 ?_
  refine aw_callIP C (mo_init hG l hU hI (hset_s _ _ _) (hb.le (HLE.push hD _)) hW hL9) q807 q808 q131 q809 rfl (n9 := 1) (by decide +kernel) rfl (Nat.le_of_ble_eq_true rfl) (Nat.le_of_ble_eq_true rfl) (by dsimp only; omega) (by dsimp only; omega) rfl (Nat.le_of_ble_eq_true rfl) dX3_allMoves_5 ?_
  rw [hset_hset]
  exact aw_aret C rfl (Or.inl ⟨_, rfl⟩) (Or.inr ⟨_, rfl⟩) dX3_allMoves_8 (by omega) (by omega) ⟨rfl, rfl, rfl⟩
set_option maxRecDepth 100000 in
theorem bo_vp {γ : Gm} (hG : GF γ) (l : Launch) {h : AH} {sz : Nat} {b : BT} {a gr : Nat} (hb : BRD h a gr b) (hL9 : b 2 ≤ 9) : MX γ l yX1_valueOfPasses cX1_valueOfPasses 1 (some .int) 0 0 0 0 [.ref a] h sz (RI h sz (nI (b 2 % 2))) NX := by
  obtain ⟨ca, ba, v3, v4, fc, fb, eb, eca, eba, hg, hfc, hfb⟩ := id hb
  obtain ⟨gl, gn, fl, fn, eg, egl, egn, hgl, hgn⟩ := id hg
  refine mx_start hG (by decide) (Nat.le_of_ble_eq_true rfl) (fun x C => ?_)
  refine aw_aload_n C rfl rfl dX1_valueOfPasses_0 ?_
  refine aw_getfN C ck2 5 (by decide) q626 (fun _ z => z) eb rfl dX1_valueOfPasses_1 ?_
  refine aw_iconst C (v := nI 2) (by decide) dX1_valueOfPasses_4 ?_
  refine aw_iremN C (by omega) (by omega) (by omega) dX1_valueOfPasses_5 ?_
  exact aw_iret C rfl dX1_valueOfPasses_6 (Nat.le_refl _) (Nat.le_refl _) ⟨rfl, rfl, rfl⟩
set_option maxRecDepth 100000 in
theorem co_valueOf {γ : Gm} (hG : GF γ) (l : Launch) {o : Nat} {u : CU} {g : AH} {sz : Nat}  {gr a : Nat} {b : BT} (hSp : Sep o g) (hb : BRD g a gr b) (hW : WB b) (hY : SY b) (hL9 : b 2 ≤ 9) {K : Nat} (hK : K + 1 < 2 ^ 30) (hR : SR g u K gr b) : MX γ l yX1_valueOf cX1_valueOf 2 (some .int) 40 1379 0 0 [.ref o, .ref a] (ch o u g) sz (RCi o sz g (fun r u' => r = nI ((BB b).1 ^^^ b 2 % 2) ∧ SX u u' ∧ SR g u' K gr b)) NX := by
  obtain ⟨ca, ba, v3, v4, fc, fb, eb, eca, eba, hg, hfc, hfb⟩ := id hb
  obtain ⟨gl, gn, fl, fn, eg, egl, egn, hgl, hgn⟩ := id hg
  refine mx_start hG (by decide) (Nat.le_of_ble_eq_true rfl) (fun x C => ?_)
  refine aw_aload_n C rfl rfl dX1_valueOf_0 ?_
  refine aw_callSRR C (bo_vp hG l (hb.le (ch_le hSp)) hL9) q702 q703 q95 q704 (n9 := 1) (by decide +kernel) rfl (Nat.le_of_ble_eq_true rfl) (Nat.le_of_ble_eq_true rfl) (Nat.zero_le _) (Nat.zero_le _) rfl (Nat.le_of_ble_eq_true rfl) dX1_valueOf_1 ?_
  refine aw_aload_n C rfl rfl dX1_valueOf_4 ?_
  refine aw_getf C ck0 0 (by decide) q664 (fun _ z => z) (ch_at (i := 0) rfl) rfl dX1_valueOf_5 ?_
  refine aw_aload_n C rfl rfl dX1_valueOf_8 ?_
  refine aw_aload_n C rfl rfl dX1_valueOf_9 ?_
  refine aw_callVRR C ck2 (bd_free hG l (hb.le (ch_le hSp)) hW) q705 q706 q707 q97 q708 (Or.inl (ch_le hSp _ _ eb)) (n9 := 0) (by decide +kernel) rfl (Nat.le_of_ble_eq_true rfl) (Nat.le_of_ble_eq_true rfl) (Nat.zero_le _) (Nat.zero_le _) rfl (Nat.le_of_ble_eq_true rfl) dX1_valueOf_10 ?_
  refine aw_callVI C ck1 (se_together hG l hSp hb hW hY hK (freeS_lt2 b) (fun v hv => fr_of hv) hR) q709 q710 q711 q96 q712 (ch_at (i := 1) rfl) (n9 := 2) (by decide +kernel) rfl (Nat.le_of_ble_eq_true rfl) (Nat.le_of_ble_eq_true rfl) (Nat.zero_le _) (Nat.zero_le _) rfl (Nat.le_of_ble_eq_true rfl) dX1_valueOf_13 (fun r u2 hp => ?_)
  obtain ⟨rfl, hx2, hq2⟩ := hp
  obtain ⟨hi1, hi2, hi3⟩ := bb_gb hY hW
  obtain ⟨i, hi⟩ : ∃ i, i = BB b := ⟨_, rfl⟩
  rw [show tgF (fun p => G b p (b (31 + low p))) (pts b (freeS b) (freeS b)) = i from hi.symm]
  rw [← hi] at hi1 hi2 hi3
  have hil := pq_lt (i := i) hi1 (by omega) (by omega)
  refine aw_callSRR C (cp_value hG l (p := pq i) (by omega)) q796 q782 q95 q783 (n9 := 1) (by decide +kernel) rfl (Nat.le_of_ble_eq_true rfl) (Nat.le_of_ble_eq_true rfl) (Nat.zero_le _) (Nat.zero_le _) rfl (Nat.le_of_ble_eq_true rfl) dX1_valueOf_16 ?_
  refine aw_top (show _ = nI i.1 from by rw [pq_v (by omega) (by omega)]) ?_
  refine aw_ixorN C dX1_valueOf_19 ?_
  refine aw_iret C rfl dX1_valueOf_20 (Nat.le_refl _) (Nat.le_refl _) ?_
  refine ⟨rfl, _, u2, rfl, rfl, ?_, hx2, hq2⟩
  rw [← hi, Nat.xor_comm]
set_option maxRecDepth 100000 in
theorem co_longestOf {γ : Gm} (hG : GF γ) (l : Launch) {o : Nat} {u : CU} {g : AH} {sz : Nat}  {gr a : Nat} {b : BT} (hSp : Sep o g) (hb : BRD g a gr b) (hW : WB b) (hY : SY b) (hL9 : b 2 ≤ 9) {K : Nat} (hK : K + 1 < 2 ^ 30) (hR : SR g u K gr b) : MX γ l yX1_longestOf cX1_longestOf 2 (some .int) 40 1379 0 0 [.ref o, .ref a] (ch o u g) sz (RCi o sz g (fun r u' => r = nI ((BB b).2.1 + b 2) ∧ SX u u' ∧ SR g u' K gr b)) NX := by
  obtain ⟨ca, ba, v3, v4, fc, fb, eb, eca, eba, hg, hfc, hfb⟩ := id hb
  obtain ⟨gl, gn, fl, fn, eg, egl, egn, hgl, hgn⟩ := id hg
  refine mx_start hG (by decide) (Nat.le_of_ble_eq_true rfl) (fun x C => ?_)
  refine aw_aload_n C rfl rfl dX1_longestOf_0 ?_
  refine aw_getfN C ck2 5 (by decide) q626 (fun _ z => z) (ch_le hSp _ _ eb) rfl dX1_longestOf_1 ?_
  refine aw_aload_n C rfl rfl dX1_longestOf_4 ?_
  refine aw_getf C ck0 0 (by decide) q664 (fun _ z => z) (ch_at (i := 0) rfl) rfl dX1_longestOf_5 ?_
  refine aw_aload_n C rfl rfl dX1_longestOf_8 ?_
  refine aw_aload_n C rfl rfl dX1_longestOf_9 ?_
  refine aw_callVRR C ck2 (bd_free hG l (hb.le (ch_le hSp)) hW) q705 q706 q707 q97 q708 (Or.inl (ch_le hSp _ _ eb)) (n9 := 0) (by decide +kernel) rfl (Nat.le_of_ble_eq_true rfl) (Nat.le_of_ble_eq_true rfl) (Nat.zero_le _) (Nat.zero_le _) rfl (Nat.le_of_ble_eq_true rfl) dX1_longestOf_10 ?_
  refine aw_callVI C ck1 (se_together hG l hSp hb hW hY hK (freeS_lt2 b) (fun v hv => fr_of hv) hR) q709 q710 q711 q96 q712 (ch_at (i := 1) rfl) (n9 := 2) (by decide +kernel) rfl (Nat.le_of_ble_eq_true rfl) (Nat.le_of_ble_eq_true rfl) (Nat.zero_le _) (Nat.zero_le _) rfl (Nat.le_of_ble_eq_true rfl) dX1_longestOf_13 (fun r u2 hp => ?_)
  obtain ⟨rfl, hx2, hq2⟩ := hp
  obtain ⟨hi1, hi2, hi3⟩ := bb_gb hY hW
  obtain ⟨i, hi⟩ : ∃ i, i = BB b := ⟨_, rfl⟩
  rw [show tgF (fun p => G b p (b (31 + low p))) (pts b (freeS b) (freeS b)) = i from hi.symm]
  rw [← hi] at hi1 hi2 hi3
  have hil := pq_lt (i := i) hi1 (by omega) (by omega)
  refine aw_callSRR C (cp_longest hG l (p := pq i) (by omega)) q1049 q785 q95 q786 (n9 := 1) (by decide +kernel) rfl (Nat.le_of_ble_eq_true rfl) (Nat.le_of_ble_eq_true rfl) (Nat.zero_le _) (Nat.zero_le _) rfl (Nat.le_of_ble_eq_true rfl) dX1_longestOf_16 ?_
  refine aw_top (show _ = nI i.2.1 from by rw [pq_l (by omega) (by omega)]) ?_
  refine aw_iaddN C dX1_longestOf_19 ?_
  refine aw_iret C rfl dX1_longestOf_20 (Nat.le_refl _) (Nat.le_refl _) ?_
  refine ⟨rfl, _, u2, rfl, rfl, ?_, hx2, hq2⟩
  rw [← hi, Nat.add_comm]
set_option maxRecDepth 100000 in
theorem co_of {γ : Gm} (hG : GF γ) (l : Launch) {o : Nat} {u : CU} {g : AH} {sz : Nat}  {gr a : Nat} {b : BT} (hSp : Sep o g) (hb : BRD g a gr b) (hW : WB b) (hY : SY b) {K : Nat} (hK : K + 1 < 2 ^ 30) (hR : SR g u K gr b) {pa S m : Nat} (epa : ch o u g pa = some (.inr (9, [.int (nI S), .int (nI m - nI 1)]))) (hS : S < 2 ^ b 0) (hS0 : 0 < S) (hfr : ∀ v, S.testBit v = true → fr b v = true) (hm : m ≤ 3) : MX γ l yX1_of cX1_of 3 (some .int) 39 1351 0 0 [.ref o, .ref a, .ref pa] (ch o u g) sz (RCi o sz g (fun r u' => r = nI (pq (G b S m)) ∧ SX u u' ∧ SQ u' (K + 1) gr b)) NX := by
  obtain ⟨ca, ba, v3, v4, fc, fb, eb, eca, eba, hg, hfc, hfb⟩ := id hb
  obtain ⟨gl, gn, fl, fn, eg, egl, egn, hgl, hgn⟩ := id hg
  refine mx_start hG (by decide) (Nat.le_of_ble_eq_true rfl) (fun x C => ?_)
  refine aw_aload_n C rfl rfl dX1_of_0 ?_
  refine aw_getf C ck0 0 (by decide) q664 (fun _ z => z) (ch_at (i := 0) rfl) rfl dX1_of_1 ?_
  refine aw_aload_n C rfl rfl dX1_of_4 ?_
  refine aw_aload_n C rfl rfl dX1_of_5 ?_
  refine aw_callVRR C ck9 (pt_set hG l epa) q1115 q1079 q1080 q129 q1081 (Or.inl epa) (n9 := 0) (by decide +kernel) rfl (Nat.le_of_ble_eq_true rfl) (Nat.le_of_ble_eq_true rfl) (Nat.zero_le _) (Nat.zero_le _) rfl (Nat.le_of_ble_eq_true rfl) dX1_of_6 ?_
  refine aw_aload_n C rfl rfl dX1_of_9 ?_
  refine aw_callVRR C ck9 (pt_ban hG l epa) q1116 q1117 q1118 q129 q1119 (Or.inl epa) (n9 := 0) (by decide +kernel) rfl (Nat.le_of_ble_eq_true rfl) (Nat.le_of_ble_eq_true rfl) (Nat.zero_le _) (Nat.zero_le _) rfl (Nat.le_of_ble_eq_true rfl) dX1_of_10 ?_
  refine aw_callVI C ck1 (se_part hG l hSp hb hW hY hK hS hS0 hfr hm hR) q1120 q730 q731 q96 q732 (ch_at (i := 1) rfl) (n9 := 3) (by decide +kernel) rfl (Nat.le_of_ble_eq_true rfl) (Nat.le_of_ble_eq_true rfl) (Nat.zero_le _) (Nat.zero_le _) rfl (Nat.le_of_ble_eq_true rfl) dX1_of_13 (fun r u2 hp => ?_)
  obtain ⟨rfl, hx2, hq2⟩ := hp
  exact aw_iret C rfl dX1_of_16 (Nat.le_refl _) (Nat.le_refl _) ⟨rfl, _, u2, rfl, rfl, rfl, hx2, hq2⟩
