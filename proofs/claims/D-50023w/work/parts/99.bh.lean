/-! a vertex's part by its number -/
theorem pts_cov {b : BT} {S : Nat} (hS : S < 512) : ∀ left, left < 512 → ∀ i, left.testBit i = true → ∃ p, p ∈ pts b S left ∧ p.testBit i = true := by
  intro left
  induction left using Nat.strongRecOn with
  | ind left ih =>
    intro h i hi
    by_cases h0 : left = 0
    · subst h0
      simp at hi
    · rw [pts_s b S (by omega) h]
      have hl := (low_bit left h (by omega)).1
      have hd := nd_lt_of hl (rch_self b (low left) S)
      by_cases q : (rch b (low left) S).testBit i = true
      · exact ⟨_, List.mem_cons_self, q⟩
      · obtain ⟨p, p1, p2⟩ := ih _ hd (nd_lt h) i (by rw [nd_bit, hi]; simp [q])
        exact ⟨p, List.mem_cons_of_mem _ p1, p2⟩
theorem getD_at {L : List Nat} {k : Nat} (hk : k < L.length) : L.getD k 0 = L[k] := by
  rw [List.getD_eq_getElem?_getD, List.getElem?_eq_getElem hk]
  rfl
set_option maxRecDepth 100000 in
theorem bo_partNumber {γ : Gm} (hG : GF γ) (l : Launch) {h : AH} {sz : Nat} {mi : Nat} (hB : GBO γ mi) {b : BT} {a gr : Nat} (hb : BRD h a gr b) (hW : WB b) (hY : SY b) (hD : Dm h sz) {v : Nat} (hv : v < b 0) : MX γ l yX3_partNumber cX3_partNumber 4 (some .int) 19 424 20 106 [.ref a, .int (nI v)] h sz (fun v9 h' sz' => v9 = some (.int (if fr b v = true then nI (partN b v) else -1)) ∧ sz ≤ sz' ∧ sz' ≤ sz + 20 ∧ ∀ q, q < sz → h' q = h q) NX := by
  refine mx_start hG (by decide) (Nat.le_of_ble_eq_true rfl) (fun x C => ?_)
  obtain ⟨ca, ba, v3, v4, fc, fb, eb, eca, eba, hg, hfc, hfb⟩ := id hb
  obtain ⟨gl, gn, fl, fn, eg, egl, egn, hgl, hgn⟩ := id hg
  have hN := hW.2.1
  have hF := freeS_lt (b := b) hN
  have hnp2 : (pts b (freeS b) (freeS b)).length ≤ 9 := npts_le (b := b) hF
  refine aw_aload_n C rfl rfl dX3_partNumber_0 ?_
  refine aw_callV C ck2 (bo_parts hG l hB hb hW hY hD) q1571 q1060 q1061 q97 q1062 eb (n9 := 0) (by decide +kernel) rfl (Nat.le_of_ble_eq_true rfl) (Nat.le_of_ble_eq_true rfl) (by dsimp only; omega) (by dsimp only; omega) rfl (Nat.le_of_ble_eq_true rfl) dX3_partNumber_1 (fun _ _ _ z => z.elim) (fun v9 h2 s2 hp => ?_)
  obtain ⟨rfl, hs1, hs2, fr2, cap, el, mo, f, hp⟩ := hp
  have key : ∀ j k, k ≤ (pts b (freeS b) (freeS b)).length → (pts b (freeS b) (freeS b)).length + 1 ≤ k + j → (∀ j, j < k → ((pts b (freeS b) (freeS b)).getD j 0).testBit v = false) → AW γ l x (QX γ x 20 106 (fun v9 h' sz' => v9 = some (.int (if fr b v = true then nI (partN b v) else -1)) ∧ sz ≤ sz' ∧ sz' ≤ sz + 20 ∧ ∀ q, q < sz → h' q = h q) NX) 4 h2 s2 20 106 7 [(0, .ref a), (1, .int (nI v)), (2, .ref sz), (3, .int (nI k))] [] := by
    intro j
    induction j with
    | zero => intro k h1x h2 h3; exact absurd h2 (by omega)
    | succ j ih =>
      intro k h1x h2 h3
      refine aw_iload_n C rfl rfl dX3_partNumber_7 ?_
      refine aw_aload_n C rfl rfl dX3_partNumber_8 ?_
      refine aw_callF C ck12 (al_size hG l hp.1 hp.2.1) q1573 q1086 q1088 q102 q1090 hB.2.1.2.2.2.1 hp.1 (n9 := 0) (by decide +kernel) rfl (Nat.le_of_ble_eq_true rfl) (Nat.le_of_ble_eq_true rfl) (by dsimp only; omega) (by dsimp only; omega) rfl (Nat.le_of_ble_eq_true rfl) dX3_partNumber_9 (fun _ _ _ z => z.elim) (fun v9 h9 sz9 hp9 => ?_)
      obtain ⟨rfl, rfl, rfl⟩ := hp9
      refine aw_top rfl ?_
      refine aw_icmpN_ge C (tgt := 45) (by omega) (by omega) dX3_partNumber_14 (by decide) (fun g14 => ?_) (fun g14 => ?_)
      · refine aw_iconst C (v := -1) (by decide) dX3_partNumber_45 ?_
        refine aw_iret C rfl dX3_partNumber_46 (by omega) (by omega) ?_
        refine ⟨?_, hs1, hs2, fr2⟩
        have hfv : ¬ fr b v = true := fun hf => by
          obtain ⟨p, p1, p2⟩ := pts_cov (b := b) hF (freeS b) hF v (by rw [freeS_bit, hf]; simp; omega)
          obtain ⟨j, hj, e⟩ := List.getElem_of_mem p1
          have := h3 j (by omega)
          rw [getD_at hj, e, p2] at this
          cases this
        rw [if_neg hfv]
      · have hk : k < (pts b (freeS b) (freeS b)).length := by omega
        obtain ⟨z, z1, z2⟩ := hp.2.2.2.2.2 k hk
        have hcp := hp.2.2.2.2.1
        have hge := getD_at hk
        have hpm := pts_mem hF _ hF (fun _ h => h) _ (List.getElem_mem hk)
        rw [← hge] at hpm
        have hp512 := hpm.2.1
        refine aw_aload_n C rfl rfl dX3_partNumber_17 ?_
        refine aw_iload_n C rfl rfl dX3_partNumber_18 ?_
        refine aw_callFPv C ck12 (al_get hG l hp.1 hp.2.1 (i := k) (z := z) (by omega) hp.2.2.2.1 (by omega) z1) q1575 q1095 q1097 q102 q1099 hB.2.1.2.2.2.2.1 hp.1 (n9 := 1) (by decide +kernel) rfl (Nat.le_of_ble_eq_true rfl) (Nat.le_of_ble_eq_true rfl) (by dsimp only; omega) (by dsimp only; omega) rfl (Nat.le_of_ble_eq_true rfl) dX3_partNumber_19 ?_
        refine aw_castS C ck9 q1063 z2 dX3_partNumber_24 ?_
        refine aw_callVRR C ck9 (pt_set hG l z2) q1078 q1079 q1080 q129 q1081 (Or.inl z2) (n9 := 0) (by decide +kernel) rfl (Nat.le_of_ble_eq_true rfl) (Nat.le_of_ble_eq_true rfl) (by dsimp only; omega) (by dsimp only; omega) rfl (Nat.le_of_ble_eq_true rfl) dX3_partNumber_27 ?_
        refine aw_iload_n C rfl rfl dX3_partNumber_30 ?_
        refine aw_callSNR C (cp_has hG l (by omega) (by omega)) q741 q154 q95 q155 (n9 := 2) (by decide +kernel) rfl (Nat.le_of_ble_eq_true rfl) (Nat.le_of_ble_eq_true rfl) (by dsimp only; omega) (by dsimp only; omega) rfl (Nat.le_of_ble_eq_true rfl) dX3_partNumber_31 ?_
        refine aw_bit_eq0 C (tgt := 39) dX3_partNumber_34 (by decide) (fun g34 => ?_) (fun g34 => ?_)
        · refine aw_iinc1 C rfl (by decide) rfl dX3_partNumber_39 ?_
          refine aw_goto C (tgt := 7) dX3_partNumber_42 (by decide) ?_
          exact aw_lo (ih (k + 1) (by omega) (by omega) (fun j hj => by by_cases e : j = k; rw [e]; exact g34; exact h3 j (by omega))) ⟨rfl, rfl, rfl, rfl, trivial⟩
        · refine aw_iload_n C rfl rfl dX3_partNumber_37 ?_
          refine aw_iret C rfl dX3_partNumber_38 (by omega) (by omega) ?_
          have hfv : fr b v = true := fr_of (hpm.1 v g34)
          refine ⟨?_, hs1, hs2, fr2⟩
          rw [if_pos hfv]
          have : partN b v = k := by
            unfold partN
            rw [List.findIdx_eq hk]
            refine ⟨by rw [← hge]; exact g34, fun j hj => ?_⟩
            rw [← getD_at (by omega)]
            exact h3 j hj
          rw [this]
  refine aw_astore_n C rfl (by decide) rfl dX3_partNumber_4 ?_
  refine aw_iconst C (v := nI 0) (by decide) dX3_partNumber_5 ?_
  refine aw_istore_n C rfl (by decide) rfl dX3_partNumber_6 ?_
  exact aw_lo (key ((pts b (freeS b) (freeS b)).length + 1) 0 (Nat.zero_le _) (by omega) (fun j hj => absurd hj (Nat.not_lt_zero j))) ⟨rfl, rfl, rfl, rfl, trivial⟩
