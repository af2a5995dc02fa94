/-! count -/
theorem isI_no {w : Int32} {n : Nat} (hn : n < 2 ^ 31) (h : isI w (nI 0) (nI n) = false) : w.toInt < 0 ∨ (n : Int) < w.toInt := by
  have h1 : ¬ (nI 0 ≤ w ∧ w ≤ nI n) := of_decide_eq_false h
  rw [Int32.le_iff_toInt_le, Int32.le_iff_toInt_le, nI_int (by omega), nI_int (by omega)] at h1
  omega
set_option maxRecDepth 100000 in
theorem pc_count {γ : Gm} (hG : GF γ) (l : Launch) {o : Nat} {u : CU} {g : AH} {sz : Nat} {ρ : Nat} (hU : RUL γ ρ) (hI : FRU γ) {mi : Nat} (hB : GBO γ mi) (hX : GEX γ l) {K : Nat} {s : SS} (hC : CS o sz u g K s) (hA : WA s.1) (w : Int32) : MX γ l yX1_count cX1_count 2 (some .int) 7 157 1 6 [.ref o, .int w] (ch o u g) sz (PCV o K (spCnt s.1 w, s)) (PCX o K "java/lang/IllegalArgumentException" "" (spCnt s.1 w, s)) := by
  refine mx_start hG (by decide) (Nat.le_of_ble_eq_true rfl) (fun x C => ?_)
  obtain ⟨hSp, hsz, hI9, ⟨gr, cap, hbc, hg, hc9⟩, hrest⟩ := id hC
  obtain ⟨a, hcu⟩ : ∃ a, u.2.2.2.2 = a := ⟨_, rfl⟩
  rw [hcu] at hbc
  obtain ⟨b, hbs⟩ : ∃ b, s.1 = b := ⟨_, rfl⟩
  rw [hbs] at hbc hg hA
  have hb : BRD g a gr b := hbc.brd hg
  have hpf := pairs_free b
  obtain ⟨ca, ba, v3, v4, fc, fb, eb, eca, eba, hg, hfc, hfb⟩ := id hb
  obtain ⟨gl, gn, fl, fn, eg, egl, egn, hgl, hgn⟩ := id hg
  have hN := hA.1.2.1
  have hF := freeS_lt (b := b) hN
  obtain ⟨ca2, ba2, ac, a0, a1, li, el, mo, fc2, fb2, f, -, eb2, -, -, -, -, -, eli, eel, -⟩ := id hbc
  refine aw_iload_n C rfl rfl dX1_count_0 ?_
  cases e : isI w (nI 0) (nI 12) with
  | false =>
    refine aw_tableOut C (tgt := 230) dX1_count_1 (isI_no (by decide) e) (by decide) ?_
    exact aw_throw0 C hX.1 hX.2 xf_Argument xn_all xw_Argument.1 xw_Argument.2.1 xw_Argument.2.2 dX1_count_230 dX1_count_233 dX1_count_234 dX1_count_237 (Nat.le_of_ble_eq_true rfl) (Nat.le_of_ble_eq_true rfl) (Nat.le_of_ble_eq_true rfl) (Nat.le_of_ble_eq_true rfl) (Nat.le_of_ble_eq_true rfl) (Nat.le_of_ble_eq_true rfl) (fun sz' q => ⟨Or.inl ⟨by unfold spCnt; rw [if_pos e], rfl⟩, u, g, rfl, hC.mono q⟩)
  | true =>
    obtain ⟨w1, rfl, -, hw1⟩ := isI_ex (by decide) (by decide) e
    have ew : spCnt s.1 (nI w1) = (0, cntN s.1 w1) := by
      unfold spCnt
      rw [if_neg (by rw [e]; decide), nt_n (by omega)]
    rw [ew]
    obtain rfl | rfl | rfl | rfl | rfl | rfl | rfl | rfl | rfl | rfl | rfl | rfl | rfl : w1 = 0 ∨ w1 = 1 ∨ w1 = 2 ∨ w1 = 3 ∨ w1 = 4 ∨ w1 = 5 ∨ w1 = 6 ∨ w1 = 7 ∨ w1 = 8 ∨ w1 = 9 ∨ w1 = 10 ∨ w1 = 11 ∨ w1 = 12 := by omega
    · refine aw_tableIn C (off := 67) (tgt := 68) dX1_count_1 (by decide) (by decide) (by decide) (by decide) ?_
      refine aw_aload_n C rfl rfl dX1_count_68 ?_
      refine aw_getf C ck0 1 (by decide) q665 (fun _ z => z) (ch_at (i := 0) rfl) rfl dX1_count_69 ?_
      refine aw_topV (congrArg Value.ref hcu) ?_
      refine aw_getfN C ck2 0 (by decide) q612 (fun _ z => z) (ch_le hSp _ _ eb) rfl dX1_count_72 ?_
      refine aw_getfN C ck3 3 (by decide) q217 (fun _ z => z) (ch_le hSp _ _ eg) rfl dX1_count_75 ?_
      exact aw_iret C rfl dX1_count_78 (by omega) (by omega) ⟨rfl, by rw [hbs]; first | rfl | (show some (Value.int (nI (edgeB b (2 ^ b 0 - 1) / 2))) = some (Value.int (nI (edgeB b ((1 <<< b 0) - 1) / 2))); rw [Nat.shiftLeft_eq, Nat.one_mul]) | (rw [pairs_free]; rfl) | (show _ = some (Value.int (if over b = true then nI (1 - b 3 % 2) else -1)); first | rw [if_pos gP] | rw [if_neg (by rw [gP]; decide)]) | (show _ = some (Value.int (nI (if over b = true then 1 else 0))); first | rw [if_pos gO] | rw [if_neg (by rw [gO]; decide)]), u, g, rfl, hC⟩
    · refine aw_tableIn C (off := 78) (tgt := 79) dX1_count_1 (by decide) (by decide) (by decide) (by decide) ?_
      refine aw_aload_n C rfl rfl dX1_count_79 ?_
      refine aw_getf C ck0 1 (by decide) q665 (fun _ z => z) (ch_at (i := 0) rfl) rfl dX1_count_80 ?_
      refine aw_topV (congrArg Value.ref hcu) ?_
      refine aw_getfN C ck2 0 (by decide) q612 (fun _ z => z) (ch_le hSp _ _ eb) rfl dX1_count_83 ?_
      refine aw_getfN C ck3 4 (by decide) q219 (fun _ z => z) (ch_le hSp _ _ eg) rfl dX1_count_86 ?_
      exact aw_iret C rfl dX1_count_89 (by omega) (by omega) ⟨rfl, by rw [hbs]; first | rfl | (show some (Value.int (nI (edgeB b (2 ^ b 0 - 1) / 2))) = some (Value.int (nI (edgeB b ((1 <<< b 0) - 1) / 2))); rw [Nat.shiftLeft_eq, Nat.one_mul]) | (rw [pairs_free]; rfl) | (show _ = some (Value.int (if over b = true then nI (1 - b 3 % 2) else -1)); first | rw [if_pos gP] | rw [if_neg (by rw [gP]; decide)]) | (show _ = some (Value.int (nI (if over b = true then 1 else 0))); first | rw [if_pos gO] | rw [if_neg (by rw [gO]; decide)]), u, g, rfl, hC⟩
    · refine aw_tableIn C (off := 89) (tgt := 90) dX1_count_1 (by decide) (by decide) (by decide) (by decide) ?_
      refine aw_aload_n C rfl rfl dX1_count_90 ?_
      refine aw_getf C ck0 1 (by decide) q665 (fun _ z => z) (ch_at (i := 0) rfl) rfl dX1_count_91 ?_
      refine aw_topV (congrArg Value.ref hcu) ?_
      refine aw_getfN C ck2 0 (by decide) q612 (fun _ z => z) (ch_le hSp _ _ eb) rfl dX1_count_94 ?_
      refine aw_getfN C ck3 0 (by decide) q201 (fun _ z => z) (ch_le hSp _ _ eg) rfl dX1_count_97 ?_
      exact aw_iret C rfl dX1_count_100 (by omega) (by omega) ⟨rfl, by rw [hbs]; first | rfl | (show some (Value.int (nI (edgeB b (2 ^ b 0 - 1) / 2))) = some (Value.int (nI (edgeB b ((1 <<< b 0) - 1) / 2))); rw [Nat.shiftLeft_eq, Nat.one_mul]) | (rw [pairs_free]; rfl) | (show _ = some (Value.int (if over b = true then nI (1 - b 3 % 2) else -1)); first | rw [if_pos gP] | rw [if_neg (by rw [gP]; decide)]) | (show _ = some (Value.int (nI (if over b = true then 1 else 0))); first | rw [if_pos gO] | rw [if_neg (by rw [gO]; decide)]), u, g, rfl, hC⟩
    · refine aw_tableIn C (off := 100) (tgt := 101) dX1_count_1 (by decide) (by decide) (by decide) (by decide) ?_
      refine aw_aload_n C rfl rfl dX1_count_101 ?_
      refine aw_getf C ck0 1 (by decide) q665 (fun _ z => z) (ch_at (i := 0) rfl) rfl dX1_count_102 ?_
      refine aw_topV (congrArg Value.ref hcu) ?_
      refine aw_getfN C ck2 5 (by decide) q626 (fun _ z => z) (ch_le hSp _ _ eb) rfl dX1_count_105 ?_
      exact aw_iret C rfl dX1_count_108 (by omega) (by omega) ⟨rfl, by rw [hbs]; first | rfl | (show some (Value.int (nI (edgeB b (2 ^ b 0 - 1) / 2))) = some (Value.int (nI (edgeB b ((1 <<< b 0) - 1) / 2))); rw [Nat.shiftLeft_eq, Nat.one_mul]) | (rw [pairs_free]; rfl) | (show _ = some (Value.int (if over b = true then nI (1 - b 3 % 2) else -1)); first | rw [if_pos gP] | rw [if_neg (by rw [gP]; decide)]) | (show _ = some (Value.int (nI (if over b = true then 1 else 0))); first | rw [if_pos gO] | rw [if_neg (by rw [gO]; decide)]), u, g, rfl, hC⟩
    · refine aw_tableIn C (off := 108) (tgt := 109) dX1_count_1 (by decide) (by decide) (by decide) (by decide) ?_
      refine aw_aload_n C rfl rfl dX1_count_109 ?_
      refine aw_getf C ck0 1 (by decide) q665 (fun _ z => z) (ch_at (i := 0) rfl) rfl dX1_count_110 ?_
      refine aw_topV (congrArg Value.ref hcu) ?_
      refine aw_callVRR C ck2 (bd_free hG l (hb.le (ch_le hSp)) hA.1) q705 q706 q707 q97 q708 (Or.inl (ch_le hSp _ _ eb)) (n9 := 0) (by decide +kernel) rfl (Nat.le_of_ble_eq_true rfl) (Nat.le_of_ble_eq_true rfl) (Nat.zero_le _) (Nat.zero_le _) rfl (Nat.le_of_ble_eq_true rfl) dX1_count_113 ?_
      refine aw_callSRR C (cp_bitCount hG l hF) q749 q750 q118 q751 (n9 := 1) (by decide +kernel) rfl (Nat.le_of_ble_eq_true rfl) (Nat.le_of_ble_eq_true rfl) (Nat.zero_le _) (Nat.zero_le _) rfl (Nat.le_of_ble_eq_true rfl) dX1_count_116 ?_
      exact aw_iret C rfl dX1_count_119 (by omega) (by omega) ⟨rfl, by rw [hbs]; first | rfl | (show some (Value.int (nI (edgeB b (2 ^ b 0 - 1) / 2))) = some (Value.int (nI (edgeB b ((1 <<< b 0) - 1) / 2))); rw [Nat.shiftLeft_eq, Nat.one_mul]) | (rw [pairs_free]; rfl) | (show _ = some (Value.int (if over b = true then nI (1 - b 3 % 2) else -1)); first | rw [if_pos gP] | rw [if_neg (by rw [gP]; decide)]) | (show _ = some (Value.int (nI (if over b = true then 1 else 0))); first | rw [if_pos gO] | rw [if_neg (by rw [gO]; decide)]), u, g, rfl, hC⟩
    · refine aw_tableIn C (off := 119) (tgt := 120) dX1_count_1 (by decide) (by decide) (by decide) (by decide) ?_
      refine aw_aload_n C rfl rfl dX1_count_120 ?_
      refine aw_getf C ck0 1 (by decide) q665 (fun _ z => z) (ch_at (i := 0) rfl) rfl dX1_count_121 ?_
      refine aw_topV (congrArg Value.ref hcu) ?_
      refine aw_getfN C ck2 0 (by decide) q612 (fun _ z => z) (ch_le hSp _ _ eb) rfl dX1_count_124 ?_
      refine aw_aload_n C rfl rfl dX1_count_127 ?_
      refine aw_getf C ck0 1 (by decide) q665 (fun _ z => z) (ch_at (i := 0) rfl) rfl dX1_count_128 ?_
      refine aw_topV (congrArg Value.ref hcu) ?_
      refine aw_callVRR C ck2 (bd_free hG l (hb.le (ch_le hSp)) hA.1) q705 q706 q707 q97 q708 (Or.inl (ch_le hSp _ _ eb)) (n9 := 0) (by decide +kernel) rfl (Nat.le_of_ble_eq_true rfl) (Nat.le_of_ble_eq_true rfl) (Nat.zero_le _) (Nat.zero_le _) rfl (Nat.le_of_ble_eq_true rfl) dX1_count_131 ?_
      refine aw_callVRR C ck3 (bd_countParts hG l (hg.le (ch_le hSp)) hN hA.2.2.1 (freeS_lt2 b)) q1513 q995 q996 q98 q997 (Or.inl (ch_le hSp _ _ eg)) (n9 := 1) (by decide +kernel) rfl (Nat.le_of_ble_eq_true rfl) (Nat.le_of_ble_eq_true rfl) (Nat.zero_le _) (Nat.zero_le _) rfl (Nat.le_of_ble_eq_true rfl) dX1_count_134 ?_
      exact aw_iret C rfl dX1_count_137 (by omega) (by omega) ⟨rfl, by rw [hbs]; first | rfl | (show some (Value.int (nI (edgeB b (2 ^ b 0 - 1) / 2))) = some (Value.int (nI (edgeB b ((1 <<< b 0) - 1) / 2))); rw [Nat.shiftLeft_eq, Nat.one_mul]) | (rw [pairs_free]; rfl) | (show _ = some (Value.int (if over b = true then nI (1 - b 3 % 2) else -1)); first | rw [if_pos gP] | rw [if_neg (by rw [gP]; decide)]) | (show _ = some (Value.int (nI (if over b = true then 1 else 0))); first | rw [if_pos gO] | rw [if_neg (by rw [gO]; decide)]), u, g, rfl, hC⟩
    · refine aw_tableIn C (off := 137) (tgt := 138) dX1_count_1 (by decide) (by decide) (by decide) (by decide) ?_
      refine aw_aload_n C rfl rfl dX1_count_138 ?_
      refine aw_getf C ck0 1 (by decide) q665 (fun _ z => z) (ch_at (i := 0) rfl) rfl dX1_count_139 ?_
      refine aw_topV (congrArg Value.ref hcu) ?_
      refine aw_getfN C ck2 6 (by decide) q628 (fun _ z => z) (ch_le hSp _ _ eb) rfl dX1_count_142 ?_
      exact aw_iret C rfl dX1_count_145 (by omega) (by omega) ⟨rfl, by rw [hbs]; first | rfl | (show some (Value.int (nI (edgeB b (2 ^ b 0 - 1) / 2))) = some (Value.int (nI (edgeB b ((1 <<< b 0) - 1) / 2))); rw [Nat.shiftLeft_eq, Nat.one_mul]) | (rw [pairs_free]; rfl) | (show _ = some (Value.int (if over b = true then nI (1 - b 3 % 2) else -1)); first | rw [if_pos gP] | rw [if_neg (by rw [gP]; decide)]) | (show _ = some (Value.int (nI (if over b = true then 1 else 0))); first | rw [if_pos gO] | rw [if_neg (by rw [gO]; decide)]), u, g, rfl, hC⟩
    · refine aw_tableIn C (off := 145) (tgt := 146) dX1_count_1 (by decide) (by decide) (by decide) (by decide) ?_
      refine aw_aload_n C rfl rfl dX1_count_146 ?_
      refine aw_getf C ck0 1 (by decide) q665 (fun _ z => z) (ch_at (i := 0) rfl) rfl dX1_count_147 ?_
      refine aw_topV (congrArg Value.ref hcu) ?_
      refine aw_getfN C ck2 4 (by decide) q622 (fun _ z => z) (ch_le hSp _ _ eb2) rfl dX1_count_150 ?_
      refine aw_callF C ck12 (al_size hG l (ch_le hSp _ _ eli) (ch_le hSp _ _ eel)) q1083 q1086 q1088 q102 q1090 hB.2.1.2.2.2.1 (ch_le hSp _ _ eli) (n9 := 0) (by decide +kernel) rfl (Nat.le_of_ble_eq_true rfl) (Nat.le_of_ble_eq_true rfl) (by dsimp only; omega) (by dsimp only; omega) rfl (Nat.le_of_ble_eq_true rfl) dX1_count_153 (fun _ _ _ z => z.elim) (fun v9 h9 sz9 hp9 => ?_)
      obtain ⟨rfl, rfl, rfl⟩ := hp9
      refine aw_top rfl ?_
      exact aw_iret C rfl dX1_count_158 (by omega) (by omega) ⟨rfl, by rw [hbs]; first | rfl | (show some (Value.int (nI (edgeB b (2 ^ b 0 - 1) / 2))) = some (Value.int (nI (edgeB b ((1 <<< b 0) - 1) / 2))); rw [Nat.shiftLeft_eq, Nat.one_mul]) | (rw [pairs_free]; rfl) | (show _ = some (Value.int (if over b = true then nI (1 - b 3 % 2) else -1)); first | rw [if_pos gP] | rw [if_neg (by rw [gP]; decide)]) | (show _ = some (Value.int (nI (if over b = true then 1 else 0))); first | rw [if_pos gO] | rw [if_neg (by rw [gO]; decide)]), u, g, rfl, hC⟩
    · refine aw_tableIn C (off := 158) (tgt := 159) dX1_count_1 (by decide) (by decide) (by decide) (by decide) ?_
      refine aw_aload_n C rfl rfl dX1_count_159 ?_
      refine aw_getf C ck0 1 (by decide) q665 (fun _ z => z) (ch_at (i := 0) rfl) rfl dX1_count_160 ?_
      refine aw_topV (congrArg Value.ref hcu) ?_
      refine aw_callVRR C ck2 (bd_isOver hG l hU hI (hb.le (ch_le hSp)) hA.1 hA.2.2.2.1) q1514 q1515 q1516 q97 q1517 (Or.inl (ch_le hSp _ _ eb)) (n9 := 0) (by decide +kernel) rfl (Nat.le_of_ble_eq_true rfl) (Nat.le_of_ble_eq_true rfl) (Nat.zero_le _) (Nat.zero_le _) rfl (Nat.le_of_ble_eq_true rfl) dX1_count_163 ?_
      refine aw_bit_eq0 C (tgt := 173) dX1_count_166 (by decide) (fun gO => ?_) (fun gO => ?_)
      · refine aw_iconst C (v := nI 0) (by decide) dX1_count_173 ?_
        exact aw_iret C rfl dX1_count_174 (by omega) (by omega) ⟨rfl, by rw [hbs]; first | rfl | (show some (Value.int (nI (edgeB b (2 ^ b 0 - 1) / 2))) = some (Value.int (nI (edgeB b ((1 <<< b 0) - 1) / 2))); rw [Nat.shiftLeft_eq, Nat.one_mul]) | (rw [pairs_free]; rfl) | (show _ = some (Value.int (if over b = true then nI (1 - b 3 % 2) else -1)); first | rw [if_pos gP] | rw [if_neg (by rw [gP]; decide)]) | (show _ = some (Value.int (nI (if over b = true then 1 else 0))); first | rw [if_pos gO] | rw [if_neg (by rw [gO]; decide)]), u, g, rfl, hC⟩
      · refine aw_iconst C (v := nI 1) (by decide) dX1_count_169 ?_
        refine aw_goto C (tgt := 174) dX1_count_170 (by decide) ?_
        exact aw_iret C rfl dX1_count_174 (by omega) (by omega) ⟨rfl, by rw [hbs]; first | rfl | (show some (Value.int (nI (edgeB b (2 ^ b 0 - 1) / 2))) = some (Value.int (nI (edgeB b ((1 <<< b 0) - 1) / 2))); rw [Nat.shiftLeft_eq, Nat.one_mul]) | (rw [pairs_free]; rfl) | (show _ = some (Value.int (if over b = true then nI (1 - b 3 % 2) else -1)); first | rw [if_pos gP] | rw [if_neg (by rw [gP]; decide)]) | (show _ = some (Value.int (nI (if over b = true then 1 else 0))); first | rw [if_pos gO] | rw [if_neg (by rw [gO]; decide)]), u, g, rfl, hC⟩
    · refine aw_tableIn C (off := 174) (tgt := 175) dX1_count_1 (by decide) (by decide) (by decide) (by decide) ?_
      refine aw_aload_n C rfl rfl dX1_count_175 ?_
      refine aw_getf C ck0 1 (by decide) q665 (fun _ z => z) (ch_at (i := 0) rfl) rfl dX1_count_176 ?_
      refine aw_topV (congrArg Value.ref hcu) ?_
      refine aw_callVRR C ck2 (bd_isOver hG l hU hI (hb.le (ch_le hSp)) hA.1 hA.2.2.2.1) q1514 q1515 q1516 q97 q1517 (Or.inl (ch_le hSp _ _ eb)) (n9 := 0) (by decide +kernel) rfl (Nat.le_of_ble_eq_true rfl) (Nat.le_of_ble_eq_true rfl) (Nat.zero_le _) (Nat.zero_le _) rfl (Nat.le_of_ble_eq_true rfl) dX1_count_179 ?_
      refine aw_bit_eq0 C (tgt := 197) dX1_count_182 (by decide) (fun gP => ?_) (fun gP => ?_)
      · refine aw_iconst C (v := -1) (by decide) dX1_count_197 ?_
        exact aw_iret C rfl dX1_count_198 (by omega) (by omega) ⟨rfl, by rw [hbs]; first | rfl | (show some (Value.int (nI (edgeB b (2 ^ b 0 - 1) / 2))) = some (Value.int (nI (edgeB b ((1 <<< b 0) - 1) / 2))); rw [Nat.shiftLeft_eq, Nat.one_mul]) | (rw [pairs_free]; rfl) | (show _ = some (Value.int (if over b = true then nI (1 - b 3 % 2) else -1)); first | rw [if_pos gP] | rw [if_neg (by rw [gP]; decide)]) | (show _ = some (Value.int (nI (if over b = true then 1 else 0))); first | rw [if_pos gO] | rw [if_neg (by rw [gO]; decide)]), u, g, rfl, hC⟩
      · refine aw_iconst C (v := nI 1) (by decide) dX1_count_185 ?_
        refine aw_aload_n C rfl rfl dX1_count_186 ?_
        refine aw_getf C ck0 1 (by decide) q665 (fun _ z => z) (ch_at (i := 0) rfl) rfl dX1_count_187 ?_
        refine aw_topV (congrArg Value.ref hcu) ?_
        refine aw_getfN C ck2 6 (by decide) q628 (fun _ z => z) (ch_le hSp _ _ eb) rfl dX1_count_190 ?_
        refine aw_isubN C (by omega) dX1_count_193 ?_
        refine aw_goto C (tgt := 198) dX1_count_194 (by decide) ?_
        exact aw_iret C rfl dX1_count_198 (by omega) (by omega) ⟨rfl, by rw [hbs]; first | rfl | (show some (Value.int (nI (edgeB b (2 ^ b 0 - 1) / 2))) = some (Value.int (nI (edgeB b ((1 <<< b 0) - 1) / 2))); rw [Nat.shiftLeft_eq, Nat.one_mul]) | (rw [pairs_free]; rfl) | (show _ = some (Value.int (if over b = true then nI (1 - b 3 % 2) else -1)); first | rw [if_pos gP] | rw [if_neg (by rw [gP]; decide)]) | (show _ = some (Value.int (nI (if over b = true then 1 else 0))); first | rw [if_pos gO] | rw [if_neg (by rw [gO]; decide)]), u, g, rfl, hC⟩
    · refine aw_tableIn C (off := 198) (tgt := 199) dX1_count_1 (by decide) (by decide) (by decide) (by decide) ?_
      refine aw_aload_n C rfl rfl dX1_count_199 ?_
      refine aw_getf C ck0 1 (by decide) q665 (fun _ z => z) (ch_at (i := 0) rfl) rfl dX1_count_200 ?_
      refine aw_topV (congrArg Value.ref hcu) ?_
      refine aw_aload_n C rfl rfl dX1_count_203 ?_
      refine aw_getf C ck0 1 (by decide) q665 (fun _ z => z) (ch_at (i := 0) rfl) rfl dX1_count_204 ?_
      refine aw_topV (congrArg Value.ref hcu) ?_
      refine aw_callVRR C ck2 (bd_free hG l (hb.le (ch_le hSp)) hA.1) q705 q706 q707 q97 q708 (Or.inl (ch_le hSp _ _ eb)) (n9 := 0) (by decide +kernel) rfl (Nat.le_of_ble_eq_true rfl) (Nat.le_of_ble_eq_true rfl) (Nat.zero_le _) (Nat.zero_le _) rfl (Nat.le_of_ble_eq_true rfl) dX1_count_207 ?_
      refine aw_callVRR C ck2 (bd_pairs hG l hU hI (hb.le (ch_le hSp)) hA.1 hF) q1529 q1519 q1520 q97 q1521 (Or.inl (ch_le hSp _ _ eb)) (n9 := 1) (by decide +kernel) rfl (Nat.le_of_ble_eq_true rfl) (Nat.le_of_ble_eq_true rfl) (Nat.zero_le _) (Nat.zero_le _) rfl (Nat.le_of_ble_eq_true rfl) dX1_count_210 ?_
      exact aw_iret C rfl dX1_count_213 (by omega) (by omega) ⟨rfl, by rw [hbs]; first | rfl | (show some (Value.int (nI (edgeB b (2 ^ b 0 - 1) / 2))) = some (Value.int (nI (edgeB b ((1 <<< b 0) - 1) / 2))); rw [Nat.shiftLeft_eq, Nat.one_mul]) | (rw [pairs_free]; rfl) | (show _ = some (Value.int (if over b = true then nI (1 - b 3 % 2) else -1)); first | rw [if_pos gP] | rw [if_neg (by rw [gP]; decide)]) | (show _ = some (Value.int (nI (if over b = true then 1 else 0))); first | rw [if_pos gO] | rw [if_neg (by rw [gO]; decide)]), u, g, rfl, hC⟩
    · refine aw_tableIn C (off := 213) (tgt := 214) dX1_count_1 (by decide) (by decide) (by decide) (by decide) ?_
      refine aw_aload_n C rfl rfl dX1_count_214 ?_
      refine aw_getf C ck0 1 (by decide) q665 (fun _ z => z) (ch_at (i := 0) rfl) rfl dX1_count_215 ?_
      refine aw_topV (congrArg Value.ref hcu) ?_
      refine aw_callVRR C ck2 (bd_dead hG l hU hI (hb.le (ch_le hSp)) hA.1) q1530 q1531 q1532 q97 q1533 (Or.inl (ch_le hSp _ _ eb)) (n9 := 0) (by decide +kernel) rfl (Nat.le_of_ble_eq_true rfl) (Nat.le_of_ble_eq_true rfl) (Nat.zero_le _) (Nat.zero_le _) rfl (Nat.le_of_ble_eq_true rfl) dX1_count_218 ?_
      exact aw_iret C rfl dX1_count_221 (by omega) (by omega) ⟨rfl, by rw [hbs]; first | rfl | (show some (Value.int (nI (edgeB b (2 ^ b 0 - 1) / 2))) = some (Value.int (nI (edgeB b ((1 <<< b 0) - 1) / 2))); rw [Nat.shiftLeft_eq, Nat.one_mul]) | (rw [pairs_free]; rfl) | (show _ = some (Value.int (if over b = true then nI (1 - b 3 % 2) else -1)); first | rw [if_pos gP] | rw [if_neg (by rw [gP]; decide)]) | (show _ = some (Value.int (nI (if over b = true then 1 else 0))); first | rw [if_pos gO] | rw [if_neg (by rw [gO]; decide)]), u, g, rfl, hC⟩
    · refine aw_tableIn C (off := 221) (tgt := 222) dX1_count_1 (by decide) (by decide) (by decide) (by decide) ?_
      refine aw_aload_n C rfl rfl dX1_count_222 ?_
      refine aw_getf C ck0 1 (by decide) q665 (fun _ z => z) (ch_at (i := 0) rfl) rfl dX1_count_223 ?_
      refine aw_topV (congrArg Value.ref hcu) ?_
      refine aw_callSRR C (bo_vp hG l (hb.le (ch_le hSp)) hA.2.2.2.1) q702 q703 q95 q704 (n9 := 1) (by decide +kernel) rfl (Nat.le_of_ble_eq_true rfl) (Nat.le_of_ble_eq_true rfl) (Nat.zero_le _) (Nat.zero_le _) rfl (Nat.le_of_ble_eq_true rfl) dX1_count_226 ?_
      exact aw_iret C rfl dX1_count_229 (by omega) (by omega) ⟨rfl, by rw [hbs]; first | rfl | (show some (Value.int (nI (edgeB b (2 ^ b 0 - 1) / 2))) = some (Value.int (nI (edgeB b ((1 <<< b 0) - 1) / 2))); rw [Nat.shiftLeft_eq, Nat.one_mul]) | (rw [pairs_free]; rfl) | (show _ = some (Value.int (if over b = true then nI (1 - b 3 % 2) else -1)); first | rw [if_pos gP] | rw [if_neg (by rw [gP]; decide)]) | (show _ = some (Value.int (nI (if over b = true then 1 else 0))); first | rw [if_pos gO] | rw [if_neg (by rw [gO]; decide)]), u, g, rfl, hC⟩
