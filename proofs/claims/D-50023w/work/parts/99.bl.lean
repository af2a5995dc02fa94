/-! account -/
theorem accC_lt {b : BT} {pl : Nat} : ∀ n, accC b pl n < 8 := by
  intro n
  induction n with
  | zero => exact (by decide : (0 : Nat) < 8)
  | succ n ih =>
    rw [accC]
    have h3 : b (40 + n) >>> 5 &&& 3 ≤ 3 := Nat.and_le_right
    refine nb_lt_or (m := 3) ih ?_
    split
    · exact sh1_lt (m := 3) (by omega)
    · decide
theorem acF_get (b : BT) (pl : Nat) : acF b pl = [.int (nI (accS b pl 0 (b 3))), .int (nI (accS b pl 1 (b 3))), .int (nI (accS b pl 2 (b 3))), .int (nI (accS b pl 3 (b 3))), .int (nI (accC b pl (b 3)))] := rfl
set_option maxRecDepth 100000 in
theorem pc_account {γ : Gm} (hG : GF γ) (l : Launch) {o : Nat} {u : CU} {g : AH} {sz : Nat} (hX : GEX γ l) {K : Nat} {s : SS} (hC : CS o sz u g K s) (hA : WA s.1) (pl w : Int32) : MX γ l yX1_account cX1_account 3 (some .int) 7 161 2 12 [.ref o, .int pl, .int w] (ch o u g) sz (PCV o K (spAcc s.1 pl w, s)) (PCX o K "java/lang/IndexOutOfBoundsException" "java/lang/IllegalArgumentException" (spAcc s.1 pl w, s)) := by
  refine mx_start hG (by decide) (Nat.le_of_ble_eq_true rfl) (fun x C => ?_)
  obtain ⟨hSp, hsz, hI9, ⟨gr, cap, hbc, hg, hc9⟩, hrest⟩ := id hC
  obtain ⟨a, hcu⟩ : ∃ a, u.2.2.2.2 = a := ⟨_, rfl⟩
  rw [hcu] at hbc
  obtain ⟨b, hbs⟩ : ∃ b, s.1 = b := ⟨_, rfl⟩
  rw [hbs] at hbc hg hA
  have hb : BRD g a gr b := hbc.brd hg
  obtain ⟨ca, ba, ac, a0, a1, li, el, mo, fc, fb, f, -, eb, -, -, eac, ea0, ea1, -⟩ := id hbc
  refine aw_iload_n C rfl rfl dX1_account_0 ?_
  refine aw_iconst C (v := nI 2) (by decide) dX1_account_1 ?_
  refine aw_callSQ C (rq_Index hG l hX pl (nI 2)) q1548 q1549 q95 q1550 (n9 := 2) (by decide +kernel) rfl (Nat.le_of_ble_eq_true rfl) (Nat.le_of_ble_eq_true rfl) (by dsimp only; omega) (by dsimp only; omega) rfl (Nat.le_of_ble_eq_true rfl) dX1_account_2 (by omega) (by omega) (fun e sz' q => ⟨Or.inl ⟨by unfold spAcc; rw [if_pos (show isI pl (nI 0) (nI 1) = false from e)], rfl⟩, u, g, rfl, hC.mono q⟩) (fun e => ?_)
  have e : isI pl (nI 0) (nI 1) = true := e
  refine aw_iload_n C rfl rfl dX1_account_5 ?_
  refine aw_i2l C (rfl) dX1_account_6 ?_
  refine aw_lconst C (v := (nI 0).toInt64) (by decide) dX1_account_7 ?_
  refine aw_ldc2 C q1751 dX1_account_8 ?_
  refine aw_topl (show (4 : Int64) = (nI 4).toInt64 from by decide) ?_
  refine aw_callSRR C (cp_inRange hG l w (nI 0) (nI 4)) q1273 q1274 q95 q1275 (n9 := 3) (by decide +kernel) rfl (Nat.le_of_ble_eq_true rfl) (Nat.le_of_ble_eq_true rfl) (by dsimp only; omega) (by dsimp only; omega) rfl (Nat.le_of_ble_eq_true rfl) dX1_account_11 ?_
  refine aw_callSQ C (rq_Argument hG l hX (isI w (nI 0) (nI 4))) q1276 q1277 q95 q1278 (n9 := 1) (by decide +kernel) rfl (Nat.le_of_ble_eq_true rfl) (Nat.le_of_ble_eq_true rfl) (by dsimp only; omega) (by dsimp only; omega) rfl (Nat.le_of_ble_eq_true rfl) dX1_account_14 (by omega) (by omega) (fun e2 sz' q => ⟨Or.inr ⟨by unfold spAcc; rw [if_neg (by rw [e]; decide), if_pos e2], rfl⟩, u, g, rfl, hC.mono q⟩) (fun e2 => ?_)
  obtain ⟨p1, rfl, -, hp1⟩ := isI_ex (by decide) (by decide) e
  obtain ⟨w1, rfl, -, hw1⟩ := isI_ex (by decide) (by decide) e2
  obtain ⟨ap, hap, eap⟩ : ∃ ap, acR a0 a1 p1 = some ap ∧ g ap = some (.inr (4, acF b p1)) := by
    rcases (show p1 = 0 ∨ p1 = 1 by omega) with z | z
    · subst z; exact ⟨a0, rfl, ea0⟩
    · subst z; exact ⟨a1, rfl, ea1⟩
  refine aw_aload_n C rfl rfl dX1_account_17 ?_
  refine aw_getf C ck0 1 (by decide) q665 (fun _ z => z) (ch_at (i := 0) rfl) rfl dX1_account_18 ?_
  refine aw_topV (congrArg Value.ref hcu) ?_
  refine aw_getfN C ck2 3 (by decide) q620 (fun _ z => z) ((ch_le hSp _ _ eb)) rfl dX1_account_21 ?_
  refine aw_iload_n C rfl rfl dX1_account_24 ?_
  refine aw_aaldS C (t := 6) (by decide) rfl (ch_le hSp _ _ eac) (show p1 < 2 by omega) (by decide) hap dX1_account_25 ?_
  refine aw_iload_n C rfl rfl dX1_account_26 ?_
  refine aw_callVRR C ck4 (ac_get hG l (ch_le hSp _ _ eap) rfl rfl rfl rfl rfl (Nat.lt_trans (accC_lt _) (by decide)) hw1) q1752 q1753 q1754 q99 q1755 (Or.inl (ch_le hSp _ _ eap)) (n9 := 1) (by decide +kernel) rfl (Nat.le_of_ble_eq_true rfl) (Nat.le_of_ble_eq_true rfl) (by dsimp only; omega) (by dsimp only; omega) rfl (Nat.le_of_ble_eq_true rfl) dX1_account_27 ?_
  refine aw_iret C rfl dX1_account_30 (by omega) (by omega) ?_
  have e0 : spAcc b (nI p1) (nI w1) = (0, nI (if w1 = 0 then accS b p1 0 (b 3) else if w1 = 1 then accS b p1 1 (b 3) else if w1 = 2 then accS b p1 2 (b 3) else if w1 = 3 then accS b p1 3 (b 3) else pop (accC b p1 (b 3)))) := by
    unfold spAcc
    rw [if_neg (by rw [e]; decide), if_neg (by rw [e2]; decide), nt_n (by omega), nt_n (by omega)]
    rcases (show w1 = 0 ∨ w1 = 1 ∨ w1 = 2 ∨ w1 = 3 ∨ w1 = 4 by omega) with z | z | z | z | z <;> subst z <;> rfl
  exact ⟨by rw [hbs, e0], by rw [hbs, e0], u, g, rfl, hC⟩
