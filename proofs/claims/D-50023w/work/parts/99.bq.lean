/-! winningColours -/
section WDN
variable {γ : Gm} {l : Launch} {x : WX} {y : MethodName} {cc : ByteArray} {nL : Nat} {ret : Option FieldType} {rm : Room} {et : List ExceptionTableEntry} {Q : State → Prop} {h : AH} {sz k n pc : Nat} {L : LV} {st : List Value}
variable {y9 : MethodName} {b9 : ByteArray} {nL9 : Nat} {ret9 : Option FieldType} {f9 lo9 mc ms index : Nat} {As : List Value} {st0 : List Value} {h' : AH} {sz' : Nat}
theorem aw_wd {k2 n2 : Nat} (kk : AW γ l x Q nL h sz k n pc L st) (hk : k2 ≤ k) (hn : n2 ≤ n) : AW γ l x Q nL h sz k2 n2 pc L st := fun H locs ls h1 h2 h3 h4 => W.widen hk hn (kk H locs ls h1 h2 h3 h4)
end WDN
set_option maxRecDepth 100000 in
theorem pc_winningColours {γ : Gm} (hG : GF γ) (l : Launch) {o : Nat} {u : CU} {g : AH} {sz : Nat} {ρ : Nat} (hU : RUL γ ρ) (hI : FRU γ) {mi : Nat} (hB : GBO γ mi) (hX : GEX γ l) {K : Nat} (hK : K + 1 < 2 ^ 30) {s : SS} (hC : CS o sz u g K s) (hA : WA s.1) (hm9 : s.1 3 < 4096) (v : Int32) : MX γ l yX1_winningColours cX1_winningColours 5 (some .int) 42 1421 (1 + 14 * 3) (6 + wS (s.1 3) * 3) [.ref o, .int v] (ch o u g) sz (PCV o (K + 1) (spWc s.1 v, s)) (PCX o K "java/lang/IndexOutOfBoundsException" "" (spWc s.1 v, s)) := by
  refine mx_start hG (by decide) (Nat.le_of_ble_eq_true rfl) (fun x C => ?_)
  obtain ⟨hSp, hsz, hSI, ⟨gr, cap, hbc, hg, hc9⟩, hrest⟩ := id hC
  obtain ⟨a, hcu⟩ : ∃ a, u.2.2.2.2 = a := ⟨_, rfl⟩
  rw [hcu] at hbc
  obtain ⟨b, hbs⟩ : ∃ b, s.1 = b := ⟨_, rfl⟩
  rw [hbs] at hbc hg hA hm9
  have hb : BRD g a gr b := hbc.brd hg
  obtain ⟨ca, ba, v3, v4, fc, fb, eb, eca, eba, hg, hfc, hfb⟩ := id hb
  obtain ⟨gl, gn, fl, fn, eg, egl, egn, hgl, hgn⟩ := id hg
  have hN := hA.1.2.1
  have hC3 := hA.1.2.2.2.1
  obtain ⟨ws, hws⟩ : ∃ ws, wS (s.1 3) * 3 = ws := ⟨_, rfl⟩
  have hws3 : ws = wS (b 3) * 3 := by rw [← hws, hbs]
  refine aw_dom (fun hD0 => ?_)
  have hDg := dm_g hSp hD0
  refine aw_aload_n C rfl rfl dX1_winningColours_0 ?_
  refine aw_iload_n C rfl rfl dX1_winningColours_1 ?_
  refine aw_callVQ C ck0 (rq_Vertex hG l hX hSp hb hA.1 hcu v) q1544 q1546 qs36 q95 q1547 (ch_at (i := 0) rfl) (n9 := 1) (by decide +kernel) rfl (Nat.le_of_ble_eq_true rfl) (Nat.le_of_ble_eq_true rfl) (by dsimp only; omega) (by dsimp only; omega) rfl (Nat.le_of_ble_eq_true rfl) dX1_winningColours_2 (by omega) (by omega) (fun e sz' q => ⟨Or.inl ⟨by unfold spWc; rw [hbs, if_pos e], rfl⟩, u, g, rfl, hC.mono q⟩) (fun e => ?_)
  obtain ⟨v1, rfl, hv1⟩ := isV_ex hN hA.1.1 e
  refine aw_aload_n C rfl rfl dX1_winningColours_5 ?_
  refine aw_getf C ck0 1 (by decide) q665 (fun _ z => z) (ch_at (i := 0) rfl) rfl dX1_winningColours_6 ?_
  refine aw_topV (congrArg Value.ref hcu) ?_
  refine aw_iload_n C rfl rfl dX1_winningColours_9 ?_
  refine aw_callVRR C ck2 (bd_layable hG l hU hI (hb.le (ch_le hSp)) hA.1 (v := v1) (by omega)) q1566 q1523 q1524 q97 q1525 (Or.inl (ch_le hSp _ _ eb)) (n9 := 1) (by decide +kernel) rfl (Nat.le_of_ble_eq_true rfl) (Nat.le_of_ble_eq_true rfl) (by dsimp only; omega) (by dsimp only; omega) rfl (Nat.le_of_ble_eq_true rfl) dX1_winningColours_10 ?_
  have hcl := cols_lt hA.1 (v := v1) (by omega)
  refine aw_istore_n C rfl (by decide) rfl dX1_winningColours_13 ?_
  refine aw_iconst C (v := nI 0) (by decide) dX1_winningColours_14 ?_
  refine aw_istore_n C rfl (by decide) rfl dX1_winningColours_15 ?_
  refine aw_iconst C (v := nI 0) (by decide) dX1_winningColours_16 ?_
  refine aw_istore C (by decide) rfl dX1_winningColours_17 ?_
  have key : ∀ j c w u1 g1 s1, c ≤ b 1 → b 1 + 1 ≤ c + j → w = bset (wins b v1) c → SX u u1 → (∀ q, q < sz → g1 q = g q) → SR g1 u1 K gr b → Sep o g1 → sz ≤ s1 → AW γ l x (QX γ x (1 + 14 * 3) (6 + wS (s.1 3) * 3) (PCV o (K + 1) (spWc s.1 (nI v1), s)) (PCX o K "java/lang/IndexOutOfBoundsException" "" (spWc s.1 (nI v1), s))) 5 (ch o u1 g1) s1 (1 + 14 * c) (6 + wS (b 3) * c) 19 [(0, .ref o), (1, .int (nI v1)), (2, .int (nI (cols b v1))), (3, .int (nI w)), (4, .int (nI c))] [] := by
    intro j
    induction j with
    | zero => intro c w u1 g1 s1 h1 h2 hw hx1 fr1 hr1 hSp1 hs1; exact absurd h2 (by omega)
    | succ j ih =>
      intro c w u1 g1 s1 h1 h2 hw hx1 fr1 hr1 hSp1 hs1
      have hmc : wS (b 3) * c ≤ wS (b 3) * 3 := Nat.mul_le_mul_left _ (by omega)
      have hmc1 : c < 3 → wS (b 3) * (c + 1) ≤ wS (b 3) * 3 := fun z => Nat.mul_le_mul_left _ z
      have hmul9 : wS (b 3) * (c + 1) = wS (b 3) * c + wS (b 3) := Nat.mul_succ _ _
      refine aw_iload C rfl dX1_winningColours_19 ?_
      refine aw_aload_n C rfl rfl dX1_winningColours_21 ?_
      refine aw_getf C ck0 1 (by decide) q665 (fun _ z => z) (ch_at (i := 0) rfl) rfl dX1_winningColours_22 ?_
      refine aw_topV (congrArg Value.ref (hx1.2.2.2.trans hcu)) ?_
      refine aw_getfN C ck2 0 (by decide) q612 (fun _ z => z) (ch_le hSp1 _ _ ((fr1 a (hDg.lt eb)).trans eb)) rfl dX1_winningColours_25 ?_
      refine aw_getfN C ck3 0 (by decide) q201 (fun _ z => z) (ch_le hSp1 _ _ ((fr1 gr (hDg.lt eg)).trans eg)) rfl dX1_winningColours_28 ?_
      refine aw_icmpN_ge C (tgt := 73) (by omega) (by omega) dX1_winningColours_31 (by decide) (fun gC => ?_) (fun gC => ?_)
      · refine aw_iload_n C rfl rfl dX1_winningColours_73 ?_
        refine aw_iret C rfl dX1_winningColours_74 (by omega) (by omega) ?_
        have e9 : spWc b (nI v1) = (0, nI (winS b v1)) := by
          unfold spWc
          rw [if_neg (by rw [e]; decide), nt_n (by omega)]
        refine ⟨by rw [hbs, e9], ?_, u1, g1, rfl, (hC.ev hDg fr1 hs1).sx hx1 (hr1.si (hg.fr hDg fr1) hA.1)⟩
        rw [hbs, e9, hw, show c = b 1 by omega]
        rfl
      · refine aw_iload_n C rfl rfl dX1_winningColours_34 ?_
        refine aw_iload_n C rfl rfl dX1_winningColours_35 ?_
        refine aw_iload C rfl dX1_winningColours_36 ?_
        refine aw_callSRR C (cp_has hG l (by omega) (by omega)) q1610 q154 q95 q155 (n9 := 2) (by decide +kernel) rfl (Nat.le_of_ble_eq_true rfl) (Nat.le_of_ble_eq_true rfl) (by dsimp only; omega) (by dsimp only; omega) rfl (Nat.le_of_ble_eq_true rfl) dX1_winningColours_38 ?_
        refine aw_bit_eq0 C (tgt := 64) dX1_winningColours_41 (by decide) (fun gH => ?_) (fun gH => ?_)
        · refine aw_iconst C (v := nI 0) (by decide) dX1_winningColours_64 ?_
          refine aw_iorN C dX1_winningColours_65 ?_
          refine aw_istore_n C rfl (by decide) rfl dX1_winningColours_66 ?_
          refine aw_iinc1 C rfl (by decide) rfl dX1_winningColours_67 ?_
          refine aw_goto C (tgt := 19) dX1_winningColours_70 (by decide) ?_
          have hmul : wS (b 3) * (c + 1) = wS (b 3) * c + wS (b 3) := Nat.mul_succ _ _
          first
          | exact aw_lo (aw_wd (ih (c + 1) _ u4 g4 s4 (by omega) (by omega) (by rw [bset, hw]; simp [gW]) (hx1.tr hx4) (fun q hq => (q4 q (by omega)).trans (fr1 q hq)) hr4 hSp4 (by omega)) (by omega) (by omega)) ⟨rfl, rfl, rfl, rfl, rfl, trivial⟩
          | exact aw_lo (aw_wd (ih (c + 1) _ u1 g1 s1 (by omega) (by omega) (by rw [bset, hw]; simp [wins, gH]) hx1 fr1 hr1 hSp1 hs1) (by omega) (by omega)) ⟨rfl, rfl, rfl, rfl, rfl, trivial⟩
        · have hc3 : c < b 1 := by omega
          have hPO : PO b (4 * v1 + c) := Or.inl ⟨by omega, by rw [cb_cols hA.1 (by omega), show (4 * v1 + c) / 4 = v1 by omega, show (4 * v1 + c) % 4 = c by omega]; exact gH⟩
          have hwin : wins b v1 c = decide ((BB (nxB b (4 * v1 + c))).1 ^^^ nxB b (4 * v1 + c) 2 % 2 = 0) := by
            unfold wins
            rw [gH, nxB_lay hN (by omega), show (4 * v1 + c) / 4 = v1 by omega, show (4 * v1 + c) % 4 = c by omega, bb_layM hN, layM_2, Bool.true_and]
          obtain ⟨i, hi9⟩ : ∃ i, i = 4 * v1 + c := ⟨_, rfl⟩
          rw [← hi9] at hPO hwin
          refine aw_aload_n C rfl rfl dX1_winningColours_44 ?_
          refine aw_iconst C (v := nI 4) (by decide) dX1_winningColours_45 ?_
          refine aw_iload_n C rfl rfl dX1_winningColours_46 ?_
          refine aw_imulN C dX1_winningColours_47 ?_
          refine aw_iload C rfl dX1_winningColours_48 ?_
          refine aw_iaddN C dX1_winningColours_50 ?_
          rw [← hi9]
          refine aw_callV C ck0 (ev_wins hG l hB hSp1 (hbc.fr hDg fr1) (hg.fr hDg fr1) hA hm9 (by omega) (hx1.2.2.2.trans hcu) hPO hK hr1) q879 q881 qs11 q95 q882 (ch_at (i := 0) rfl) (n9 := 1) (by decide +kernel) rfl (Nat.le_of_ble_eq_true rfl) (Nat.le_of_ble_eq_true rfl) (by dsimp only; omega) (by dsimp only; omega) rfl (Nat.le_of_ble_eq_true rfl) dX1_winningColours_51 (fun _ _ _ z => z.elim) (fun v9 h4 s4 hp => ?_)
          obtain ⟨rfl, w1, w2, u4, g4, rfl, hx4, q4, hr4, hSp4⟩ := hp
          refine aw_top (show _ = nI (if wins b v1 c = true then 1 else 0) from by rw [hwin]; simp only [decide_eq_true_eq]) ?_
          refine aw_bit_eq0 C (tgt := 64) dX1_winningColours_54 (by decide) (fun gW => ?_) (fun gW => ?_)
          · refine aw_iconst C (v := nI 0) (by decide) dX1_winningColours_64 ?_
            refine aw_iorN C dX1_winningColours_65 ?_
            refine aw_istore_n C rfl (by decide) rfl dX1_winningColours_66 ?_
            refine aw_iinc1 C rfl (by decide) rfl dX1_winningColours_67 ?_
            refine aw_goto C (tgt := 19) dX1_winningColours_70 (by decide) ?_
            have hmul : wS (b 3) * (c + 1) = wS (b 3) * c + wS (b 3) := Nat.mul_succ _ _
            first
            | exact aw_lo (aw_wd (ih (c + 1) _ u4 g4 s4 (by omega) (by omega) (by rw [bset, hw]; simp [gW]) (hx1.tr hx4) (fun q hq => (q4 q (by omega)).trans (fr1 q hq)) hr4 hSp4 (by omega)) (by omega) (by omega)) ⟨rfl, rfl, rfl, rfl, rfl, trivial⟩
            | exact aw_lo (aw_wd (ih (c + 1) _ u1 g1 s1 (by omega) (by omega) (by rw [bset, hw]; simp [wins, gH]) hx1 fr1 hr1 hSp1 hs1) (by omega) (by omega)) ⟨rfl, rfl, rfl, rfl, rfl, trivial⟩
          · refine aw_iconst C (v := nI 1) (by decide) dX1_winningColours_57 ?_
            refine aw_iload C rfl dX1_winningColours_58 ?_
            refine aw_ishlN C (by omega) dX1_winningColours_60 ?_
            refine aw_goto C (tgt := 65) dX1_winningColours_61 (by decide) ?_
            refine aw_iorN C dX1_winningColours_65 ?_
            refine aw_istore_n C rfl (by decide) rfl dX1_winningColours_66 ?_
            refine aw_iinc1 C rfl (by decide) rfl dX1_winningColours_67 ?_
            refine aw_goto C (tgt := 19) dX1_winningColours_70 (by decide) ?_
            have hmul : wS (b 3) * (c + 1) = wS (b 3) * c + wS (b 3) := Nat.mul_succ _ _
            first
            | exact aw_lo (aw_wd (ih (c + 1) _ u4 g4 s4 (by omega) (by omega) (by rw [bset, hw]; simp [gW]) (hx1.tr hx4) (fun q hq => (q4 q (by omega)).trans (fr1 q hq)) hr4 hSp4 (by omega)) (by omega) (by omega)) ⟨rfl, rfl, rfl, rfl, rfl, trivial⟩
            | exact aw_lo (aw_wd (ih (c + 1) _ u1 g1 s1 (by omega) (by omega) (by rw [bset, hw]; simp [wins, gH]) hx1 fr1 hr1 hSp1 hs1) (by omega) (by omega)) ⟨rfl, rfl, rfl, rfl, rfl, trivial⟩
  exact aw_lo (aw_wd (key (b 1 + 1) 0 0 u g sz (Nat.zero_le _) (by omega) rfl (SX.rf u) (fun _ _ => rfl) (Or.inl hSI) hSp (Nat.le_refl _)) (by omega) (by omega)) ⟨rfl, rfl, rfl, rfl, rfl, trivial⟩
