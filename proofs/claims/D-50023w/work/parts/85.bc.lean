/-! boards in the heap with all they own; copies -/
/-- an account's fields -/
def acF (b : BT) (pl : Nat) : List Value := [.int (nI (accS b pl 0 (b 3))), .int (nI (accS b pl 1 (b 3))), .int (nI (accS b pl 2 (b 3))), .int (nI (accS b pl 3 (b 3))), .int (nI (accC b pl (b 3)))]
/-- a move's fields -/
def moF (x : Nat) : List Value := [.int (mvd x 0), .int (mvd x 1), .int (mvd x 2), .int (mvd x 3)]
/-- a board at a, its own cells from s0 -/
def BX (h : AH) (s0 a gr : Nat) (b : BT) (cap ca ba ac a0 a1 li el : Nat) (mo : Int32) (fc fb : Nat → Int32) (f : Nat → Option Nat) : Prop := (s0 ≤ a ∧ s0 ≤ ca ∧ s0 ≤ ba ∧ s0 ≤ ac ∧ s0 ≤ a0 ∧ s0 ≤ a1 ∧ s0 ≤ li ∧ s0 ≤ el ∧ ca ≠ ba ∧ a0 ≠ a1) ∧
  h a = some (.inr (2, [.ref gr, .ref ca, .ref ba, .ref ac, .ref li, .int (nI (b 2)), .int (nI (b 3 % 2))])) ∧ h ca = some (.inl (0, 9, .inl fc)) ∧ h ba = some (.inl (0, 9, .inl fb)) ∧ h ac = some (rfs 6 2 (acR a0 a1)) ∧ h a0 = some (.inr (4, acF b 0)) ∧ h a1 = some (.inr (4, acF b 1)) ∧ h li = some (.inr (12, [.int mo, .ref el, .int (nI (b 3))])) ∧ h el = some (rfs 4 cap f) ∧
  (CN f (b 3) ∧ b 3 ≤ cap ∧ 0 < cap ∧ cap < 2 ^ 18) ∧ (∀ k, k < b 3 → ∃ z, f k = some z ∧ h z = some (.inr (8, moF (b (40 + k))))) ∧ (∀ v, v < 9 → fc v = nI (b (22 + v)) - nI 1) ∧ ∀ v, v < 9 → fr b v = true → fb v = nI (b (31 + v)) - nI 1
def BC (h : AH) (s0 a gr : Nat) (b : BT) (cap : Nat) : Prop := ∃ ca ba ac a0 a1 li el mo fc fb f, BX h s0 a gr b cap ca ba ac a0 a1 li el mo fc fb f
theorem BX.el {h : AH} {s0 a gr : Nat} {b : BT} {cap ca ba ac a0 a1 li el : Nat} {mo : Int32} {fc fb : Nat → Int32} {f : Nat → Option Nat} (g : BX h s0 a gr b cap ca ba ac a0 a1 li el mo fc fb f) : EL h 8 (b 3) f := fun i hi z hz => by
  obtain ⟨-, -, -, -, -, -, -, -, -, -, g1, -⟩ := g
  obtain ⟨z', e1, e2⟩ := g1 i hi
  rw [e1] at hz
  cases hz
  exact ⟨_, e2⟩
theorem BC.brd {h : AH} {s0 a gr : Nat} {b : BT} {cap : Nat} (g : BC h s0 a gr b cap) (hg : GRP h gr b) : BRD h a gr b := by
  obtain ⟨ca, ba, ac, a0, a1, li, el, mo, fc, fb, f, -, e1, e2, e3, -, -, -, -, -, -, -, e4, e5⟩ := g
  exact ⟨ca, ba, _, _, fc, fb, e1, e2, e3, hg, e4, e5⟩
theorem BC.le {h h' : AH} {s0 a gr : Nat} {b : BT} {cap : Nat} (H : HLE h h') (g : BC h s0 a gr b cap) : BC h' s0 a gr b cap := by
  obtain ⟨ca, ba, ac, a0, a1, li, el, mo, fc, fb, f, g0, e1, e2, e3, e4, e5, e6, e7, e8, g1, g2, g3⟩ := g
  refine ⟨ca, ba, ac, a0, a1, li, el, mo, fc, fb, f, g0, H _ _ e1, H _ _ e2, H _ _ e3, H _ _ e4, H _ _ e5, H _ _ e6, H _ _ e7, H _ _ e8, g1, fun k hk => ?_, g3⟩
  obtain ⟨z, z1, z2⟩ := g2 k hk
  exact ⟨z, z1, H _ _ z2⟩
theorem BC.s {h : AH} {s0 s1 a gr : Nat} {b : BT} {cap : Nat} (g : BC h s0 a gr b cap) (hs : s1 ≤ s0) : BC h s1 a gr b cap := by
  obtain ⟨ca, ba, ac, a0, a1, li, el, mo, fc, fb, f, ⟨g1, g2, g3, g4, g5, g6, g7, g8, g9⟩, g0⟩ := g
  exact ⟨ca, ba, ac, a0, a1, li, el, mo, fc, fb, f, ⟨by omega, by omega, by omega, by omega, by omega, by omega, by omega, by omega, g9⟩, g0⟩
/-- a new list's capacity behind addAll -/
def cpC (M : Nat) : Nat := if 8 < M then nwL 8 (0 + M - 8) (8 >>> 1) else 8
/-- a copy's slots -/
def cpS (M : Nat) : Nat := 58 + (M + if 8 < M then nwL 8 (0 + M - 8) (8 >>> 1) else 0)
theorem acR_0 (x y : Nat) : acR x y 0 = some x := rfl
theorem acR_1 (x y : Nat) : acR x y 1 = some y := rfl
theorem acR_up (x y s t : Nat) : va_up (va_up (acR x y) 0 (some s)) 1 (some t) = acR s t := by
  funext j
  unfold acR va_up
  by_cases e1 : j = 1 <;> by_cases e0 : j = 0 <;> simp [e1, e0]
theorem cpy9 {f g : Nat → Int32} : ∀ v, v < 9 → va_cpy f g 0 0 9 v = f v := fun v hv => by
  unfold va_cpy
  rw [if_pos ⟨Nat.zero_le _, by omega⟩, Nat.zero_add, Nat.sub_zero]
set_option maxRecDepth 100000 in
theorem bo_copy {γ : Gm} (hG : GF γ) (l : Launch) {h : AH} {sz : Nat} {mi : Nat} (hL : GLI γ mi) (hF : GFW γ) (hca8 : Cond.castable "ColourDuel$Move" "java/lang/Object" ∈ lw_tbl) (hO6 : AOK γ "ColourDuel$Account") {s0 a gr : Nat} {b : BT} {cap : Nat} (hb : BC h s0 a gr b cap) (hD : Dm h sz) (hm9 : b 3 ≤ 4096) : MX γ l yX3_copy cX3_copy 3 (some (.object "ColourDuel$Board")) 19 423 12 (cpS (b 3)) [.ref a] h sz (fun v h' sz' => v = some (.ref sz) ∧ sz < sz' ∧ sz' ≤ sz + 12 ∧ (∀ q, q < sz → h' q = h q) ∧ BC h' sz sz gr b (cpC (b 3))) NX := by
  refine mx_start hG (by decide) (Nat.le_of_ble_eq_true rfl) (fun x C => ?_)
  have hO4 := hL.1
  obtain ⟨X9, hX9⟩ : ∃ X, X = (if 8 < b 3 then nwL 8 (0 + b 3 - 8) (8 >>> 1) else 0) := ⟨_, rfl⟩
  have hcs : cpS (b 3) = 58 + (b 3 + X9) := by rw [hX9]; rfl
  obtain ⟨ca, ba, ac, a0, a1, li, el, mo, fc, fb, f, hX⟩ := hb
  have hE := hX.el
  obtain ⟨-, ea, eca, eba, eac, ea0, ea1, eli, eel, ⟨hCN, hMc, hcap, hcm⟩, hmv, hfc, hfb⟩ := hX
  have la := hD.lt ea
  have lca := hD.lt eca
  have lba := hD.lt eba
  have lac := hD.lt eac
  have la0 := hD.lt ea0
  have la1 := hD.lt ea1
  have lli := hD.lt eli
  have lel := hD.lt eel
  refine aw_new C ck2 (fs := [.null, .null, .null, .null, .null, .int 0, .int 0]) q891 q187 q97 (by decide) (by dsimp only; omega) (by dsimp only; omega) dX3_copy_0 ?_
  refine aw_dup C rfl dX3_copy_3 ?_
  refine aw_aload_n C rfl rfl dX3_copy_4 ?_
  refine aw_getf C ck2 0 (by decide) q609 (fun _ z => z) ((hset_n _ _ (by omega)).trans ea) rfl dX3_copy_5 ?_
  refine aw_callI C (bo_init hG l (a := sz) (gr := gr) hO4 hO6 (by omega) (hset_s _ _ _)) q892 q232 q97 q233 rfl (n9 := 1) (by decide +kernel) rfl (Nat.le_of_ble_eq_true rfl) (Nat.le_of_ble_eq_true rfl) (by dsimp only; omega) (by dsimp only; omega) rfl (Nat.le_of_ble_eq_true rfl) dX3_copy_8 (fun _ _ _ z => z.elim) (fun v9 h1 sz9 hp => ?_)
  obtain ⟨rfl, rfl, n0, na, ⟨fc1, fb1, n1, n2, -, -⟩, n3, n4, n5, n6, n7⟩ := hp
  have fq1 : ∀ q, q < sz → h1 q = h q := fun q hq => (n0 q (by omega) (by omega)).trans (hset_n _ _ (by omega))
  refine aw_astore_n C rfl (by decide) rfl dX3_copy_11 ?_
  refine aw_aload_n C rfl rfl dX3_copy_12 ?_
  refine aw_getf C ck2 1 (by decide) q614 (fun _ z => z) ((fq1 a (by omega)).trans ea) rfl dX3_copy_13 ?_
  refine aw_iconst C (v := nI 0) (by decide) dX3_copy_16 ?_
  refine aw_aload_n C rfl rfl dX3_copy_17 ?_
  refine aw_getf C ck2 1 (by decide) q614 (fun _ z => z) na rfl dX3_copy_18 ?_
  refine aw_iconst C (v := nI 0) (by decide) dX3_copy_21 ?_
  refine aw_bipush C (v := nI 9) (by decide) dX3_copy_22 ?_
  refine aw_copyN C q893 q403 q402 q114 (t := 0) (by decide) rfl (Or.inl ((fq1 ca (by omega)).trans eca)) n1 (by decide) (by decide) (by decide) (by decide) (fun _ _ => rfl) (Nat.le_of_ble_eq_true rfl) (Nat.le_of_ble_eq_true rfl) dX3_copy_24 ?_
  refine aw_aload_n C rfl rfl dX3_copy_27 ?_
  refine aw_getf C ck2 2 (by decide) q616 (fun _ z => z) ((hset_n _ _ (by omega)).trans ((fq1 a (by omega)).trans ea)) rfl dX3_copy_28 ?_
  refine aw_iconst C (v := nI 0) (by decide) dX3_copy_31 ?_
  refine aw_aload_n C rfl rfl dX3_copy_32 ?_
  refine aw_getf C ck2 2 (by decide) q616 (fun _ z => z) ((hset_n _ _ (by omega)).trans na) rfl dX3_copy_33 ?_
  refine aw_iconst C (v := nI 0) (by decide) dX3_copy_36 ?_
  refine aw_bipush C (v := nI 9) (by decide) dX3_copy_37 ?_
  refine aw_copyN C q893 q403 q402 q114 (t := 0) (by decide) rfl (Or.inl ((hset_n _ _ (by omega)).trans ((fq1 ba (by omega)).trans eba))) ((hset_n _ _ (by omega)).trans n2) (by decide) (by decide) (by decide) (by decide) (fun _ _ => rfl) (Nat.le_of_ble_eq_true rfl) (Nat.le_of_ble_eq_true rfl) dX3_copy_39 ?_
  refine aw_gh (fun h2 eh2 => ?_)
  have fq2 : ∀ q, q < sz → h2 q = h q := fun q hq => by
    rw [eh2, hset_n _ _ (by omega), hset_n _ _ (by omega)]
    exact fq1 q hq
  have ma : h2 sz = some (.inr (2, [.ref gr, .ref (sz + 1), .ref (sz + 2), .ref (sz + 3), .ref (sz + 6), .int 0, .int 0])) := by
    rw [eh2]
    repeat first | rw [hset_s] | rw [hset_n _ _ (by omega)]
    all_goals first | rfl | assumption
  have m1 : h2 (sz + 1) = some (.inl (0, 9, .inl (va_cpy fc fc1 0 0 9))) := by
    rw [eh2]
    repeat first | rw [hset_s] | rw [hset_n _ _ (by omega)]
    all_goals first | rfl | assumption
  have m2 : h2 (sz + 2) = some (.inl (0, 9, .inl (va_cpy fb fb1 0 0 9))) := by
    rw [eh2]
    repeat first | rw [hset_s] | rw [hset_n _ _ (by omega)]
    all_goals first | rfl | assumption
  have m3 : h2 (sz + 3) = some (rfs 6 2 (acR (sz + 4) (sz + 5))) := by
    rw [eh2]
    repeat first | rw [hset_s] | rw [hset_n _ _ (by omega)]
    all_goals first | rfl | assumption
  have m6 : h2 (sz + 6) = some (.inr (12, [.int 0, .ref (sz + 7), .int 0])) := by
    rw [eh2]
    repeat first | rw [hset_s] | rw [hset_n _ _ (by omega)]
    all_goals first | rfl | assumption
  have m7 : h2 (sz + 7) = some (rfs 4 8 (fun _ => none)) := by
    rw [eh2]
    repeat first | rw [hset_s] | rw [hset_n _ _ (by omega)]
    all_goals first | rfl | assumption
  clear eh2 n0 na n1 n2 n3 n4 n5 n6 n7
  refine aw_iconst C (v := nI 0) (by decide) dX3_copy_42 ?_
  refine aw_istore_n C rfl (by decide) rfl dX3_copy_43 ?_
  refine aw_iload_n C rfl rfl dX3_copy_44 ?_
  refine aw_iconst C (v := nI 2) (by decide) dX3_copy_45 ?_
  refine aw_icmpN_ge C (tgt := 70) (by omega) (by omega) dX3_copy_46 (by decide) (fun g46 => ?_) (fun g46 => ?_)
  · exact absurd g46 (by omega)
  · refine aw_aload_n C rfl rfl dX3_copy_49 ?_
    refine aw_getf C ck2 3 (by decide) q619 (fun _ z => z) ma rfl dX3_copy_50 ?_
    refine aw_iload_n C rfl rfl dX3_copy_53 ?_
    refine aw_aload_n C rfl rfl dX3_copy_54 ?_
    refine aw_getf C ck2 3 (by decide) q619 (fun _ z => z) ((fq2 a (by omega)).trans ea) rfl dX3_copy_55 ?_
    refine aw_iload_n C rfl rfl dX3_copy_58 ?_
    refine aw_aaldS C (t := 6) (by decide) rfl ((fq2 ac (by omega)).trans eac) (show 0 < 2 by decide) (by decide) (acR_0 a0 a1) dX3_copy_59 ?_
    refine aw_callVPv C ck4 (ac_copy hG l ((fq2 a0 (by omega)).trans ea0) (by omega)) q894 q895 q896 q99 q897 ((fq2 a0 (by omega)).trans ea0) (n9 := 0) (by decide +kernel) rfl (Nat.le_of_ble_eq_true rfl) (Nat.le_of_ble_eq_true rfl) (by dsimp only; omega) (by dsimp only; omega) rfl (Nat.le_of_ble_eq_true rfl) dX3_copy_60 ?_
    refine aw_aast C ck4 (t := 6) (by decide) rfl (Or.inl rfl) ((hset_n _ _ (by omega)).trans m3) (show 0 < 2 by decide) (by decide) (hset_s _ _ _) dX3_copy_63 ?_
    refine aw_iinc1 C rfl (by decide) rfl dX3_copy_64 ?_
    refine aw_goto C (tgt := 44) dX3_copy_67 (by decide) ?_
    refine aw_iload_n C rfl rfl dX3_copy_44 ?_
    refine aw_iconst C (v := nI 2) (by decide) dX3_copy_45 ?_
    refine aw_icmpN_ge C (tgt := 70) (by omega) (by omega) dX3_copy_46 (by decide) (fun g46 => ?_) (fun g46 => ?_)
    · exact absurd g46 (by omega)
    · refine aw_aload_n C rfl rfl dX3_copy_49 ?_
      refine aw_getf C ck2 3 (by decide) q619 (fun _ z => z) ((hset_n _ _ (by omega)).trans ((hset_n _ _ (by omega)).trans ma)) rfl dX3_copy_50 ?_
      refine aw_iload_n C rfl rfl dX3_copy_53 ?_
      refine aw_aload_n C rfl rfl dX3_copy_54 ?_
      refine aw_getf C ck2 3 (by decide) q619 (fun _ z => z) ((hset_n _ _ (by omega)).trans ((hset_n _ _ (by omega)).trans ((fq2 a (by omega)).trans ea))) rfl dX3_copy_55 ?_
      refine aw_iload_n C rfl rfl dX3_copy_58 ?_
      refine aw_aaldS C (t := 6) (by decide) rfl ((hset_n _ _ (by omega)).trans ((hset_n _ _ (by omega)).trans ((fq2 ac (by omega)).trans eac))) (show 1 < 2 by decide) (by decide) (acR_1 a0 a1) dX3_copy_59 ?_
      refine aw_callVPv C ck4 (ac_copy hG l ((hset_n _ _ (by omega)).trans ((hset_n _ _ (by omega)).trans ((fq2 a1 (by omega)).trans ea1))) (by omega)) q894 q895 q896 q99 q897 ((hset_n _ _ (by omega)).trans ((hset_n _ _ (by omega)).trans ((fq2 a1 (by omega)).trans ea1))) (n9 := 0) (by decide +kernel) rfl (Nat.le_of_ble_eq_true rfl) (Nat.le_of_ble_eq_true rfl) (by dsimp only; omega) (by dsimp only; omega) rfl (Nat.le_of_ble_eq_true rfl) dX3_copy_60 ?_
      refine aw_aast C ck4 (t := 6) (by decide) rfl (Or.inl rfl) ((hset_n _ _ (by omega)).trans (hset_s _ _ _)) (show 1 < 2 by decide) (by decide) (hset_s _ _ _) dX3_copy_63 ?_
      refine aw_iinc1 C rfl (by decide) rfl dX3_copy_64 ?_
      refine aw_goto C (tgt := 44) dX3_copy_67 (by decide) ?_
      refine aw_iload_n C rfl rfl dX3_copy_44 ?_
      refine aw_iconst C (v := nI 2) (by decide) dX3_copy_45 ?_
      refine aw_icmpN_ge C (tgt := 70) (by omega) (by omega) dX3_copy_46 (by decide) (fun g46 => ?_) (fun g46 => ?_)
      · refine aw_gh (fun h3 eh3 => ?_)
        have fq3 : ∀ q, q < sz → h3 q = h q := fun q hq => by
          rw [eh3, hset_n _ _ (by omega), hset_n _ _ (by omega), hset_n _ _ (by omega), hset_n _ _ (by omega)]
          exact fq2 q hq
        have ka : h3 sz = some (.inr (2, [.ref gr, .ref (sz + 1), .ref (sz + 2), .ref (sz + 3), .ref (sz + 6), .int 0, .int 0])) := by
          rw [eh3]
          repeat first | rw [hset_s] | rw [hset_n _ _ (by omega)]
          all_goals first | rfl | assumption
        have k1 : h3 (sz + 1) = some (.inl (0, 9, .inl (va_cpy fc fc1 0 0 9))) := by
          rw [eh3]
          repeat first | rw [hset_s] | rw [hset_n _ _ (by omega)]
          all_goals first | rfl | assumption
        have k2 : h3 (sz + 2) = some (.inl (0, 9, .inl (va_cpy fb fb1 0 0 9))) := by
          rw [eh3]
          repeat first | rw [hset_s] | rw [hset_n _ _ (by omega)]
          all_goals first | rfl | assumption
        have k3 : h3 (sz + 3) = some (rfs 6 2 (va_up (va_up (acR (sz + 4) (sz + 5)) 0 (some (sz + 8))) 1 (some (sz + 9)))) := by
          rw [eh3]
          repeat first | rw [hset_s] | rw [hset_n _ _ (by omega)]
          all_goals first | rfl | assumption
        have k8 : h3 (sz + 8) = some (.inr (4, acF b 0)) := by
          rw [eh3]
          repeat first | rw [hset_s] | rw [hset_n _ _ (by omega)]
          all_goals first | rfl | assumption
        have k9 : h3 (sz + 9) = some (.inr (4, acF b 1)) := by
          rw [eh3]
          repeat first | rw [hset_s] | rw [hset_n _ _ (by omega)]
          all_goals first | rfl | assumption
        have k6 : h3 (sz + 6) = some (.inr (12, [.int 0, .ref (sz + 7), .int (nI 0)])) := by
          rw [eh3]
          repeat first | rw [hset_s] | rw [hset_n _ _ (by omega)]
          all_goals first | rfl | assumption
        have k7 : h3 (sz + 7) = some (rfs 4 8 (fun _ => none)) := by
          rw [eh3]
          repeat first | rw [hset_s] | rw [hset_n _ _ (by omega)]
          all_goals first | rfl | assumption
        rw [acR_up] at k3
        clear eh3 m1 m2 m3 m6 m7 ma
        refine aw_dom (fun hD3 => ?_)
        have hE3 : EL h3 8 (b 3) f := fun i hi z hz => by
          obtain ⟨fs, e⟩ := hE i hi z hz
          exact ⟨fs, (fq3 z (hD.lt e)).trans e⟩
        refine aw_aload_n C rfl rfl dX3_copy_70 ?_
        refine aw_getf C ck2 4 (by decide) q621 (fun _ z => z) ka rfl dX3_copy_71 ?_
        refine aw_aload_n C rfl rfl dX3_copy_74 ?_
        refine aw_getf C ck2 4 (by decide) q621 (fun _ z => z) ((fq3 a (by omega)).trans ea) rfl dX3_copy_75 ?_
        refine aw_callF C ck12 (al_addAll hG l hL hF ck8 hca8 k6 k7 ((fq3 li (by omega)).trans eli) ((fq3 el (by omega)).trans eel) (by omega) (by omega) (by omega) (by omega) hD3 hCN hMc (by decide) (by decide) hcap hcm hE3 (by decide) (ms := b 3 + X9) (by rw [hX9]; exact Nat.le_refl _)) q901 q905 q907 q102 q909 hF.2.1 k6 (n9 := 1) (by decide +kernel) rfl (Nat.le_of_ble_eq_true rfl) (Nat.le_of_ble_eq_true rfl) (by dsimp only; omega) (by dsimp only; omega) rfl (Nat.le_of_ble_eq_true rfl) dX3_copy_78 (fun _ _ _ z => z.elim) (fun v9 h4 sz9 hp => ?_)
        obtain ⟨⟨w9, rfl⟩, el', cap', hc1, hc2, rfl⟩ := hp
        have hel7 : sz + 7 ≤ el' ∧ el' ≠ sz + 8 ∧ el' ≠ sz + 9 ∧ el' ≠ sz + 10 ∧ sz9 ≤ sz + 12 ∧ sz < sz9 := by omega
        refine aw_top rfl ?_
        refine aw_pop C rfl dX3_copy_83 ?_
        have hcp : cap' = cpC (b 3) := by
          unfold cpC
          rcases hc2 with ⟨-, q1, -⟩ | ⟨-, q1, -, q2⟩
          · rw [q1]
            split
            · omega
            · rfl
          · rw [if_pos q2]
            exact q1
        have hw2 : cap' ≤ 16 + b 3 := by
          rw [hcp]
          unfold cpC nwL
          split
          · split <;> omega
          · omega
        refine aw_aload_n C rfl rfl dX3_copy_84 ?_
        refine aw_aload_n C rfl rfl dX3_copy_85 ?_
        refine aw_getf C ck2 5 (by decide) q623 (fun _ z => z) ((hset_n _ _ (by omega)).trans ((hset_n _ _ (by omega)).trans ((hset_n _ _ (by omega)).trans ((fq3 a (by omega)).trans ea)))) rfl dX3_copy_86 ?_
        refine aw_putf C ck2 5 (by decide) q623 (fun _ z => z) rfl rfl (ty := .int) rfl rfl ((hset_n _ _ (by omega)).trans ((hset_n _ _ (by omega)).trans ((hset_n _ _ (by omega)).trans ka))) (show 5 < 7 by decide) dX3_copy_89 ?_
        refine aw_aload_n C rfl rfl dX3_copy_92 ?_
        refine aw_aload_n C rfl rfl dX3_copy_93 ?_
        refine aw_getf C ck2 6 (by decide) q627 (fun _ z => z) ((hset_n _ _ (by omega)).trans ((hset_n _ _ (by omega)).trans ((hset_n _ _ (by omega)).trans ((hset_n _ _ (by omega)).trans ((fq3 a (by omega)).trans ea))))) rfl dX3_copy_94 ?_
        refine aw_putf C ck2 6 (by decide) q627 (fun _ z => z) rfl rfl (ty := .int) rfl rfl (hset_s _ _ _) (show 6 < 7 by decide) dX3_copy_97 ?_
        rw [hset_hset]
        refine aw_aload_n C rfl rfl dX3_copy_100 ?_
        refine aw_aret C rfl (Or.inl ⟨_, rfl⟩) (Or.inr ⟨_, rfl⟩) dX3_copy_101 (by omega) (by omega) ?_
        refine ⟨rfl, by omega, by omega, fun q hq => ?_, sz + 1, sz + 2, sz + 3, sz + 8, sz + 9, sz + 6, el', 0 + nI 1, va_cpy fc fc1 0 0 9, va_cpy fb fb1 0 0 9, f, ⟨by omega, by omega, by omega, by omega, by omega, by omega, by omega, by omega, by omega, by omega⟩, hset_s _ _ _, ?_, ?_, ?_, ?_, ?_, ?_, ?_, ⟨hCN, ?_, ?_, ?_⟩, fun k hk => ?_, fun v hv => by rw [cpy9 v hv]; exact hfc v hv, fun v hv hf => by rw [cpy9 v hv]; exact hfb v hv hf⟩
        · rw [hset_n _ _ (by omega), hset_n _ _ (by omega), hset_n _ _ (by omega), hset_n _ _ (by omega)]
          exact fq3 q hq
        · rw [hset_n _ _ (by omega), hset_n _ _ (by omega), hset_n _ _ (by omega), hset_n _ _ (by omega)]
          exact k1
        · rw [hset_n _ _ (by omega), hset_n _ _ (by omega), hset_n _ _ (by omega), hset_n _ _ (by omega)]
          exact k2
        · rw [hset_n _ _ (by omega), hset_n _ _ (by omega), hset_n _ _ (by omega), hset_n _ _ (by omega)]
          exact k3
        · rw [hset_n _ _ (by omega), hset_n _ _ (by omega), hset_n _ _ (by omega), hset_n _ _ (by omega)]
          exact k8
        · rw [hset_n _ _ (by omega), hset_n _ _ (by omega), hset_n _ _ (by omega), hset_n _ _ (by omega)]
          exact k9
        · rw [hset_n _ _ (by omega), hset_s]
        · rw [hset_n _ _ (by omega), hset_n _ _ (by omega), hset_s, hcp]
        · rw [← hcp]; exact hc1
        · rw [← hcp]; omega
        · rw [← hcp]; omega
        · obtain ⟨z, z1, z2⟩ := hmv k hk
          have z3 := hD.lt z2
          refine ⟨z, z1, ?_⟩
          rw [hset_n _ _ (by omega), hset_n _ _ (by omega), hset_n _ _ (by omega), hset_n _ _ (by omega)]
          exact (fq3 z z3).trans z2
      · exact absurd g46 (by omega)
