/-! graphs and boards in the heap: what a reader sees -/
/-- how many edges -/
def edg (b : BT) : Nat := edgeB b (2 ^ b 0 - 1) / 2
def GRP (h : AH) (gr : Nat) (b : BT) : Prop := ∃ (gl gn : Nat) (fl fn : Nat → Int32), h gr = some (.inr (3, [.int (nI (b 1)), .ref gl, .ref gn, .int (nI (b 0)), .int (nI (edg b))])) ∧ h gl = some (.inl (0, 9, .inl fl)) ∧ h gn = some (.inl (0, 9, .inl fn)) ∧ (∀ v, v < 9 → fl v = nI (b (4 + v))) ∧ ∀ v, v < 9 → fn v = nI (b (13 + v))
theorem GRP.le {h h' : AH} {gr : Nat} {b : BT} (H : HLE h h') (g : GRP h gr b) : GRP h' gr b := by
  obtain ⟨gl, gn, fl, fn, e1, e2, e3, e4, e5⟩ := g
  exact ⟨gl, gn, fl, fn, H _ _ e1, H _ _ e2, H _ _ e3, e4, e5⟩
def BRD (h : AH) (a gr : Nat) (b : BT) : Prop := ∃ (ca ba : Nat) (v3 v4 : Value) (fc fb : Nat → Int32), h a = some (.inr (2, [.ref gr, .ref ca, .ref ba, v3, v4, .int (nI (b 2)), .int (nI (b 3 % 2))])) ∧ h ca = some (.inl (0, 9, .inl fc)) ∧ h ba = some (.inl (0, 9, .inl fb)) ∧ GRP h gr b ∧ (∀ v, v < 9 → fc v = nI (b (22 + v)) - nI 1) ∧ ∀ v, v < 9 → fr b v = true → fb v = nI (b (31 + v)) - nI 1
theorem BRD.le {h h' : AH} {a gr : Nat} {b : BT} (H : HLE h h') (g : BRD h a gr b) : BRD h' a gr b := by
  obtain ⟨ca, ba, v3, v4, fc, fb, e1, e2, e3, e4, e5, e6⟩ := g
  exact ⟨ca, ba, v3, v4, fc, fb, H _ _ e1, H _ _ e2, H _ _ e3, e4.le H, e5, e6⟩
theorem aw_lo2 : True := trivial
/-- a colour against none -/
theorem free_m1 : ∀ m, m < 4 → ((nI m - nI 1 = -1) ↔ m = 0) := ban_m1
theorem fr_m1 {b : BT} {v : Nat} (h : b (22 + v) ≤ 3) : (nI (b (22 + v)) - nI 1 = -1) ↔ fr b v = true := by
  rw [ban_m1 _ (by omega), fr_t]
theorem fr_yes {b : BT} {v : Nat} (h : b (22 + v) ≤ 3) (g : nI (b (22 + v)) - nI 1 = -1) : fr b v = true := (fr_m1 h).mp g
theorem fr_no {b : BT} {v : Nat} (h : b (22 + v) ≤ 3) (g : ¬ nI (b (22 + v)) - nI 1 = -1) : fr b v = false := by
  cases q : fr b v
  · rfl
  · exact absurd ((fr_m1 h).mpr q) g
/-- the static RULE is carried, and its object -/
def RUL (γ : Gm) (ρ : Nat) : Prop := ZZ γ "ColourDuel$Board" "RULE" "LColourDuel$FullRule;" (.ref ρ) ∧ OBJ γ "ColourDuel$FullRule" ρ
theorem firstP {b : BT} {S : Nat} : rchF b (1 <<< low S) S = rch b (low S) S := rfl
/-- parts of what is left, each within what is left: as within the set -/
theorem nd_rest {b : BT} {set left : Nat} (h : Rcl b set left) (h9 : b 0 ≤ 9) (hs : set < 2 ^ b 0) (h0 : 0 < left) (h5 : left < 512) : rch b (low left) left = rch b (low left) set := rch_rest h h9 hs (low_bit left h5 h0).1
/-- why not, but for bans -/
def why3 (b : BT) (v c : Nat) : Nat := if fr b v = false then 1 else if (b (4 + v)).testBit c = false then 2 else if (arn b v).testBit c = true then 3 else 0
set_option maxRecDepth 100000 in
theorem bd_partFrom {γ : Gm} (hG : GF γ) (l : Launch) {h : AH} {sz : Nat} {b : BT} {g : Nat} (hg : GRP h g b) (hW : b 0 ≤ 9) {X0 set : Nat} (h0 : 0 < X0) (h1 : X0 < 512) (hset : set < 512) : MX γ l yX4_partFrom cX4_partFrom 6 (some .int) 1 21 0 0 [.ref g, .int (nI X0), .int (nI set)] h sz (RI h sz (nI (rchF b X0 set))) NX := by
  obtain ⟨gl, gn, fl, fn, eg, egl, egn, hgl, hgn⟩ := id hg
  refine mx_start hG (by decide) (Nat.le_of_ble_eq_true rfl) (fun x C => ?_)
  have hN := hW
  have hexit : ∀ I, I < 512 → rchF b X0 set = I → AW γ l x (QX γ x 0 0 (RI h sz (nI (rchF b X0 set))) NX) 6 h sz 0 0 5 [(0, .ref g), (1, .int (nI X0)), (2, .int (nI set)), (3, .int (nI I)), (4, .int (nI I))] [] := by
    intro I hI hr
    refine aw_iload_n C rfl rfl dX4_partFrom_5 ?_
    refine aw_iload C rfl dX4_partFrom_6 ?_
    refine aw_icmpN_eq C (tgt := 57) (by omega) (by omega) dX4_partFrom_8 (by decide) (fun g1 => ?_) (fun g1 => ?_)
    · refine aw_iload_n C rfl rfl dX4_partFrom_57 ?_
      exact aw_iret C rfl dX4_partFrom_58 (Nat.le_refl _) (Nat.le_refl _) ⟨by rw [hr], rfl, rfl⟩
    · exact absurd rfl g1
  have key : ∀ j i I B, I < 512 → B < 512 → ¬ I = B → 512 ≤ I + j → rinv b X0 set i I → AW γ l x (QX γ x 0 0 (RI h sz (nI (rchF b X0 set))) NX) 6 h sz 0 0 5 [(0, .ref g), (1, .int (nI X0)), (2, .int (nI set)), (3, .int (nI I)), (4, .int (nI B))] [] := by
    intro j
    induction j with
    | zero => intro i I B hI hB hne h2; exact absurd h2 (by omega)
    | succ j ih =>
      intro i I B hI hB hne h2 hi
      have key2 : ∀ j k s, k ≤ b 0 → b 0 + 1 ≤ k + j → s < 512 → s = grow b set I k → AW γ l x (QX γ x 0 0 (RI h sz (nI (rchF b X0 set))) NX) 6 h sz 0 0 17 [(0, .ref g), (1, .int (nI X0)), (2, .int (nI set)), (3, .int (nI s)), (4, .int (nI I)), (5, .int (nI k))] [] := by
        intro j
        induction j with
        | zero => intro k s h1 h2 hs5 hs; exact absurd h2 (by omega)
        | succ j ih2 =>
          intro k s h1 h2 hs5 hs
          refine aw_iload C rfl dX4_partFrom_17 ?_
          refine aw_aload_n C rfl rfl dX4_partFrom_19 ?_
          refine aw_getf C ck3 3 (by decide) q212 (fun _ z => z) eg rfl dX4_partFrom_20 ?_
          refine aw_icmpN_ge C (tgt := 54) (by omega) (by omega) dX4_partFrom_23 (by decide) (fun gN => ?_) (fun gN => ?_)
          · refine aw_goto C (tgt := 5) dX4_partFrom_54 (by decide) ?_
            have hk : k = b 0 := by omega
            subst hk
            have hs' : s = gstep b set I := hs
            by_cases e : gstep b set I = I
            · rw [hs', e]
              exact aw_lo (hexit I hI (rinv_fix hi e)) ⟨rfl, rfl, rfl, rfl, rfl, trivial⟩
            · have hge := gstep_ge b set I
              rw [hs']
              exact aw_lo (ih (i + 1) (gstep b set I) I (gstep_lt hI hset) hI e (by omega) (rinv_s hi hset e)) ⟨rfl, rfl, rfl, rfl, rfl, trivial⟩
          · refine aw_iload C rfl dX4_partFrom_26 ?_
            refine aw_iload C rfl dX4_partFrom_28 ?_
            refine aw_callSNR C (cp_has hG l (by omega) (by omega)) q724 q154 q95 q155 (n9 := 2) (by decide +kernel) rfl (Nat.le_of_ble_eq_true rfl) (Nat.le_of_ble_eq_true rfl) (Nat.zero_le _) (Nat.zero_le _) rfl (Nat.le_of_ble_eq_true rfl) dX4_partFrom_30 ?_
            refine aw_bit_eq0 C (tgt := 48) dX4_partFrom_33 (by decide) (fun gB => ?_) (fun gB => ?_)
            · refine aw_iinc1 C rfl (by decide) rfl dX4_partFrom_48 ?_
              refine aw_goto C (tgt := 17) dX4_partFrom_51 (by decide) ?_
              exact aw_lo (ih2 (k + 1) _ (by omega) (by omega) (by first | exact hs5 | exact nb_lt_or (m := 9) hs5 hgg) (by rw [grow, hs]; simp [gB])) ⟨rfl, rfl, rfl, rfl, rfl, rfl, trivial⟩
            · refine aw_iload_n C rfl rfl dX4_partFrom_36 ?_
              refine aw_aload_n C rfl rfl dX4_partFrom_37 ?_
              refine aw_getf C ck3 2 (by decide) q207 (fun _ z => z) eg rfl dX4_partFrom_38 ?_
              refine aw_iload C rfl dX4_partFrom_41 ?_
              refine aw_ialdN C egn (by omega) (by decide) dX4_partFrom_43 ?_
              refine aw_top ((hgn _ (by omega))) ?_
              have hgg := Nat.lt_of_le_of_lt (Nat.and_le_right (n := b (13 + k)) (m := set)) hset
              refine aw_iload_n C rfl rfl dX4_partFrom_44 ?_
              refine aw_iandN C dX4_partFrom_45 ?_
              refine aw_iorN C dX4_partFrom_46 ?_
              refine aw_istore_n C rfl (by decide) rfl dX4_partFrom_47 ?_
              refine aw_iinc1 C rfl (by decide) rfl dX4_partFrom_48 ?_
              refine aw_goto C (tgt := 17) dX4_partFrom_51 (by decide) ?_
              exact aw_lo (ih2 (k + 1) _ (by omega) (by omega) (by first | exact hs5 | exact nb_lt_or (m := 9) hs5 hgg) (by rw [grow, hs]; simp [gB])) ⟨rfl, rfl, rfl, rfl, rfl, rfl, trivial⟩
      refine aw_iload_n C rfl rfl dX4_partFrom_5 ?_
      refine aw_iload C rfl dX4_partFrom_6 ?_
      refine aw_icmpN_eq C (tgt := 57) (by omega) (by omega) dX4_partFrom_8 (by decide) (fun g1 => ?_) (fun g1 => ?_)
      · exact absurd g1 hne
      · refine aw_iload_n C rfl rfl dX4_partFrom_11 ?_
        refine aw_istore C (by decide) rfl dX4_partFrom_12 ?_
        refine aw_iconst C (v := nI 0) (by decide) dX4_partFrom_14 ?_
        refine aw_istore C (by decide) rfl dX4_partFrom_15 ?_
        exact aw_lo (key2 (b 0 + 1) 0 I (Nat.zero_le _) (by omega) hI rfl) ⟨rfl, rfl, rfl, rfl, rfl, rfl, trivial⟩
  refine aw_iload_n C rfl rfl dX4_partFrom_0 ?_
  refine aw_istore_n C rfl (by decide) rfl dX4_partFrom_1 ?_
  refine aw_iconst C (v := nI 0) (by decide) dX4_partFrom_2 ?_
  refine aw_istore C (by decide) rfl dX4_partFrom_3 ?_
  exact aw_lo (key 512 0 X0 0 h1 (by decide) (by omega) (by omega) (rinv_0 h0 h1)) ⟨rfl, rfl, rfl, rfl, rfl, trivial⟩
set_option maxRecDepth 100000 in
theorem bd_firstPart {γ : Gm} (hG : GF γ) (l : Launch) {h : AH} {sz : Nat} {b : BT} {g : Nat} (hg : GRP h g b) (hW : b 0 ≤ 9) {S : Nat} (hS : S < 512) (h0 : 0 < S) : MX γ l yX4_firstPart cX4_firstPart 2 (some .int) 2 46 0 0 [.ref g, .int (nI S)] h sz (RI h sz (nI (rch b (low S) S))) NX := by
  obtain ⟨gl, gn, fl, fn, eg, egl, egn, hgl, hgn⟩ := id hg
  refine mx_start hG (by decide) (Nat.le_of_ble_eq_true rfl) (fun x C => ?_)
  have hl := (low_bit S hS h0).2.1
  have h1 := sh1_lt (m := 9) hl
  have h2 : 0 < 1 <<< low S := by rw [Nat.shiftLeft_eq, Nat.one_mul]; exact Nat.two_pow_pos _
  refine aw_aload_n C rfl rfl dX4_firstPart_0 ?_
  refine aw_iload_n C rfl rfl dX4_firstPart_1 ?_
  refine aw_callSRR C (cp_low1 hG l hS h0) q717 q718 q118 q719 (n9 := 1) (by decide +kernel) rfl (Nat.le_of_ble_eq_true rfl) (Nat.le_of_ble_eq_true rfl) (Nat.zero_le _) (Nat.zero_le _) rfl (Nat.le_of_ble_eq_true rfl) dX4_firstPart_2 ?_
  refine aw_iload_n C rfl rfl dX4_firstPart_5 ?_
  refine aw_callVRR C ck3 (bd_partFrom hG l hg hW (by omega) (by omega) (by omega)) q720 q721 q722 q98 q723 (Or.inl eg) (n9 := 2) (by decide +kernel) rfl (Nat.le_of_ble_eq_true rfl) (Nat.le_of_ble_eq_true rfl) (Nat.zero_le _) (Nat.zero_le _) rfl (Nat.le_of_ble_eq_true rfl) dX4_firstPart_6 ?_
  exact aw_iret C rfl dX4_firstPart_9 (Nat.le_refl _) (Nat.le_refl _) ⟨rfl, rfl, rfl⟩
set_option maxRecDepth 100000 in
theorem bd_countParts {γ : Gm} (hG : GF γ) (l : Launch) {h : AH} {sz : Nat} {b : BT} {g : Nat} (hg : GRP h g b) (hW : b 0 ≤ 9) (hY : SY b) {S : Nat} (hS : S < 2 ^ b 0) : MX γ l yX4_countParts cX4_countParts 4 (some .int) 3 67 0 0 [.ref g, .int (nI S)] h sz (RI h sz (nI (npts b S))) NX := by
  obtain ⟨gl, gn, fl, fn, eg, egl, egn, hgl, hgn⟩ := id hg
  refine mx_start hG (by decide) (Nat.le_of_ble_eq_true rfl) (fun x C => ?_)
  have hS9 : S < 512 := Nat.lt_of_lt_of_le hS (Nat.pow_le_pow_right (by omega) hW)
  have key : ∀ j left m, left + 1 ≤ j → left < 512 → Rcl b S left → m + (pts b S left).length = npts b S → AW γ l x (QX γ x 0 0 (RI h sz (nI (npts b S))) NX) 4 h sz 0 0 4 [(0, .ref g), (1, .int (nI S)), (2, .int (nI m)), (3, .int (nI left))] [] := by
    intro j
    induction j with
    | zero => intro left m h2 h3 hR h4; exact absurd h2 (by omega)
    | succ j ih =>
      intro left m h2 h3 hR h4
      refine aw_iload_n C rfl rfl dX4_countParts_4 ?_
      refine aw_ifN_eq C (tgt := 24) (by omega) dX4_countParts_5 (by decide) (fun g0 => ?_) (fun g0 => ?_)
      · refine aw_iload_n C rfl rfl dX4_countParts_24 ?_
        exact aw_iret C rfl dX4_countParts_25 (Nat.le_refl _) (Nat.le_refl _) ⟨by rw [show m = npts b S by rw [← h4, g0]; rfl], rfl, rfl⟩
      · have g1 : 0 < left := by omega
        obtain ⟨hl1, hl2, hl3⟩ := low_bit left h3 g1
        have hq := nd_rest hR hW hS g1 h3
        have hd := nd_lt_of hl1 (rch_self b (low left) S)
        refine aw_iload_n C rfl rfl dX4_countParts_8 ?_
        refine aw_aload_n C rfl rfl dX4_countParts_9 ?_
        refine aw_iload_n C rfl rfl dX4_countParts_10 ?_
        refine aw_callVRR C ck3 (bd_firstPart hG l hg hW (by omega) (by omega)) q998 q714 q715 q98 q716 (Or.inl eg) (n9 := 1) (by decide +kernel) rfl (Nat.le_of_ble_eq_true rfl) (Nat.le_of_ble_eq_true rfl) (Nat.zero_le _) (Nat.zero_le _) rfl (Nat.le_of_ble_eq_true rfl) dX4_countParts_11 ?_
        refine aw_iconst C (v := -1) (by decide) dX4_countParts_14 ?_
        refine aw_ixor C dX4_countParts_15 ?_
        refine aw_iandNot C dX4_countParts_16 ?_
        refine aw_istore_n C rfl (by decide) rfl dX4_countParts_17 ?_
        refine aw_iinc1 C rfl (by decide) rfl dX4_countParts_18 ?_
        refine aw_goto C (tgt := 4) dX4_countParts_21 (by decide) ?_
        rw [hq]
        exact aw_lo (ih (nd left (rch b (low left) S)) (m + 1) (by omega) (by omega) (rcl_nd hR hY hS hW hl1) (by rw [pts_s b S g1 h3, List.length_cons] at h4; omega)) ⟨rfl, rfl, rfl, rfl, trivial⟩
  refine aw_iconst C (v := nI 0) (by decide) dX4_countParts_0 ?_
  refine aw_istore_n C rfl (by decide) rfl dX4_countParts_1 ?_
  refine aw_iload_n C rfl rfl dX4_countParts_2 ?_
  refine aw_istore_n C rfl (by decide) rfl dX4_countParts_3 ?_
  exact aw_lo (key (S + 1) S 0 (by omega) hS9 (rcl_self b S) (Nat.zero_add _)) ⟨rfl, rfl, rfl, rfl, trivial⟩
set_option maxRecDepth 100000 in
theorem bd_allColours {γ : Gm} (hG : GF γ) (l : Launch) {h : AH} {sz : Nat} {b : BT} {g : Nat} (hg : GRP h g b) (hW : b 1 ≤ 3) : MX γ l yX4_allColours cX4_allColours 1 (some .int) 0 0 0 0 [.ref g] h sz (RI h sz (nI (1 <<< b 1 - 1))) NX := by
  obtain ⟨gl, gn, fl, fn, eg, egl, egn, hgl, hgn⟩ := id hg
  refine mx_start hG (by decide) (Nat.le_of_ble_eq_true rfl) (fun x C => ?_)
  have hp : 0 < 1 <<< b 1 := by rw [Nat.shiftLeft_eq, Nat.one_mul]; exact Nat.two_pow_pos _
  refine aw_iconst C (v := nI 1) (by decide) dX4_allColours_0 ?_
  refine aw_aload_n C rfl rfl dX4_allColours_1 ?_
  refine aw_getf C ck3 0 (by decide) q197 (fun _ z => z) eg rfl dX4_allColours_2 ?_
  refine aw_ishlN C (by omega) dX4_allColours_5 ?_
  refine aw_iconst C (v := nI 1) (by decide) dX4_allColours_6 ?_
  refine aw_isubN C (by omega) dX4_allColours_7 ?_
  exact aw_iret C rfl dX4_allColours_8 (Nat.le_refl _) (Nat.le_refl _) ⟨rfl, rfl, rfl⟩
set_option maxRecDepth 100000 in
theorem bd_hasRoom {γ : Gm} (hG : GF γ) (l : Launch) {h : AH} {sz : Nat} {b : BT} {g : Nat} (hg : GRP h g b) (hW : b 0 ≤ 9) (hW1 : b 1 ≤ 3) : MX γ l yX4_hasRoom cX4_hasRoom 3 (some .boolean) 0 0 0 0 [.ref g] h sz (RI h sz (nI (if decide (b 0 < 9 ∧ (b 1 + 1) ^ (b 0 + 1) ≤ 20000) = true then 1 else 0))) NX := by
  obtain ⟨gl, gn, fl, fn, eg, egl, egn, hgl, hgn⟩ := id hg
  refine mx_start hG (by decide) (Nat.le_of_ble_eq_true rfl) (fun x C => ?_)
  have hpw : (b 1 + 1) ^ (b 0 + 1) ≤ 4 ^ 10 := Nat.le_trans (Nat.pow_le_pow_left (show b 1 + 1 ≤ 4 by omega) _) (Nat.pow_le_pow_right (by omega) (by omega))
  have key : ∀ j k p, k ≤ b 0 + 1 → b 0 + 2 ≤ k + j → p = (b 1 + 1) ^ k → AW γ l x (QX γ x 0 0 (RI h sz (nI (if decide (b 0 < 9 ∧ (b 1 + 1) ^ (b 0 + 1) ≤ 20000) = true then 1 else 0))) NX) 3 h sz 0 0 4 [(0, .ref g), (1, .int (nI p)), (2, .int (nI k))] [] := by
    intro j
    induction j with
    | zero => intro k p h1 h2 hp; exact absurd h2 (by omega)
    | succ j ih =>
      intro k p h1 h2 hp
      refine aw_iload_n C rfl rfl dX4_hasRoom_4 ?_
      refine aw_aload_n C rfl rfl dX4_hasRoom_5 ?_
      refine aw_getf C ck3 3 (by decide) q212 (fun _ z => z) eg rfl dX4_hasRoom_6 ?_
      refine aw_icmpN_gt C (tgt := 27) (by omega) (by omega) dX4_hasRoom_9 (by decide) (fun gN => ?_) (fun gN => ?_)
      · have hk : k = b 0 + 1 := by omega
        subst hk
        refine aw_aload_n C rfl rfl dX4_hasRoom_27 ?_
        refine aw_getf C ck3 3 (by decide) q212 (fun _ z => z) eg rfl dX4_hasRoom_28 ?_
        refine aw_bipush C (v := nI 9) (by decide) dX4_hasRoom_31 ?_
        refine aw_icmpN_ge C (tgt := 47) (by omega) (by omega) dX4_hasRoom_33 (by decide) (fun g9 => ?_) (fun g9 => ?_)
        · refine aw_iconst C (v := nI 0) (by decide) dX4_hasRoom_47 ?_
          exact aw_zret C rfl (by decide) dX4_hasRoom_48 (Nat.le_refl _) (Nat.le_refl _) ⟨by first | (rw [if_neg (by simp only [decide_eq_true_eq]; omega)]; done) | (rw [if_pos (by simp only [decide_eq_true_eq]; exact ⟨by omega, by omega⟩)]; done), rfl, rfl⟩
        · refine aw_iload_n C rfl rfl dX4_hasRoom_36 ?_
          refine aw_sipush C (v := nI 20000) (by decide) dX4_hasRoom_37 ?_
          refine aw_icmpN_gt C (tgt := 47) (by rw [hp]; omega) (by omega) dX4_hasRoom_40 (by decide) (fun gP => ?_) (fun gP => ?_)
          · refine aw_iconst C (v := nI 0) (by decide) dX4_hasRoom_47 ?_
            exact aw_zret C rfl (by decide) dX4_hasRoom_48 (Nat.le_refl _) (Nat.le_refl _) ⟨by first | (rw [if_neg (by simp only [decide_eq_true_eq]; omega)]; done) | (rw [if_pos (by simp only [decide_eq_true_eq]; exact ⟨by omega, by omega⟩)]; done), rfl, rfl⟩
          · refine aw_iconst C (v := nI 1) (by decide) dX4_hasRoom_43 ?_
            refine aw_goto C (tgt := 48) dX4_hasRoom_44 (by decide) ?_
            exact aw_zret C rfl (by decide) dX4_hasRoom_48 (Nat.le_refl _) (Nat.le_refl _) ⟨by first | (rw [if_neg (by simp only [decide_eq_true_eq]; omega)]; done) | (rw [if_pos (by simp only [decide_eq_true_eq]; exact ⟨by omega, by omega⟩)]; done), rfl, rfl⟩
      · refine aw_iload_n C rfl rfl dX4_hasRoom_12 ?_
        refine aw_aload_n C rfl rfl dX4_hasRoom_13 ?_
        refine aw_getf C ck3 0 (by decide) q197 (fun _ z => z) eg rfl dX4_hasRoom_14 ?_
        refine aw_iconst C (v := nI 1) (by decide) dX4_hasRoom_17 ?_
        refine aw_iaddN C dX4_hasRoom_18 ?_
        refine aw_imulN C dX4_hasRoom_19 ?_
        refine aw_istore_n C rfl (by decide) rfl dX4_hasRoom_20 ?_
        refine aw_iinc1 C rfl (by decide) rfl dX4_hasRoom_21 ?_
        refine aw_goto C (tgt := 4) dX4_hasRoom_24 (by decide) ?_
        exact aw_lo (ih (k + 1) _ (by omega) (by omega) (by rw [Nat.pow_succ, hp])) ⟨rfl, rfl, rfl, trivial⟩
  refine aw_iconst C (v := nI 1) (by decide) dX4_hasRoom_0 ?_
  refine aw_istore_n C rfl (by decide) rfl dX4_hasRoom_1 ?_
  refine aw_iconst C (v := nI 0) (by decide) dX4_hasRoom_2 ?_
  refine aw_istore_n C rfl (by decide) rfl dX4_hasRoom_3 ?_
  exact aw_lo (key (b 0 + 2) 0 1 (Nat.zero_le _) (by omega) (Nat.pow_zero _).symm) ⟨rfl, rfl, rfl, trivial⟩
set_option maxRecDepth 100000 in
theorem bd_free {γ : Gm} (hG : GF γ) (l : Launch) {h : AH} {sz : Nat} {b : BT} {a g : Nat} (hb : BRD h a g b) (hW : WB b) : MX γ l yX3_free cX3_free 3 (some .int) 0 0 0 0 [.ref a] h sz (RI h sz (nI (freeS b))) NX := by
  obtain ⟨ca, ba, v3, v4, fc, fb, eb, eca, eba, hg, hfc, hfb⟩ := id hb
  obtain ⟨gl, gn, fl, fn, eg, egl, egn, hgl, hgn⟩ := id hg
  have hN := hW.2.1
  refine mx_start hG (by decide) (Nat.le_of_ble_eq_true rfl) (fun x C => ?_)
  have key : ∀ j v s, v ≤ b 0 → b 0 + 1 ≤ v + j → s = bset (fr b) v → AW γ l x (QX γ x 0 0 (RI h sz (nI (freeS b))) NX) 3 h sz 0 0 4 [(0, .ref a), (1, .int (nI s)), (2, .int (nI v))] [] := by
    intro j
    induction j with
    | zero => intro v s h1 h2 hs; exact absurd h2 (by omega)
    | succ j ih =>
      intro v s h1 h2 hs
      refine aw_iload_n C rfl rfl dX3_free_4 ?_
      refine aw_aload_n C rfl rfl dX3_free_5 ?_
      refine aw_getf C ck2 0 (by decide) q609 (fun _ z => z) eb rfl dX3_free_6 ?_
      refine aw_getfN C ck3 3 (by decide) q213 (fun _ z => z) eg rfl dX3_free_9 ?_
      refine aw_icmpN_ge C (tgt := 41) (by omega) (by omega) dX3_free_12 (by decide) (fun gN => ?_) (fun gN => ?_)
      · refine aw_iload_n C rfl rfl dX3_free_41 ?_
        exact aw_iret C rfl dX3_free_42 (Nat.le_refl _) (Nat.le_refl _) ⟨by rw [hs, show v = b 0 by omega]; rfl, rfl, rfl⟩
      · refine aw_iload_n C rfl rfl dX3_free_15 ?_
        refine aw_aload_n C rfl rfl dX3_free_16 ?_
        refine aw_getf C ck2 1 (by decide) q614 (fun _ z => z) eb rfl dX3_free_17 ?_
        refine aw_iload_n C rfl rfl dX3_free_20 ?_
        refine aw_ialdN C eca (by omega) (by decide) dX3_free_21 ?_
        refine aw_top ((hfc _ (by omega))) ?_
        refine aw_iconst C (v := -1) (by decide) dX3_free_22 ?_
        refine aw_icmp_ne C (tgt := 32) dX3_free_23 (by decide) (fun gF => ?_) (fun gF => ?_)
        · refine aw_iconst C (v := nI 0) (by decide) dX3_free_32 ?_
          refine aw_iorN C dX3_free_33 ?_
          refine aw_istore_n C rfl (by decide) rfl dX3_free_34 ?_
          refine aw_iinc1 C rfl (by decide) rfl dX3_free_35 ?_
          refine aw_goto C (tgt := 4) dX3_free_38 (by decide) ?_
          exact aw_lo (ih (v + 1) _ (by omega) (by omega) (by first | (have gf := fr_yes (hW.o3 (v := v) (by omega)) gF; rw [bset, hs]; simp [gf]; done) | (have gf := fr_no (hW.o3 (v := v) (by omega)) gF; rw [bset, hs]; simp [gf]; done))) ⟨rfl, rfl, rfl, trivial⟩
        · refine aw_iconst C (v := nI 1) (by decide) dX3_free_26 ?_
          refine aw_iload_n C rfl rfl dX3_free_27 ?_
          refine aw_ishlN C (by omega) dX3_free_28 ?_
          refine aw_goto C (tgt := 33) dX3_free_29 (by decide) ?_
          refine aw_iorN C dX3_free_33 ?_
          refine aw_istore_n C rfl (by decide) rfl dX3_free_34 ?_
          refine aw_iinc1 C rfl (by decide) rfl dX3_free_35 ?_
          refine aw_goto C (tgt := 4) dX3_free_38 (by decide) ?_
          exact aw_lo (ih (v + 1) _ (by omega) (by omega) (by first | (have gf := fr_yes (hW.o3 (v := v) (by omega)) gF; rw [bset, hs]; simp [gf]; done) | (have gf := fr_no (hW.o3 (v := v) (by omega)) gF; rw [bset, hs]; simp [gf]; done))) ⟨rfl, rfl, rfl, trivial⟩
  refine aw_iconst C (v := nI 0) (by decide) dX3_free_0 ?_
  refine aw_istore_n C rfl (by decide) rfl dX3_free_1 ?_
  refine aw_iconst C (v := nI 0) (by decide) dX3_free_2 ?_
  refine aw_istore_n C rfl (by decide) rfl dX3_free_3 ?_
  exact aw_lo (key (b 0 + 1) 0 0 (Nat.zero_le _) (by omega) rfl) ⟨rfl, rfl, rfl, trivial⟩
set_option maxRecDepth 100000 in
theorem bd_partSet {γ : Gm} (hG : GF γ) (l : Launch) {h : AH} {sz : Nat} {b : BT} {a g : Nat} (hb : BRD h a g b) (hW : WB b) {v : Nat} (hv : v < 9) : MX γ l yX3_partSet cX3_partSet 2 (some .int) 2 46 0 0 [.ref a, .int (nI v)] h sz (RI h sz (nI (rch b v (freeS b)))) NX := by
  obtain ⟨ca, ba, v3, v4, fc, fb, eb, eca, eba, hg, hfc, hfb⟩ := id hb
  obtain ⟨gl, gn, fl, fn, eg, egl, egn, hgl, hgn⟩ := id hg
  have hN := hW.2.1
  refine mx_start hG (by decide) (Nat.le_of_ble_eq_true rfl) (fun x C => ?_)
  have hF := freeS_lt hN
  have h1 := sh1_lt (m := 9) hv
  have h0 : 0 < 1 <<< v := by rw [Nat.shiftLeft_eq, Nat.one_mul]; exact Nat.two_pow_pos _
  refine aw_aload_n C rfl rfl dX3_partSet_0 ?_
  refine aw_getf C ck2 0 (by decide) q609 (fun _ z => z) eb rfl dX3_partSet_1 ?_
  refine aw_iconst C (v := nI 1) (by decide) dX3_partSet_4 ?_
  refine aw_iload_n C rfl rfl dX3_partSet_5 ?_
  refine aw_ishlN C (by omega) dX3_partSet_6 ?_
  refine aw_aload_n C rfl rfl dX3_partSet_7 ?_
  refine aw_callVRR C ck2 (bd_free hG l hb hW) q837 q706 q707 q97 q708 (Or.inl eb) (n9 := 0) (by decide +kernel) rfl (Nat.le_of_ble_eq_true rfl) (Nat.le_of_ble_eq_true rfl) (Nat.zero_le _) (Nat.zero_le _) rfl (Nat.le_of_ble_eq_true rfl) dX3_partSet_8 ?_
  refine aw_callVRR C ck3 (bd_partFrom hG l hg hN h0 h1 hF) q838 q721 q722 q98 q723 (Or.inl eg) (n9 := 2) (by decide +kernel) rfl (Nat.le_of_ble_eq_true rfl) (Nat.le_of_ble_eq_true rfl) (Nat.zero_le _) (Nat.zero_le _) rfl (Nat.le_of_ble_eq_true rfl) dX3_partSet_11 ?_
  exact aw_iret C rfl dX3_partSet_14 (Nat.le_refl _) (Nat.le_refl _) ⟨rfl, rfl, rfl⟩
set_option maxRecDepth 100000 in
theorem bd_coloursNear {γ : Gm} (hG : GF γ) (l : Launch) {h : AH} {sz : Nat} {b : BT} {a g : Nat} (hb : BRD h a g b) (hW : WB b) {v : Nat} (hv : v < 9) : MX γ l yX3_coloursNear cX3_coloursNear 4 (some .int) 1 21 0 0 [.ref a, .int (nI v)] h sz (RI h sz (nI (arn b v))) NX := by
  obtain ⟨ca, ba, v3, v4, fc, fb, eb, eca, eba, hg, hfc, hfb⟩ := id hb
  obtain ⟨gl, gn, fl, fn, eg, egl, egn, hgl, hgn⟩ := id hg
  have hN := hW.2.1
  refine mx_start hG (by decide) (Nat.le_of_ble_eq_true rfl) (fun x C => ?_)
  have key : ∀ j k s, k ≤ b 0 → b 0 + 1 ≤ k + j → s = arnF b v k → AW γ l x (QX γ x 0 0 (RI h sz (nI (arn b v))) NX) 4 h sz 0 0 4 [(0, .ref a), (1, .int (nI v)), (2, .int (nI s)), (3, .int (nI k))] [] := by
    intro j
    induction j with
    | zero => intro k s h1 h2 hs; exact absurd h2 (by omega)
    | succ j ih =>
      intro k s h1 h2 hs
      have ho := hW.o3 (v := k)
      have hn9 := hW.n9 hv
      refine aw_iload_n C rfl rfl dX3_coloursNear_4 ?_
      refine aw_aload_n C rfl rfl dX3_coloursNear_5 ?_
      refine aw_getf C ck2 0 (by decide) q609 (fun _ z => z) eb rfl dX3_coloursNear_6 ?_
      refine aw_getfN C ck3 3 (by decide) q213 (fun _ z => z) eg rfl dX3_coloursNear_9 ?_
      refine aw_icmpN_ge C (tgt := 62) (by omega) (by omega) dX3_coloursNear_12 (by decide) (fun gN => ?_) (fun gN => ?_)
      · refine aw_iload_n C rfl rfl dX3_coloursNear_62 ?_
        exact aw_iret C rfl dX3_coloursNear_63 (Nat.le_refl _) (Nat.le_refl _) ⟨by rw [hs, show k = b 0 by omega]; rfl, rfl, rfl⟩
      · refine aw_iload_n C rfl rfl dX3_coloursNear_15 ?_
        refine aw_aload_n C rfl rfl dX3_coloursNear_16 ?_
        refine aw_getf C ck2 0 (by decide) q609 (fun _ z => z) eb rfl dX3_coloursNear_17 ?_
        refine aw_getfN C ck3 2 (by decide) q208 (fun _ z => z) eg rfl dX3_coloursNear_20 ?_
        refine aw_iload_n C rfl rfl dX3_coloursNear_23 ?_
        refine aw_ialdN C egn (by omega) (by decide) dX3_coloursNear_24 ?_
        refine aw_top ((hgn _ (by omega))) ?_
        refine aw_iload_n C rfl rfl dX3_coloursNear_25 ?_
        refine aw_callSNR C (cp_has hG l (by omega) (by omega)) q741 q154 q95 q155 (n9 := 2) (by decide +kernel) rfl (Nat.le_of_ble_eq_true rfl) (Nat.le_of_ble_eq_true rfl) (Nat.zero_le _) (Nat.zero_le _) rfl (Nat.le_of_ble_eq_true rfl) dX3_coloursNear_26 ?_
        refine aw_bit_eq0 C (tgt := 53) dX3_coloursNear_29 (by decide) (fun gA => ?_) (fun gA => ?_)
        · refine aw_iconst C (v := nI 0) (by decide) dX3_coloursNear_53 ?_
          refine aw_iorN C dX3_coloursNear_54 ?_
          refine aw_istore_n C rfl (by decide) rfl dX3_coloursNear_55 ?_
          refine aw_iinc1 C rfl (by decide) rfl dX3_coloursNear_56 ?_
          refine aw_goto C (tgt := 4) dX3_coloursNear_59 (by decide) ?_
          exact aw_lo (ih (k + 1) _ (by omega) (by omega) (by first | (rw [arnF, hs]; simp [gA, gF1]; done) | (rw [arnF, hs]; simp [gA]; done) | (have gf := (fr_m1 (hW.o3 (v := k) (by omega))).mp gF; rw [arnF, hs]; simp [gA, gf]; done))) ⟨rfl, rfl, rfl, rfl, trivial⟩
        · refine aw_aload_n C rfl rfl dX3_coloursNear_32 ?_
          refine aw_getf C ck2 1 (by decide) q614 (fun _ z => z) eb rfl dX3_coloursNear_33 ?_
          refine aw_iload_n C rfl rfl dX3_coloursNear_36 ?_
          refine aw_ialdN C eca (by omega) (by decide) dX3_coloursNear_37 ?_
          refine aw_top ((hfc _ (by omega))) ?_
          refine aw_iconst C (v := -1) (by decide) dX3_coloursNear_38 ?_
          refine aw_icmp_eq C (tgt := 53) dX3_coloursNear_39 (by decide) (fun gF => ?_) (fun gF => ?_)
          · refine aw_iconst C (v := nI 0) (by decide) dX3_coloursNear_53 ?_
            refine aw_iorN C dX3_coloursNear_54 ?_
            refine aw_istore_n C rfl (by decide) rfl dX3_coloursNear_55 ?_
            refine aw_iinc1 C rfl (by decide) rfl dX3_coloursNear_56 ?_
            refine aw_goto C (tgt := 4) dX3_coloursNear_59 (by decide) ?_
            exact aw_lo (ih (k + 1) _ (by omega) (by omega) (by first | (rw [arnF, hs]; simp [gA, gF1]; done) | (rw [arnF, hs]; simp [gA]; done) | (have gf := (fr_m1 (hW.o3 (v := k) (by omega))).mp gF; rw [arnF, hs]; simp [gA, gf]; done))) ⟨rfl, rfl, rfl, rfl, trivial⟩
          · have gF1 : fr b k = false := by
              cases q : fr b k
              · rfl
              · exact absurd ((fr_m1 (hW.o3 (by omega))).mpr q) gF
            have gF2 := fr_f.mp gF1
            have gF3 := hW.o3 (v := k) (by omega)
            refine aw_iconst C (v := nI 1) (by decide) dX3_coloursNear_42 ?_
            refine aw_aload_n C rfl rfl dX3_coloursNear_43 ?_
            refine aw_getf C ck2 1 (by decide) q614 (fun _ z => z) eb rfl dX3_coloursNear_44 ?_
            refine aw_iload_n C rfl rfl dX3_coloursNear_47 ?_
            refine aw_ialdN C eca (by omega) (by decide) dX3_coloursNear_48 ?_
            refine aw_top ((hfc _ (by omega))) ?_
            refine aw_top (pk_sub (show 1 ≤ b (22 + k) by omega)) ?_
            refine aw_ishlN C (by omega) dX3_coloursNear_49 ?_
            refine aw_goto C (tgt := 54) dX3_coloursNear_50 (by decide) ?_
            refine aw_iorN C dX3_coloursNear_54 ?_
            refine aw_istore_n C rfl (by decide) rfl dX3_coloursNear_55 ?_
            refine aw_iinc1 C rfl (by decide) rfl dX3_coloursNear_56 ?_
            refine aw_goto C (tgt := 4) dX3_coloursNear_59 (by decide) ?_
            exact aw_lo (ih (k + 1) _ (by omega) (by omega) (by first | (rw [arnF, hs]; simp [gA, gF1]; done) | (rw [arnF, hs]; simp [gA]; done) | (have gf := (fr_m1 (hW.o3 (v := k) (by omega))).mp gF; rw [arnF, hs]; simp [gA, gf]; done))) ⟨rfl, rfl, rfl, rfl, trivial⟩
  refine aw_iconst C (v := nI 0) (by decide) dX3_coloursNear_0 ?_
  refine aw_istore_n C rfl (by decide) rfl dX3_coloursNear_1 ?_
  refine aw_iconst C (v := nI 0) (by decide) dX3_coloursNear_2 ?_
  refine aw_istore_n C rfl (by decide) rfl dX3_coloursNear_3 ?_
  exact aw_lo (key (b 0 + 1) 0 0 (Nat.zero_le _) (by omega) rfl) ⟨rfl, rfl, rfl, rfl, trivial⟩
set_option maxRecDepth 100000 in
theorem bd_masks {γ : Gm} (hG : GF γ) (l : Launch) {h : AH} {sz : Nat} {b : BT} {a g : Nat} (hb : BRD h a g b) (hW : WB b) {S : Nat} (hS : S < 512) : MX γ l yX3_masks cX3_masks 4 (some .int) 2 44 0 0 [.ref a, .int (nI S)] h sz (RI h sz (nI (mkB b S))) NX := by
  obtain ⟨ca, ba, v3, v4, fc, fb, eb, eca, eba, hg, hfc, hfb⟩ := id hb
  obtain ⟨gl, gn, fl, fn, eg, egl, egn, hgl, hgn⟩ := id hg
  have hN := hW.2.1
  refine mx_start hG (by decide) (Nat.le_of_ble_eq_true rfl) (fun x C => ?_)
  have key : ∀ j k s, k ≤ b 0 → b 0 + 1 ≤ k + j → s = mkF b S k → AW γ l x (QX γ x 0 0 (RI h sz (nI (mkB b S))) NX) 4 h sz 0 0 4 [(0, .ref a), (1, .int (nI S)), (2, .int (nI s)), (3, .int (nI k))] [] := by
    intro j
    induction j with
    | zero => intro k s h1 h2 hs; exact absurd h2 (by omega)
    | succ j ih =>
      intro k s h1 h2 hs
      refine aw_iload_n C rfl rfl dX3_masks_4 ?_
      refine aw_aload_n C rfl rfl dX3_masks_5 ?_
      refine aw_getf C ck2 0 (by decide) q609 (fun _ z => z) eb rfl dX3_masks_6 ?_
      refine aw_getfN C ck3 3 (by decide) q213 (fun _ z => z) eg rfl dX3_masks_9 ?_
      refine aw_icmpN_ge C (tgt := 53) (by omega) (by omega) dX3_masks_12 (by decide) (fun gN => ?_) (fun gN => ?_)
      · refine aw_iload_n C rfl rfl dX3_masks_53 ?_
        exact aw_iret C rfl dX3_masks_54 (Nat.le_refl _) (Nat.le_refl _) ⟨by rw [hs, show k = b 0 by omega]; rfl, rfl, rfl⟩
      · refine aw_iload_n C rfl rfl dX3_masks_15 ?_
        refine aw_iload_n C rfl rfl dX3_masks_16 ?_
        refine aw_callSNR C (cp_has hG l (by omega) (by omega)) q741 q154 q95 q155 (n9 := 2) (by decide +kernel) rfl (Nat.le_of_ble_eq_true rfl) (Nat.le_of_ble_eq_true rfl) (Nat.zero_le _) (Nat.zero_le _) rfl (Nat.le_of_ble_eq_true rfl) dX3_masks_17 ?_
        refine aw_bit_eq0 C (tgt := 47) dX3_masks_20 (by decide) (fun gS => ?_) (fun gS => ?_)
        · refine aw_iinc1 C rfl (by decide) rfl dX3_masks_47 ?_
          refine aw_goto C (tgt := 4) dX3_masks_50 (by decide) ?_
          exact aw_lo (ih (k + 1) _ (by omega) (by omega) (by first | (rw [mkF, hs]; simp [gS, c0]; done) | (rw [mkF, hs]; simp [gS]; done))) ⟨rfl, rfl, rfl, rfl, trivial⟩
        · refine aw_iload_n C rfl rfl dX3_masks_23 ?_
          refine aw_aload_n C rfl rfl dX3_masks_24 ?_
          refine aw_getf C ck2 0 (by decide) q609 (fun _ z => z) eb rfl dX3_masks_25 ?_
          refine aw_getfN C ck3 1 (by decide) q204 (fun _ z => z) eg rfl dX3_masks_28 ?_
          refine aw_iload_n C rfl rfl dX3_masks_31 ?_
          refine aw_ialdN C egl (by omega) (by decide) dX3_masks_32 ?_
          refine aw_top ((hgl _ (by omega))) ?_
          refine aw_aload_n C rfl rfl dX3_masks_33 ?_
          refine aw_iload_n C rfl rfl dX3_masks_34 ?_
          refine aw_callVRR C ck2 (bd_coloursNear hG l hb hW (by omega)) q742 q743 q744 q97 q745 (Or.inl eb) (n9 := 1) (by decide +kernel) rfl (Nat.le_of_ble_eq_true rfl) (Nat.le_of_ble_eq_true rfl) (Nat.zero_le _) (Nat.zero_le _) rfl (Nat.le_of_ble_eq_true rfl) dX3_masks_35 ?_
          refine aw_iconst C (v := -1) (by decide) dX3_masks_38 ?_
          refine aw_ixor C dX3_masks_39 ?_
          refine aw_iandNot C dX3_masks_40 ?_
          refine aw_iconst C (v := nI 3) (by decide) dX3_masks_41 ?_
          refine aw_iload_n C rfl rfl dX3_masks_42 ?_
          refine aw_imulN C dX3_masks_43 ?_
          refine aw_ishlN C (by omega) dX3_masks_44 ?_
          refine aw_iorN C dX3_masks_45 ?_
          refine aw_istore_n C rfl (by decide) rfl dX3_masks_46 ?_
          refine aw_iinc1 C rfl (by decide) rfl dX3_masks_47 ?_
          refine aw_goto C (tgt := 4) dX3_masks_50 (by decide) ?_
          exact aw_lo (ih (k + 1) _ (by omega) (by omega) (by first | (rw [mkF, hs]; simp [gS, c0]; done) | (rw [mkF, hs]; simp [gS]; done))) ⟨rfl, rfl, rfl, rfl, trivial⟩
  refine aw_iconst C (v := nI 0) (by decide) dX3_masks_0 ?_
  refine aw_istore_n C rfl (by decide) rfl dX3_masks_1 ?_
  refine aw_iconst C (v := nI 0) (by decide) dX3_masks_2 ?_
  refine aw_istore_n C rfl (by decide) rfl dX3_masks_3 ?_
  exact aw_lo (key (b 0 + 1) 0 0 (Nat.zero_le _) (by omega) rfl) ⟨rfl, rfl, rfl, rfl, trivial⟩
set_option maxRecDepth 100000 in
theorem bd_reason3 {γ : Gm} (hG : GF γ) (l : Launch) {h : AH} {sz : Nat} {b : BT} {a g : Nat} (hb : BRD h a g b) (hW : WB b) {ρ v c : Nat} (hv : v < 9) (hc : c < 3) : sd_Met l yX14_reason (ws_ yX14_reason cX14_reason 4 (some .int)) { frames := 2, cells := 0, slots := 0, locals := 44 } (PcA γ [.ref ρ, .ref a, .int (nI v), .int (nI c)] h sz) (QcA γ (RI h sz (nI (why3 b v c)))) 0 0 γ.W := by
  obtain ⟨ca, ba, v3, v4, fc, fb, eb, eca, eba, hg, hfc, hfb⟩ := id hb
  obtain ⟨gl, gn, fl, fn, eg, egl, egn, hgl, hgn⟩ := id hg
  have hN := hW.2.1
  refine sd_start hG (by decide) (Nat.le_of_ble_eq_true rfl) (fun x C => ?_)
  have hl := hW.l8 hv
  have ha := arn_lt hW v
  have hz := fr_m1 (hW.o3 hv)
  refine aw_aload_n C rfl rfl dX14_reason_0 ?_
  refine aw_getfN C ck2 1 (by decide) q613 (fun _ z => z) eb rfl dX14_reason_1 ?_
  refine aw_iload_n C rfl rfl dX14_reason_4 ?_
  refine aw_ialdN C eca (by omega) (by decide) dX14_reason_5 ?_
  refine aw_top ((hfc _ (by omega))) ?_
  refine aw_iconst C (v := -1) (by decide) dX14_reason_6 ?_
  refine aw_icmp_eq C (tgt := 12) dX14_reason_7 (by decide) (fun gF => ?_) (fun gF => ?_)
  · have gf := hz.mp gF
    refine aw_aload_n C rfl rfl dX14_reason_12 ?_
    refine aw_getfN C ck2 0 (by decide) q608 (fun _ z => z) eb rfl dX14_reason_13 ?_
    refine aw_getfN C ck3 1 (by decide) q203 (fun _ z => z) eg rfl dX14_reason_16 ?_
    refine aw_iload_n C rfl rfl dX14_reason_19 ?_
    refine aw_ialdN C egl (by omega) (by decide) dX14_reason_20 ?_
    refine aw_top ((hgl _ (by omega))) ?_
    refine aw_iload_n C rfl rfl dX14_reason_21 ?_
    refine aw_callSNR C (cp_has hG l (by omega) (by omega)) q831 q154 q95 q155 (n9 := 2) (by decide +kernel) rfl (Nat.le_of_ble_eq_true rfl) (Nat.le_of_ble_eq_true rfl) (Nat.zero_le _) (Nat.zero_le _) rfl (Nat.le_of_ble_eq_true rfl) dX14_reason_22 ?_
    refine aw_bit_ne0 C (tgt := 30) dX14_reason_25 (by decide) (fun gL => ?_) (fun gL => ?_)
    · refine aw_aload_n C rfl rfl dX14_reason_30 ?_
      refine aw_iload_n C rfl rfl dX14_reason_31 ?_
      refine aw_callVRR C ck2 (bd_coloursNear hG l hb hW (by omega)) q832 q743 q744 q97 q745 (Or.inl eb) (n9 := 1) (by decide +kernel) rfl (Nat.le_of_ble_eq_true rfl) (Nat.le_of_ble_eq_true rfl) (Nat.zero_le _) (Nat.zero_le _) rfl (Nat.le_of_ble_eq_true rfl) dX14_reason_32 ?_
      refine aw_iload_n C rfl rfl dX14_reason_35 ?_
      refine aw_callSNR C (cp_has hG l (by omega) (by omega)) q831 q154 q95 q155 (n9 := 2) (by decide +kernel) rfl (Nat.le_of_ble_eq_true rfl) (Nat.le_of_ble_eq_true rfl) (Nat.zero_le _) (Nat.zero_le _) rfl (Nat.le_of_ble_eq_true rfl) dX14_reason_36 ?_
      refine aw_bit_eq0 C (tgt := 46) dX14_reason_39 (by decide) (fun gA => ?_) (fun gA => ?_)
      · refine aw_iconst C (v := nI 0) (by decide) dX14_reason_46 ?_
        exact aw_iret C rfl dX14_reason_47 (Nat.le_refl _) (Nat.le_refl _) ⟨by simp [why3, gf, gL, gA], rfl, rfl⟩
      · refine aw_iconst C (v := nI 3) (by decide) dX14_reason_42 ?_
        refine aw_goto C (tgt := 47) dX14_reason_43 (by decide) ?_
        exact aw_iret C rfl dX14_reason_47 (Nat.le_refl _) (Nat.le_refl _) ⟨by simp [why3, gf, gL, gA], rfl, rfl⟩
    · refine aw_iconst C (v := nI 2) (by decide) dX14_reason_28 ?_
      exact aw_iret C rfl dX14_reason_29 (Nat.le_refl _) (Nat.le_refl _) ⟨by simp [why3, gf, gL], rfl, rfl⟩
  · have gf : fr b v = false := by
      cases q : fr b v
      · rfl
      · exact absurd (hz.mpr q) gF
    refine aw_iconst C (v := nI 1) (by decide) dX14_reason_10 ?_
    exact aw_iret C rfl dX14_reason_11 (Nat.le_refl _) (Nat.le_refl _) ⟨by simp [why3, gf], rfl, rfl⟩
