/-! java.util.ArrayList: addAll; accounts, moves, parts -/
theorem hs6 (h : AH) {li s : Nat} (c1 c2 c3 D B : va_E) : hset (hset (hset (hset (hset h li c1) s D) li c2) s B) li c3 = hset (hset h s B) li c3 := by
  funext q
  unfold hset
  by_cases e1 : q = li
  · simp [e1]
  · by_cases e2 : q = s
    · simp [e2]
    · simp [e1, e2]
/-- what is carried for the list's interfaces -/
def GFW (γ : Gm) : Prop := FWK γ "java/util/ArrayList" ⟨"java/util/Collection", "toArray", "()[Ljava/lang/Object;"⟩ yJ2_toArray ∧ FWK γ "java/util/ArrayList" ⟨"java/util/List", "addAll", "(Ljava/util/Collection;)Z"⟩ yJ2_addAll ∧ FWK γ "java/util/ArrayList" ⟨"java/util/List", "add", "(Ljava/lang/Object;)Z"⟩ yJ2_add ∧ FWK γ "java/util/ArrayList" ⟨"java/util/List", "size", "()I"⟩ yJ2_size ∧ FWK γ "java/util/ArrayList" ⟨"java/util/List", "get", "(I)Ljava/lang/Object;"⟩ yJ2_get ∧ FWK γ "java/util/ArrayList" ⟨"java/util/List", "isEmpty", "()Z"⟩ yJ2_isEmpty
set_option maxRecDepth 100000 in
theorem al_addAll {γ : Gm} (hG : GF γ) (l : Launch) {h : AH} {sz : Nat} {mi : Nat} (hL : GLI γ mi) (hF : GFW γ) {ci N : Nat} {Cn : String} {T0 : u_T} {ty : Nat → FieldType} (K : CKF ci Cn T0 N ty) (hca : Cond.castable Cn "java/lang/Object" ∈ lw_tbl) {li el cap : Nat} {mo : Int32} {lj el2 M2 cap2 : Nat} {mo2 : Int32} {f2 : Nat → Option Nat} (eli : h li = some (.inr (12, [.int mo, .ref el, .int (nI 0)]))) (eel : h el = some (rfs 4 cap (fun _ => none))) (elj : h lj = some (.inr (12, [.int mo2, .ref el2, .int (nI M2)]))) (eel2 : h el2 = some (rfs 4 cap2 f2)) (hli : li < sz) (hel : el < sz) (hlj : lj < sz) (hel2 : el2 < sz) (hD : Dm h sz) (hC2 : CN f2 M2) (hM2 : M2 ≤ cap2) (hcap : 0 < cap) (hcm : cap < 2 ^ 18) (hcap2 : 0 < cap2) (hcm2 : cap2 < 2 ^ 18) (hE2 : EL h ci M2 f2) (hci : ci ≠ 12) {ms : Nat} (hms : M2 + (if cap < M2 then (nwL cap (0 + M2 - cap) (cap >>> 1)) else 0) ≤ ms) : MX γ l yJ2_addAll cJ2_addAll 6 (some .boolean) 4 107 2 ms [.ref li, .ref lj] h sz (fun v h' sz' => (∃ w, v = some (.int w)) ∧ ∃ el' cap', M2 ≤ cap' ∧ (el' = el ∧ cap' = cap ∧ sz' = sz + 1 ∨ el' = sz + 1 ∧ cap' = (nwL cap (0 + M2 - cap) (cap >>> 1)) ∧ sz' = sz + 2 ∧ cap < M2) ∧ h' = hset (hset (hset h sz (rfs 4 M2 f2)) el' (rfs 4 cap' f2)) li (.inr (12, [.int (mo + nI 1), .ref el', .int (nI M2)]))) NX := by
  refine mx_start hG (by decide) (Nat.le_of_ble_eq_true rfl) (fun x C => ?_)
  have hne : li ≠ el := rfs_obj eli eel
  have hsr : cap >>> 1 ≤ cap := by rw [Nat.shiftRight_eq_div_pow]; exact Nat.div_le_self _ _
  have hw1 := nwL_ge cap (0 + M2 - cap) (cap >>> 1)
  have hw2 : nwL cap (0 + M2 - cap) (cap >>> 1) ≤ 2 * cap + (0 + M2) := by unfold nwL; split <;> omega
  refine aw_aload_n C rfl rfl dJ2_addAll_0 ?_
  refine aw_callFPv C ck12 (al_toArray hG l hL K hca elj eel2 hlj hel2 hD hC2 hM2 hcap2 hcm2 hE2) q911 q932 q934 q102 q936 hF.1 elj (n9 := 0) (by decide +kernel) rfl (Nat.le_of_ble_eq_true rfl) (Nat.le_of_ble_eq_true rfl) (Nat.le_of_ble_eq_true rfl) (by dsimp only; omega) rfl (Nat.le_of_ble_eq_true rfl) dJ2_addAll_1 ?_
  refine aw_astore_n C rfl (by decide) rfl dJ2_addAll_6 ?_
  refine aw_aload_n C rfl rfl dJ2_addAll_7 ?_
  refine aw_dup C rfl dJ2_addAll_8 ?_
  refine aw_getf C ck12 0 (by decide) q599 (u_same (C.hts _ q600)) ((hset_n _ _ (by omega)).trans eli) rfl dJ2_addAll_9 ?_
  refine aw_iconst C (v := nI 1) (by decide) dJ2_addAll_12 ?_
  refine aw_iadd C dJ2_addAll_13 ?_
  refine aw_putf C ck12 0 (by decide) q599 (u_same (C.hts _ q600)) rfl rfl (ty := .int) rfl rfl ((hset_n _ _ (by omega)).trans eli) (show 0 < 3 by decide) dJ2_addAll_14 ?_
  refine aw_aload_n C rfl rfl dJ2_addAll_17 ?_
  have hD2 : Dm (hset (hset h sz (rfs 4 M2 f2)) li (.inr (12, [.int (mo + nI 1), .ref el, .int (nI 0)]))) (sz + 1) := (hD.push (rfs 4 M2 f2)).set (.inr (12, [.int (mo + nI 1), .ref el, .int (nI 0)])) (by omega)
  have hE3 : EL (hset (hset h sz (rfs 4 M2 f2)) li (.inr (12, [.int (mo + nI 1), .ref el, .int (nI 0)]))) ci M2 f2 := (hE2.push hD (rfs 4 M2 f2)).set (not_li ((hset_n _ _ (by omega)).trans eli) hci)
  refine aw_alen C (t := 4) (by decide) ((hset_n _ _ (by omega)).trans (hset_s _ _ _)) dJ2_addAll_18 ?_
  refine aw_top (show _ = nI M2 from rfl) ?_
  refine aw_istore_n C rfl (by decide) rfl dJ2_addAll_19 ?_
  refine aw_iload_n C rfl rfl dJ2_addAll_20 ?_
  refine aw_ifN_ne C (tgt := 26) (by omega) dJ2_addAll_21 (by decide) (fun g21 => ?_) (fun g21 => ?_)
  · refine aw_iload_n C rfl rfl dJ2_addAll_26 ?_
    refine aw_aload_n C rfl rfl dJ2_addAll_27 ?_
    refine aw_getf C ck12 1 (by decide) q596 (fun _ z => z) (hset_s _ _ _) rfl dJ2_addAll_28 ?_
    refine aw_dup C rfl dJ2_addAll_31 ?_
    refine aw_astore C (by decide) rfl dJ2_addAll_32 ?_
    refine aw_alen C (t := 4) (by decide) ((hset_n _ _ hne.symm).trans ((hset_n _ _ (by omega)).trans eel)) dJ2_addAll_34 ?_
    refine aw_top (show _ = nI cap from rfl) ?_
    refine aw_aload_n C rfl rfl dJ2_addAll_35 ?_
    refine aw_getf C ck12 2 (by decide) q597 (fun _ z => z) (hset_s _ _ _) rfl dJ2_addAll_36 ?_
    refine aw_dup C rfl dJ2_addAll_39 ?_
    refine aw_istore C (by decide) rfl dJ2_addAll_40 ?_
    refine aw_isubN C (by omega) dJ2_addAll_42 ?_
    refine aw_icmpN_le C (tgt := 56) (by omega) (by omega) dJ2_addAll_43 (by decide) (fun g43 => ?_) (fun g43 => ?_)
    · have hms0 : M2 ≤ ms := by omega
      refine aw_aload_n C rfl rfl dJ2_addAll_56 ?_
      refine aw_iconst C (v := nI 0) (by decide) dJ2_addAll_57 ?_
      refine aw_aload C rfl dJ2_addAll_58 ?_
      refine aw_iload C rfl dJ2_addAll_60 ?_
      refine aw_iload_n C rfl rfl dJ2_addAll_62 ?_
      refine aw_copyR C q979 q403 q402 q114 ((hset_n _ _ (by omega)).trans (hset_s _ _ _)) ((hset_n _ _ hne.symm).trans ((hset_n _ _ (by omega)).trans eel)) (by omega) (by omega) (by omega) (by omega) K hca (fun i hi z hz => hE3 i hi z (by rw [Nat.zero_add] at hz; exact hz)) (Nat.le_of_ble_eq_true rfl) (Nat.le_of_ble_eq_true rfl) dJ2_addAll_63 ?_
      rw [cpy_id hC2 (Nat.le_refl _)]
      refine aw_aload_n C rfl rfl dJ2_addAll_66 ?_
      refine aw_iload C rfl dJ2_addAll_67 ?_
      refine aw_iload_n C rfl rfl dJ2_addAll_69 ?_
      refine aw_iaddN C dJ2_addAll_70 ?_
      refine aw_putf C ck12 2 (by decide) q597 (fun _ z => z) rfl rfl (ty := .int) rfl rfl ((hset_n _ _ hne).trans (hset_s _ _ _)) (show 2 < 3 by decide) dJ2_addAll_71 ?_
      refine aw_iconst C (v := nI 1) (by decide) dJ2_addAll_74 ?_
      refine aw_zret C rfl rfl dJ2_addAll_75 (by omega) (by omega) ?_
      first
      | exact ⟨⟨_, rfl⟩, sz + 1, _, by omega, Or.inr ⟨rfl, rfl, rfl, by omega⟩, by rw [show nI (0 + M2) = nI M2 from by rw [Nat.zero_add]]; exact hs6 _ _ _ _ _ _⟩
      | exact ⟨⟨_, rfl⟩, el, cap, by omega, Or.inl ⟨rfl, rfl, rfl⟩, by rw [hset_comm _ _ _ hne, hset_hset, show nI (0 + M2) = nI M2 from by rw [Nat.zero_add]]; rfl⟩
    · have h43 : cap < M2 := by omega
      rw [if_pos h43] at hms
      refine aw_aload_n C rfl rfl dJ2_addAll_46 ?_
      refine aw_iload C rfl dJ2_addAll_47 ?_
      refine aw_iload_n C rfl rfl dJ2_addAll_49 ?_
      refine aw_iaddN C dJ2_addAll_50 ?_
      refine aw_callVPv C ck12 (al_grow hG l hL K hca (f := fun _ => none) (M := 0) (hset_s _ _ _) ((hset_n _ _ hne.symm).trans ((hset_n _ _ (by omega)).trans eel)) (by omega) (by omega) hD2 (fun _ _ => rfl) (Nat.zero_le _) hcap hcm (fun _ _ _ z => absurd z (by simp)) (m := 0 + M2) (by omega) (by omega)) q971 q973 qs14 q102 q974 (hset_s _ _ _) (n9 := 1) (by decide +kernel) rfl (Nat.le_of_ble_eq_true rfl) (Nat.le_of_ble_eq_true rfl) (Nat.le_of_ble_eq_true rfl) (show 0 + M2 + _ ≤ ms by omega) rfl (Nat.le_of_ble_eq_true rfl) dJ2_addAll_51 ?_
      refine aw_astore C (by decide) rfl dJ2_addAll_54 ?_
      have hms0 : M2 ≤ ms := by omega
      refine aw_aload_n C rfl rfl dJ2_addAll_56 ?_
      refine aw_iconst C (v := nI 0) (by decide) dJ2_addAll_57 ?_
      refine aw_aload C rfl dJ2_addAll_58 ?_
      refine aw_iload C rfl dJ2_addAll_60 ?_
      refine aw_iload_n C rfl rfl dJ2_addAll_62 ?_
      refine aw_copyR C q979 q403 q402 q114 ((hset_n _ _ (by omega)).trans ((hset_n _ _ (by omega)).trans ((hset_n _ _ (by omega)).trans (hset_s _ _ _)))) ((hset_n _ _ (by omega)).trans (hset_s _ _ _)) (by omega) (by omega) (by omega) (by omega) K hca (fun i hi z hz => ((hE3.push hD2 _).set (not_li ((hset_n _ _ (by omega)).trans (hset_s _ _ _)) hci)) i hi z (by rw [Nat.zero_add] at hz; exact hz)) (Nat.le_of_ble_eq_true rfl) (Nat.le_of_ble_eq_true rfl) dJ2_addAll_63 ?_
      rw [cpy_id hC2 (Nat.le_refl _)]
      refine aw_aload_n C rfl rfl dJ2_addAll_66 ?_
      refine aw_iload C rfl dJ2_addAll_67 ?_
      refine aw_iload_n C rfl rfl dJ2_addAll_69 ?_
      refine aw_iaddN C dJ2_addAll_70 ?_
      refine aw_putf C ck12 2 (by decide) q597 (fun _ z => z) rfl rfl (ty := .int) rfl rfl ((hset_n _ _ (by omega)).trans (hset_s _ _ _)) (show 2 < 3 by decide) dJ2_addAll_71 ?_
      refine aw_iconst C (v := nI 1) (by decide) dJ2_addAll_74 ?_
      refine aw_zret C rfl rfl dJ2_addAll_75 (by omega) (by omega) ?_
      first
      | exact ⟨⟨_, rfl⟩, sz + 1, _, by omega, Or.inr ⟨rfl, rfl, rfl, by omega⟩, by rw [show nI (0 + M2) = nI M2 from by rw [Nat.zero_add]]; exact hs6 _ _ _ _ _ _⟩
      | exact ⟨⟨_, rfl⟩, el, cap, by omega, Or.inl ⟨rfl, rfl, rfl⟩, by rw [hset_comm _ _ _ hne, hset_hset, show nI (0 + M2) = nI M2 from by rw [Nat.zero_add]]; rfl⟩
  · refine aw_iconst C (v := nI 0) (by decide) dJ2_addAll_24 ?_
    refine aw_zret C rfl rfl dJ2_addAll_25 (by omega) (by omega) ?_
    refine ⟨⟨_, rfl⟩, el, cap, by omega, Or.inl ⟨rfl, rfl, rfl⟩, ?_⟩
    have ef : f2 = fun _ => none := funext fun j => hC2 j (by omega)
    have e5 : hset h sz (rfs 4 M2 f2) el = some (rfs 4 cap f2) := by rw [hset_n _ _ (by omega), eel, ef]
    rw [hset_self e5, g21]
    rfl
