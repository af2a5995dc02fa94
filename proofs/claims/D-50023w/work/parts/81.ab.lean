/-! java.util.ArrayList: grow, add, addAll, toArray, get -/
/-- nothing behind the size -/
def CN (f : Nat → Option Nat) (M : Nat) : Prop := ∀ j, M ≤ j → f j = none
theorem cpy_id {f : Nat → Option Nat} {M m : Nat} (h : CN f M) (hm : M ≤ m) : va_cpy f (fun _ => none) 0 0 m = f := by
  funext j
  unfold va_cpy
  split
  · rename_i q
    rw [Nat.zero_add, Nat.sub_zero]
  · rename_i q
    exact (h j (by omega)).symm
theorem CN.up {f : Nat → Option Nat} {M e : Nat} (h : CN f M) : CN (va_up f M (some e)) (M + 1) := fun j hj => by
  rw [va_up_ne _ _ (by omega)]
  exact h j (by omega)
theorem EL.le {h : AH} {ci n m : Nat} {f : Nat → Option Nat} (hE : EL h ci n f) (hm : m ≤ n) : EL h ci m f := fun i hi => hE i (by omega)
theorem EL.cn {h : AH} {ci M n : Nat} {f : Nat → Option Nat} (hE : EL h ci M f) (hC : CN f M) : EL h ci n f := fun i hi z hz => by
  rcases Nat.lt_or_ge i M with q | q
  · exact hE i q z hz
  · rw [hC i q] at hz
    cases hz
theorem EL.set {h : AH} {ci n b : Nat} {f : Nat → Option Nat} {c : va_E} (hE : EL h ci n f) (hb : ∀ fs, h b ≠ some (.inr (ci, fs))) : EL (hset h b c) ci n f := fun i hi z hz => by
  obtain ⟨fs, e⟩ := hE i hi z hz
  refine ⟨fs, (hset_n _ _ (fun q => ?_)).trans e⟩
  rw [q] at e
  exact hb fs e
theorem nwL_ge (c g p : Nat) : c + g ≤ nwL c g p := by
  unfold nwL
  split <;> omega
theorem not_li {h : AH} {li ci : Nat} {fs : List Value} (e : h li = some (.inr (12, fs))) (hc : ci ≠ 12) : ∀ fs', h li ≠ some (.inr (ci, fs')) := fun fs' q => by
  rw [e] at q
  cases q
  exact hc rfl
theorem not_ar {h : AH} {b t m ci : Nat} {f : Nat → Option Nat} (e : h b = some (rfs t m f)) : ∀ fs', h b ≠ some (.inr (ci, fs')) := fun fs' q => by
  rw [e] at q
  cases q
set_option maxRecDepth 100000 in
theorem al_grow {γ : Gm} (hG : GF γ) (l : Launch) {h : AH} {sz : Nat} {mi : Nat} (hL : GLI γ mi) {ci N : Nat} {Cn : String} {T0 : u_T} {ty : Nat → FieldType} (K : CKF ci Cn T0 N ty) (hca : Cond.castable Cn "java/lang/Object" ∈ lw_tbl) {li el M cap : Nat} {mo : Int32} {f : Nat → Option Nat} (eli : h li = some (.inr (12, [.int mo, .ref el, .int (nI M)]))) (eel : h el = some (rfs 4 cap f)) (hli : li < sz) (hel : el < sz) (hD : Dm h sz) (hC : CN f M) (hM : M ≤ cap) (hcap : 0 < cap) (hcm : cap < 2 ^ 18) (hE : EL h ci M f) {m : Nat} (hm : cap < m) (hm2 : m ≤ 2 ^ 18) : MX γ l yJ2_grow cJ2_grow 4 (some (.array (.object "java/lang/Object"))) 3 84 1 (nwL cap (m - cap) (cap >>> 1)) [.ref li, .int (nI m)] h sz (PE (some (.ref sz)) (hset (hset h sz (rfs 4 (nwL cap (m - cap) (cap >>> 1)) f)) li (.inr (12, [.int mo, .ref sz, .int (nI M)]))) (sz + 1)) NX := by
  refine mx_start hG (by decide) (Nat.le_of_ble_eq_true rfl) (fun x C => ?_)
  have hsr : cap >>> 1 ≤ cap := by rw [Nat.shiftRight_eq_div_pow]; exact Nat.div_le_self _ _
  have hw1 := nwL_ge cap (m - cap) (cap >>> 1)
  have hw2 : nwL cap (m - cap) (cap >>> 1) ≤ cap + m := by unfold nwL; split <;> omega
  refine aw_aload_n C rfl rfl dJ2_grow_0 ?_
  refine aw_getf C ck12 1 (by decide) q596 (fun _ z => z) eli rfl dJ2_grow_1 ?_
  refine aw_alen C (t := 4) (by decide) eel dJ2_grow_4 ?_
  refine aw_istore_n C rfl (by decide) rfl dJ2_grow_5 ?_
  refine aw_iload_n C rfl rfl dJ2_grow_6 ?_
  refine aw_ifN_gt C (tgt := 20) (by omega) dJ2_grow_7 (by decide) (fun g7 => ?_) (fun g7 => ?_)
  · refine aw_iload_n C rfl rfl dJ2_grow_20 ?_
    refine aw_iload_n C rfl rfl dJ2_grow_21 ?_
    refine aw_iload_n C rfl rfl dJ2_grow_22 ?_
    refine aw_isubN C (by omega) dJ2_grow_23 ?_
    refine aw_iload_n C rfl rfl dJ2_grow_24 ?_
    refine aw_iconst C (v := nI 1) (by decide) dJ2_grow_25 ?_
    refine aw_ishrN C (by omega) (by omega) dJ2_grow_26 ?_
    refine aw_callSRR C (al_newLength hG l (c := cap) (g := m - cap) (p := cap >>> 1) (by omega) (by omega) (by omega) (by omega)) q977 q378 q111 q379 (n9 := 3) (by decide +kernel) rfl (Nat.le_of_ble_eq_true rfl) (Nat.le_of_ble_eq_true rfl) (Nat.zero_le _) (Nat.zero_le _) rfl (Nat.le_of_ble_eq_true rfl) dJ2_grow_27 ?_
    refine aw_istore_n C rfl (by decide) rfl dJ2_grow_30 ?_
    refine aw_aload_n C rfl rfl dJ2_grow_31 ?_
    refine aw_aload_n C rfl rfl dJ2_grow_32 ?_
    refine aw_getf C ck12 1 (by decide) q596 (fun _ z => z) eli rfl dJ2_grow_33 ?_
    refine aw_iload_n C rfl rfl dJ2_grow_36 ?_
    refine aw_callSPv C (al_copyOf2 hG l hL K hca (by omega) eel (hE.cn hC) hD (by omega) (by omega)) q937 q938 q113 q939 (n9 := 2) (by decide +kernel) rfl (Nat.le_of_ble_eq_true rfl) (Nat.le_of_ble_eq_true rfl) (by dsimp only; omega) (by dsimp only; omega) rfl (Nat.le_of_ble_eq_true rfl) dJ2_grow_37 ?_
    rw [cpy_id hC (by split <;> omega)]
    refine aw_dup_x1 C rfl rfl dJ2_grow_40 ?_
    refine aw_putf C ck12 1 (by decide) q596 (fun _ z => z) rfl rfl (ty := .array (.object "java/lang/Object")) rfl rfl ((hset_n _ _ (Nat.ne_of_lt hli)).trans eli) (show 1 < 3 by decide) dJ2_grow_41 ?_
    exact aw_aret C rfl (Or.inr ⟨_, rfl⟩) (Or.inr ⟨_, rfl⟩) dJ2_grow_44 (by omega) (by omega) ⟨rfl, rfl, rfl⟩
  · exact absurd g7 (by omega)
set_option maxRecDepth 100000 in
theorem al_grow0 {γ : Gm} (hG : GF γ) (l : Launch) {h : AH} {sz : Nat} {mi : Nat} (hL : GLI γ mi) {ci N : Nat} {Cn : String} {T0 : u_T} {ty : Nat → FieldType} (K : CKF ci Cn T0 N ty) (hca : Cond.castable Cn "java/lang/Object" ∈ lw_tbl) {li el M cap : Nat} {mo : Int32} {f : Nat → Option Nat} (eli : h li = some (.inr (12, [.int mo, .ref el, .int (nI M)]))) (eel : h el = some (rfs 4 cap f)) (hli : li < sz) (hel : el < sz) (hD : Dm h sz) (hC : CN f M) (hM : M ≤ cap) (hcap : 0 < cap) (hcm : cap < 2 ^ 18) (hE : EL h ci M f) (hMc : M = cap) : MX γ l yJ2_grow_2 cJ2_grow_2 1 (some (.array (.object "java/lang/Object"))) 4 107 1 (nwL cap (M + 1 - cap) (cap >>> 1)) [.ref li] h sz (PE (some (.ref sz)) (hset (hset h sz (rfs 4 (nwL cap (M + 1 - cap) (cap >>> 1)) f)) li (.inr (12, [.int mo, .ref sz, .int (nI M)]))) (sz + 1)) NX := by
  refine mx_start hG (by decide) (Nat.le_of_ble_eq_true rfl) (fun x C => ?_)
  refine aw_aload_n C rfl rfl dJ2_grow_2_0 ?_
  refine aw_aload_n C rfl rfl dJ2_grow_2_1 ?_
  refine aw_getf C ck12 2 (by decide) q597 (fun _ z => z) eli rfl dJ2_grow_2_2 ?_
  refine aw_iconst C (v := nI 1) (by decide) dJ2_grow_2_5 ?_
  refine aw_iaddN C dJ2_grow_2_6 ?_
  refine aw_callVPv C ck12 (al_grow hG l hL K hca eli eel hli hel hD hC hM hcap hcm hE (m := M + 1) (by omega) (by omega)) q971 q973 qs14 q102 q974 eli (n9 := 1) (by decide +kernel) rfl (Nat.le_of_ble_eq_true rfl) (Nat.le_of_ble_eq_true rfl) (Nat.le_of_ble_eq_true rfl) (Nat.le_of_eq (Nat.zero_add _)) rfl (Nat.le_of_ble_eq_true rfl) dJ2_grow_2_7 ?_
  exact aw_aret C rfl (Or.inr ⟨_, rfl⟩) (Or.inr ⟨_, rfl⟩) dJ2_grow_2_10 (by omega) (by omega) ⟨rfl, rfl, rfl⟩
set_option maxRecDepth 100000 in
theorem al_add2 {γ : Gm} (hG : GF γ) (l : Launch) {h : AH} {sz : Nat} {mi : Nat} (hL : GLI γ mi) {ci N : Nat} {Cn : String} {T0 : u_T} {ty : Nat → FieldType} (K : CKF ci Cn T0 N ty) (hca : Cond.castable Cn "java/lang/Object" ∈ lw_tbl) {li el M cap : Nat} {mo : Int32} {f : Nat → Option Nat} (eli : h li = some (.inr (12, [.int mo, .ref el, .int (nI M)]))) (eel : h el = some (rfs 4 cap f)) (hli : li < sz) (hel : el < sz) (hD : Dm h sz) (hC : CN f M) (hM : M ≤ cap) (hcap : 0 < cap) (hcm : cap < 2 ^ 18) (hE : EL h ci M f) {e : Nat} {fse : List Value} (ee : h e = some (.inr (ci, fse))) (hci : ci ≠ 12) {ms : Nat} (hms : M = cap → (nwL cap (M + 1 - cap) (cap >>> 1)) ≤ ms) : MX γ l yJ2_add_2 cJ2_add_2 4 none 5 127 1 ms [.ref li, .ref e, .ref el, .int (nI M)] h sz (fun v' h' sz' => v' = none ∧ ∃ el' cap', (el' = el ∧ cap' = cap ∧ sz' = sz ∧ M < cap ∨ el' = sz ∧ cap' = (nwL cap (M + 1 - cap) (cap >>> 1)) ∧ sz' = sz + 1 ∧ M = cap) ∧ h' = hset (hset h el' (rfs 4 cap' (va_up f M (some e)))) li (.inr (12, [.int mo, .ref el', .int (nI (M + 1))]))) NX := by
  refine mx_start hG (by decide) (Nat.le_of_ble_eq_true rfl) (fun x C => ?_)
  have hne : li ≠ el := rfs_obj eli eel
  have hsr : cap >>> 1 ≤ cap := by rw [Nat.shiftRight_eq_div_pow]; exact Nat.div_le_self _ _
  have hsz := hD.lt ee
  refine aw_iload_n C rfl rfl dJ2_add_2_0 ?_
  refine aw_aload_n C rfl rfl dJ2_add_2_1 ?_
  refine aw_alen C (t := 4) (by decide) eel dJ2_add_2_2 ?_
  refine aw_icmpN_ne C (tgt := 11) (by omega) (by omega) dJ2_add_2_3 (by decide) (fun g1 => ?_) (fun g1 => ?_)
  · have hee := ee
    refine aw_aload_n C rfl rfl dJ2_add_2_11 ?_
    refine aw_iload_n C rfl rfl dJ2_add_2_12 ?_
    refine aw_aload_n C rfl rfl dJ2_add_2_13 ?_
    refine aw_aast C K (t := 4) (by decide) rfl (Or.inr hca) eel (show M < cap by omega) (by omega) hee dJ2_add_2_14 ?_
    refine aw_aload_n C rfl rfl dJ2_add_2_15 ?_
    refine aw_iload_n C rfl rfl dJ2_add_2_16 ?_
    refine aw_iconst C (v := nI 1) (by decide) dJ2_add_2_17 ?_
    refine aw_iaddN C dJ2_add_2_18 ?_
    refine aw_putf C ck12 2 (by decide) q597 (fun _ z => z) rfl rfl (ty := .int) rfl rfl ((hset_n _ _ hne).trans eli) (show 2 < 3 by decide) dJ2_add_2_19 ?_
    exact aw_vret C rfl dJ2_add_2_22 (by omega) (by omega) ⟨rfl, el, cap, Or.inl ⟨rfl, rfl, rfl, by omega⟩, rfl⟩
  · have hw1 := nwL_ge cap (M + 1 - cap) (cap >>> 1)
    have hw3 : nwL cap (M + 1 - cap) (cap >>> 1) ≤ cap + M + 1 := by unfold nwL; split <;> omega
    have h9 := hms g1
    have hee : (hset (hset h sz (rfs 4 (nwL cap (M + 1 - cap) (cap >>> 1)) f)) li (.inr (12, [.int mo, .ref sz, .int (nI M)]))) e = some (.inr (ci, fse)) := by
      rw [hset_n _ _ (fun q => not_li eli hci fse (by rw [← q]; exact ee)), hset_n _ _ (by omega)]
      exact ee
    refine aw_aload_n C rfl rfl dJ2_add_2_6 ?_
    refine aw_callVPv C ck12 (al_grow0 hG l hL K hca eli eel hli hel hD hC hM hcap hcm hE g1) q1032 q1034 qs17 q102 q1035 eli (n9 := 0) (by decide +kernel) rfl (Nat.le_of_ble_eq_true rfl) (Nat.le_of_ble_eq_true rfl) (Nat.le_of_ble_eq_true rfl) (show 0 + _ ≤ ms by rw [Nat.zero_add]; exact hms g1) rfl (Nat.le_of_ble_eq_true rfl) dJ2_add_2_7 ?_
    refine aw_astore_n C rfl (by decide) rfl dJ2_add_2_10 ?_
    refine aw_aload_n C rfl rfl dJ2_add_2_11 ?_
    refine aw_iload_n C rfl rfl dJ2_add_2_12 ?_
    refine aw_aload_n C rfl rfl dJ2_add_2_13 ?_
    refine aw_aast C K (t := 4) (by decide) rfl (Or.inr hca) ((hset_n _ _ (by omega)).trans (hset_s _ _ _)) (show M < nwL cap (M + 1 - cap) (cap >>> 1) by omega) (by omega) hee dJ2_add_2_14 ?_
    refine aw_aload_n C rfl rfl dJ2_add_2_15 ?_
    refine aw_iload_n C rfl rfl dJ2_add_2_16 ?_
    refine aw_iconst C (v := nI 1) (by decide) dJ2_add_2_17 ?_
    refine aw_iaddN C dJ2_add_2_18 ?_
    refine aw_putf C ck12 2 (by decide) q597 (fun _ z => z) rfl rfl (ty := .int) rfl rfl ((hset_n _ _ (by omega)).trans (hset_s _ _ _)) (show 2 < 3 by decide) dJ2_add_2_19 ?_
    exact aw_vret C rfl dJ2_add_2_22 (by omega) (by omega) ⟨rfl, sz, _, Or.inr ⟨rfl, rfl, rfl, g1⟩, by rw [hset_comm _ _ _ (show li ≠ sz by omega), hset_hset, hset_hset]; rfl⟩
set_option maxRecDepth 100000 in
theorem al_add {γ : Gm} (hG : GF γ) (l : Launch) {h : AH} {sz : Nat} {mi : Nat} (hL : GLI γ mi) {ci N : Nat} {Cn : String} {T0 : u_T} {ty : Nat → FieldType} (K : CKF ci Cn T0 N ty) (hca : Cond.castable Cn "java/lang/Object" ∈ lw_tbl) {li el M cap : Nat} {mo : Int32} {f : Nat → Option Nat} (eli : h li = some (.inr (12, [.int mo, .ref el, .int (nI M)]))) (eel : h el = some (rfs 4 cap f)) (hli : li < sz) (hel : el < sz) (hD : Dm h sz) (hC : CN f M) (hM : M ≤ cap) (hcap : 0 < cap) (hcm : cap < 2 ^ 18) (hE : EL h ci M f) {e : Nat} {fse : List Value} (ee : h e = some (.inr (ci, fse))) (hci : ci ≠ 12) {ms : Nat} (hms : M = cap → (nwL cap (M + 1 - cap) (cap >>> 1)) ≤ ms) : MX γ l yJ2_add cJ2_add 2 (some .boolean) 6 150 1 ms [.ref li, .ref e] h sz (fun v' h' sz' => v' = some (.int (nI 1)) ∧ ∃ el' cap', (el' = el ∧ cap' = cap ∧ sz' = sz ∧ M < cap ∨ el' = sz ∧ cap' = (nwL cap (M + 1 - cap) (cap >>> 1)) ∧ sz' = sz + 1 ∧ M = cap) ∧ h' = hset (hset h el' (rfs 4 cap' (va_up f M (some e)))) li (.inr (12, [.int (mo + nI 1), .ref el', .int (nI (M + 1))]))) NX := by
  refine mx_start hG (by decide) (Nat.le_of_ble_eq_true rfl) (fun x C => ?_)
  have hne : li ≠ el := rfs_obj eli eel
  refine aw_aload_n C rfl rfl dJ2_add_0 ?_
  refine aw_dup C rfl dJ2_add_1 ?_
  refine aw_getf C ck12 0 (by decide) q599 (u_same (C.hts _ q600)) eli rfl dJ2_add_2 ?_
  refine aw_iconst C (v := nI 1) (by decide) dJ2_add_5 ?_
  refine aw_iadd C dJ2_add_6 ?_
  refine aw_putf C ck12 0 (by decide) q599 (u_same (C.hts _ q600)) rfl rfl (ty := .int) rfl rfl eli (show 0 < 3 by decide) dJ2_add_7 ?_
  have hee : hset h li (.inr (12, [.int (mo + nI 1), .ref el, .int (nI M)])) e = some (.inr (ci, fse)) := (hset_n _ _ (fun q => not_li eli hci fse (by rw [← q]; exact ee))).trans ee
  have hE1 : EL (hset h li (.inr (12, [.int (mo + nI 1), .ref el, .int (nI M)]))) ci M f := hE.set (not_li eli hci)
  have hD1 := hD.set (.inr (12, [.int (mo + nI 1), .ref el, .int (nI M)])) hli
  have eli1 := hset_s h li (.inr (12, [.int (mo + nI 1), .ref el, .int (nI M)]))
  have eel1 := (hset_n h (.inr (12, [.int (mo + nI 1), .ref el, .int (nI M)])) hne.symm).trans eel
  refine aw_aload_n C rfl rfl dJ2_add_10 ?_
  refine aw_aload_n C rfl rfl dJ2_add_11 ?_
  refine aw_aload_n C rfl rfl dJ2_add_12 ?_
  refine aw_getf C ck12 1 (by decide) q596 (fun _ z => z) eli1 rfl dJ2_add_13 ?_
  refine aw_aload_n C rfl rfl dJ2_add_16 ?_
  refine aw_getf C ck12 2 (by decide) q597 (fun _ z => z) eli1 rfl dJ2_add_17 ?_
  refine aw_callV C ck12 (al_add2 hG l hL K hca (hset_s _ _ _) ((hset_n _ _ hne.symm).trans eel) hli hel hD1 hC hM hcap hcm hE1 hee hci hms) q1028 q1030 qs16 q102 q1031 (hset_s _ _ _) (n9 := 3) (by decide +kernel) rfl (Nat.le_of_ble_eq_true rfl) (Nat.le_of_ble_eq_true rfl) (Nat.le_of_ble_eq_true rfl) (Nat.le_of_eq (Nat.zero_add _)) rfl (Nat.le_of_ble_eq_true rfl) dJ2_add_20 (fun _ _ _ z => z.elim) (fun v9 h9 sz9 hp => ?_)
  obtain ⟨rfl, el', cap', hcs, rfl⟩ := hp
  refine aw_iconst C (v := nI 1) (by decide) dJ2_add_23 ?_
  refine aw_zret C rfl rfl dJ2_add_24 (by omega) (by omega) ?_
  refine ⟨rfl, el', cap', hcs, ?_⟩
  rcases hcs with ⟨e1, -, -, -⟩ | ⟨e1, -, -, -⟩
  · rw [e1, hset_comm _ _ _ hne, hset_hset]
  · rw [e1, hset_comm _ _ _ (show li ≠ sz by omega), hset_hset]
set_option maxRecDepth 100000 in
theorem al_toArray {γ : Gm} (hG : GF γ) (l : Launch) {h : AH} {sz : Nat} {mi : Nat} (hL : GLI γ mi) {ci N : Nat} {Cn : String} {T0 : u_T} {ty : Nat → FieldType} (K : CKF ci Cn T0 N ty) (hca : Cond.castable Cn "java/lang/Object" ∈ lw_tbl) {li el M cap : Nat} {mo : Int32} {f : Nat → Option Nat} (eli : h li = some (.inr (12, [.int mo, .ref el, .int (nI M)]))) (eel : h el = some (rfs 4 cap f)) (hli : li < sz) (hel : el < sz) (hD : Dm h sz) (hC : CN f M) (hM : M ≤ cap) (hcap : 0 < cap) (hcm : cap < 2 ^ 18) (hE : EL h ci M f) : MX γ l yJ2_toArray cJ2_toArray 1 (some (.array (.object "java/lang/Object"))) 3 84 1 M [.ref li] h sz (PE (some (.ref sz)) (hset h sz (rfs 4 M f)) (sz + 1)) NX := by
  refine mx_start hG (by decide) (Nat.le_of_ble_eq_true rfl) (fun x C => ?_)
  refine aw_aload_n C rfl rfl dJ2_toArray_0 ?_
  refine aw_getf C ck12 1 (by decide) q596 (fun _ z => z) eli rfl dJ2_toArray_1 ?_
  refine aw_aload_n C rfl rfl dJ2_toArray_4 ?_
  refine aw_getf C ck12 2 (by decide) q597 (fun _ z => z) eli rfl dJ2_toArray_5 ?_
  refine aw_callSPv C (al_copyOf2 hG l hL K hca hel eel (hE.cn hC) hD (by omega) (by omega)) q937 q938 q113 q939 (n9 := 2) (by decide +kernel) rfl (Nat.le_of_ble_eq_true rfl) (Nat.le_of_ble_eq_true rfl) (by dsimp only; omega) (by dsimp only; omega) rfl (Nat.le_of_ble_eq_true rfl) dJ2_toArray_8 ?_
  rw [cpy_id hC (by split <;> omega)]
  exact aw_aret C rfl (Or.inr ⟨_, rfl⟩) (Or.inr ⟨_, rfl⟩) dJ2_toArray_11 (by omega) (by omega) ⟨rfl, rfl, rfl⟩
set_option maxRecDepth 100000 in
theorem al_size {γ : Gm} (hG : GF γ) (l : Launch) {h : AH} {sz : Nat}  {li el M cap : Nat} {mo : Int32} {f : Nat → Option Nat} (eli : h li = some (.inr (12, [.int mo, .ref el, .int (nI M)]))) (eel : h el = some (rfs 4 cap f)) : MX γ l yJ2_size cJ2_size 1 (some .int) 0 0 0 0 [.ref li] h sz (RI h sz (nI M)) NX := by
  refine mx_start hG (by decide) (Nat.le_of_ble_eq_true rfl) (fun x C => ?_)
  refine aw_aload_n C rfl rfl dJ2_size_0 ?_
  refine aw_getf C ck12 2 (by decide) q597 (fun _ z => z) eli rfl dJ2_size_1 ?_
  exact aw_iret C rfl dJ2_size_4 (Nat.le_refl _) (Nat.le_refl _) ⟨rfl, rfl, rfl⟩
set_option maxRecDepth 100000 in
theorem al_isEmpty {γ : Gm} (hG : GF γ) (l : Launch) {h : AH} {sz : Nat}  {li el M cap : Nat} {mo : Int32} {f : Nat → Option Nat} (eli : h li = some (.inr (12, [.int mo, .ref el, .int (nI M)]))) (eel : h el = some (rfs 4 cap f)) (hM : M < 2 ^ 31) : MX γ l yJ2_isEmpty cJ2_isEmpty 1 (some .boolean) 0 0 0 0 [.ref li] h sz (RI h sz (nI (if M = 0 then 1 else 0))) NX := by
  refine mx_start hG (by decide) (Nat.le_of_ble_eq_true rfl) (fun x C => ?_)
  refine aw_aload_n C rfl rfl dJ2_isEmpty_0 ?_
  refine aw_getf C ck12 2 (by decide) q597 (fun _ z => z) eli rfl dJ2_isEmpty_1 ?_
  refine aw_ifN_ne C (tgt := 11) (by omega) dJ2_isEmpty_4 (by decide) (fun g4 => ?_) (fun g4 => ?_)
  · refine aw_iconst C (v := nI 0) (by decide) dJ2_isEmpty_11 ?_
    exact aw_zret C rfl (by decide) dJ2_isEmpty_12 (Nat.le_refl _) (Nat.le_refl _) ⟨by simp [g4], rfl, rfl⟩
  · refine aw_iconst C (v := nI 1) (by decide) dJ2_isEmpty_7 ?_
    refine aw_goto C (tgt := 12) dJ2_isEmpty_8 (by decide) ?_
    exact aw_zret C rfl (by decide) dJ2_isEmpty_12 (Nat.le_refl _) (Nat.le_refl _) ⟨by simp [g4], rfl, rfl⟩
set_option maxRecDepth 100000 in
theorem al_elementData {γ : Gm} (hG : GF γ) (l : Launch) {h : AH} {sz : Nat}  {li el M cap : Nat} {mo : Int32} {f : Nat → Option Nat} (eli : h li = some (.inr (12, [.int mo, .ref el, .int (nI M)]))) (eel : h el = some (rfs 4 cap f)) {i z : Nat} (hi : i < cap) (hcm : cap < 2 ^ 31) (hz : f i = some z) : MX γ l yJ2_elementData cJ2_elementData 2 (some (.object "java/lang/Object")) 0 0 0 0 [.ref li, .int (nI i)] h sz (PE (some (.ref z)) h sz) NX := by
  refine mx_start hG (by decide) (Nat.le_of_ble_eq_true rfl) (fun x C => ?_)
  refine aw_aload_n C rfl rfl dJ2_elementData_0 ?_
  refine aw_getf C ck12 1 (by decide) q596 (fun _ z => z) eli rfl dJ2_elementData_1 ?_
  refine aw_iload_n C rfl rfl dJ2_elementData_4 ?_
  refine aw_aaldS C (t := 4) (by decide) rfl eel (show i < cap by omega) (by omega) hz dJ2_elementData_5 ?_
  exact aw_aret C rfl (Or.inl ⟨_, rfl⟩) (Or.inr ⟨_, rfl⟩) dJ2_elementData_6 (by omega) (by omega) ⟨rfl, rfl, rfl⟩
set_option maxRecDepth 100000 in
theorem al_ci0 {γ : Gm} (hG : GF γ) (l : Launch) {h : AH} {sz : Nat} {i m : Nat} (hi : i < m) (hm : m < 2 ^ 31) : MX γ l yJ14_checkIndex cJ14_checkIndex 3 (some .int) 0 0 0 0 [.int (nI i), .int (nI m), .null] h sz (RI h sz (nI i)) NX := by
  refine mx_start hG (by decide) (Nat.le_of_ble_eq_true rfl) (fun x C => ?_)
  refine aw_iload_n C rfl rfl dJ14_checkIndex_0 ?_
  refine aw_ifN_lt C (tgt := 9) (by omega) dJ14_checkIndex_1 (by decide) (fun g1 => ?_) (fun g1 => ?_)
  · first | exact g1.elim | exact absurd g1 (Nat.not_lt_zero _) | exact absurd g1 (by omega)
  · refine aw_iload_n C rfl rfl dJ14_checkIndex_4 ?_
    refine aw_iload_n C rfl rfl dJ14_checkIndex_5 ?_
    refine aw_icmpN_lt C (tgt := 16) (by omega) (by omega) dJ14_checkIndex_6 (by decide) (fun g5 => ?_) (fun g5 => ?_)
    · refine aw_iload_n C rfl rfl dJ14_checkIndex_16 ?_
      exact aw_iret C rfl dJ14_checkIndex_17 (Nat.le_refl _) (Nat.le_refl _) ⟨rfl, rfl, rfl⟩
    · exact absurd g5 (by omega)
set_option maxRecDepth 100000 in
theorem al_ci {γ : Gm} (hG : GF γ) (l : Launch) {h : AH} {sz : Nat} {i m : Nat} (hi : i < m) (hm : m < 2 ^ 31) : MX γ l yJ24_checkIndex cJ24_checkIndex 2 (some .int) 1 22 0 0 [.int (nI i), .int (nI m)] h sz (RI h sz (nI i)) NX := by
  refine mx_start hG (by decide) (Nat.le_of_ble_eq_true rfl) (fun x C => ?_)
  refine aw_iload_n C rfl rfl dJ24_checkIndex_0 ?_
  refine aw_iload_n C rfl rfl dJ24_checkIndex_1 ?_
  refine aw_null C dJ24_checkIndex_2 ?_
  refine aw_callSRR C (al_ci0 hG l hi hm) q1103 q1104 q115 q1105 (n9 := 3) (by decide +kernel) rfl (Nat.le_of_ble_eq_true rfl) (Nat.le_of_ble_eq_true rfl) (Nat.zero_le _) (Nat.zero_le _) rfl (Nat.le_of_ble_eq_true rfl) dJ24_checkIndex_3 ?_
  exact aw_iret C rfl dJ24_checkIndex_6 (Nat.le_refl _) (Nat.le_refl _) ⟨rfl, rfl, rfl⟩
set_option maxRecDepth 100000 in
theorem al_get {γ : Gm} (hG : GF γ) (l : Launch) {h : AH} {sz : Nat}  {li el M cap : Nat} {mo : Int32} {f : Nat → Option Nat} (eli : h li = some (.inr (12, [.int mo, .ref el, .int (nI M)]))) (eel : h el = some (rfs 4 cap f)) {i z : Nat} (hi : i < M) (hM : M ≤ cap) (hcm : cap < 2 ^ 31) (hz : f i = some z) : MX γ l yJ2_get cJ2_get 2 (some (.object "java/lang/Object")) 2 43 0 0 [.ref li, .int (nI i)] h sz (PE (some (.ref z)) h sz) NX := by
  refine mx_start hG (by decide) (Nat.le_of_ble_eq_true rfl) (fun x C => ?_)
  refine aw_iload_n C rfl rfl dJ2_get_0 ?_
  refine aw_aload_n C rfl rfl dJ2_get_1 ?_
  refine aw_getf C ck12 2 (by decide) q597 (fun _ z => z) eli rfl dJ2_get_2 ?_
  refine aw_callSRR C (al_ci hG l hi (by omega)) q1100 q1101 q130 q1102 (n9 := 2) (by decide +kernel) rfl (Nat.le_of_ble_eq_true rfl) (Nat.le_of_ble_eq_true rfl) (Nat.zero_le _) (Nat.zero_le _) rfl (Nat.le_of_ble_eq_true rfl) dJ2_get_5 ?_
  refine aw_pop C rfl dJ2_get_8 ?_
  refine aw_aload_n C rfl rfl dJ2_get_9 ?_
  refine aw_iload_n C rfl rfl dJ2_get_10 ?_
  refine aw_callVPv C ck12 (al_elementData hG l eli eel (by omega) hcm hz) q1106 q1107 q1108 q102 q1109 eli (n9 := 1) (by decide +kernel) rfl (Nat.le_of_ble_eq_true rfl) (Nat.le_of_ble_eq_true rfl) (Nat.zero_le _) (Nat.zero_le _) rfl (Nat.le_of_ble_eq_true rfl) dJ2_get_11 ?_
  exact aw_aret C rfl (Or.inl ⟨_, rfl⟩) (Or.inr ⟨_, rfl⟩) dJ2_get_14 (by omega) (by omega) ⟨rfl, rfl, rfl⟩
