/-! the twin: copies, what is kept -/
theorem bd_cpy {u : TU} {b b' : BT} {g : Nat → Int32} {fa : Nat} (hu : BD u b) (hA : WA b) (hA' : WA b') (hg : ∀ j, j < 4136 → g (fa + j) = nI (b' j)) : BD (tsa u 0 (cpy (u.2 0) 0 g fa 4136)) b' := by
  intro j
  show cpy (u.2 0) 0 g fa 4136 j = nI (b' j)
  by_cases e : j < 4136
  · have := cpy_in (f := u.2 0) (ta := 0) (g := g) (fa := fa) e
    rw [Nat.zero_add] at this
    rw [this, hg j e]
  · rw [cpy_out (Or.inr (by omega)), hu j, hA.z (by omega), hA'.z (by omega)]
theorem kt_of {u u' : TU} {b : BT} (h : KT u b) (e : u'.2 18 = u.2 18) : KT u' b := by
  unfold KT
  rw [e]
  exact h
theorem take_getD {ks : List BT} {n i : Nat} (h : i < n) : (ks.take n).getD i kzero = ks.getD i kzero := by
  simp [List.getD, List.getElem?_take, h]
theorem getD_mem {ks : List BT} {i : Nat} (h : i < ks.length) : ks.getD i kzero ∈ ks := by
  rw [List.getD, List.getElem?_eq_getElem h]
  exact List.getElem_mem h
theorem tz_thrown (u : TU) (t : Int32) : TZ u (tsf u 7 t) := tj2_thrown u t
theorem to_put7 {u : TU} {ks : List BT} {sl : Nat → Option BT} {bf : List Nat} {ea : Int32} {wr : List Nat} (h : TO u ks sl bf ea wr) (t : Int32) : TO (tsf u 7 t) ks sl bf ea wr := h.j2 (tj2_thrown u t)
/-- what keeps does not touch -/
theorem to_keep {u u' : TU} {b : BT} {ks : List BT} {sl : Nat → Option BT} {bf : List Nat} {ea : Int32} {wr : List Nat} (h : TO u ks sl bf ea wr) (hA : WA b) (h1 : ∀ i, i ≠ 6 → u'.1 i = u.1 i) (h2 : ∀ i, i ≠ 3 → u'.2 i = u.2 i) (h3 : u'.1 6 = nI (keepS b ks).length) (h4 : K3 (u'.2 3) (keepS b ks)) : TO u' (keepS b ks) sl bf ea wr := by
  obtain ⟨⟨a1, a2, a3⟩, a4, ⟨a5, a6, a7⟩, a8, a9, a10, a11⟩ := h
  refine ⟨⟨h3, kw_keep a2 hA, h4⟩, fun i hi => ?_, ⟨(h1 9 (by decide)).trans a5, a6, by rw [h2 8 (by decide)]; exact a7⟩, (h1 17 (by decide)).trans a8, (h1 21 (by decide)).trans a9, a10, by rw [h2 20 (by decide)]; exact a11⟩
  rw [h2 4 (by decide), h2 5 (by decide)]
  exact a4 i hi

set_option maxRecDepth 100000 in
theorem t6_sets_3_0 {γ : Gm} (hG : GF γ) (l : Launch) (o sz : Nat) (u : TU)  {ta fa : Nat} (ht : ta + 4136 ≤ 33088) (hf : fa + 4136 ≤ 4136) : MX γ l yX6_sets cX6_sets 5 none 0 0 0 0 [.ref (o + 4), .int (nI ta), .ref (o + 1), .int (nI fa)] (th o u) sz (RUv o sz (fun u' => u' = tsa u 3 (cpy (u.2 3) ta (u.2 0) fa 4136))) NX := by
  refine mx_start hG (by decide) (Nat.le_of_ble_eq_true rfl) (fun x C => ?_)
  have key : ∀ j n, n ≤ 4136 → 4137 ≤ n + j → AW γ l x (QX γ x 0 0 (RUv o sz (fun u' => u' = tsa u 3 (cpy (u.2 3) ta (u.2 0) fa 4136))) NX) 5 (th o (tsa u 3 (cpy (u.2 3) ta (u.2 0) fa n))) sz 0 0 3 [(0, .ref (o + 4)), (1, .int (nI ta)), (2, .ref (o + 1)), (3, .int (nI fa)), (4, .int (nI n))] [] := by
    intro j
    induction j with
    | zero => intro n h1 h2; exact absurd h2 (by omega)
    | succ j ih =>
      intro n h1 h2
      refine aw_iload C rfl dX6_sets_3 ?_
      refine aw_sipush C (v := nI 4136) (by decide) dX6_sets_5 ?_
      refine aw_icmpN_ge C (tgt := 29) (by omega) (by omega) dX6_sets_8 (by decide) (fun gN => ?_) (fun gN => ?_)
      · exact aw_vret C rfl dX6_sets_29 (Nat.le_refl _) (Nat.le_refl _) ⟨rfl, rfl, _, rfl, by rw [show n = 4136 by omega]⟩
      · refine aw_aload_n C rfl rfl dX6_sets_11 ?_
        refine aw_iload_n C rfl rfl dX6_sets_12 ?_
        refine aw_iload C rfl dX6_sets_13 ?_
        refine aw_iaddN C dX6_sets_15 ?_
        refine aw_aload_n C rfl rfl dX6_sets_16 ?_
        refine aw_iload_n C rfl rfl dX6_sets_17 ?_
        refine aw_iload C rfl dX6_sets_18 ?_
        refine aw_iaddN C dX6_sets_20 ?_
        refine tw_ld0 C (by omega) dX6_sets_21 ?_
        refine tw_st3 C (by omega) dX6_sets_22 ?_
        refine aw_iinc1 C rfl (by decide) rfl dX6_sets_23 ?_
        refine aw_goto C (tgt := 3) dX6_sets_26 (by decide) ?_
        refine aw_hp (h9 := th o (tsa u 3 (cpy (u.2 3) ta (u.2 0) fa (n + 1)))) ?_ (aw_lo (ih (n + 1) (by omega) (by omega)) ⟨rfl, rfl, rfl, rfl, rfl, trivial⟩)
        rw [tsa_tsa]
        exact congrArg (fun z => th o (tsa u 3 z)) (cpy_s (u.2 3) ta (u.2 0) fa n)
  refine aw_iconst C (v := nI 0) (by decide) dX6_sets_0 ?_
  refine aw_istore C (by decide) rfl dX6_sets_1 ?_
  refine aw_hp (h9 := th o (tsa u 3 (cpy (u.2 3) ta (u.2 0) fa 0))) ?_ (aw_lo (key 4137 0 (Nat.zero_le _) (by omega)) ⟨rfl, rfl, rfl, rfl, rfl, trivial⟩)
  rw [cpy_0, tsa_self]
set_option maxRecDepth 100000 in
theorem t6_sets_0_3 {γ : Gm} (hG : GF γ) (l : Launch) (o sz : Nat) (u : TU)  {ta fa : Nat} (ht : ta + 4136 ≤ 4136) (hf : fa + 4136 ≤ 33088) : MX γ l yX6_sets cX6_sets 5 none 0 0 0 0 [.ref (o + 1), .int (nI ta), .ref (o + 4), .int (nI fa)] (th o u) sz (RUv o sz (fun u' => u' = tsa u 0 (cpy (u.2 0) ta (u.2 3) fa 4136))) NX := by
  refine mx_start hG (by decide) (Nat.le_of_ble_eq_true rfl) (fun x C => ?_)
  have key : ∀ j n, n ≤ 4136 → 4137 ≤ n + j → AW γ l x (QX γ x 0 0 (RUv o sz (fun u' => u' = tsa u 0 (cpy (u.2 0) ta (u.2 3) fa 4136))) NX) 5 (th o (tsa u 0 (cpy (u.2 0) ta (u.2 3) fa n))) sz 0 0 3 [(0, .ref (o + 1)), (1, .int (nI ta)), (2, .ref (o + 4)), (3, .int (nI fa)), (4, .int (nI n))] [] := by
    intro j
    induction j with
    | zero => intro n h1 h2; exact absurd h2 (by omega)
    | succ j ih =>
      intro n h1 h2
      refine aw_iload C rfl dX6_sets_3 ?_
      refine aw_sipush C (v := nI 4136) (by decide) dX6_sets_5 ?_
      refine aw_icmpN_ge C (tgt := 29) (by omega) (by omega) dX6_sets_8 (by decide) (fun gN => ?_) (fun gN => ?_)
      · exact aw_vret C rfl dX6_sets_29 (Nat.le_refl _) (Nat.le_refl _) ⟨rfl, rfl, _, rfl, by rw [show n = 4136 by omega]⟩
      · refine aw_aload_n C rfl rfl dX6_sets_11 ?_
        refine aw_iload_n C rfl rfl dX6_sets_12 ?_
        refine aw_iload C rfl dX6_sets_13 ?_
        refine aw_iaddN C dX6_sets_15 ?_
        refine aw_aload_n C rfl rfl dX6_sets_16 ?_
        refine aw_iload_n C rfl rfl dX6_sets_17 ?_
        refine aw_iload C rfl dX6_sets_18 ?_
        refine aw_iaddN C dX6_sets_20 ?_
        refine tw_ld3 C (by omega) dX6_sets_21 ?_
        refine tw_st0 C (by omega) dX6_sets_22 ?_
        refine aw_iinc1 C rfl (by decide) rfl dX6_sets_23 ?_
        refine aw_goto C (tgt := 3) dX6_sets_26 (by decide) ?_
        refine aw_hp (h9 := th o (tsa u 0 (cpy (u.2 0) ta (u.2 3) fa (n + 1)))) ?_ (aw_lo (ih (n + 1) (by omega) (by omega)) ⟨rfl, rfl, rfl, rfl, rfl, trivial⟩)
        rw [tsa_tsa]
        exact congrArg (fun z => th o (tsa u 0 z)) (cpy_s (u.2 0) ta (u.2 3) fa n)
  refine aw_iconst C (v := nI 0) (by decide) dX6_sets_0 ?_
  refine aw_istore C (by decide) rfl dX6_sets_1 ?_
  refine aw_hp (h9 := th o (tsa u 0 (cpy (u.2 0) ta (u.2 3) fa 0))) ?_ (aw_lo (key 4137 0 (Nat.zero_le _) (by omega)) ⟨rfl, rfl, rfl, rfl, rfl, trivial⟩)
  rw [cpy_0, tsa_self]
set_option maxRecDepth 100000 in
theorem t6_sets_1_0 {γ : Gm} (hG : GF γ) (l : Launch) (o sz : Nat) (u : TU)  {ta fa : Nat} (ht : ta + 4136 ≤ 4136) (hf : fa + 4136 ≤ 4136) : MX γ l yX6_sets cX6_sets 5 none 0 0 0 0 [.ref (o + 2), .int (nI ta), .ref (o + 1), .int (nI fa)] (th o u) sz (RUv o sz (fun u' => u' = tsa u 1 (cpy (u.2 1) ta (u.2 0) fa 4136))) NX := by
  refine mx_start hG (by decide) (Nat.le_of_ble_eq_true rfl) (fun x C => ?_)
  have key : ∀ j n, n ≤ 4136 → 4137 ≤ n + j → AW γ l x (QX γ x 0 0 (RUv o sz (fun u' => u' = tsa u 1 (cpy (u.2 1) ta (u.2 0) fa 4136))) NX) 5 (th o (tsa u 1 (cpy (u.2 1) ta (u.2 0) fa n))) sz 0 0 3 [(0, .ref (o + 2)), (1, .int (nI ta)), (2, .ref (o + 1)), (3, .int (nI fa)), (4, .int (nI n))] [] := by
    intro j
    induction j with
    | zero => intro n h1 h2; exact absurd h2 (by omega)
    | succ j ih =>
      intro n h1 h2
      refine aw_iload C rfl dX6_sets_3 ?_
      refine aw_sipush C (v := nI 4136) (by decide) dX6_sets_5 ?_
      refine aw_icmpN_ge C (tgt := 29) (by omega) (by omega) dX6_sets_8 (by decide) (fun gN => ?_) (fun gN => ?_)
      · exact aw_vret C rfl dX6_sets_29 (Nat.le_refl _) (Nat.le_refl _) ⟨rfl, rfl, _, rfl, by rw [show n = 4136 by omega]⟩
      · refine aw_aload_n C rfl rfl dX6_sets_11 ?_
        refine aw_iload_n C rfl rfl dX6_sets_12 ?_
        refine aw_iload C rfl dX6_sets_13 ?_
        refine aw_iaddN C dX6_sets_15 ?_
        refine aw_aload_n C rfl rfl dX6_sets_16 ?_
        refine aw_iload_n C rfl rfl dX6_sets_17 ?_
        refine aw_iload C rfl dX6_sets_18 ?_
        refine aw_iaddN C dX6_sets_20 ?_
        refine tw_ld0 C (by omega) dX6_sets_21 ?_
        refine tw_st1 C (by omega) dX6_sets_22 ?_
        refine aw_iinc1 C rfl (by decide) rfl dX6_sets_23 ?_
        refine aw_goto C (tgt := 3) dX6_sets_26 (by decide) ?_
        refine aw_hp (h9 := th o (tsa u 1 (cpy (u.2 1) ta (u.2 0) fa (n + 1)))) ?_ (aw_lo (ih (n + 1) (by omega) (by omega)) ⟨rfl, rfl, rfl, rfl, rfl, trivial⟩)
        rw [tsa_tsa]
        exact congrArg (fun z => th o (tsa u 1 z)) (cpy_s (u.2 1) ta (u.2 0) fa n)
  refine aw_iconst C (v := nI 0) (by decide) dX6_sets_0 ?_
  refine aw_istore C (by decide) rfl dX6_sets_1 ?_
  refine aw_hp (h9 := th o (tsa u 1 (cpy (u.2 1) ta (u.2 0) fa 0))) ?_ (aw_lo (key 4137 0 (Nat.zero_le _) (by omega)) ⟨rfl, rfl, rfl, rfl, rfl, trivial⟩)
  rw [cpy_0, tsa_self]
set_option maxRecDepth 100000 in
theorem t6_sets_2_0 {γ : Gm} (hG : GF γ) (l : Launch) (o sz : Nat) (u : TU)  {ta fa : Nat} (ht : ta + 4136 ≤ 4136) (hf : fa + 4136 ≤ 4136) : MX γ l yX6_sets cX6_sets 5 none 0 0 0 0 [.ref (o + 3), .int (nI ta), .ref (o + 1), .int (nI fa)] (th o u) sz (RUv o sz (fun u' => u' = tsa u 2 (cpy (u.2 2) ta (u.2 0) fa 4136))) NX := by
  refine mx_start hG (by decide) (Nat.le_of_ble_eq_true rfl) (fun x C => ?_)
  have key : ∀ j n, n ≤ 4136 → 4137 ≤ n + j → AW γ l x (QX γ x 0 0 (RUv o sz (fun u' => u' = tsa u 2 (cpy (u.2 2) ta (u.2 0) fa 4136))) NX) 5 (th o (tsa u 2 (cpy (u.2 2) ta (u.2 0) fa n))) sz 0 0 3 [(0, .ref (o + 3)), (1, .int (nI ta)), (2, .ref (o + 1)), (3, .int (nI fa)), (4, .int (nI n))] [] := by
    intro j
    induction j with
    | zero => intro n h1 h2; exact absurd h2 (by omega)
    | succ j ih =>
      intro n h1 h2
      refine aw_iload C rfl dX6_sets_3 ?_
      refine aw_sipush C (v := nI 4136) (by decide) dX6_sets_5 ?_
      refine aw_icmpN_ge C (tgt := 29) (by omega) (by omega) dX6_sets_8 (by decide) (fun gN => ?_) (fun gN => ?_)
      · exact aw_vret C rfl dX6_sets_29 (Nat.le_refl _) (Nat.le_refl _) ⟨rfl, rfl, _, rfl, by rw [show n = 4136 by omega]⟩
      · refine aw_aload_n C rfl rfl dX6_sets_11 ?_
        refine aw_iload_n C rfl rfl dX6_sets_12 ?_
        refine aw_iload C rfl dX6_sets_13 ?_
        refine aw_iaddN C dX6_sets_15 ?_
        refine aw_aload_n C rfl rfl dX6_sets_16 ?_
        refine aw_iload_n C rfl rfl dX6_sets_17 ?_
        refine aw_iload C rfl dX6_sets_18 ?_
        refine aw_iaddN C dX6_sets_20 ?_
        refine tw_ld0 C (by omega) dX6_sets_21 ?_
        refine tw_st2 C (by omega) dX6_sets_22 ?_
        refine aw_iinc1 C rfl (by decide) rfl dX6_sets_23 ?_
        refine aw_goto C (tgt := 3) dX6_sets_26 (by decide) ?_
        refine aw_hp (h9 := th o (tsa u 2 (cpy (u.2 2) ta (u.2 0) fa (n + 1)))) ?_ (aw_lo (ih (n + 1) (by omega) (by omega)) ⟨rfl, rfl, rfl, rfl, rfl, trivial⟩)
        rw [tsa_tsa]
        exact congrArg (fun z => th o (tsa u 2 z)) (cpy_s (u.2 2) ta (u.2 0) fa n)
  refine aw_iconst C (v := nI 0) (by decide) dX6_sets_0 ?_
  refine aw_istore C (by decide) rfl dX6_sets_1 ?_
  refine aw_hp (h9 := th o (tsa u 2 (cpy (u.2 2) ta (u.2 0) fa 0))) ?_ (aw_lo (key 4137 0 (Nat.zero_le _) (by omega)) ⟨rfl, rfl, rfl, rfl, rfl, trivial⟩)
  rw [cpy_0, tsa_self]
set_option maxRecDepth 100000 in
theorem t6_sets_0_1 {γ : Gm} (hG : GF γ) (l : Launch) (o sz : Nat) (u : TU)  {ta fa : Nat} (ht : ta + 4136 ≤ 4136) (hf : fa + 4136 ≤ 4136) : MX γ l yX6_sets cX6_sets 5 none 0 0 0 0 [.ref (o + 1), .int (nI ta), .ref (o + 2), .int (nI fa)] (th o u) sz (RUv o sz (fun u' => u' = tsa u 0 (cpy (u.2 0) ta (u.2 1) fa 4136))) NX := by
  refine mx_start hG (by decide) (Nat.le_of_ble_eq_true rfl) (fun x C => ?_)
  have key : ∀ j n, n ≤ 4136 → 4137 ≤ n + j → AW γ l x (QX γ x 0 0 (RUv o sz (fun u' => u' = tsa u 0 (cpy (u.2 0) ta (u.2 1) fa 4136))) NX) 5 (th o (tsa u 0 (cpy (u.2 0) ta (u.2 1) fa n))) sz 0 0 3 [(0, .ref (o + 1)), (1, .int (nI ta)), (2, .ref (o + 2)), (3, .int (nI fa)), (4, .int (nI n))] [] := by
    intro j
    induction j with
    | zero => intro n h1 h2; exact absurd h2 (by omega)
    | succ j ih =>
      intro n h1 h2
      refine aw_iload C rfl dX6_sets_3 ?_
      refine aw_sipush C (v := nI 4136) (by decide) dX6_sets_5 ?_
      refine aw_icmpN_ge C (tgt := 29) (by omega) (by omega) dX6_sets_8 (by decide) (fun gN => ?_) (fun gN => ?_)
      · exact aw_vret C rfl dX6_sets_29 (Nat.le_refl _) (Nat.le_refl _) ⟨rfl, rfl, _, rfl, by rw [show n = 4136 by omega]⟩
      · refine aw_aload_n C rfl rfl dX6_sets_11 ?_
        refine aw_iload_n C rfl rfl dX6_sets_12 ?_
        refine aw_iload C rfl dX6_sets_13 ?_
        refine aw_iaddN C dX6_sets_15 ?_
        refine aw_aload_n C rfl rfl dX6_sets_16 ?_
        refine aw_iload_n C rfl rfl dX6_sets_17 ?_
        refine aw_iload C rfl dX6_sets_18 ?_
        refine aw_iaddN C dX6_sets_20 ?_
        refine tw_ld1 C (by omega) dX6_sets_21 ?_
        refine tw_st0 C (by omega) dX6_sets_22 ?_
        refine aw_iinc1 C rfl (by decide) rfl dX6_sets_23 ?_
        refine aw_goto C (tgt := 3) dX6_sets_26 (by decide) ?_
        refine aw_hp (h9 := th o (tsa u 0 (cpy (u.2 0) ta (u.2 1) fa (n + 1)))) ?_ (aw_lo (ih (n + 1) (by omega) (by omega)) ⟨rfl, rfl, rfl, rfl, rfl, trivial⟩)
        rw [tsa_tsa]
        exact congrArg (fun z => th o (tsa u 0 z)) (cpy_s (u.2 0) ta (u.2 1) fa n)
  refine aw_iconst C (v := nI 0) (by decide) dX6_sets_0 ?_
  refine aw_istore C (by decide) rfl dX6_sets_1 ?_
  refine aw_hp (h9 := th o (tsa u 0 (cpy (u.2 0) ta (u.2 1) fa 0))) ?_ (aw_lo (key 4137 0 (Nat.zero_le _) (by omega)) ⟨rfl, rfl, rfl, rfl, rfl, trivial⟩)
  rw [cpy_0, tsa_self]
set_option maxRecDepth 100000 in
theorem t6_sets_0_2 {γ : Gm} (hG : GF γ) (l : Launch) (o sz : Nat) (u : TU)  {ta fa : Nat} (ht : ta + 4136 ≤ 4136) (hf : fa + 4136 ≤ 4136) : MX γ l yX6_sets cX6_sets 5 none 0 0 0 0 [.ref (o + 1), .int (nI ta), .ref (o + 3), .int (nI fa)] (th o u) sz (RUv o sz (fun u' => u' = tsa u 0 (cpy (u.2 0) ta (u.2 2) fa 4136))) NX := by
  refine mx_start hG (by decide) (Nat.le_of_ble_eq_true rfl) (fun x C => ?_)
  have key : ∀ j n, n ≤ 4136 → 4137 ≤ n + j → AW γ l x (QX γ x 0 0 (RUv o sz (fun u' => u' = tsa u 0 (cpy (u.2 0) ta (u.2 2) fa 4136))) NX) 5 (th o (tsa u 0 (cpy (u.2 0) ta (u.2 2) fa n))) sz 0 0 3 [(0, .ref (o + 1)), (1, .int (nI ta)), (2, .ref (o + 3)), (3, .int (nI fa)), (4, .int (nI n))] [] := by
    intro j
    induction j with
    | zero => intro n h1 h2; exact absurd h2 (by omega)
    | succ j ih =>
      intro n h1 h2
      refine aw_iload C rfl dX6_sets_3 ?_
      refine aw_sipush C (v := nI 4136) (by decide) dX6_sets_5 ?_
      refine aw_icmpN_ge C (tgt := 29) (by omega) (by omega) dX6_sets_8 (by decide) (fun gN => ?_) (fun gN => ?_)
      · exact aw_vret C rfl dX6_sets_29 (Nat.le_refl _) (Nat.le_refl _) ⟨rfl, rfl, _, rfl, by rw [show n = 4136 by omega]⟩
      · refine aw_aload_n C rfl rfl dX6_sets_11 ?_
        refine aw_iload_n C rfl rfl dX6_sets_12 ?_
        refine aw_iload C rfl dX6_sets_13 ?_
        refine aw_iaddN C dX6_sets_15 ?_
        refine aw_aload_n C rfl rfl dX6_sets_16 ?_
        refine aw_iload_n C rfl rfl dX6_sets_17 ?_
        refine aw_iload C rfl dX6_sets_18 ?_
        refine aw_iaddN C dX6_sets_20 ?_
        refine tw_ld2 C (by omega) dX6_sets_21 ?_
        refine tw_st0 C (by omega) dX6_sets_22 ?_
        refine aw_iinc1 C rfl (by decide) rfl dX6_sets_23 ?_
        refine aw_goto C (tgt := 3) dX6_sets_26 (by decide) ?_
        refine aw_hp (h9 := th o (tsa u 0 (cpy (u.2 0) ta (u.2 2) fa (n + 1)))) ?_ (aw_lo (ih (n + 1) (by omega) (by omega)) ⟨rfl, rfl, rfl, rfl, rfl, trivial⟩)
        rw [tsa_tsa]
        exact congrArg (fun z => th o (tsa u 0 z)) (cpy_s (u.2 0) ta (u.2 2) fa n)
  refine aw_iconst C (v := nI 0) (by decide) dX6_sets_0 ?_
  refine aw_istore C (by decide) rfl dX6_sets_1 ?_
  refine aw_hp (h9 := th o (tsa u 0 (cpy (u.2 0) ta (u.2 2) fa 0))) ?_ (aw_lo (key 4137 0 (Nat.zero_le _) (by omega)) ⟨rfl, rfl, rfl, rfl, rfl, trivial⟩)
  rw [cpy_0, tsa_self]
set_option maxRecDepth 100000 in
theorem t6_sets_4_0 {γ : Gm} (hG : GF γ) (l : Launch) (o sz : Nat) (u : TU)  {ta fa : Nat} (ht : ta + 4136 ≤ 8272) (hf : fa + 4136 ≤ 4136) : MX γ l yX6_sets cX6_sets 5 none 0 0 0 0 [.ref (o + 5), .int (nI ta), .ref (o + 1), .int (nI fa)] (th o u) sz (RUv o sz (fun u' => u' = tsa u 4 (cpy (u.2 4) ta (u.2 0) fa 4136))) NX := by
  refine mx_start hG (by decide) (Nat.le_of_ble_eq_true rfl) (fun x C => ?_)
  have key : ∀ j n, n ≤ 4136 → 4137 ≤ n + j → AW γ l x (QX γ x 0 0 (RUv o sz (fun u' => u' = tsa u 4 (cpy (u.2 4) ta (u.2 0) fa 4136))) NX) 5 (th o (tsa u 4 (cpy (u.2 4) ta (u.2 0) fa n))) sz 0 0 3 [(0, .ref (o + 5)), (1, .int (nI ta)), (2, .ref (o + 1)), (3, .int (nI fa)), (4, .int (nI n))] [] := by
    intro j
    induction j with
    | zero => intro n h1 h2; exact absurd h2 (by omega)
    | succ j ih =>
      intro n h1 h2
      refine aw_iload C rfl dX6_sets_3 ?_
      refine aw_sipush C (v := nI 4136) (by decide) dX6_sets_5 ?_
      refine aw_icmpN_ge C (tgt := 29) (by omega) (by omega) dX6_sets_8 (by decide) (fun gN => ?_) (fun gN => ?_)
      · exact aw_vret C rfl dX6_sets_29 (Nat.le_refl _) (Nat.le_refl _) ⟨rfl, rfl, _, rfl, by rw [show n = 4136 by omega]⟩
      · refine aw_aload_n C rfl rfl dX6_sets_11 ?_
        refine aw_iload_n C rfl rfl dX6_sets_12 ?_
        refine aw_iload C rfl dX6_sets_13 ?_
        refine aw_iaddN C dX6_sets_15 ?_
        refine aw_aload_n C rfl rfl dX6_sets_16 ?_
        refine aw_iload_n C rfl rfl dX6_sets_17 ?_
        refine aw_iload C rfl dX6_sets_18 ?_
        refine aw_iaddN C dX6_sets_20 ?_
        refine tw_ld0 C (by omega) dX6_sets_21 ?_
        refine tw_st4 C (by omega) dX6_sets_22 ?_
        refine aw_iinc1 C rfl (by decide) rfl dX6_sets_23 ?_
        refine aw_goto C (tgt := 3) dX6_sets_26 (by decide) ?_
        refine aw_hp (h9 := th o (tsa u 4 (cpy (u.2 4) ta (u.2 0) fa (n + 1)))) ?_ (aw_lo (ih (n + 1) (by omega) (by omega)) ⟨rfl, rfl, rfl, rfl, rfl, trivial⟩)
        rw [tsa_tsa]
        exact congrArg (fun z => th o (tsa u 4 z)) (cpy_s (u.2 4) ta (u.2 0) fa n)
  refine aw_iconst C (v := nI 0) (by decide) dX6_sets_0 ?_
  refine aw_istore C (by decide) rfl dX6_sets_1 ?_
  refine aw_hp (h9 := th o (tsa u 4 (cpy (u.2 4) ta (u.2 0) fa 0))) ?_ (aw_lo (key 4137 0 (Nat.zero_le _) (by omega)) ⟨rfl, rfl, rfl, rfl, rfl, trivial⟩)
  rw [cpy_0, tsa_self]
set_option maxRecDepth 100000 in
theorem t6_sets_0_4 {γ : Gm} (hG : GF γ) (l : Launch) (o sz : Nat) (u : TU)  {ta fa : Nat} (ht : ta + 4136 ≤ 4136) (hf : fa + 4136 ≤ 8272) : MX γ l yX6_sets cX6_sets 5 none 0 0 0 0 [.ref (o + 1), .int (nI ta), .ref (o + 5), .int (nI fa)] (th o u) sz (RUv o sz (fun u' => u' = tsa u 0 (cpy (u.2 0) ta (u.2 4) fa 4136))) NX := by
  refine mx_start hG (by decide) (Nat.le_of_ble_eq_true rfl) (fun x C => ?_)
  have key : ∀ j n, n ≤ 4136 → 4137 ≤ n + j → AW γ l x (QX γ x 0 0 (RUv o sz (fun u' => u' = tsa u 0 (cpy (u.2 0) ta (u.2 4) fa 4136))) NX) 5 (th o (tsa u 0 (cpy (u.2 0) ta (u.2 4) fa n))) sz 0 0 3 [(0, .ref (o + 1)), (1, .int (nI ta)), (2, .ref (o + 5)), (3, .int (nI fa)), (4, .int (nI n))] [] := by
    intro j
    induction j with
    | zero => intro n h1 h2; exact absurd h2 (by omega)
    | succ j ih =>
      intro n h1 h2
      refine aw_iload C rfl dX6_sets_3 ?_
      refine aw_sipush C (v := nI 4136) (by decide) dX6_sets_5 ?_
      refine aw_icmpN_ge C (tgt := 29) (by omega) (by omega) dX6_sets_8 (by decide) (fun gN => ?_) (fun gN => ?_)
      · exact aw_vret C rfl dX6_sets_29 (Nat.le_refl _) (Nat.le_refl _) ⟨rfl, rfl, _, rfl, by rw [show n = 4136 by omega]⟩
      · refine aw_aload_n C rfl rfl dX6_sets_11 ?_
        refine aw_iload_n C rfl rfl dX6_sets_12 ?_
        refine aw_iload C rfl dX6_sets_13 ?_
        refine aw_iaddN C dX6_sets_15 ?_
        refine aw_aload_n C rfl rfl dX6_sets_16 ?_
        refine aw_iload_n C rfl rfl dX6_sets_17 ?_
        refine aw_iload C rfl dX6_sets_18 ?_
        refine aw_iaddN C dX6_sets_20 ?_
        refine tw_ld4 C (by omega) dX6_sets_21 ?_
        refine tw_st0 C (by omega) dX6_sets_22 ?_
        refine aw_iinc1 C rfl (by decide) rfl dX6_sets_23 ?_
        refine aw_goto C (tgt := 3) dX6_sets_26 (by decide) ?_
        refine aw_hp (h9 := th o (tsa u 0 (cpy (u.2 0) ta (u.2 4) fa (n + 1)))) ?_ (aw_lo (ih (n + 1) (by omega) (by omega)) ⟨rfl, rfl, rfl, rfl, rfl, trivial⟩)
        rw [tsa_tsa]
        exact congrArg (fun z => th o (tsa u 0 z)) (cpy_s (u.2 0) ta (u.2 4) fa n)
  refine aw_iconst C (v := nI 0) (by decide) dX6_sets_0 ?_
  refine aw_istore C (by decide) rfl dX6_sets_1 ?_
  refine aw_hp (h9 := th o (tsa u 0 (cpy (u.2 0) ta (u.2 4) fa 0))) ?_ (aw_lo (key 4137 0 (Nat.zero_le _) (by omega)) ⟨rfl, rfl, rfl, rfl, rfl, trivial⟩)
  rw [cpy_0, tsa_self]
set_option maxRecDepth 100000 in
theorem t6_keeps {γ : Gm} (hG : GF γ) (l : Launch) (o sz : Nat) (u : TU) {b : Nat → Nat} (hu : BD u b) {ks : List BT} (h6 : u.1 6 = nI ks.length) (hl : ks.length ≤ 8) (hk : K3 (u.2 3) ks) : MX γ l yX6_keeps cX6_keeps 2 none 1 24 0 0 [.ref o] (th o u) sz (RUv o sz (fun u' => (∀ i, i ≠ 6 → u'.1 i = u.1 i) ∧ (∀ i, i ≠ 3 → u'.2 i = u.2 i) ∧ u'.1 6 = nI (keepS b ks).length ∧ K3 (u'.2 3) (keepS b ks))) NX := by
  refine mx_start hG (by decide) (Nat.le_of_ble_eq_true rfl) (fun x C => ?_)
  have key50 : ∀ u1 ks1, ks1.length ≤ 7 → keepS b ks = ks1 ++ [b] → u1.1 6 = nI ks1.length → K3 (u1.2 3) ks1 → BD u1 b → (∀ i, i ≠ 6 → u1.1 i = u.1 i) → (∀ i, i ≠ 3 → u1.2 i = u.2 i) → AW γ l x (QX γ x 0 0 (RUv o sz (fun u' => (∀ i, i ≠ 6 → u'.1 i = u.1 i) ∧ (∀ i, i ≠ 3 → u'.2 i = u.2 i) ∧ u'.1 6 = nI (keepS b ks).length ∧ K3 (u'.2 3) (keepS b ks))) NX) 2 (th o u1) sz 0 0 50 [(0, .ref o)] [] := by
    intro u1 ks1 h7 he k6 hk3 hu1 q1 q2
    refine aw_aload_n C rfl rfl dX6_keeps_50 ?_
    refine tw_get C 3 (by decide) q1821 rfl dX6_keeps_51 ?_
    refine aw_sipush C (v := nI 4136) (by decide) dX6_keeps_54 ?_
    refine aw_aload_n C rfl rfl dX6_keeps_57 ?_
    refine tw_get C 6 (by decide) q1824 rfl dX6_keeps_58 ?_
    refine aw_top k6 ?_
    refine aw_imulN C dX6_keeps_61 ?_
    refine aw_aload_n C rfl rfl dX6_keeps_62 ?_
    refine tw_get C 0 (by decide) q1818 rfl dX6_keeps_63 ?_
    refine aw_iconst C (v := nI 0) (by decide) dX6_keeps_66 ?_
    refine tw_callSV C (t6_sets_3_0 hG l o sz _ (ta := 4136 * ks1.length) (fa := 0) (by omega) (by omega)) q1894 q1895 q120 q1896 (n9 := 4) (by decide +kernel) rfl (Nat.le_of_ble_eq_true rfl) (Nat.le_of_ble_eq_true rfl) (Nat.zero_le _) (Nat.zero_le _) rfl (Nat.le_of_ble_eq_true rfl) dX6_keeps_67 (fun u2 hp => ?_)
    subst hp
    refine aw_aload_n C rfl rfl dX6_keeps_70 ?_
    refine aw_dup C rfl dX6_keeps_71 ?_
    refine tw_get C 6 (by decide) q1824 rfl dX6_keeps_72 ?_
    refine aw_top k6 ?_
    refine aw_iconst C (v := nI 1) (by decide) dX6_keeps_75 ?_
    refine aw_iaddN C dX6_keeps_76 ?_
    refine tw_put C 6 (by decide) q1824 rfl rfl rfl dX6_keeps_77 ?_
    refine aw_vret C rfl dX6_keeps_80 (Nat.le_refl _) (Nat.le_refl _) ?_
    refine ⟨rfl, rfl, _, rfl, fun i hi => (tsf_ne hi).trans (q1 i hi), fun i hi => ?_, (tsf_at _ _ _).trans ?_, ?_⟩
    · show (if i = 3 then _ else u1.2 i) = u.2 i
      rw [if_neg hi]
      exact q2 i hi
    · rw [he, List.length_append]
      rfl
    · rw [he]
      exact k3_add hk3 hu1
  have key11 : ks.length = 8 → ∀ j k, k ≤ 28952 → 28953 ≤ k + j → AW γ l x (QX γ x 0 0 (RUv o sz (fun u' => (∀ i, i ≠ 6 → u'.1 i = u.1 i) ∧ (∀ i, i ≠ 3 → u'.2 i = u.2 i) ∧ u'.1 6 = nI (keepS b ks).length ∧ K3 (u'.2 3) (keepS b ks))) NX) 2 (th o (tsa u 3 (shf (u.2 3) k))) sz 0 0 11 [(0, .ref o), (1, .int (nI k))] [] := by
    intro h8 j
    induction j with
    | zero => intro k h1 h2; exact absurd h2 (by omega)
    | succ j ih =>
      intro k h1 h2
      refine aw_iload_n C rfl rfl dX6_keeps_11 ?_
      refine aw_sipush C (v := nI 28952) (by decide) dX6_keeps_12 ?_
      refine aw_icmpN_ge C (tgt := 40) (by omega) (by omega) dX6_keeps_15 (by decide) (fun gN => ?_) (fun gN => ?_)
      · refine aw_aload_n C rfl rfl dX6_keeps_40 ?_
        refine aw_dup C rfl dX6_keeps_41 ?_
        refine tw_get C 6 (by decide) q1824 rfl dX6_keeps_42 ?_
        refine aw_top h6 ?_
        refine aw_iconst C (v := nI 1) (by decide) dX6_keeps_45 ?_
        refine aw_isubN C (by omega) dX6_keeps_46 ?_
        refine tw_put C 6 (by decide) q1824 rfl rfl rfl dX6_keeps_47 ?_
        refine aw_lo (key50 _ ks.tail (by rw [List.length_tail]; omega) (by unfold keepS; rw [if_pos h8]) ?_ ?_ ?_ (fun i hi => tsf_ne hi) (fun i hi => ?_)) ⟨rfl, trivial⟩
        · rw [tsf_at, List.length_tail]
        · show K3 (shf (u.2 3) k) ks.tail
          rw [show k = 28952 by omega]
          exact k3_tail hk h8
        · exact fun j => hu j
        · show (if i = 3 then _ else u.2 i) = u.2 i
          rw [if_neg hi]
      · refine aw_aload_n C rfl rfl dX6_keeps_18 ?_
        refine tw_get C 3 (by decide) q1821 rfl dX6_keeps_19 ?_
        refine aw_iload_n C rfl rfl dX6_keeps_22 ?_
        refine aw_aload_n C rfl rfl dX6_keeps_23 ?_
        refine tw_get C 3 (by decide) q1821 rfl dX6_keeps_24 ?_
        refine aw_iload_n C rfl rfl dX6_keeps_27 ?_
        refine aw_sipush C (v := nI 4136) (by decide) dX6_keeps_28 ?_
        refine aw_iaddN C dX6_keeps_31 ?_
        refine tw_ld3 C (by omega) dX6_keeps_32 ?_
        refine tw_st3 C (by omega) dX6_keeps_33 ?_
        refine aw_iinc1 C rfl (by decide) rfl dX6_keeps_34 ?_
        refine aw_goto C (tgt := 11) dX6_keeps_37 (by decide) ?_
        refine aw_hp (h9 := th o (tsa u 3 (shf (u.2 3) (k + 1)))) ?_ (aw_lo (ih (k + 1) (by omega) (by omega)) ⟨rfl, rfl, trivial⟩)
        rw [tsa_tsa]
        exact congrArg (fun z => th o (tsa u 3 z)) (shf_s (u.2 3) k)
  refine aw_aload_n C rfl rfl dX6_keeps_0 ?_
  refine tw_get C 6 (by decide) q1824 rfl dX6_keeps_1 ?_
  refine aw_top h6 ?_
  refine aw_bipush C (v := nI 8) (by decide) dX6_keeps_4 ?_
  refine aw_icmpN_ne C (tgt := 50) (by omega) (by omega) dX6_keeps_6 (by decide) (fun g8 => ?_) (fun g8 => ?_)
  · exact aw_lo (key50 u ks (by omega) (by unfold keepS; rw [if_neg (by omega)]) h6 hk hu (fun _ _ => rfl) (fun _ _ => rfl)) ⟨rfl, trivial⟩
  · refine aw_iconst C (v := nI 0) (by decide) dX6_keeps_9 ?_
    refine aw_istore_n C rfl (by decide) rfl dX6_keeps_10 ?_
    refine aw_hp (h9 := th o (tsa u 3 (shf (u.2 3) 0))) ?_ (aw_lo (key11 g8 28953 0 (Nat.zero_le _) (by omega)) ⟨rfl, rfl, trivial⟩)
    rw [shf_0, tsa_self]
