/-! the twin: reading, words -/
theorem isW_f {bf : List Nat} {n : Nat} {w : List Nat} {s : RS} (h : ¬ (s.2.2.1 = 0 ∧ kd bf n s.1 = 0 ∧ en bf n s.1 - s.1 = w.length ∧ ∀ k, k < w.length → bf.getD (s.1 + k) 0 = w.getD k 0)) : some (Value.int (nI 0)) = some (.int (nI (if isW bf n w s = true then 1 else 0))) := by
  unfold isW
  rw [if_neg (fun z => h (of_decide_eq_true z))]
theorem isW_t {bf : List Nat} {n : Nat} {w : List Nat} {s : RS} (h : s.2.2.1 = 0 ∧ kd bf n s.1 = 0 ∧ en bf n s.1 - s.1 = w.length ∧ ∀ k, k < w.length → bf.getD (s.1 + k) 0 = w.getD k 0) : some (Value.int (nI 1)) = some (.int (nI (if isW bf n w s = true then 1 else 0))) := by
  unfold isW
  rw [if_pos (decide_eq_true h)]
theorem ltF_lt {bf : List Nat} {b1 e : Nat} (hb : b1 ≤ 3) : ∀ f k set, set < 8 → ltF bf b1 e f k set < 8 := by
  intro f
  induction f with
  | zero => intro k set h; exact h
  | succ f ih =>
    intro k set h
    rw [ltF]
    split
    · exact h
    · split
      · decide
      · rename_i q
        exact ih _ _ (nb_lt_or (m := 3) h (sh1_lt (m := 3) (by omega)))
theorem letS_lt {bf : List Nat} {n b1 a : Nat} (hb : b1 ≤ 3) : letS bf n b1 a < 8 := ltF_lt hb _ _ _ (by decide)

set_option maxRecDepth 100000 in
theorem t6_isWord {γ : Gm} (hG : GF γ) (l : Launch) (o sz : Nat) (u : TU)  {bf : List Nat} {n : Nat} {s : RS} (hp : PR u bf n s) (hTx : GT γ) {a : Nat} {w : List Nat} (hS : ∀ h : AH, STR γ h a w) : MX γ l yX6_isWord cX6_isWord 3 (some .boolean) 4 200 0 0 [.ref o, .ref a] (th o u) sz (RI (th o u) sz (nI (if isW bf n w s = true then 1 else 0))) NX := by
  refine mx_start hG (by decide) (Nat.le_of_ble_eq_true rfl) (fun x C => ?_)
  have hn5 := hp.1.2.1
  have han := hp.2.2.2.2.2
  have hel := en_le (bf := bf) han
  have hk4 := kd_lt (bf := bf) (n := n) (a := s.1)
  obtain ⟨v, w1, w2, f, hs, hv, hwn, hf⟩ := hS (th o u)
  have key : ∀ j k, s.2.2.1 = 0 → kd bf n s.1 = 0 → en bf n s.1 - s.1 = w.length → k ≤ w.length → w.length + 1 ≤ k + j → (∀ i, i < k → bf.getD (s.1 + i) 0 = w.getD i 0) → AW γ l x (QX γ x 0 0 (RI (th o u) sz (nI (if isW bf n w s = true then 1 else 0))) NX) 3 (th o u) sz 0 0 34 [(0, .ref o), (1, .ref a), (2, .int (nI k))] [] := by
    intro j
    induction j with
    | zero => intro k g0 g1 g2 h1 h2 hi; exact absurd h2 (by omega)
    | succ j ih =>
      intro k g0 g1 g2 h1 h2 hi
      refine aw_iload_n C rfl rfl dX6_isWord_34 ?_
      refine aw_aload_n C rfl rfl dX6_isWord_35 ?_
      refine aw_callVRR C ck14 (sj_length hG l hTx hs hv hwn hf) q1925 q436 q437 q109 q438 hs (n9 := 0) (by decide +kernel) rfl (Nat.le_of_ble_eq_true rfl) (Nat.le_of_ble_eq_true rfl) (Nat.zero_le _) (Nat.zero_le _) rfl (Nat.le_of_ble_eq_true rfl) dX6_isWord_36 ?_
      refine aw_icmpN_ge C (tgt := 69) (by omega) (by omega) dX6_isWord_39 (by decide) (fun gN => ?_) (fun gN => ?_)
      · refine aw_iconst C (v := nI 1) (by decide) dX6_isWord_69 ?_
        exact aw_zret C rfl (by decide) dX6_isWord_70 (Nat.le_refl _) (Nat.le_refl _) ⟨isW_t ⟨g0, g1, g2, fun i hik => hi i (by omega)⟩, rfl, rfl⟩
      · refine aw_aload_n C rfl rfl dX6_isWord_42 ?_
        refine tw_get C 8 (by decide) q1826 rfl dX6_isWord_43 ?_
        refine aw_aload_n C rfl rfl dX6_isWord_46 ?_
        refine tw_get C 11 (by decide) q1829 rfl dX6_isWord_47 ?_
        refine aw_top (hp.2.2.1.1) ?_
        refine aw_iload_n C rfl rfl dX6_isWord_50 ?_
        refine aw_iaddN C dX6_isWord_51 ?_
        refine tw_ld8 C (by omega) dX6_isWord_52 ?_
        have hbx := hp.1.2.2 (s.1 + k) (by omega)
        refine aw_top hbx.1 ?_
        have hb2 := hbx.2
        have hc2 := (hf k (by omega)).2
        refine aw_aload_n C rfl rfl dX6_isWord_53 ?_
        refine aw_iload_n C rfl rfl dX6_isWord_54 ?_
        refine aw_callVRR C ck14 (sj_charAt (i := k) hG l hTx hs hv hwn hf (by omega)) q1926 q1404 q1405 q109 q1406 hs (n9 := 1) (by decide +kernel) rfl (Nat.le_of_ble_eq_true rfl) (Nat.le_of_ble_eq_true rfl) (Nat.zero_le _) (Nat.zero_le _) rfl (Nat.le_of_ble_eq_true rfl) dX6_isWord_55 ?_
        refine aw_icmpN_eq C (tgt := 63) (by omega) (by omega) dX6_isWord_58 (by decide) (fun gC => ?_) (fun gC => ?_)
        · refine aw_iinc1 C rfl (by decide) rfl dX6_isWord_63 ?_
          refine aw_goto C (tgt := 34) dX6_isWord_66 (by decide) ?_
          exact aw_lo (ih (k + 1) g0 g1 g2 (by omega) (by omega) (fun i hik => by
            by_cases e : i = k
            · rw [e]; exact gC
            · exact hi i (by omega))) ⟨rfl, rfl, rfl, trivial⟩
        · refine aw_iconst C (v := nI 0) (by decide) dX6_isWord_61 ?_
          exact aw_zret C rfl (by decide) dX6_isWord_62 (Nat.le_refl _) (Nat.le_refl _) ⟨isW_f (fun z => gC (z.2.2.2 k (by omega))), rfl, rfl⟩
  refine aw_aload_n C rfl rfl dX6_isWord_0 ?_
  refine tw_get C 15 (by decide) q1833 rfl dX6_isWord_1 ?_
  refine aw_top (hp.2.2.2.1) ?_
  refine aw_if_ne C (tgt := 30) dX6_isWord_4 (by decide) (fun g0 => ?_) (fun g0 => ?_)
  · refine aw_iconst C (v := nI 0) (by decide) dX6_isWord_30 ?_
    refine aw_zret C rfl (by decide) dX6_isWord_31 (Nat.le_refl _) (Nat.le_refl _) ?_
    refine ⟨isW_f (fun z => ?_), rfl, rfl⟩
    first
      | exact g0 z.1
      | (have := z.2.1; have := z.2.2.1; omega)
  · refine aw_aload_n C rfl rfl dX6_isWord_7 ?_
    refine tw_get C 13 (by decide) q1831 rfl dX6_isWord_8 ?_
    refine aw_top (hp.2.2.1.2.2.1) ?_
    refine aw_ifN_ne C (tgt := 30) (by omega) dX6_isWord_11 (by decide) (fun g1 => ?_) (fun g1 => ?_)
    · refine aw_iconst C (v := nI 0) (by decide) dX6_isWord_30 ?_
      refine aw_zret C rfl (by decide) dX6_isWord_31 (Nat.le_refl _) (Nat.le_refl _) ?_
      refine ⟨isW_f (fun z => ?_), rfl, rfl⟩
      first
        | exact g0 z.1
        | (have := z.2.1; have := z.2.2.1; omega)
    · refine aw_aload_n C rfl rfl dX6_isWord_14 ?_
      refine tw_get C 12 (by decide) q1830 rfl dX6_isWord_15 ?_
      refine aw_top (hp.2.2.1.2.1) ?_
      refine aw_aload_n C rfl rfl dX6_isWord_18 ?_
      refine tw_get C 11 (by decide) q1829 rfl dX6_isWord_19 ?_
      refine aw_top (hp.2.2.1.1) ?_
      refine aw_isubN C (by omega) dX6_isWord_22 ?_
      refine aw_aload_n C rfl rfl dX6_isWord_23 ?_
      refine aw_callVRR C ck14 (sj_length hG l hTx hs hv hwn hf) q1925 q436 q437 q109 q438 hs (n9 := 0) (by decide +kernel) rfl (Nat.le_of_ble_eq_true rfl) (Nat.le_of_ble_eq_true rfl) (Nat.zero_le _) (Nat.zero_le _) rfl (Nat.le_of_ble_eq_true rfl) dX6_isWord_24 ?_
      refine aw_icmpN_eq C (tgt := 32) (by omega) (by omega) dX6_isWord_27 (by decide) (fun g2 => ?_) (fun g2 => ?_)
      · refine aw_iconst C (v := nI 0) (by decide) dX6_isWord_32 ?_
        refine aw_istore_n C rfl (by decide) rfl dX6_isWord_33 ?_
        exact aw_lo (key (w.length + 1) 0 g0 g1 g2 (Nat.zero_le _) (by omega) (fun i hi => absurd hi (Nat.not_lt_zero i))) ⟨rfl, rfl, rfl, trivial⟩
      · refine aw_iconst C (v := nI 0) (by decide) dX6_isWord_30 ?_
        refine aw_zret C rfl (by decide) dX6_isWord_31 (Nat.le_refl _) (Nat.le_refl _) ?_
        refine ⟨isW_f (fun z => ?_), rfl, rfl⟩
        first
          | exact g0 z.1
          | (have := z.2.1; have := z.2.2.1; omega)
set_option maxRecDepth 100000 in
theorem t6_lettersHere {γ : Gm} (hG : GF γ) (l : Launch) (o sz : Nat) (u : TU)  {bf : List Nat} {n : Nat} {s : RS} (hp : PR u bf n s) (hk0 : kd bf n s.1 = 0) (hb1 : s.2.1 1 ≤ 3) : MX γ l yX6_lettersHere cX6_lettersHere 4 (some .int) 0 0 0 0 [.ref o] (th o u) sz (RI (th o u) sz (nI (letS bf n (s.2.1 1) s.1))) NX := by
  refine mx_start hG (by decide) (Nat.le_of_ble_eq_true rfl) (fun x C => ?_)
  have hn5 := hp.1.2.1
  have han := hp.2.2.2.2.2
  have hel := en_le (bf := bf) han
  have key : ∀ f k set, en bf n s.1 + 1 ≤ k + f → s.1 ≤ k → set < 8 → ltF bf (s.2.1 1) (en bf n s.1) f k set = letS bf n (s.2.1 1) s.1 → k ≤ en bf n s.1 → AW γ l x (QX γ x 0 0 (RI (th o u) sz (nI (letS bf n (s.2.1 1) s.1))) NX) 4 (th o u) sz 0 0 7 [(0, .ref o), (1, .int (nI set)), (2, .int (nI k))] [] := by
    intro f
    induction f with
    | zero => intro k set h2 h1 hs8 hl hke; exact absurd h2 (by omega)
    | succ f ih =>
      intro k set h2 h1 hs8 hl hke
      refine aw_iload_n C rfl rfl dX6_lettersHere_7 ?_
      refine aw_aload_n C rfl rfl dX6_lettersHere_8 ?_
      refine tw_get C 12 (by decide) q1830 rfl dX6_lettersHere_9 ?_
      refine aw_top (hp.2.2.1.2.1) ?_
      refine aw_icmpN_ge C (tgt := 58) (by omega) (by omega) dX6_lettersHere_12 (by decide) (fun gE => ?_) (fun gE => ?_)
      · refine aw_iload_n C rfl rfl dX6_lettersHere_58 ?_
        refine aw_iret C rfl dX6_lettersHere_59 (Nat.le_refl _) (Nat.le_refl _) ?_
        refine ⟨?_, rfl, rfl⟩
        rw [← hl, ltF, if_pos (by omega)]
      · have hlt := word_let hk0 h1 (show k < en bf n s.1 by omega)
        have hl2 := of_decide_eq_true hlt
        refine aw_aload_n C rfl rfl dX6_lettersHere_15 ?_
        refine tw_get C 8 (by decide) q1826 rfl dX6_lettersHere_16 ?_
        refine aw_iload_n C rfl rfl dX6_lettersHere_19 ?_
        refine tw_ld8 C (by omega) dX6_lettersHere_20 ?_
        refine aw_top (hp.1.2.2 k (by omega)).1 ?_
        rw [ltF, if_neg (show ¬ en bf n s.1 ≤ k by omega)] at hl
        refine aw_bipush C (v := nI 97) (by decide) dX6_lettersHere_21 ?_
        refine aw_isubN C (by omega) dX6_lettersHere_23 ?_
        refine aw_istore_n C rfl (by decide) rfl dX6_lettersHere_24 ?_
        refine aw_iload_n C rfl rfl dX6_lettersHere_25 ?_
        refine aw_aload_n C rfl rfl dX6_lettersHere_26 ?_
        refine tw_get C 0 (by decide) q1818 rfl dX6_lettersHere_27 ?_
        refine aw_iconst C (v := nI 1) (by decide) dX6_lettersHere_30 ?_
        refine tw_ld0 C (by omega) dX6_lettersHere_31 ?_
        refine aw_top ((hp.2.1 _)) ?_
        refine aw_icmpN_ge C (tgt := 44) (by omega) (by omega) dX6_lettersHere_32 (by decide) (fun gC => ?_) (fun gC => ?_)
        · refine aw_iconst C (v := nI 0) (by decide) dX6_lettersHere_44 ?_
          refine aw_iret C rfl dX6_lettersHere_45 (Nat.le_refl _) (Nat.le_refl _) ?_
          refine ⟨?_, rfl, rfl⟩
          first
            | (rw [← hl, if_pos (Or.inl gC)]; done)
            | (rw [← hl, if_pos (Or.inr gB)]; done)
        · refine aw_iload_n C rfl rfl dX6_lettersHere_35 ?_
          refine aw_iload_n C rfl rfl dX6_lettersHere_36 ?_
          refine aw_ishrN C (by omega) (by omega) dX6_lettersHere_37 ?_
          refine aw_iconst C (v := nI 1) (by decide) dX6_lettersHere_38 ?_
          refine aw_iandBit C dX6_lettersHere_39 ?_
          refine aw_iconst C (v := nI 1) (by decide) dX6_lettersHere_40 ?_
          refine aw_bit_ne1 C (tgt := 46) dX6_lettersHere_41 (by decide) (fun gB => ?_) (fun gB => ?_)
          · have ho8 := nb_lt_or (m := 3) (a := set) (b := 1 <<< (bf.getD k 0 - 97)) hs8 (sh1_lt (m := 3) (by omega))
            refine aw_iload_n C rfl rfl dX6_lettersHere_46 ?_
            refine aw_iconst C (v := nI 1) (by decide) dX6_lettersHere_47 ?_
            refine aw_iload_n C rfl rfl dX6_lettersHere_48 ?_
            refine aw_ishlN C (by omega) dX6_lettersHere_49 ?_
            refine aw_iorN C dX6_lettersHere_50 ?_
            refine aw_istore_n C rfl (by decide) rfl dX6_lettersHere_51 ?_
            refine aw_iinc1 C rfl (by decide) rfl dX6_lettersHere_52 ?_
            refine aw_goto C (tgt := 7) dX6_lettersHere_55 (by decide) ?_
            exact aw_lo (ih (k + 1) _ (by omega) (by omega) ho8 (by rw [← hl, if_neg (fun z => z.elim (fun z => by omega) (fun z => by rw [gB] at z; exact absurd z (by decide)))]) (by omega)) ⟨rfl, rfl, rfl, trivial⟩
          · refine aw_iconst C (v := nI 0) (by decide) dX6_lettersHere_44 ?_
            refine aw_iret C rfl dX6_lettersHere_45 (Nat.le_refl _) (Nat.le_refl _) ?_
            refine ⟨?_, rfl, rfl⟩
            first
              | (rw [← hl, if_pos (Or.inl gC)]; done)
              | (rw [← hl, if_pos (Or.inr gB)]; done)
  refine aw_iconst C (v := nI 0) (by decide) dX6_lettersHere_0 ?_
  refine aw_istore_n C rfl (by decide) rfl dX6_lettersHere_1 ?_
  refine aw_aload_n C rfl rfl dX6_lettersHere_2 ?_
  refine tw_get C 11 (by decide) q1829 rfl dX6_lettersHere_3 ?_
  refine aw_top (hp.2.2.1.1) ?_
  refine aw_istore_n C rfl (by decide) rfl dX6_lettersHere_6 ?_
  exact aw_lo (key 501 s.1 0 (by omega) (Nat.le_refl _) (by decide) rfl hel.1) ⟨rfl, rfl, rfl, trivial⟩
set_option maxRecDepth 100000 in
theorem t6_colouringsNext {γ : Gm} (hG : GF γ) (l : Launch) (o sz : Nat) (u : TU) {b : Nat → Nat} (hu : BD u b) (h0 : b 0 ≤ 9) : MX γ l yX6_colouringsNext cX6_colouringsNext 3 (some .int) 0 0 0 0 [.ref o] (th o u) sz (RI (th o u) sz (nI ((b 1 + 1) ^ (b 0 + 1)))) NX := by
  refine mx_start hG (by decide) (Nat.le_of_ble_eq_true rfl) (fun x C => ?_)
  have key : ∀ j k m, k ≤ b 0 + 1 → b 0 + 2 ≤ k + j → m = (b 1 + 1) ^ k → AW γ l x (QX γ x 0 0 (RI (th o u) sz (nI ((b 1 + 1) ^ (b 0 + 1)))) NX) 3 (th o u) sz 0 0 4 [(0, .ref o), (1, .int (nI m)), (2, .int (nI k))] [] := by
    intro j
    induction j with
    | zero => intro k m h1 h2 hm; exact absurd h2 (by omega)
    | succ j ih =>
      intro k m h1 h2 hm
      refine aw_iload_n C rfl rfl dX6_colouringsNext_4 ?_
      refine aw_aload_n C rfl rfl dX6_colouringsNext_5 ?_
      refine tw_get C 0 (by decide) q1818 rfl dX6_colouringsNext_6 ?_
      refine aw_iconst C (v := nI 0) (by decide) dX6_colouringsNext_9 ?_
      refine tw_ld0 C (by omega) dX6_colouringsNext_10 ?_
      refine aw_top ((hu _)) ?_
      refine aw_icmpN_gt C (tgt := 31) (by omega) (by omega) dX6_colouringsNext_11 (by decide) (fun gN => ?_) (fun gN => ?_)
      · refine aw_iload_n C rfl rfl dX6_colouringsNext_31 ?_
        exact aw_iret C rfl dX6_colouringsNext_32 (Nat.le_refl _) (Nat.le_refl _) ⟨by rw [hm, show k = b 0 + 1 by omega], rfl, rfl⟩
      · refine aw_iload_n C rfl rfl dX6_colouringsNext_14 ?_
        refine aw_aload_n C rfl rfl dX6_colouringsNext_15 ?_
        refine tw_get C 0 (by decide) q1818 rfl dX6_colouringsNext_16 ?_
        refine aw_iconst C (v := nI 1) (by decide) dX6_colouringsNext_19 ?_
        refine tw_ld0 C (by omega) dX6_colouringsNext_20 ?_
        refine aw_top ((hu _)) ?_
        refine aw_iconst C (v := nI 1) (by decide) dX6_colouringsNext_21 ?_
        refine aw_iaddN C dX6_colouringsNext_22 ?_
        refine aw_imulN C dX6_colouringsNext_23 ?_
        refine aw_istore_n C rfl (by decide) rfl dX6_colouringsNext_24 ?_
        refine aw_iinc1 C rfl (by decide) rfl dX6_colouringsNext_25 ?_
        refine aw_goto C (tgt := 4) dX6_colouringsNext_28 (by decide) ?_
        exact aw_lo (ih (k + 1) _ (by omega) (by omega) (by rw [Nat.pow_succ, hm])) ⟨rfl, rfl, rfl, trivial⟩
  refine aw_iconst C (v := nI 1) (by decide) dX6_colouringsNext_0 ?_
  refine aw_istore_n C rfl (by decide) rfl dX6_colouringsNext_1 ?_
  refine aw_iconst C (v := nI 0) (by decide) dX6_colouringsNext_2 ?_
  refine aw_istore_n C rfl (by decide) rfl dX6_colouringsNext_3 ?_
  exact aw_lo (key (b 0 + 2) 0 1 (Nat.zero_le _) (by omega) rfl) ⟨rfl, rfl, rfl, trivial⟩
