/-! the twin: reading calls, on -/
theorem mean_ne0 : ∀ n, n < 10 → 0 < n → ∀ s, s < 280 → (FP.fdiv (FP.i2f (nI s)) (FP.i2f (nI n))) &&& 0x7fffffff ≤ 0x7f800000 := by decide +kernel
theorem mean_ne {n s : Nat} (h : n < 10) (h0 : 0 < n) (hs : s < 280) : vf_n32 (FP.fdiv (FP.i2f (nI s)) (FP.i2f (nI n))) := mean_ne0 n h h0 s hs
/-- a float's answer -/
def PF (o sz : Nat) (r : UInt32) (s : SS) : Option Value → AH → Nat → Prop := fun v h' sz' => sz' = sz ∧ ∃ u', v = some (.float r) ∧ h' = th o u' ∧ u'.1 7 = nI 0 ∧ TS u' s
theorem isM_ex {v : Int32} {n : Nat} (hn : n ≤ 4096) (h : isI v (nI 0) (nI n - nI 1) = true) : ∃ k, v = nI k ∧ k < n := by
  rcases Nat.eq_zero_or_pos n with e | e
  · subst e
    obtain ⟨h1, h2⟩ := of_decide_eq_true h
    have h3 := Int32.le_trans h1 h2
    exact absurd h3 (by decide)
  · rw [pk_sub (by omega)] at h
    obtain ⟨k, h1, h2, h3⟩ := isI_ex (lo := 0) (hi := n - 1) (by omega) (by omega) h
    exact ⟨k, h1, by omega⟩
theorem isM_n {k n : Nat} (hn : n ≤ 4096) (h : k < n) : isI (nI k) (nI 0) (nI n - nI 1) = true := by
  rw [pk_sub (by omega)]
  exact isI_n (by omega) (Nat.zero_le _) (by omega)

theorem ct_eq {x w : Nat} : cts x w = true ↔ (w = 1 ∧ x >>> 1 &&& 15 = 0) ∨ (w ≠ 1 ∧ ¬ x >>> 1 &&& 15 = 0 ∧ (w = 0 ∨ (w = 2 ∧ 1 < x >>> 11) ∨ (w = 3 ∧ x >>> 11 = 0))) := by
  unfold cts
  split <;> simp [*, or_assoc]
set_option maxRecDepth 100000 in
theorem t6_meanValue {γ : Gm} (hG : GF γ) (l : Launch) (o sz : Nat) (u : TU) {b : BT} {ks : List BT} {sl : Nat → Option BT} {bf : List Nat} {ea : Int32} {wr : List Nat} (hu : BD u b) (hA : WA b) (hT : TO u ks sl bf ea wr)  : MX γ l yX6_meanValue cX6_meanValue 4 (some .float) 23 772 0 0 [.ref o] (th o u) sz (PF o sz (meanF b) (b, ks, sl, bf, ea, wr)) NX := by
  refine mx_start hG (by decide) (Nat.le_of_ble_eq_true rfl) (fun x C => ?_)
  have hW := hA.w
  have hN := hW.2.1
  have hC3 := hW.2.2.2.1
  have hL9 := hA.l
  have hF := freeS_lt hN
  have hnp := npts_le (b := b) hF
  have key : ∀ j k s u1, k ≤ npts b (freeS b) → npts b (freeS b) + 1 ≤ k + j → s = meanS b k → BD u1 b → KT u1 b → TO u1 ks sl bf ea wr → u1.1 7 = nI 0 → AW γ l x (QX γ x 0 0 (PF o sz (meanF b) (b, ks, sl, bf, ea, wr)) NX) 4 (th o u1) sz 0 0 22 [(0, .ref o), (1, .int (nI (npts b (freeS b)))), (2, .int (nI s)), (3, .int (nI k))] [] := by
    intro j
    induction j with
    | zero => intro k s u1 h1 h2 hs hu hkt hT h7; exact absurd h2 (by omega)
    | succ j ih =>
      intro k s u1 h1 h2 hs hu hkt hT h7
      have hsb : s ≤ k * 31 := by rw [hs]; exact sumF_leN (N := npts b (freeS b)) (fun i hi => by have := (G_gb hA.s hW (part := partS b i) (partS_form hN (by have := partS_pos hN hi; omega)).1.1 (b (31 + low (partS b i)))).1; omega) k h1
      refine aw_iload_n C rfl rfl dX6_meanValue_22 ?_
      refine aw_iload_n C rfl rfl dX6_meanValue_23 ?_
      refine aw_icmpN_ge C (tgt := 60) (by omega) (by omega) dX6_meanValue_24 (by decide) (fun gN => ?_) (fun gN => ?_)
      · have hke : k = npts b (freeS b) := by omega
        refine aw_iload_n C rfl rfl dX6_meanValue_60 ?_
        refine aw_ifN_ne C (tgt := 68) (by omega) dX6_meanValue_61 (by decide) (fun g0 => ?_) (fun g0 => ?_)
        · refine aw_iload_n C rfl rfl dX6_meanValue_68 ?_
          refine aw_i2f C dX6_meanValue_69 ?_
          refine aw_iload_n C rfl rfl dX6_meanValue_70 ?_
          refine aw_i2f C dX6_meanValue_71 ?_
          refine aw_fdiv C (mean_ne (by omega) (by omega) (by omega)) dX6_meanValue_72 ?_
          refine aw_fret C rfl dX6_meanValue_73 (Nat.le_refl _) (Nat.le_refl _) ?_
          refine ⟨rfl, _, ?_, rfl, h7, hu, hA, hT⟩
          unfold meanF
          first
            | (rw [if_pos (by omega)]; done)
            | (rw [if_neg (by omega), hs, hke]; done)
        · refine aw_fconst0 C dX6_meanValue_64 ?_
          refine aw_goto C (tgt := 73) dX6_meanValue_65 (by decide) ?_
          refine aw_fret C rfl dX6_meanValue_73 (Nat.le_refl _) (Nat.le_refl _) ?_
          refine ⟨rfl, _, ?_, rfl, h7, hu, hA, hT⟩
          unfold meanF
          first
            | (rw [if_pos (by omega)]; done)
            | (rw [if_neg (by omega), hs, hke]; done)
      · have hpp := partS_pos hN (k := k) (by omega)
        obtain ⟨hvd, hp9, _⟩ := partS_form hN (k := k) (by omega)
        have hl9 := (low_bit (partS b k) hp9 hpp).2.1
        refine aw_iload_n C rfl rfl dX6_meanValue_27 ?_
        refine aw_aload_n C rfl rfl dX6_meanValue_28 ?_
        refine aw_aload_n C rfl rfl dX6_meanValue_29 ?_
        refine aw_iload_n C rfl rfl dX6_meanValue_30 ?_
        refine tw_callR C (t6_partSet hG l o sz _ hu hW (by omega)) q2090 q2092 qs78 q120 q2093 (n9 := 1) (by decide +kernel) rfl (Nat.le_of_ble_eq_true rfl) (Nat.le_of_ble_eq_true rfl) (Nat.zero_le _) (Nat.zero_le _) rfl (Nat.le_of_ble_eq_true rfl) dX6_meanValue_31 ?_
        refine aw_aload_n C rfl rfl dX6_meanValue_34 ?_
        refine aw_aload_n C rfl rfl dX6_meanValue_35 ?_
        refine aw_iload_n C rfl rfl dX6_meanValue_36 ?_
        refine tw_callR C (t6_partSet hG l o sz _ hu hW (by omega)) q2090 q2092 qs78 q120 q2093 (n9 := 1) (by decide +kernel) rfl (Nat.le_of_ble_eq_true rfl) (Nat.le_of_ble_eq_true rfl) (Nat.zero_le _) (Nat.zero_le _) rfl (Nat.le_of_ble_eq_true rfl) dX6_meanValue_37 ?_
        refine tw_callSR C (t6_lowest hG l o sz _ (by omega) (by omega)) q2019 q2020 q120 q2021 (n9 := 1) (by decide +kernel) rfl (Nat.le_of_ble_eq_true rfl) (Nat.le_of_ble_eq_true rfl) (Nat.zero_le _) (Nat.zero_le _) rfl (Nat.le_of_ble_eq_true rfl) dX6_meanValue_40 ?_
        refine tw_callR C (t6_banOf hG l o sz _ hu (by omega)) q2000 q2002 qs62 q120 q2003 (n9 := 1) (by decide +kernel) rfl (Nat.le_of_ble_eq_true rfl) (Nat.le_of_ble_eq_true rfl) (Nat.zero_le _) (Nat.zero_le _) rfl (Nat.le_of_ble_eq_true rfl) dX6_meanValue_43 ?_
        refine tw_callI C (t6_knownOf hG l o sz _ hu hW hA.p hA.s hvd hpp (hW.2.2.2.2.2.2.2 _ hl9) hkt) q2106 q2108 qs82 q120 q2109 (n9 := 2) (by decide +kernel) rfl (Nat.le_of_ble_eq_true rfl) (Nat.le_of_ble_eq_true rfl) (Nat.zero_le _) (Nat.zero_le _) rfl (Nat.le_of_ble_eq_true rfl) dX6_meanValue_46 (fun r u2 hp => ?_)
        obtain ⟨rfl, hk2, hkt⟩ := hp
        have hu := hk2.bd hu
        have hj2 := hk2.tj
        have hT := hT.j2 hj2.two
        have h7 := hj2.th.trans h7
        obtain ⟨hi1, hi2, hi3⟩ := G_gb hA.s hW hvd.1 (b (31 + low (partS b k)))
        have hel := enc_lt (i := G b (partS b k) (b (31 + low (partS b k)))) hi1 (by omega) (by omega)
        refine aw_bipush C (v := nI 31) (by decide) dX6_meanValue_49 ?_
        refine aw_iandN C dX6_meanValue_51 ?_
        refine aw_top (show _ = nI (G b (partS b k) (b (31 + low (partS b k)))).1 from by rw [enc_v hi1 (by omega)]) ?_
        refine aw_iaddN C dX6_meanValue_52 ?_
        refine aw_istore_n C rfl (by decide) rfl dX6_meanValue_53 ?_
        refine aw_iinc1 C rfl (by decide) rfl dX6_meanValue_54 ?_
        refine aw_goto C (tgt := 22) dX6_meanValue_57 (by decide) ?_
        exact aw_lo (ih (k + 1) _ _ (by omega) (by omega) (by rw [meanS, sumF, hs]; rfl) hu hkt hT h7) ⟨rfl, rfl, rfl, rfl, trivial⟩
  refine aw_aload_n C rfl rfl dX6_meanValue_0 ?_
  refine aw_iconst C (v := nI 0) (by decide) dX6_meanValue_1 ?_
  refine tw_put C 7 (by decide) q1825 rfl rfl rfl dX6_meanValue_2 ?_
  have hT := to_put7 hT (nI 0)
  have hu := bd_tsf hu 7 (nI 0)
  have h7 : (tsf u 7 (nI 0)).1 7 = nI 0 := tsf_at _ _ _
  refine aw_aload_n C rfl rfl dX6_meanValue_5 ?_
  refine tw_callV C (t6_forgets hG l o sz _) q2102 q2104 qs81 q120 q2105 (n9 := 0) (by decide +kernel) rfl (Nat.le_of_ble_eq_true rfl) (Nat.le_of_ble_eq_true rfl) (Nat.zero_le _) (Nat.zero_le _) rfl (Nat.le_of_ble_eq_true rfl) dX6_meanValue_6 (fun u2 hp => ?_)
  obtain ⟨g, hgu, hg⟩ := hp
  have hkt : KT u2 b := kt_none (by rw [hgu]; exact hg) hA.p
  have hu : BD u2 b := bd_of hu (by rw [hgu]; rfl)
  have hj3 := fg_tj hgu
  have hT := hT.j2 hj3.two
  have h7 := hj3.th.trans h7
  refine aw_aload_n C rfl rfl dX6_meanValue_9 ?_
  refine aw_aload_n C rfl rfl dX6_meanValue_10 ?_
  refine tw_callR C (t6_freeSet hG l o sz _ hu hW) q1992 q1994 qs60 q120 q1995 (n9 := 0) (by decide +kernel) rfl (Nat.le_of_ble_eq_true rfl) (Nat.le_of_ble_eq_true rfl) (Nat.zero_le _) (Nat.zero_le _) rfl (Nat.le_of_ble_eq_true rfl) dX6_meanValue_11 ?_
  refine tw_callR C (t6_partsIn hG l o sz _ hu hW (by omega)) q2015 q2017 qs65 q120 q2018 (n9 := 1) (by decide +kernel) rfl (Nat.le_of_ble_eq_true rfl) (Nat.le_of_ble_eq_true rfl) (Nat.zero_le _) (Nat.zero_le _) rfl (Nat.le_of_ble_eq_true rfl) dX6_meanValue_14 ?_
  refine aw_istore_n C rfl (by decide) rfl dX6_meanValue_17 ?_
  refine aw_iconst C (v := nI 0) (by decide) dX6_meanValue_18 ?_
  refine aw_istore_n C rfl (by decide) rfl dX6_meanValue_19 ?_
  refine aw_iconst C (v := nI 0) (by decide) dX6_meanValue_20 ?_
  refine aw_istore_n C rfl (by decide) rfl dX6_meanValue_21 ?_
  exact aw_lo (key (npts b (freeS b) + 1) 0 0 _ (Nat.zero_le _) (by omega) rfl hu hkt hT h7) ⟨rfl, rfl, rfl, rfl, trivial⟩
set_option maxRecDepth 100000 in
theorem t6_valueWithout {γ : Gm} (hG : GF γ) (l : Launch) (o sz : Nat) (u : TU) {b : BT} {ks : List BT} {sl : Nat → Option BT} {bf : List Nat} {ea : Int32} {wr : List Nat} (hu : BD u b) (hA : WA b) (hT : TO u ks sl bf ea wr) (v : Int32) : MX γ l yX6_valueWithout cX6_valueWithout 7 (some .int) 25 819 0 0 [.ref o, .int v] (th o u) sz (PS o sz (spVw b v, (b, ks, sl, bf, ea, wr))) NX := by
  refine mx_start hG (by decide) (Nat.le_of_ble_eq_true rfl) (fun x C => ?_)
  have hW := hA.w
  have hN := hW.2.1
  have hC3 := hW.2.2.2.1
  have hL9 := hA.l
  have hF := freeS_lt hN
  refine aw_aload_n C rfl rfl dX6_valueWithout_0 ?_
  refine aw_aload_n C rfl rfl dX6_valueWithout_1 ?_
  refine aw_iload_n C rfl rfl dX6_valueWithout_2 ?_
  refine tw_callR C (t6_isVertex hG l o sz _ hu _ hW.1) q2070 q2072 qs75 q120 q2073 (n9 := 1) (by decide +kernel) rfl (Nat.le_of_ble_eq_true rfl) (Nat.le_of_ble_eq_true rfl) (Nat.zero_le _) (Nat.zero_le _) rfl (Nat.le_of_ble_eq_true rfl) dX6_valueWithout_3 ?_
  refine aw_bit_ne0 C (tgt := 13) dX6_valueWithout_6 (by decide) (fun gV => ?_) (fun gV => ?_)
  · obtain ⟨v1, rfl, hv⟩ := isV_ex hN hW.1 gV
    have hV := isV_n hN hv
    have e1 := nt_n (k := v1) (by omega)
    refine aw_aload_n C rfl rfl dX6_valueWithout_13 ?_
    refine aw_iload_n C rfl rfl dX6_valueWithout_14 ?_
    refine tw_callR C (t6_isFree hG l o sz _ hu (by omega) (hW.o3 (by omega))) q1976 q1978 qs56 q120 q1979 (n9 := 1) (by decide +kernel) rfl (Nat.le_of_ble_eq_true rfl) (Nat.le_of_ble_eq_true rfl) (Nat.zero_le _) (Nat.zero_le _) rfl (Nat.le_of_ble_eq_true rfl) dX6_valueWithout_15 ?_
    refine aw_bit_eq0 C (tgt := 25) dX6_valueWithout_18 (by decide) (fun gF => ?_) (fun gF => ?_)
    · refine aw_iconst C (v := nI 2) (by decide) dX6_valueWithout_25 ?_
      refine tw_put C 7 (by decide) q1825 rfl rfl rfl dX6_valueWithout_26 ?_
      refine aw_aload_n C rfl rfl dX6_valueWithout_29 ?_
      refine tw_get C 7 (by decide) q1825 rfl dX6_valueWithout_30 ?_
      refine aw_top (tsf_at _ _ _) ?_
      refine aw_if_le C (tgt := 38) dX6_valueWithout_33 (by decide) (fun g1 => ?_) (fun g1 => ?_)
      · first | exact absurd g1 (by decide) | exact absurd (by decide) g1
      · refine aw_iconst C (v := nI 0) (by decide) dX6_valueWithout_36 ?_
        refine aw_iret C rfl dX6_valueWithout_37 (Nat.le_refl _) (Nat.le_refl _) ?_
        unfold spVw
        first
          | (rw [if_pos (show isV b v = false from gV)]; exact ⟨rfl, _, _, rfl, rfl, tsf_at _ _ _, rfl, hu, hA, to_put7 hT _⟩)
          | (rw [e1, if_neg (by rw [hV]; decide), if_pos (show fr b v1 = false from gF)]; exact ⟨rfl, _, _, rfl, rfl, tsf_at _ _ _, rfl, hu, hA, to_put7 hT _⟩)
    · refine aw_iconst C (v := nI 0) (by decide) dX6_valueWithout_21 ?_
      refine aw_goto C (tgt := 26) dX6_valueWithout_22 (by decide) ?_
      refine tw_put C 7 (by decide) q1825 rfl rfl rfl dX6_valueWithout_26 ?_
      refine aw_aload_n C rfl rfl dX6_valueWithout_29 ?_
      refine tw_get C 7 (by decide) q1825 rfl dX6_valueWithout_30 ?_
      refine aw_top (tsf_at _ _ _) ?_
      refine aw_if_le C (tgt := 38) dX6_valueWithout_33 (by decide) (fun g2 => ?_) (fun g2 => ?_)
      · have hF1 : fr b v1 = true := gF
        have hr9 := rch_lt (b := b) (v := v1) (by omega) hF
        have hnd := nd_lt (c := 1 <<< v1) hr9
        have hvd : Vd b (rch b v1 (freeS b)) := vd_rch (vd_free b) hN (by rw [freeS_bit]; simp [hv, hF1])
        have hbm := hW.2.2.2.2.2.2.2 v1 (by omega)
        have hn9 := hW.n9 (v := v1) (by omega)
        have key2 : ∀ j k u1, k ≤ b 0 → b 0 + 1 ≤ k + j → BD u1 (bakB b v1 k) → TO u1 ks sl bf ea wr → u1.1 7 = nI 0 → AW γ l x (QX γ x 0 0 (PS o sz (spVw b (nI v1), (b, ks, sl, bf, ea, wr))) NX) 7 (th o u1) sz 0 0 174 [(0, .ref o), (1, .int (nI v1)), (2, .int (nI (b (13 + v1)))), (3, .int (nI (valW b v1))), (4, .int (nI (b (31 + v1)) - nI 1)), (5, .int (nI (rch b v1 (freeS b)))), (6, .int (nI k))] [] := by
          intro j
          induction j with
          | zero => intro k u1 h1 h2 hu hT h7; exact absurd h2 (by omega)
          | succ j ih =>
            intro k u1 h1 h2 hu hT h7
            have e0 : bakB b v1 k 0 = b 0 := by unfold bakB; rw [if_neg (by omega), remW_n b hN hv (by omega)]
            refine aw_iload C rfl dX6_valueWithout_174 ?_
            refine aw_aload_n C rfl rfl dX6_valueWithout_176 ?_
            refine tw_get C 0 (by decide) q1818 rfl dX6_valueWithout_177 ?_
            refine aw_iconst C (v := nI 0) (by decide) dX6_valueWithout_180 ?_
            refine tw_ld0 C (by omega) dX6_valueWithout_181 ?_
            refine aw_top ((hu _)) ?_
            refine aw_top (congrArg nI e0) ?_
            refine aw_icmpN_ge C (tgt := 212) (by omega) (by omega) dX6_valueWithout_182 (by decide) (fun gN => ?_) (fun gN => ?_)
            · refine aw_iload_n C rfl rfl dX6_valueWithout_212 ?_
              refine aw_iret C rfl dX6_valueWithout_213 (Nat.le_refl _) (Nat.le_refl _) ?_
              unfold spVw
              rw [e1, if_neg (by rw [hV]; decide), if_neg (by rw [hF1]; decide)]
              exact ⟨rfl, _, _, rfl, rfl, h7, rfl, bd_eq hu (fun j => by rw [show k = b 0 by omega, bakB_e b hN hv]), hA, hT⟩
            · refine aw_aload_n C rfl rfl dX6_valueWithout_185 ?_
              refine tw_get C 0 (by decide) q1818 rfl dX6_valueWithout_186 ?_
              refine aw_bipush C (v := nI 13) (by decide) dX6_valueWithout_189 ?_
              refine aw_iload C rfl dX6_valueWithout_191 ?_
              refine aw_iaddN C dX6_valueWithout_193 ?_
              refine aw_dup2 C rfl rfl dX6_valueWithout_194 ?_
              refine tw_ld0 C (by omega) dX6_valueWithout_195 ?_
              refine aw_top ((hu _)) ?_
              refine aw_iload_n C rfl rfl dX6_valueWithout_196 ?_
              refine aw_iload C rfl dX6_valueWithout_197 ?_
              refine aw_ishrN C (by omega) (by omega) dX6_valueWithout_199 ?_
              refine aw_iconst C (v := nI 1) (by decide) dX6_valueWithout_200 ?_
              refine aw_iandBit C dX6_valueWithout_201 ?_
              refine aw_iload_n C rfl rfl dX6_valueWithout_202 ?_
              refine aw_ishlN C (by omega) dX6_valueWithout_203 ?_
              refine aw_iorN C dX6_valueWithout_204 ?_
              have hko := bak_or hA.s (v := v1) (k := k) hv (by omega)
              refine aw_top (congrArg nI hko) ?_
              refine tw_st0 C (by omega) dX6_valueWithout_205 ?_
              have hu := bd_upd hu (13 + k) (b (13 + k))
              rw [bakB_s] at hu
              refine aw_iinc1 C rfl (by decide) rfl dX6_valueWithout_206 ?_
              refine aw_goto C (tgt := 174) dX6_valueWithout_209 (by decide) ?_
              exact aw_lo (ih (k + 1) _ (by omega) (by omega) hu (hT.j2 (tj_up _ (by omega)).two) h7) ⟨rfl, rfl, rfl, rfl, rfl, rfl, rfl, trivial⟩
        have key1 : ∀ j k u1, k ≤ b 0 → b 0 + 1 ≤ k + j → BD u1 (remB b v1 k) → (∀ i, i < 80000 → u1.2 18 i = -1) → TO u1 ks sl bf ea wr → u1.1 7 = nI 0 → AW γ l x (QX γ x 0 0 (PS o sz (spVw b (nI v1), (b, ks, sl, bf, ea, wr))) NX) 7 (th o u1) sz 0 0 96 [(0, .ref o), (1, .int (nI v1)), (2, .int (nI (b (13 + v1)))), (3, .int (nI (((BB b).1 ^^^ b 2 % 2) ^^^ (G b (rch b v1 (freeS b)) (b (31 + v1))).1))), (4, .int (nI (b (31 + v1)) - nI 1)), (5, .int (nI (rch b v1 (freeS b)))), (6, .int (nI k))] [] := by
          intro j
          induction j with
          | zero => intro k u1 h1 h2 hu h18 hT h7; exact absurd h2 (by omega)
          | succ j ih =>
            intro k u1 h1 h2 hu h18 hT h7
            have e0 : remB b v1 k 0 = b 0 := remB_n _ _ _ (by omega)
            have ek : remB b v1 k (13 + k) = b (13 + k) := remB_n _ _ _ (by omega)
            refine aw_iload C rfl dX6_valueWithout_96 ?_
            refine aw_aload_n C rfl rfl dX6_valueWithout_98 ?_
            refine tw_get C 0 (by decide) q1818 rfl dX6_valueWithout_99 ?_
            refine aw_iconst C (v := nI 0) (by decide) dX6_valueWithout_102 ?_
            refine tw_ld0 C (by omega) dX6_valueWithout_103 ?_
            refine aw_top ((hu _)) ?_
            refine aw_top (congrArg nI e0) ?_
            refine aw_icmpN_ge C (tgt := 131) (by omega) (by omega) dX6_valueWithout_104 (by decide) (fun gN => ?_) (fun gN => ?_)
            · have hke : k = b 0 := by omega
              subst hke
              refine aw_aload_n C rfl rfl dX6_valueWithout_131 ?_
              refine tw_get C 0 (by decide) q1818 rfl dX6_valueWithout_132 ?_
              refine aw_bipush C (v := nI 13) (by decide) dX6_valueWithout_135 ?_
              refine aw_iload_n C rfl rfl dX6_valueWithout_137 ?_
              refine aw_iaddN C dX6_valueWithout_138 ?_
              refine aw_iconst C (v := nI 0) (by decide) dX6_valueWithout_139 ?_
              refine tw_st0 C (by omega) dX6_valueWithout_140 ?_
              have hu : BD (tsa u1 0 (upd (u1.2 0) (13 + v1) (nI 0))) (remW b v1) := bd_upd hu (13 + v1) 0
              obtain ⟨w1, w2, w3⟩ := wa_rem hA hv
              have w4 := vd_rem hA hv hF1
              have w5 := remW_n b hN hv (k := 1) (by omega)
              have hkt := kt_none (u := tsa u1 0 (upd (u1.2 0) (13 + v1) (nI 0))) (b := remW b v1) h18 w2
              have hT := hT.j2 (tj_up (u := u1) (i := 0) (upd (u1.2 0) (13 + v1) (nI 0)) (by omega)).two
              refine aw_iload_n C rfl rfl dX6_valueWithout_141 ?_
              refine aw_aload_n C rfl rfl dX6_valueWithout_142 ?_
              refine aw_iload C rfl dX6_valueWithout_143 ?_
              refine aw_iconst C (v := nI 1) (by decide) dX6_valueWithout_145 ?_
              refine aw_iload_n C rfl rfl dX6_valueWithout_146 ?_
              refine aw_ishlN C (by omega) dX6_valueWithout_147 ?_
              refine aw_iconst C (v := -1) (by decide) dX6_valueWithout_148 ?_
              refine aw_ixor C dX6_valueWithout_149 ?_
              refine aw_iandNot C dX6_valueWithout_150 ?_
              refine aw_iload C rfl dX6_valueWithout_151 ?_
              refine tw_callI C (tg_of hG l o sz 9 (ko_all hG l o sz 9) _ (remW b v1) (nd (rch b v1 (freeS b)) (1 <<< v1)) (b (31 + v1)) hu w1 w2 w3 w4 (pop_le _ hnd) (by rw [w5]; exact hbm) hkt) q2114 q2116 qs84 q120 q2117 (n9 := 2) (by decide +kernel) rfl (Nat.le_of_ble_eq_true rfl) (Nat.le_of_ble_eq_true rfl) (Nat.zero_le _) (Nat.zero_le _) rfl (Nat.le_of_ble_eq_true rfl) dX6_valueWithout_153 (fun r u2 hp => ?_)
              obtain ⟨rfl, hk2, hkt⟩ := hp
              have hu := hk2.bd hu
              have hj2 := hk2.tj
              have hT := hT.j2 hj2.two
              have h7 := hj2.th.trans h7
              obtain ⟨t1, t2, t3⟩ := tog_gb w3 w1 w4.1 (b (31 + v1))
              have tp := pop_le _ hnd
              have tel := enc_lt (i := tog 9 (remW b v1) (nd (rch b v1 (freeS b)) (1 <<< v1)) (b (31 + v1))) t1 (by omega) (by omega)
              refine aw_bipush C (v := nI 31) (by decide) dX6_valueWithout_156 ?_
              refine aw_iandN C dX6_valueWithout_158 ?_
              refine aw_top (show _ = nI (tog 9 (remW b v1) (nd (rch b v1 (freeS b)) (1 <<< v1)) (b (31 + v1))).1 from by rw [enc_v t1 (by omega)]) ?_
              refine aw_ixorN C dX6_valueWithout_159 ?_
              refine aw_istore_n C rfl (by decide) rfl dX6_valueWithout_160 ?_
              refine aw_aload_n C rfl rfl dX6_valueWithout_161 ?_
              refine tw_get C 0 (by decide) q1818 rfl dX6_valueWithout_162 ?_
              refine aw_bipush C (v := nI 13) (by decide) dX6_valueWithout_165 ?_
              refine aw_iload_n C rfl rfl dX6_valueWithout_167 ?_
              refine aw_iaddN C dX6_valueWithout_168 ?_
              refine aw_iload_n C rfl rfl dX6_valueWithout_169 ?_
              refine tw_st0 C (by omega) dX6_valueWithout_170 ?_
              have hu := bd_upd hu (13 + v1) (b (13 + v1))
              rw [bakB_0] at hu
              refine aw_iconst C (v := nI 0) (by decide) dX6_valueWithout_171 ?_
              refine aw_istore C (by decide) rfl dX6_valueWithout_172 ?_
              exact aw_lo (key2 (b 0 + 1) 0 _ (Nat.zero_le _) (by omega) hu (hT.j2 (tj_up _ (by omega)).two) h7) ⟨rfl, rfl, rfl, rfl, rfl, rfl, rfl, trivial⟩
            · refine aw_aload_n C rfl rfl dX6_valueWithout_107 ?_
              refine tw_get C 0 (by decide) q1818 rfl dX6_valueWithout_108 ?_
              refine aw_bipush C (v := nI 13) (by decide) dX6_valueWithout_111 ?_
              refine aw_iload C rfl dX6_valueWithout_113 ?_
              refine aw_iaddN C dX6_valueWithout_115 ?_
              refine aw_dup2 C rfl rfl dX6_valueWithout_116 ?_
              refine tw_ld0 C (by omega) dX6_valueWithout_117 ?_
              refine aw_top ((hu _)) ?_
              refine aw_top (congrArg nI ek) ?_
              refine aw_iconst C (v := nI 1) (by decide) dX6_valueWithout_118 ?_
              refine aw_iload_n C rfl rfl dX6_valueWithout_119 ?_
              refine aw_ishlN C (by omega) dX6_valueWithout_120 ?_
              refine aw_iconst C (v := -1) (by decide) dX6_valueWithout_121 ?_
              refine aw_ixor C dX6_valueWithout_122 ?_
              refine aw_iandNot C dX6_valueWithout_123 ?_
              refine tw_st0 C (by omega) dX6_valueWithout_124 ?_
              have hu := bd_upd hu (13 + k) (nd (b (13 + k)) (1 <<< v1))
              rw [remB_s] at hu
              refine aw_iinc1 C rfl (by decide) rfl dX6_valueWithout_125 ?_
              refine aw_goto C (tgt := 96) dX6_valueWithout_128 (by decide) ?_
              exact aw_lo (ih (k + 1) _ (by omega) (by omega) hu h18 (hT.j2 (tj_up _ (by omega)).two) h7) ⟨rfl, rfl, rfl, rfl, rfl, rfl, rfl, trivial⟩
        have hT := to_put7 hT (nI 0)
        have hu := bd_tsf hu 7 (nI 0)
        have h7 : (tsf u 7 (nI 0)).1 7 = nI 0 := tsf_at _ _ _
        refine aw_aload_n C rfl rfl dX6_valueWithout_38 ?_
        refine tw_callV C (t6_forgets hG l o sz _) q2102 q2104 qs81 q120 q2105 (n9 := 0) (by decide +kernel) rfl (Nat.le_of_ble_eq_true rfl) (Nat.le_of_ble_eq_true rfl) (Nat.zero_le _) (Nat.zero_le _) rfl (Nat.le_of_ble_eq_true rfl) dX6_valueWithout_39 (fun u2 hp => ?_)
        obtain ⟨g, hgu, hg⟩ := hp
        have hkt : KT u2 b := kt_none (by rw [hgu]; exact hg) hA.p
        have hu : BD u2 b := bd_of hu (by rw [hgu]; rfl)
        have hj3 := fg_tj hgu
        have hT := hT.j2 hj3.two
        have h7 := hj3.th.trans h7
        refine aw_aload_n C rfl rfl dX6_valueWithout_42 ?_
        refine tw_get C 0 (by decide) q1818 rfl dX6_valueWithout_43 ?_
        refine aw_bipush C (v := nI 13) (by decide) dX6_valueWithout_46 ?_
        refine aw_iload_n C rfl rfl dX6_valueWithout_48 ?_
        refine aw_iaddN C dX6_valueWithout_49 ?_
        refine tw_ld0 C (by omega) dX6_valueWithout_50 ?_
        refine aw_top ((hu _)) ?_
        refine aw_istore_n C rfl (by decide) rfl dX6_valueWithout_51 ?_
        refine aw_aload_n C rfl rfl dX6_valueWithout_52 ?_
        refine tw_callI C (t6_valueNow hG l o sz _ hu hA hkt) q2122 q2124 qs85 q120 q2125 (n9 := 0) (by decide +kernel) rfl (Nat.le_of_ble_eq_true rfl) (Nat.le_of_ble_eq_true rfl) (Nat.zero_le _) (Nat.zero_le _) rfl (Nat.le_of_ble_eq_true rfl) dX6_valueWithout_53 (fun r u2 hp => ?_)
        obtain ⟨rfl, hj2, hu, hkt⟩ := hp
        have hT := hT.j2 hj2.two
        have h7 := hj2.th.trans h7
        have hbb := bb_gb hA.s hW
        have hbb1 := hbb.1
        have hvn : (BB b).1 ^^^ b 2 % 2 < 32 := xor_lt32 hbb1 (by omega)
        refine aw_istore_n C rfl (by decide) rfl dX6_valueWithout_56 ?_
        refine aw_aload_n C rfl rfl dX6_valueWithout_57 ?_
        refine aw_iload_n C rfl rfl dX6_valueWithout_58 ?_
        refine tw_callR C (t6_banOf hG l o sz _ hu (by omega)) q2000 q2002 qs62 q120 q2003 (n9 := 1) (by decide +kernel) rfl (Nat.le_of_ble_eq_true rfl) (Nat.le_of_ble_eq_true rfl) (Nat.zero_le _) (Nat.zero_le _) rfl (Nat.le_of_ble_eq_true rfl) dX6_valueWithout_59 ?_
        refine aw_istore C (by decide) rfl dX6_valueWithout_62 ?_
        refine aw_aload_n C rfl rfl dX6_valueWithout_64 ?_
        refine aw_iload_n C rfl rfl dX6_valueWithout_65 ?_
        refine aw_aload_n C rfl rfl dX6_valueWithout_66 ?_
        refine tw_callR C (t6_freeSet hG l o sz _ hu hW) q1992 q1994 qs60 q120 q1995 (n9 := 0) (by decide +kernel) rfl (Nat.le_of_ble_eq_true rfl) (Nat.le_of_ble_eq_true rfl) (Nat.zero_le _) (Nat.zero_le _) rfl (Nat.le_of_ble_eq_true rfl) dX6_valueWithout_67 ?_
        refine tw_callR C (t6_reached hG l o sz _ hu hW (by omega) (by omega)) q1996 q1998 qs61 q120 q1999 (n9 := 2) (by decide +kernel) rfl (Nat.le_of_ble_eq_true rfl) (Nat.le_of_ble_eq_true rfl) (Nat.zero_le _) (Nat.zero_le _) rfl (Nat.le_of_ble_eq_true rfl) dX6_valueWithout_70 ?_
        refine aw_istore C (by decide) rfl dX6_valueWithout_73 ?_
        refine aw_iload_n C rfl rfl dX6_valueWithout_75 ?_
        refine aw_aload_n C rfl rfl dX6_valueWithout_76 ?_
        refine aw_iload C rfl dX6_valueWithout_77 ?_
        refine aw_iload C rfl dX6_valueWithout_79 ?_
        refine tw_callI C (t6_knownOf hG l o sz _ hu hW hA.p hA.s hvd rch_pos hbm hkt) q2106 q2108 qs82 q120 q2109 (n9 := 2) (by decide +kernel) rfl (Nat.le_of_ble_eq_true rfl) (Nat.le_of_ble_eq_true rfl) (Nat.zero_le _) (Nat.zero_le _) rfl (Nat.le_of_ble_eq_true rfl) dX6_valueWithout_81 (fun r u2 hp => ?_)
        obtain ⟨rfl, hk2, hkt⟩ := hp
        have hu := hk2.bd hu
        have hj2 := hk2.tj
        have hT := hT.j2 hj2.two
        have h7 := hj2.th.trans h7
        obtain ⟨hi1, hi2, hi3⟩ := G_gb hA.s hW hvd.1 (b (31 + v1))
        have hel := enc_lt (i := G b (rch b v1 (freeS b)) (b (31 + v1))) hi1 (by omega) (by omega)
        refine aw_bipush C (v := nI 31) (by decide) dX6_valueWithout_84 ?_
        refine aw_iandN C dX6_valueWithout_86 ?_
        refine aw_top (show _ = nI (G b (rch b v1 (freeS b)) (b (31 + v1))).1 from by rw [enc_v hi1 (by omega)]) ?_
        refine aw_ixorN C dX6_valueWithout_87 ?_
        refine aw_istore_n C rfl (by decide) rfl dX6_valueWithout_88 ?_
        refine aw_aload_n C rfl rfl dX6_valueWithout_89 ?_
        refine tw_callV C (t6_forgets hG l o sz _) q2102 q2104 qs81 q120 q2105 (n9 := 0) (by decide +kernel) rfl (Nat.le_of_ble_eq_true rfl) (Nat.le_of_ble_eq_true rfl) (Nat.zero_le _) (Nat.zero_le _) rfl (Nat.le_of_ble_eq_true rfl) dX6_valueWithout_90 (fun u2 hp => ?_)
        obtain ⟨g, hgu, hg⟩ := hp
        have h18 : ∀ i, i < 80000 → u2.2 18 i = -1 := by rw [hgu]; exact hg
        have hu : BD u2 b := bd_of hu (by rw [hgu]; rfl)
        have hj3 := fg_tj hgu
        have hT := hT.j2 hj3.two
        have h7 := hj3.th.trans h7
        refine aw_iconst C (v := nI 0) (by decide) dX6_valueWithout_93 ?_
        refine aw_istore C (by decide) rfl dX6_valueWithout_94 ?_
        exact aw_lo (key1 (b 0 + 1) 0 _ (Nat.zero_le _) (by omega) (by rw [remB_0]; exact hu) h18 hT h7) ⟨rfl, rfl, rfl, rfl, rfl, rfl, rfl, trivial⟩
      · first | exact absurd (by decide) g2 | exact absurd g2 (by decide)
  · refine aw_iconst C (v := nI 1) (by decide) dX6_valueWithout_9 ?_
    refine aw_goto C (tgt := 26) dX6_valueWithout_10 (by decide) ?_
    refine tw_put C 7 (by decide) q1825 rfl rfl rfl dX6_valueWithout_26 ?_
    refine aw_aload_n C rfl rfl dX6_valueWithout_29 ?_
    refine tw_get C 7 (by decide) q1825 rfl dX6_valueWithout_30 ?_
    refine aw_top (tsf_at _ _ _) ?_
    refine aw_if_le C (tgt := 38) dX6_valueWithout_33 (by decide) (fun g3 => ?_) (fun g3 => ?_)
    · first | exact absurd g3 (by decide) | exact absurd (by decide) g3
    · refine aw_iconst C (v := nI 0) (by decide) dX6_valueWithout_36 ?_
      refine aw_iret C rfl dX6_valueWithout_37 (Nat.le_refl _) (Nat.le_refl _) ?_
      unfold spVw
      first
        | (rw [if_pos (show isV b v = false from gV)]; exact ⟨rfl, _, _, rfl, rfl, tsf_at _ _ _, rfl, hu, hA, to_put7 hT _⟩)
        | (rw [e1, if_neg (by rw [hV]; decide), if_pos (show fr b v1 = false from gF)]; exact ⟨rfl, _, _, rfl, rfl, tsf_at _ _ _, rfl, hu, hA, to_put7 hT _⟩)
set_option maxRecDepth 100000 in
theorem t6_moved {γ : Gm} (hG : GF γ) (l : Launch) (o sz : Nat) (u : TU) {b : Nat → Nat} (hu : BD u b) (hA : WA b) {k w : Nat} (hk : k < 4096) (hw : w < 5) : MX γ l yX6_moved cX6_moved 4 (some .int) 0 0 0 0 [.ref o, .int (nI k), .int (nI w)] (th o u) sz (RI (th o u) sz (mvd (b (40 + k)) w)) NX := by
  refine mx_start hG (by decide) (Nat.le_of_ble_eq_true rfl) (fun x C => ?_)
  have hx := hA.f hk
  refine aw_aload_n C rfl rfl dX6_moved_0 ?_
  refine tw_get C 0 (by decide) q1818 rfl dX6_moved_1 ?_
  refine aw_bipush C (v := nI 40) (by decide) dX6_moved_4 ?_
  refine aw_iload_n C rfl rfl dX6_moved_6 ?_
  refine aw_iaddN C dX6_moved_7 ?_
  refine tw_ld0 C (by omega) dX6_moved_8 ?_
  refine aw_top ((hu _)) ?_
  refine aw_istore_n C rfl (by decide) rfl dX6_moved_9 ?_
  refine aw_iload_n C rfl rfl dX6_moved_10 ?_
  refine aw_ifN_ne C (tgt := 20) (by omega) dX6_moved_11 (by decide) (fun g1 => ?_) (fun g1 => ?_)
  · refine aw_iload_n C rfl rfl dX6_moved_20 ?_
    refine aw_iconst C (v := nI 1) (by decide) dX6_moved_21 ?_
    refine aw_icmpN_ne C (tgt := 36) (by omega) (by omega) dX6_moved_22 (by decide) (fun g2 => ?_) (fun g2 => ?_)
    · refine aw_iload_n C rfl rfl dX6_moved_36 ?_
      refine aw_iconst C (v := nI 2) (by decide) dX6_moved_37 ?_
      refine aw_icmpN_ne C (tgt := 51) (by omega) (by omega) dX6_moved_38 (by decide) (fun g3 => ?_) (fun g3 => ?_)
      · refine aw_iload_n C rfl rfl dX6_moved_51 ?_
        refine aw_iconst C (v := nI 3) (by decide) dX6_moved_52 ?_
        refine aw_icmpN_ne C (tgt := 66) (by omega) (by omega) dX6_moved_53 (by decide) (fun g4 => ?_) (fun g4 => ?_)
        · refine aw_iload_n C rfl rfl dX6_moved_66 ?_
          refine aw_bipush C (v := nI 11) (by decide) dX6_moved_67 ?_
          refine aw_ishrN C (by omega) (by omega) dX6_moved_69 ?_
          exact aw_iret C rfl dX6_moved_70 (Nat.le_refl _) (Nat.le_refl _) ⟨by rcases (by omega : w = 0 ∨ w = 1 ∨ w = 2 ∨ w = 3 ∨ w = 4) with rfl | rfl | rfl | rfl | rfl <;> first | rfl | omega, rfl, rfl⟩
        · refine aw_iload_n C rfl rfl dX6_moved_56 ?_
          refine aw_bipush C (v := nI 7) (by decide) dX6_moved_57 ?_
          refine aw_ishrN C (by omega) (by omega) dX6_moved_59 ?_
          refine aw_bipush C (v := nI 15) (by decide) dX6_moved_60 ?_
          refine aw_iandN C dX6_moved_62 ?_
          refine aw_goto C (tgt := 70) dX6_moved_63 (by decide) ?_
          exact aw_iret C rfl dX6_moved_70 (Nat.le_refl _) (Nat.le_refl _) ⟨by rcases (by omega : w = 0 ∨ w = 1 ∨ w = 2 ∨ w = 3 ∨ w = 4) with rfl | rfl | rfl | rfl | rfl <;> first | rfl | omega, rfl, rfl⟩
      · refine aw_iload_n C rfl rfl dX6_moved_41 ?_
        refine aw_iconst C (v := nI 5) (by decide) dX6_moved_42 ?_
        refine aw_ishrN C (by omega) (by omega) dX6_moved_43 ?_
        refine aw_iconst C (v := nI 3) (by decide) dX6_moved_44 ?_
        refine aw_iandN C dX6_moved_45 ?_
        refine aw_iconst C (v := nI 1) (by decide) dX6_moved_46 ?_
        refine aw_isub C dX6_moved_47 ?_
        refine aw_goto C (tgt := 70) dX6_moved_48 (by decide) ?_
        exact aw_iret C rfl dX6_moved_70 (Nat.le_refl _) (Nat.le_refl _) ⟨by rcases (by omega : w = 0 ∨ w = 1 ∨ w = 2 ∨ w = 3 ∨ w = 4) with rfl | rfl | rfl | rfl | rfl <;> first | rfl | omega, rfl, rfl⟩
    · refine aw_iload_n C rfl rfl dX6_moved_25 ?_
      refine aw_iconst C (v := nI 1) (by decide) dX6_moved_26 ?_
      refine aw_ishrN C (by omega) (by omega) dX6_moved_27 ?_
      refine aw_bipush C (v := nI 15) (by decide) dX6_moved_28 ?_
      refine aw_iandN C dX6_moved_30 ?_
      refine aw_iconst C (v := nI 1) (by decide) dX6_moved_31 ?_
      refine aw_isub C dX6_moved_32 ?_
      refine aw_goto C (tgt := 70) dX6_moved_33 (by decide) ?_
      exact aw_iret C rfl dX6_moved_70 (Nat.le_refl _) (Nat.le_refl _) ⟨by rcases (by omega : w = 0 ∨ w = 1 ∨ w = 2 ∨ w = 3 ∨ w = 4) with rfl | rfl | rfl | rfl | rfl <;> first | rfl | omega, rfl, rfl⟩
  · refine aw_iload_n C rfl rfl dX6_moved_14 ?_
    refine aw_iconst C (v := nI 1) (by decide) dX6_moved_15 ?_
    refine aw_iandN C dX6_moved_16 ?_
    refine aw_goto C (tgt := 70) dX6_moved_17 (by decide) ?_
    exact aw_iret C rfl dX6_moved_70 (Nat.le_refl _) (Nat.le_refl _) ⟨by rcases (by omega : w = 0 ∨ w = 1 ∨ w = 2 ∨ w = 3 ∨ w = 4) with rfl | rfl | rfl | rfl | rfl <;> first | rfl | omega, rfl, rfl⟩
set_option maxRecDepth 100000 in
theorem t6_move {γ : Gm} (hG : GF γ) (l : Launch) (o sz : Nat) (u : TU) {b : BT} {ks : List BT} {sl : Nat → Option BT} {bf : List Nat} {ea : Int32} {wr : List Nat} (hu : BD u b) (hA : WA b) (hT : TO u ks sl bf ea wr) (m w : Int32) : MX γ l yX6_move cX6_move 3 (some .int) 1 23 0 0 [.ref o, .int m, .int w] (th o u) sz (PS o sz (spMove b m w, (b, ks, sl, bf, ea, wr))) NX := by
  refine mx_start hG (by decide) (Nat.le_of_ble_eq_true rfl) (fun x C => ?_)
  have hW := hA.w
  have hN := hW.2.1
  have hC3 := hW.2.2.2.1
  have hL9 := hA.l
  have hm3 := hA.m
  refine aw_aload_n C rfl rfl dX6_move_0 ?_
  refine aw_iload_n C rfl rfl dX6_move_1 ?_
  refine aw_iconst C (v := nI 0) (by decide) dX6_move_2 ?_
  refine aw_aload_n C rfl rfl dX6_move_3 ?_
  refine tw_get C 0 (by decide) q1818 rfl dX6_move_4 ?_
  refine aw_iconst C (v := nI 3) (by decide) dX6_move_7 ?_
  refine tw_ld0 C (by omega) dX6_move_8 ?_
  refine aw_top ((hu _)) ?_
  refine aw_iconst C (v := nI 1) (by decide) dX6_move_9 ?_
  refine aw_isub C dX6_move_10 ?_
  refine tw_callSR C (t6_isIn hG l o sz _ _ _ _) q1905 q1906 q120 q1907 (n9 := 3) (by decide +kernel) rfl (Nat.le_of_ble_eq_true rfl) (Nat.le_of_ble_eq_true rfl) (Nat.zero_le _) (Nat.zero_le _) rfl (Nat.le_of_ble_eq_true rfl) dX6_move_11 ?_
  refine aw_bit_ne0 C (tgt := 21) dX6_move_14 (by decide) (fun gM => ?_) (fun gM => ?_)
  · obtain ⟨m1, rfl, hm1⟩ := isM_ex (n := b 3) hm3 gM
    have hM := isM_n hm3 hm1
    have em := nt_n (k := m1) (by omega)
    refine aw_iload_n C rfl rfl dX6_move_21 ?_
    refine aw_iconst C (v := nI 0) (by decide) dX6_move_22 ?_
    refine aw_iconst C (v := nI 3) (by decide) dX6_move_23 ?_
    refine tw_callSR C (t6_isIn hG l o sz _ _ _ _) q1905 q1906 q120 q1907 (n9 := 3) (by decide +kernel) rfl (Nat.le_of_ble_eq_true rfl) (Nat.le_of_ble_eq_true rfl) (Nat.zero_le _) (Nat.zero_le _) rfl (Nat.le_of_ble_eq_true rfl) dX6_move_24 ?_
    refine aw_bit_eq0 C (tgt := 34) dX6_move_27 (by decide) (fun gI => ?_) (fun gI => ?_)
    · refine aw_iconst C (v := nI 2) (by decide) dX6_move_34 ?_
      refine tw_put C 7 (by decide) q1825 rfl rfl rfl dX6_move_35 ?_
      refine aw_aload_n C rfl rfl dX6_move_38 ?_
      refine tw_get C 7 (by decide) q1825 rfl dX6_move_39 ?_
      refine aw_top (tsf_at _ _ _) ?_
      refine aw_if_le C (tgt := 49) dX6_move_42 (by decide) (fun g1 => ?_) (fun g1 => ?_)
      · first | exact absurd g1 (by decide) | exact absurd (by decide) g1
      · refine aw_iconst C (v := nI 0) (by decide) dX6_move_45 ?_
        refine aw_goto C (tgt := 55) dX6_move_46 (by decide) ?_
        refine aw_iret C rfl dX6_move_55 (Nat.le_refl _) (Nat.le_refl _) ?_
        unfold spMove
        first
          | (rw [if_pos (show isI m (nI 0) (nI (b 3) - nI 1) = false from gM)]; exact ⟨rfl, _, _, rfl, rfl, tsf_at _ _ _, rfl, hu, hA, to_put7 hT _⟩)
          | (rw [if_neg (by rw [hM]; decide), if_pos (show isI w (nI 0) (nI 3) = false from gI)]; exact ⟨rfl, _, _, rfl, rfl, tsf_at _ _ _, rfl, hu, hA, to_put7 hT _⟩)
          | (rw [em, if_neg (by rw [hM]; decide), en, if_neg (by rw [hI]; decide)]; exact ⟨rfl, _, _, rfl, rfl, h7, rfl, hu, hA, hT⟩)
    · refine aw_iconst C (v := nI 0) (by decide) dX6_move_30 ?_
      refine aw_goto C (tgt := 35) dX6_move_31 (by decide) ?_
      refine tw_put C 7 (by decide) q1825 rfl rfl rfl dX6_move_35 ?_
      refine aw_aload_n C rfl rfl dX6_move_38 ?_
      refine tw_get C 7 (by decide) q1825 rfl dX6_move_39 ?_
      refine aw_top (tsf_at _ _ _) ?_
      refine aw_if_le C (tgt := 49) dX6_move_42 (by decide) (fun g2 => ?_) (fun g2 => ?_)
      · obtain ⟨k1, rfl, hk0, hk1⟩ := isI_ex (lo := 0) (hi := 3) (by decide) (by decide) gI
        have en := nt_n (k := k1) (by omega)
        have hI := isI_n (k := k1) (lo := 0) (hi := 3) (by decide) (by omega) (by omega)
        have hT := to_put7 hT (nI 0)
        have hu := bd_tsf hu 7 (nI 0)
        have h7 : (tsf u 7 (nI 0)).1 7 = nI 0 := tsf_at _ _ _
        refine aw_aload_n C rfl rfl dX6_move_49 ?_
        refine aw_iload_n C rfl rfl dX6_move_50 ?_
        refine aw_iload_n C rfl rfl dX6_move_51 ?_
        refine tw_callR C (t6_moved hG l o sz _ hu hA (k := m1) (w := k1) (by omega) (by omega)) q2202 q2204 qs91 q120 q2205 (n9 := 2) (by decide +kernel) rfl (Nat.le_of_ble_eq_true rfl) (Nat.le_of_ble_eq_true rfl) (Nat.zero_le _) (Nat.zero_le _) rfl (Nat.le_of_ble_eq_true rfl) dX6_move_52 ?_
        refine aw_iret C rfl dX6_move_55 (Nat.le_refl _) (Nat.le_refl _) ?_
        unfold spMove
        first
          | (rw [if_pos (show isI m (nI 0) (nI (b 3) - nI 1) = false from gM)]; exact ⟨rfl, _, _, rfl, rfl, tsf_at _ _ _, rfl, hu, hA, to_put7 hT _⟩)
          | (rw [if_neg (by rw [hM]; decide), if_pos (show isI w (nI 0) (nI 3) = false from gI)]; exact ⟨rfl, _, _, rfl, rfl, tsf_at _ _ _, rfl, hu, hA, to_put7 hT _⟩)
          | (rw [em, if_neg (by rw [hM]; decide), en, if_neg (by rw [hI]; decide)]; exact ⟨rfl, _, _, rfl, rfl, h7, rfl, hu, hA, hT⟩)
      · first | exact absurd (by decide) g2 | exact absurd g2 (by decide)
  · refine aw_iconst C (v := nI 1) (by decide) dX6_move_17 ?_
    refine aw_goto C (tgt := 35) dX6_move_18 (by decide) ?_
    refine tw_put C 7 (by decide) q1825 rfl rfl rfl dX6_move_35 ?_
    refine aw_aload_n C rfl rfl dX6_move_38 ?_
    refine tw_get C 7 (by decide) q1825 rfl dX6_move_39 ?_
    refine aw_top (tsf_at _ _ _) ?_
    refine aw_if_le C (tgt := 49) dX6_move_42 (by decide) (fun g3 => ?_) (fun g3 => ?_)
    · first | exact absurd g3 (by decide) | exact absurd (by decide) g3
    · refine aw_iconst C (v := nI 0) (by decide) dX6_move_45 ?_
      refine aw_goto C (tgt := 55) dX6_move_46 (by decide) ?_
      refine aw_iret C rfl dX6_move_55 (Nat.le_refl _) (Nat.le_refl _) ?_
      unfold spMove
      first
        | (rw [if_pos (show isI m (nI 0) (nI (b 3) - nI 1) = false from gM)]; exact ⟨rfl, _, _, rfl, rfl, tsf_at _ _ _, rfl, hu, hA, to_put7 hT _⟩)
        | (rw [if_neg (by rw [hM]; decide), if_pos (show isI w (nI 0) (nI 3) = false from gI)]; exact ⟨rfl, _, _, rfl, rfl, tsf_at _ _ _, rfl, hu, hA, to_put7 hT _⟩)
        | (rw [em, if_neg (by rw [hM]; decide), en, if_neg (by rw [hI]; decide)]; exact ⟨rfl, _, _, rfl, rfl, h7, rfl, hu, hA, hT⟩)
set_option maxRecDepth 100000 in
theorem t6_counts {γ : Gm} (hG : GF γ) (l : Launch) (o sz : Nat) (u : TU) {b : Nat → Nat} (hu : BD u b) (hA : WA b) {k w : Nat} (hk : k < 4096) (hw : w < 5) : MX γ l yX6_counts cX6_counts 4 (some .boolean) 1 23 0 0 [.ref o, .int (nI k), .int (nI w)] (th o u) sz (RI (th o u) sz (nI (if cts (b (40 + k)) w = true then 1 else 0))) NX := by
  refine mx_start hG (by decide) (Nat.le_of_ble_eq_true rfl) (fun x C => ?_)
  have hx := hA.f hk
  have hx15 := Nat.and_le_right (n := b (40 + k) >>> 1) (m := 15)
  have hx11 : b (40 + k) >>> 11 ≤ b (40 + k) := Nat.shiftRight_le _ _
  refine aw_aload_n C rfl rfl dX6_counts_0 ?_
  refine aw_iload_n C rfl rfl dX6_counts_1 ?_
  refine aw_iconst C (v := nI 1) (by decide) dX6_counts_2 ?_
  refine tw_callR C (t6_moved hG l o sz _ hu hA (k := k) (w := 1) (by omega) (by omega)) q2202 q2204 qs91 q120 q2205 (n9 := 2) (by decide +kernel) rfl (Nat.le_of_ble_eq_true rfl) (Nat.le_of_ble_eq_true rfl) (Nat.zero_le _) (Nat.zero_le _) rfl (Nat.le_of_ble_eq_true rfl) dX6_counts_3 ?_
  refine aw_top (show mvd (b (40 + k)) 1 = nI (b (40 + k) >>> 1 &&& 15) - nI 1 from rfl) ?_
  refine aw_iconst C (v := -1) (by decide) dX6_counts_6 ?_
  refine aw_icmp_ne C (tgt := 14) dX6_counts_7 (by decide) (fun gP => ?_) (fun gP => ?_)
  · have gP2 := mt (m1_p (by omega)).mpr gP
    refine aw_iconst C (v := nI 0) (by decide) dX6_counts_14 ?_
    refine aw_istore_n C rfl (by decide) rfl dX6_counts_15 ?_
    refine aw_iload_n C rfl rfl dX6_counts_16 ?_
    refine aw_iconst C (v := nI 1) (by decide) dX6_counts_17 ?_
    refine aw_icmpN_ne C (tgt := 25) (by omega) (by omega) dX6_counts_18 (by decide) (fun g1 => ?_) (fun g1 => ?_)
    · refine aw_iload_n C rfl rfl dX6_counts_25 ?_
      refine aw_if_ne C (tgt := 66) dX6_counts_26 (by decide) (fun g1 => ?_) (fun g1 => ?_)
      · first | exact absurd g1 (by decide) | exact absurd (by decide) g1
      · refine aw_iload_n C rfl rfl dX6_counts_29 ?_
        refine aw_ifN_eq C (tgt := 62) (by omega) dX6_counts_30 (by decide) (fun g0 => ?_) (fun g0 => ?_)
        · refine aw_iconst C (v := nI 1) (by decide) dX6_counts_62 ?_
          refine aw_goto C (tgt := 67) dX6_counts_63 (by decide) ?_
          exact aw_zret C rfl (by decide) dX6_counts_67 (Nat.le_refl _) (Nat.le_refl _) ⟨by first | (rw [if_pos (ct_eq.mpr (by omega))]; done) | (rw [if_neg (mt ct_eq.mp (by omega))]; done), rfl, rfl⟩
        · refine aw_iload_n C rfl rfl dX6_counts_33 ?_
          refine aw_iconst C (v := nI 2) (by decide) dX6_counts_34 ?_
          refine aw_icmpN_ne C (tgt := 48) (by omega) (by omega) dX6_counts_35 (by decide) (fun g2 => ?_) (fun g2 => ?_)
          · refine aw_iload_n C rfl rfl dX6_counts_48 ?_
            refine aw_iconst C (v := nI 3) (by decide) dX6_counts_49 ?_
            refine aw_icmpN_ne C (tgt := 66) (by omega) (by omega) dX6_counts_50 (by decide) (fun g3 => ?_) (fun g3 => ?_)
            · refine aw_iconst C (v := nI 0) (by decide) dX6_counts_66 ?_
              exact aw_zret C rfl (by decide) dX6_counts_67 (Nat.le_refl _) (Nat.le_refl _) ⟨by first | (rw [if_pos (ct_eq.mpr (by omega))]; done) | (rw [if_neg (mt ct_eq.mp (by omega))]; done), rfl, rfl⟩
            · refine aw_aload_n C rfl rfl dX6_counts_53 ?_
              refine aw_iload_n C rfl rfl dX6_counts_54 ?_
              refine aw_iconst C (v := nI 4) (by decide) dX6_counts_55 ?_
              refine tw_callR C (t6_moved hG l o sz _ hu hA (k := k) (w := 4) (by omega) (by omega)) q2202 q2204 qs91 q120 q2205 (n9 := 2) (by decide +kernel) rfl (Nat.le_of_ble_eq_true rfl) (Nat.le_of_ble_eq_true rfl) (Nat.zero_le _) (Nat.zero_le _) rfl (Nat.le_of_ble_eq_true rfl) dX6_counts_56 ?_
              refine aw_top (show mvd (b (40 + k)) 4 = nI (b (40 + k) >>> 11) from rfl) ?_
              refine aw_ifN_ne C (tgt := 66) (by omega) dX6_counts_59 (by decide) (fun gz => ?_) (fun gz => ?_)
              · refine aw_iconst C (v := nI 0) (by decide) dX6_counts_66 ?_
                exact aw_zret C rfl (by decide) dX6_counts_67 (Nat.le_refl _) (Nat.le_refl _) ⟨by first | (rw [if_pos (ct_eq.mpr (by omega))]; done) | (rw [if_neg (mt ct_eq.mp (by omega))]; done), rfl, rfl⟩
              · refine aw_iconst C (v := nI 1) (by decide) dX6_counts_62 ?_
                refine aw_goto C (tgt := 67) dX6_counts_63 (by decide) ?_
                exact aw_zret C rfl (by decide) dX6_counts_67 (Nat.le_refl _) (Nat.le_refl _) ⟨by first | (rw [if_pos (ct_eq.mpr (by omega))]; done) | (rw [if_neg (mt ct_eq.mp (by omega))]; done), rfl, rfl⟩
          · refine aw_aload_n C rfl rfl dX6_counts_38 ?_
            refine aw_iload_n C rfl rfl dX6_counts_39 ?_
            refine aw_iconst C (v := nI 4) (by decide) dX6_counts_40 ?_
            refine tw_callR C (t6_moved hG l o sz _ hu hA (k := k) (w := 4) (by omega) (by omega)) q2202 q2204 qs91 q120 q2205 (n9 := 2) (by decide +kernel) rfl (Nat.le_of_ble_eq_true rfl) (Nat.le_of_ble_eq_true rfl) (Nat.zero_le _) (Nat.zero_le _) rfl (Nat.le_of_ble_eq_true rfl) dX6_counts_41 ?_
            refine aw_top (show mvd (b (40 + k)) 4 = nI (b (40 + k) >>> 11) from rfl) ?_
            refine aw_iconst C (v := nI 1) (by decide) dX6_counts_44 ?_
            refine aw_icmpN_gt C (tgt := 62) (by omega) (by omega) dX6_counts_45 (by decide) (fun gq => ?_) (fun gq => ?_)
            · refine aw_iconst C (v := nI 1) (by decide) dX6_counts_62 ?_
              refine aw_goto C (tgt := 67) dX6_counts_63 (by decide) ?_
              exact aw_zret C rfl (by decide) dX6_counts_67 (Nat.le_refl _) (Nat.le_refl _) ⟨by first | (rw [if_pos (ct_eq.mpr (by omega))]; done) | (rw [if_neg (mt ct_eq.mp (by omega))]; done), rfl, rfl⟩
            · refine aw_iload_n C rfl rfl dX6_counts_48 ?_
              refine aw_iconst C (v := nI 3) (by decide) dX6_counts_49 ?_
              refine aw_icmpN_ne C (tgt := 66) (by omega) (by omega) dX6_counts_50 (by decide) (fun g3 => ?_) (fun g3 => ?_)
              · refine aw_iconst C (v := nI 0) (by decide) dX6_counts_66 ?_
                exact aw_zret C rfl (by decide) dX6_counts_67 (Nat.le_refl _) (Nat.le_refl _) ⟨by first | (rw [if_pos (ct_eq.mpr (by omega))]; done) | (rw [if_neg (mt ct_eq.mp (by omega))]; done), rfl, rfl⟩
              · refine aw_aload_n C rfl rfl dX6_counts_53 ?_
                refine aw_iload_n C rfl rfl dX6_counts_54 ?_
                refine aw_iconst C (v := nI 4) (by decide) dX6_counts_55 ?_
                refine tw_callR C (t6_moved hG l o sz _ hu hA (k := k) (w := 4) (by omega) (by omega)) q2202 q2204 qs91 q120 q2205 (n9 := 2) (by decide +kernel) rfl (Nat.le_of_ble_eq_true rfl) (Nat.le_of_ble_eq_true rfl) (Nat.zero_le _) (Nat.zero_le _) rfl (Nat.le_of_ble_eq_true rfl) dX6_counts_56 ?_
                refine aw_top (show mvd (b (40 + k)) 4 = nI (b (40 + k) >>> 11) from rfl) ?_
                refine aw_ifN_ne C (tgt := 66) (by omega) dX6_counts_59 (by decide) (fun gz => ?_) (fun gz => ?_)
                · refine aw_iconst C (v := nI 0) (by decide) dX6_counts_66 ?_
                  exact aw_zret C rfl (by decide) dX6_counts_67 (Nat.le_refl _) (Nat.le_refl _) ⟨by first | (rw [if_pos (ct_eq.mpr (by omega))]; done) | (rw [if_neg (mt ct_eq.mp (by omega))]; done), rfl, rfl⟩
                · refine aw_iconst C (v := nI 1) (by decide) dX6_counts_62 ?_
                  refine aw_goto C (tgt := 67) dX6_counts_63 (by decide) ?_
                  exact aw_zret C rfl (by decide) dX6_counts_67 (Nat.le_refl _) (Nat.le_refl _) ⟨by first | (rw [if_pos (ct_eq.mpr (by omega))]; done) | (rw [if_neg (mt ct_eq.mp (by omega))]; done), rfl, rfl⟩
    · refine aw_iload_n C rfl rfl dX6_counts_21 ?_
      refine aw_goto C (tgt := 67) dX6_counts_22 (by decide) ?_
      exact aw_zret C rfl (by decide) dX6_counts_67 (Nat.le_refl _) (Nat.le_refl _) ⟨by first | (rw [if_pos (ct_eq.mpr (by omega))]; done) | (rw [if_neg (mt ct_eq.mp (by omega))]; done), rfl, rfl⟩
  · have gP2 := (m1_p (by omega)).mp gP
    refine aw_iconst C (v := nI 1) (by decide) dX6_counts_10 ?_
    refine aw_goto C (tgt := 15) dX6_counts_11 (by decide) ?_
    refine aw_istore_n C rfl (by decide) rfl dX6_counts_15 ?_
    refine aw_iload_n C rfl rfl dX6_counts_16 ?_
    refine aw_iconst C (v := nI 1) (by decide) dX6_counts_17 ?_
    refine aw_icmpN_ne C (tgt := 25) (by omega) (by omega) dX6_counts_18 (by decide) (fun g1 => ?_) (fun g1 => ?_)
    · refine aw_iload_n C rfl rfl dX6_counts_25 ?_
      refine aw_if_ne C (tgt := 66) dX6_counts_26 (by decide) (fun g2 => ?_) (fun g2 => ?_)
      · refine aw_iconst C (v := nI 0) (by decide) dX6_counts_66 ?_
        exact aw_zret C rfl (by decide) dX6_counts_67 (Nat.le_refl _) (Nat.le_refl _) ⟨by first | (rw [if_pos (ct_eq.mpr (by omega))]; done) | (rw [if_neg (mt ct_eq.mp (by omega))]; done), rfl, rfl⟩
      · first | exact absurd (by decide) g2 | exact absurd g2 (by decide)
    · refine aw_iload_n C rfl rfl dX6_counts_21 ?_
      refine aw_goto C (tgt := 67) dX6_counts_22 (by decide) ?_
      exact aw_zret C rfl (by decide) dX6_counts_67 (Nat.le_refl _) (Nat.le_refl _) ⟨by first | (rw [if_pos (ct_eq.mpr (by omega))]; done) | (rw [if_neg (mt ct_eq.mp (by omega))]; done), rfl, rfl⟩
set_option maxRecDepth 100000 in
theorem t6_account {γ : Gm} (hG : GF γ) (l : Launch) (o sz : Nat) (u : TU) {b : BT} {ks : List BT} {sl : Nat → Option BT} {bf : List Nat} {ea : Int32} {wr : List Nat} (hu : BD u b) (hA : WA b) (hT : TO u ks sl bf ea wr) (p w : Int32) : MX γ l yX6_account cX6_account 6 (some .int) 2 46 0 0 [.ref o, .int p, .int w] (th o u) sz (PS o sz (spAcc b p w, (b, ks, sl, bf, ea, wr))) NX := by
  refine mx_start hG (by decide) (Nat.le_of_ble_eq_true rfl) (fun x C => ?_)
  have hW := hA.w
  have hN := hW.2.1
  have hC3 := hW.2.2.2.1
  have hL9 := hA.l
  have hm3 := hA.m
  refine aw_aload_n C rfl rfl dX6_account_0 ?_
  refine aw_iload_n C rfl rfl dX6_account_1 ?_
  refine aw_iconst C (v := nI 0) (by decide) dX6_account_2 ?_
  refine aw_iconst C (v := nI 1) (by decide) dX6_account_3 ?_
  refine tw_callSR C (t6_isIn hG l o sz _ _ _ _) q1905 q1906 q120 q1907 (n9 := 3) (by decide +kernel) rfl (Nat.le_of_ble_eq_true rfl) (Nat.le_of_ble_eq_true rfl) (Nat.zero_le _) (Nat.zero_le _) rfl (Nat.le_of_ble_eq_true rfl) dX6_account_4 ?_
  refine aw_bit_ne0 C (tgt := 14) dX6_account_7 (by decide) (fun gP => ?_) (fun gP => ?_)
  · obtain ⟨p1, rfl, hp0, hp1⟩ := isI_ex (lo := 0) (hi := 1) (by decide) (by decide) gP
    have ep := nt_n (k := p1) (by omega)
    have hP := isI_n (k := p1) (lo := 0) (hi := 1) (by decide) (by omega) (by omega)
    refine aw_iload_n C rfl rfl dX6_account_14 ?_
    refine aw_iconst C (v := nI 0) (by decide) dX6_account_15 ?_
    refine aw_iconst C (v := nI 4) (by decide) dX6_account_16 ?_
    refine tw_callSR C (t6_isIn hG l o sz _ _ _ _) q1905 q1906 q120 q1907 (n9 := 3) (by decide +kernel) rfl (Nat.le_of_ble_eq_true rfl) (Nat.le_of_ble_eq_true rfl) (Nat.zero_le _) (Nat.zero_le _) rfl (Nat.le_of_ble_eq_true rfl) dX6_account_17 ?_
    refine aw_bit_eq0 C (tgt := 27) dX6_account_20 (by decide) (fun gI => ?_) (fun gI => ?_)
    · refine aw_iconst C (v := nI 2) (by decide) dX6_account_27 ?_
      refine tw_put C 7 (by decide) q1825 rfl rfl rfl dX6_account_28 ?_
      refine aw_aload_n C rfl rfl dX6_account_31 ?_
      refine tw_get C 7 (by decide) q1825 rfl dX6_account_32 ?_
      refine aw_top (tsf_at _ _ _) ?_
      refine aw_if_le C (tgt := 40) dX6_account_35 (by decide) (fun g1 => ?_) (fun g1 => ?_)
      · first | exact absurd g1 (by decide) | exact absurd (by decide) g1
      · refine aw_iconst C (v := nI 0) (by decide) dX6_account_38 ?_
        refine aw_iret C rfl dX6_account_39 (Nat.le_refl _) (Nat.le_refl _) ?_
        unfold spAcc
        first
          | (rw [if_pos (show isI p (nI 0) (nI 1) = false from gP)]; exact ⟨rfl, _, _, rfl, rfl, tsf_at _ _ _, rfl, hu, hA, to_put7 hT _⟩)
          | (rw [if_neg (by rw [hP]; decide), if_pos (show isI w (nI 0) (nI 4) = false from gI)]; exact ⟨rfl, _, _, rfl, rfl, tsf_at _ _ _, rfl, hu, hA, to_put7 hT _⟩)
    · refine aw_iconst C (v := nI 0) (by decide) dX6_account_23 ?_
      refine aw_goto C (tgt := 28) dX6_account_24 (by decide) ?_
      refine tw_put C 7 (by decide) q1825 rfl rfl rfl dX6_account_28 ?_
      refine aw_aload_n C rfl rfl dX6_account_31 ?_
      refine tw_get C 7 (by decide) q1825 rfl dX6_account_32 ?_
      refine aw_top (tsf_at _ _ _) ?_
      refine aw_if_le C (tgt := 40) dX6_account_35 (by decide) (fun g2 => ?_) (fun g2 => ?_)
      · obtain ⟨k1, rfl, hk0, hk1⟩ := isI_ex (lo := 0) (hi := 4) (by decide) (by decide) gI
        have en := nt_n (k := k1) (by omega)
        have hI := isI_n (k := k1) (lo := 0) (hi := 4) (by decide) (by omega) (by omega)
        have key : ∀ j k s c u1, k ≤ b 3 → b 3 + 1 ≤ k + j → s = accS b p1 k1 k → c = accC b p1 k → c < 8 → s ≤ k → BD u1 b → TO u1 ks sl bf ea wr → u1.1 7 = nI 0 → AW γ l x (QX γ x 0 0 (PS o sz (spAcc b (nI p1) (nI k1), (b, ks, sl, bf, ea, wr))) NX) 6 (th o u1) sz 0 0 48 [(0, .ref o), (1, .int (nI p1)), (2, .int (nI k1)), (3, .int (nI s)), (4, .int (nI c)), (5, .int (nI k))] [] := by
          intro j
          induction j with
          | zero => intro k s c u1 h1 h2 hs hc hc8 hsk hu hT h7; exact absurd h2 (by omega)
          | succ j ih =>
            intro k s c u1 h1 h2 hs hc hc8 hsk hu hT h7
            refine aw_iload C rfl dX6_account_48 ?_
            refine aw_aload_n C rfl rfl dX6_account_50 ?_
            refine tw_get C 0 (by decide) q1818 rfl dX6_account_51 ?_
            refine aw_iconst C (v := nI 3) (by decide) dX6_account_54 ?_
            refine tw_ld0 C (by omega) dX6_account_55 ?_
            refine aw_top ((hu _)) ?_
            refine aw_icmpN_ge C (tgt := 126) (by omega) (by omega) dX6_account_56 (by decide) (fun gK => ?_) (fun gK => ?_)
            · have hke : k = b 3 := by omega
              refine aw_iload_n C rfl rfl dX6_account_126 ?_
              refine aw_iconst C (v := nI 4) (by decide) dX6_account_127 ?_
              refine aw_icmpN_ne C (tgt := 139) (by omega) (by omega) dX6_account_128 (by decide) (fun g4 => ?_) (fun g4 => ?_)
              · refine aw_iload_n C rfl rfl dX6_account_139 ?_
                refine aw_iret C rfl dX6_account_140 (Nat.le_refl _) (Nat.le_refl _) ?_
                unfold spAcc
                rw [ep, if_neg (by rw [hP]; decide), en, if_neg (by rw [hI]; decide)]
                first
                  | (rw [if_pos (by omega), ← hke, ← hc]; exact ⟨rfl, _, _, rfl, rfl, h7, rfl, hu, hA, hT⟩)
                  | (rw [if_neg (by omega), ← hke, ← hs]; exact ⟨rfl, _, _, rfl, rfl, h7, rfl, hu, hA, hT⟩)
              · refine aw_iload C rfl dX6_account_131 ?_
                refine tw_callSR C (t6_bits hG l o sz _ (by omega)) q2008 q2009 q120 q2010 (n9 := 1) (by decide +kernel) rfl (Nat.le_of_ble_eq_true rfl) (Nat.le_of_ble_eq_true rfl) (Nat.zero_le _) (Nat.zero_le _) rfl (Nat.le_of_ble_eq_true rfl) dX6_account_133 ?_
                refine aw_goto C (tgt := 140) dX6_account_136 (by decide) ?_
                refine aw_iret C rfl dX6_account_140 (Nat.le_refl _) (Nat.le_refl _) ?_
                unfold spAcc
                rw [ep, if_neg (by rw [hP]; decide), en, if_neg (by rw [hI]; decide)]
                first
                  | (rw [if_pos (by omega), ← hke, ← hc]; exact ⟨rfl, _, _, rfl, rfl, h7, rfl, hu, hA, hT⟩)
                  | (rw [if_neg (by omega), ← hke, ← hs]; exact ⟨rfl, _, _, rfl, rfl, h7, rfl, hu, hA, hT⟩)
            · have hg := hA.g (k := k) (by omega)
              have hgx := hg.1
              have hx15 := Nat.and_le_right (n := b (40 + k) >>> 1) (m := 15)
              have hx3 := Nat.and_le_right (n := b (40 + k) >>> 5) (m := 3)
              have hx1 := Nat.and_le_right (n := b (40 + k)) (m := 1)
              refine aw_aload_n C rfl rfl dX6_account_59 ?_
              refine aw_iload C rfl dX6_account_60 ?_
              refine aw_iconst C (v := nI 0) (by decide) dX6_account_62 ?_
              refine tw_callR C (t6_moved hG l o sz _ hu hA (k := k) (w := 0) (by omega) (by omega)) q2202 q2204 qs91 q120 q2205 (n9 := 2) (by decide +kernel) rfl (Nat.le_of_ble_eq_true rfl) (Nat.le_of_ble_eq_true rfl) (Nat.zero_le _) (Nat.zero_le _) rfl (Nat.le_of_ble_eq_true rfl) dX6_account_63 ?_
              refine aw_top (show mvd (b (40 + k)) 0 = nI (b (40 + k) &&& 1) from rfl) ?_
              refine aw_iload_n C rfl rfl dX6_account_66 ?_
              refine aw_icmpN_eq C (tgt := 73) (by omega) (by omega) dX6_account_67 (by decide) (fun gp => ?_) (fun gp => ?_)
              · refine aw_iload_n C rfl rfl dX6_account_73 ?_
                refine aw_aload_n C rfl rfl dX6_account_74 ?_
                refine aw_iload C rfl dX6_account_75 ?_
                refine aw_iload_n C rfl rfl dX6_account_77 ?_
                refine tw_callR C (t6_counts hG l o sz _ hu hA (k := k) (w := k1) (by omega) (by omega)) q2210 q2212 qs92 q120 q2213 (n9 := 2) (by decide +kernel) rfl (Nat.le_of_ble_eq_true rfl) (Nat.le_of_ble_eq_true rfl) (Nat.zero_le _) (Nat.zero_le _) rfl (Nat.le_of_ble_eq_true rfl) dX6_account_78 ?_
                refine aw_bit_eq0 C (tgt := 88) dX6_account_81 (by decide) (fun gC => ?_) (fun gC => ?_)
                · refine aw_iconst C (v := nI 0) (by decide) dX6_account_88 ?_
                  refine aw_iaddN C dX6_account_89 ?_
                  refine aw_istore_n C rfl (by decide) rfl dX6_account_90 ?_
                  refine aw_iload C rfl dX6_account_91 ?_
                  refine aw_aload_n C rfl rfl dX6_account_93 ?_
                  refine aw_iload C rfl dX6_account_94 ?_
                  refine aw_iconst C (v := nI 1) (by decide) dX6_account_96 ?_
                  refine tw_callR C (t6_moved hG l o sz _ hu hA (k := k) (w := 1) (by omega) (by omega)) q2202 q2204 qs91 q120 q2205 (n9 := 2) (by decide +kernel) rfl (Nat.le_of_ble_eq_true rfl) (Nat.le_of_ble_eq_true rfl) (Nat.zero_le _) (Nat.zero_le _) rfl (Nat.le_of_ble_eq_true rfl) dX6_account_97 ?_
                  refine aw_top (show mvd (b (40 + k)) 1 = nI (b (40 + k) >>> 1 &&& 15) - nI 1 from rfl) ?_
                  refine aw_iconst C (v := -1) (by decide) dX6_account_100 ?_
                  refine aw_icmp_ne C (tgt := 108) dX6_account_101 (by decide) (fun gQ => ?_) (fun gQ => ?_)
                  · have gQ2 := mt (m1_p (by omega)).mpr gQ
                    have hg2 := hg.2 gQ2
                    refine aw_iconst C (v := nI 1) (by decide) dX6_account_108 ?_
                    refine aw_aload_n C rfl rfl dX6_account_109 ?_
                    refine aw_iload C rfl dX6_account_110 ?_
                    refine aw_iconst C (v := nI 2) (by decide) dX6_account_112 ?_
                    refine tw_callR C (t6_moved hG l o sz _ hu hA (k := k) (w := 2) (by omega) (by omega)) q2202 q2204 qs91 q120 q2205 (n9 := 2) (by decide +kernel) rfl (Nat.le_of_ble_eq_true rfl) (Nat.le_of_ble_eq_true rfl) (Nat.zero_le _) (Nat.zero_le _) rfl (Nat.le_of_ble_eq_true rfl) dX6_account_113 ?_
                    refine aw_top (show mvd (b (40 + k)) 2 = nI ((b (40 + k) >>> 5 &&& 3) - 1) from pk_sub (by omega)) ?_
                    have hs8 := sh1_lt (n := (b (40 + k) >>> 5 &&& 3) - 1) (m := 3) (by omega)
                    have ho8 := nb_lt_or (m := 3) (a := c) (b := 1 <<< ((b (40 + k) >>> 5 &&& 3) - 1)) hc8 hs8
                    refine aw_ishlN C (by omega) dX6_account_116 ?_
                    try have ho0 := nb_lt_or (m := 3) (a := c) (b := 0) hc8 (by decide)
                    refine aw_iorN C dX6_account_117 ?_
                    refine aw_istore C (by decide) rfl dX6_account_118 ?_
                    refine aw_iinc1 C rfl (by decide) rfl dX6_account_120 ?_
                    refine aw_goto C (tgt := 48) dX6_account_123 (by decide) ?_
                    exact aw_lo (ih (k + 1) _ _ _ (by omega) (by omega) (by rw [accS, sumF, hs]; simp [accS, *, -Nat.and_one_is_mod]) (by rw [accC, hc]; simp [*, -Nat.and_one_is_mod]) (by omega) (by omega) hu hT h7) ⟨rfl, rfl, rfl, rfl, rfl, rfl, trivial⟩
                  · have gQ2 := (m1_p (by omega)).mp gQ
                    refine aw_iconst C (v := nI 0) (by decide) dX6_account_104 ?_
                    refine aw_goto C (tgt := 117) dX6_account_105 (by decide) ?_
                    try have ho0 := nb_lt_or (m := 3) (a := c) (b := 0) hc8 (by decide)
                    refine aw_iorN C dX6_account_117 ?_
                    refine aw_istore C (by decide) rfl dX6_account_118 ?_
                    refine aw_iinc1 C rfl (by decide) rfl dX6_account_120 ?_
                    refine aw_goto C (tgt := 48) dX6_account_123 (by decide) ?_
                    exact aw_lo (ih (k + 1) _ _ _ (by omega) (by omega) (by rw [accS, sumF, hs]; simp [accS, *, -Nat.and_one_is_mod]) (by rw [accC, hc]; simp [*, -Nat.and_one_is_mod]) (by omega) (by omega) hu hT h7) ⟨rfl, rfl, rfl, rfl, rfl, rfl, trivial⟩
                · refine aw_iconst C (v := nI 1) (by decide) dX6_account_84 ?_
                  refine aw_goto C (tgt := 89) dX6_account_85 (by decide) ?_
                  refine aw_iaddN C dX6_account_89 ?_
                  refine aw_istore_n C rfl (by decide) rfl dX6_account_90 ?_
                  refine aw_iload C rfl dX6_account_91 ?_
                  refine aw_aload_n C rfl rfl dX6_account_93 ?_
                  refine aw_iload C rfl dX6_account_94 ?_
                  refine aw_iconst C (v := nI 1) (by decide) dX6_account_96 ?_
                  refine tw_callR C (t6_moved hG l o sz _ hu hA (k := k) (w := 1) (by omega) (by omega)) q2202 q2204 qs91 q120 q2205 (n9 := 2) (by decide +kernel) rfl (Nat.le_of_ble_eq_true rfl) (Nat.le_of_ble_eq_true rfl) (Nat.zero_le _) (Nat.zero_le _) rfl (Nat.le_of_ble_eq_true rfl) dX6_account_97 ?_
                  refine aw_top (show mvd (b (40 + k)) 1 = nI (b (40 + k) >>> 1 &&& 15) - nI 1 from rfl) ?_
                  refine aw_iconst C (v := -1) (by decide) dX6_account_100 ?_
                  refine aw_icmp_ne C (tgt := 108) dX6_account_101 (by decide) (fun gQ => ?_) (fun gQ => ?_)
                  · have gQ2 := mt (m1_p (by omega)).mpr gQ
                    have hg2 := hg.2 gQ2
                    refine aw_iconst C (v := nI 1) (by decide) dX6_account_108 ?_
                    refine aw_aload_n C rfl rfl dX6_account_109 ?_
                    refine aw_iload C rfl dX6_account_110 ?_
                    refine aw_iconst C (v := nI 2) (by decide) dX6_account_112 ?_
                    refine tw_callR C (t6_moved hG l o sz _ hu hA (k := k) (w := 2) (by omega) (by omega)) q2202 q2204 qs91 q120 q2205 (n9 := 2) (by decide +kernel) rfl (Nat.le_of_ble_eq_true rfl) (Nat.le_of_ble_eq_true rfl) (Nat.zero_le _) (Nat.zero_le _) rfl (Nat.le_of_ble_eq_true rfl) dX6_account_113 ?_
                    refine aw_top (show mvd (b (40 + k)) 2 = nI ((b (40 + k) >>> 5 &&& 3) - 1) from pk_sub (by omega)) ?_
                    have hs8 := sh1_lt (n := (b (40 + k) >>> 5 &&& 3) - 1) (m := 3) (by omega)
                    have ho8 := nb_lt_or (m := 3) (a := c) (b := 1 <<< ((b (40 + k) >>> 5 &&& 3) - 1)) hc8 hs8
                    refine aw_ishlN C (by omega) dX6_account_116 ?_
                    try have ho0 := nb_lt_or (m := 3) (a := c) (b := 0) hc8 (by decide)
                    refine aw_iorN C dX6_account_117 ?_
                    refine aw_istore C (by decide) rfl dX6_account_118 ?_
                    refine aw_iinc1 C rfl (by decide) rfl dX6_account_120 ?_
                    refine aw_goto C (tgt := 48) dX6_account_123 (by decide) ?_
                    exact aw_lo (ih (k + 1) _ _ _ (by omega) (by omega) (by rw [accS, sumF, hs]; simp [accS, *, -Nat.and_one_is_mod]) (by rw [accC, hc]; simp [*, -Nat.and_one_is_mod]) (by omega) (by omega) hu hT h7) ⟨rfl, rfl, rfl, rfl, rfl, rfl, trivial⟩
                  · have gQ2 := (m1_p (by omega)).mp gQ
                    refine aw_iconst C (v := nI 0) (by decide) dX6_account_104 ?_
                    refine aw_goto C (tgt := 117) dX6_account_105 (by decide) ?_
                    try have ho0 := nb_lt_or (m := 3) (a := c) (b := 0) hc8 (by decide)
                    refine aw_iorN C dX6_account_117 ?_
                    refine aw_istore C (by decide) rfl dX6_account_118 ?_
                    refine aw_iinc1 C rfl (by decide) rfl dX6_account_120 ?_
                    refine aw_goto C (tgt := 48) dX6_account_123 (by decide) ?_
                    exact aw_lo (ih (k + 1) _ _ _ (by omega) (by omega) (by rw [accS, sumF, hs]; simp [accS, *, -Nat.and_one_is_mod]) (by rw [accC, hc]; simp [*, -Nat.and_one_is_mod]) (by omega) (by omega) hu hT h7) ⟨rfl, rfl, rfl, rfl, rfl, rfl, trivial⟩
              · refine aw_goto C (tgt := 120) dX6_account_70 (by decide) ?_
                refine aw_iinc1 C rfl (by decide) rfl dX6_account_120 ?_
                refine aw_goto C (tgt := 48) dX6_account_123 (by decide) ?_
                exact aw_lo (ih (k + 1) _ _ _ (by omega) (by omega) (by rw [accS, sumF, hs]; simp [accS, *, -Nat.and_one_is_mod]) (by rw [accC, hc]; simp [*, -Nat.and_one_is_mod]) (by omega) (by omega) hu hT h7) ⟨rfl, rfl, rfl, rfl, rfl, rfl, trivial⟩
        have hT := to_put7 hT (nI 0)
        have hu := bd_tsf hu 7 (nI 0)
        have h7 : (tsf u 7 (nI 0)).1 7 = nI 0 := tsf_at _ _ _
        refine aw_iconst C (v := nI 0) (by decide) dX6_account_40 ?_
        refine aw_istore_n C rfl (by decide) rfl dX6_account_41 ?_
        refine aw_iconst C (v := nI 0) (by decide) dX6_account_42 ?_
        refine aw_istore C (by decide) rfl dX6_account_43 ?_
        refine aw_iconst C (v := nI 0) (by decide) dX6_account_45 ?_
        refine aw_istore C (by decide) rfl dX6_account_46 ?_
        exact aw_lo (key (b 3 + 1) 0 0 0 _ (Nat.zero_le _) (by omega) rfl rfl (by decide) (Nat.zero_le _) hu hT h7) ⟨rfl, rfl, rfl, rfl, rfl, rfl, trivial⟩
      · first | exact absurd (by decide) g2 | exact absurd g2 (by decide)
  · refine aw_iconst C (v := nI 1) (by decide) dX6_account_10 ?_
    refine aw_goto C (tgt := 28) dX6_account_11 (by decide) ?_
    refine tw_put C 7 (by decide) q1825 rfl rfl rfl dX6_account_28 ?_
    refine aw_aload_n C rfl rfl dX6_account_31 ?_
    refine tw_get C 7 (by decide) q1825 rfl dX6_account_32 ?_
    refine aw_top (tsf_at _ _ _) ?_
    refine aw_if_le C (tgt := 40) dX6_account_35 (by decide) (fun g3 => ?_) (fun g3 => ?_)
    · first | exact absurd g3 (by decide) | exact absurd (by decide) g3
    · refine aw_iconst C (v := nI 0) (by decide) dX6_account_38 ?_
      refine aw_iret C rfl dX6_account_39 (Nat.le_refl _) (Nat.le_refl _) ?_
      unfold spAcc
      first
        | (rw [if_pos (show isI p (nI 0) (nI 1) = false from gP)]; exact ⟨rfl, _, _, rfl, rfl, tsf_at _ _ _, rfl, hu, hA, to_put7 hT _⟩)
        | (rw [if_neg (by rw [hP]; decide), if_pos (show isI w (nI 0) (nI 4) = false from gI)]; exact ⟨rfl, _, _, rfl, rfl, tsf_at _ _ _, rfl, hu, hA, to_put7 hT _⟩)
