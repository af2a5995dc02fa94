/-! THE SEARCH: the place of a key, the beginning, neighbours' bits, the split of a set -/
theorem nb_16 (x : Int32) : ∃ i, i < 65536 ∧ x &&& nI 65535 = nI i := by
  refine ⟨x.toBitVec.toNat &&& 65535, Nat.lt_of_le_of_lt Nat.and_le_right (by decide), ?_⟩
  rw [← nb_and]
  congr 1
  apply Int32.toBitVec_inj.1
  show x.toBitVec = BitVec.ofNat 32 x.toBitVec.toNat
  rw [BitVec.ofNat_toNat, BitVec.setWidth_eq]
theorem and_16 (a : Nat) : a &&& 65535 = a % 65536 := Nat.and_two_pow_sub_one_eq_mod a 16
theorem pdrop {L : List Nat} {p : Nat} {T : List Nat} {k : Nat} (h : L.drop k = p :: T) : k < L.length ∧ L.getD k 0 = p ∧ L.drop (k + 1) = T := by
  have hk : k < L.length := by
    rcases Nat.lt_or_ge k L.length with q | q
    · exact q
    · rw [List.drop_eq_nil_of_le q] at h
      cases h
  rw [List.drop_eq_getElem_cons hk] at h
  simp only [List.cons.injEq] at h
  refine ⟨hk, ?_, h.2⟩
  rw [List.getD_eq_getElem?_getD, List.getElem?_eq_getElem hk]
  exact h.1
set_option maxRecDepth 100000 in
theorem se_place {γ : Gm} (hG : GF γ) (l : Launch) {o : Nat} {u : CU} {g : AH} {sz : Nat} {x0 : Int64} (hfr : ∃ j, j < 65536 ∧ ¬ u.2.1 1 j = u.1 2) : MX γ l yX2_place cX2_place 4 (some .int) 0 0 0 0 [.ref (o + 1), .long x0] (ch o u g) sz (fun v h' sz' => sz' = sz ∧ h' = ch o u g ∧ ∃ i, i < 65536 ∧ v = some (.int (nI i)) ∧ (u.2.1 1 i = u.1 2 → u.2.2.1 i = x0)) NX := by
  refine mx_start hG (by decide) (Nat.le_of_ble_eq_true rfl) (fun x C => ?_)
  obtain ⟨j, hj, hf⟩ := hfr
  have key : ∀ e i, i < 65536 → (i + e) % 65536 = j → AW γ l x (QX γ x 0 0 (fun v h' sz' => sz' = sz ∧ h' = ch o u g ∧ ∃ i, i < 65536 ∧ v = some (.int (nI i)) ∧ (u.2.1 1 i = u.1 2 → u.2.2.1 i = x0)) NX) 4 (ch o u g) sz 0 0 13 [(0, .ref (o + 1)), (1, .long x0), (3, .int (nI i))] [] := by
    intro e
    induction e with
    | zero =>
      intro i h1 h2
      refine aw_aload_n C rfl rfl dX2_place_13 ?_
      refine aw_getf C ck1 2 (by decide) q158 (fun _ z => z) (ch_at (i := 1) rfl) rfl dX2_place_14 ?_
      refine aw_iload_n C rfl rfl dX2_place_17 ?_
      refine aw_ialdN C (ch_at (i := 4) rfl) (by omega) (by decide) dX2_place_18 ?_
      refine aw_aload_n C rfl rfl dX2_place_19 ?_
      refine aw_getf C ck1 6 (by decide) q162 (fun _ z => z) (ch_at (i := 1) rfl) rfl dX2_place_20 ?_
      refine aw_icmp_ne C (tgt := 47) dX2_place_23 (by decide) (fun gS => ?_) (fun gS => ?_)
      · refine aw_iload_n C rfl rfl dX2_place_47 ?_
        exact aw_iret C rfl dX2_place_48 (Nat.le_refl _) (Nat.le_refl _) ⟨rfl, rfl, i, h1, rfl, fun z => by first | exact absurd z gS | exact (lg_cmp_eq _ _).mp gK⟩
      · refine aw_aload_n C rfl rfl dX2_place_26 ?_
        refine aw_getf C ck1 0 (by decide) q156 (fun _ z => z) (ch_at (i := 1) rfl) rfl dX2_place_27 ?_
        refine aw_iload_n C rfl rfl dX2_place_30 ?_
        refine aw_laldN C (ch_at (i := 2) rfl) (by omega) (by decide) dX2_place_31 ?_
        refine aw_lload_n C rfl rfl dX2_place_32 ?_
        refine aw_lcmp C dX2_place_33 ?_
        refine aw_if_eq C (tgt := 47) dX2_place_34 (by decide) (fun gK => ?_) (fun gK => ?_)
        · refine aw_iload_n C rfl rfl dX2_place_47 ?_
          exact aw_iret C rfl dX2_place_48 (Nat.le_refl _) (Nat.le_refl _) ⟨rfl, rfl, i, h1, rfl, fun z => by first | exact absurd z gS | exact (lg_cmp_eq _ _).mp gK⟩
        · refine aw_iload_n C rfl rfl dX2_place_37 ?_
          refine aw_iconst C (v := nI 1) (by decide) dX2_place_38 ?_
          refine aw_iaddN C dX2_place_39 ?_
          refine aw_ldc C q764 dX2_place_40 ?_
          refine aw_top ((show (65535 : Int32) = nI 65535 from rfl)) ?_
          refine aw_iandN C dX2_place_42 ?_
          refine aw_istore_n C rfl (by decide) rfl dX2_place_43 ?_
          refine aw_goto C (tgt := 13) dX2_place_44 (by decide) ?_
          exact absurd gS (by rw [show i = j by omega]; exact hf)
    | succ e ih =>
      intro i h1 h2
      refine aw_aload_n C rfl rfl dX2_place_13 ?_
      refine aw_getf C ck1 2 (by decide) q158 (fun _ z => z) (ch_at (i := 1) rfl) rfl dX2_place_14 ?_
      refine aw_iload_n C rfl rfl dX2_place_17 ?_
      refine aw_ialdN C (ch_at (i := 4) rfl) (by omega) (by decide) dX2_place_18 ?_
      refine aw_aload_n C rfl rfl dX2_place_19 ?_
      refine aw_getf C ck1 6 (by decide) q162 (fun _ z => z) (ch_at (i := 1) rfl) rfl dX2_place_20 ?_
      refine aw_icmp_ne C (tgt := 47) dX2_place_23 (by decide) (fun gS => ?_) (fun gS => ?_)
      · refine aw_iload_n C rfl rfl dX2_place_47 ?_
        exact aw_iret C rfl dX2_place_48 (Nat.le_refl _) (Nat.le_refl _) ⟨rfl, rfl, i, h1, rfl, fun z => by first | exact absurd z gS | exact (lg_cmp_eq _ _).mp gK⟩
      · refine aw_aload_n C rfl rfl dX2_place_26 ?_
        refine aw_getf C ck1 0 (by decide) q156 (fun _ z => z) (ch_at (i := 1) rfl) rfl dX2_place_27 ?_
        refine aw_iload_n C rfl rfl dX2_place_30 ?_
        refine aw_laldN C (ch_at (i := 2) rfl) (by omega) (by decide) dX2_place_31 ?_
        refine aw_lload_n C rfl rfl dX2_place_32 ?_
        refine aw_lcmp C dX2_place_33 ?_
        refine aw_if_eq C (tgt := 47) dX2_place_34 (by decide) (fun gK => ?_) (fun gK => ?_)
        · refine aw_iload_n C rfl rfl dX2_place_47 ?_
          exact aw_iret C rfl dX2_place_48 (Nat.le_refl _) (Nat.le_refl _) ⟨rfl, rfl, i, h1, rfl, fun z => by first | exact absurd z gS | exact (lg_cmp_eq _ _).mp gK⟩
        · refine aw_iload_n C rfl rfl dX2_place_37 ?_
          refine aw_iconst C (v := nI 1) (by decide) dX2_place_38 ?_
          refine aw_iaddN C dX2_place_39 ?_
          refine aw_ldc C q764 dX2_place_40 ?_
          refine aw_top ((show (65535 : Int32) = nI 65535 from rfl)) ?_
          refine aw_iandN C dX2_place_42 ?_
          refine aw_istore_n C rfl (by decide) rfl dX2_place_43 ?_
          refine aw_goto C (tgt := 13) dX2_place_44 (by decide) ?_
          rw [and_16]
          exact aw_lo (ih ((i + 1) % 65536) (Nat.mod_lt _ (by decide)) (by omega)) ⟨rfl, rfl, rfl, trivial⟩
  refine aw_lload_n C rfl rfl dX2_place_0 ?_
  refine aw_ldc2 C q763 dX2_place_1 ?_
  refine aw_lmul C dX2_place_4 ?_
  refine aw_bipush C (v := nI 48) (by decide) dX2_place_5 ?_
  refine aw_lushr C (rfl) dX2_place_7 ?_
  refine aw_l2i C (rfl) dX2_place_8 ?_
  refine aw_ldc C q764 dX2_place_9 ?_
  refine aw_top ((show (65535 : Int32) = nI 65535 from rfl)) ?_
  refine aw_iand C dX2_place_11 ?_
  obtain ⟨i, hi, ei⟩ := nb_16 ((x0 * (-7046029254386353131) : Int64).toUInt64 >>> ((nI 48).toInt64.toUInt64 &&& Int64.toUInt64 63)).toInt64.toInt32
  refine aw_top ei ?_
  refine aw_istore_n C rfl (by decide) rfl dX2_place_12 ?_
  exact aw_lo (key ((j + 65536 - i) % 65536) i hi (by omega)) ⟨rfl, rfl, rfl, trivial⟩
set_option maxRecDepth 100000 in
theorem se_begin {γ : Gm} (hG : GF γ) (l : Launch) {o : Nat} {u : CU} {g : AH} {sz : Nat} {K gr : Nat} {b : BT} (hK : K + 1 < 2 ^ 30) (hg : GRP g gr b) (hW : WB b) (hR : SR g u K gr b) : MX γ l yX2_begin cX2_begin 2 none 0 0 0 0 [.ref (o + 1), .ref gr] (ch o u g) sz (RCv o sz g (fun u' => SX u u' ∧ SQ u' (K + 1) gr b)) NX := by
  refine mx_start hG (by decide) (Nat.le_of_ble_eq_true rfl) (fun x C => ?_)
  refine aw_aload_n C rfl rfl dX2_begin_0 ?_
  refine aw_getf C ck1 5 (by decide) q161 (fun _ z => z) (ch_at (i := 1) rfl) rfl dX2_begin_1 ?_
  refine aw_aload_n C rfl rfl dX2_begin_4 ?_
  refine aw_acmp_ne C (rx := u.2.2.2.1 0 0) (ry := some gr) (tgt := 9) dX2_begin_5 (by decide) (fun gG => ?_) (fun gG => ?_)
  · refine aw_aload_n C rfl rfl dX2_begin_9 ?_
    refine aw_aload_n C rfl rfl dX2_begin_10 ?_
    refine cw_graph C q161 dX2_begin_11 ?_
    refine aw_aload_n C rfl rfl dX2_begin_14 ?_
    refine aw_dup C rfl dX2_begin_15 ?_
    refine aw_getf C ck1 6 (by decide) q162 (fun _ z => z) (ch_at (i := 1) rfl) rfl dX2_begin_16 ?_
    refine aw_iconst C (v := nI 1) (by decide) dX2_begin_19 ?_
    refine aw_iadd C dX2_begin_20 ?_
    refine cw_stamp C q162 dX2_begin_21 ?_
    refine aw_aload_n C rfl rfl dX2_begin_24 ?_
    refine aw_iconst C (v := nI 0) (by decide) dX2_begin_25 ?_
    refine cw_known C q163 dX2_begin_26 ?_
    refine aw_vret C rfl dX2_begin_29 (Nat.le_refl _) (Nat.le_refl _) ?_
    rcases hR with h | h
    · obtain ⟨⟨k, hk, hT⟩, -⟩ := h
      refine ⟨rfl, rfl, beg u gr k, ?_, beg_sx hT (by omega), beg_sq hT hk hK⟩
      have e : u.1 2 + nI 1 = nI (k + 1) := by rw [hT.1, nI_add]
      unfold beg
      rw [← e]
      rfl
    · exact absurd h.1 gG
  · refine aw_vret C rfl dX2_begin_8 (Nat.le_refl _) (Nat.le_refl _) ?_
    refine ⟨rfl, rfl, u, rfl, SX.rf u, ?_⟩
    rcases hR with h | h
    · obtain ⟨b2, k, hk, hg2, hW2, hT⟩ := h.2 gr gG
      exact ⟨gG, k, by omega, hT.st (hg2.same hg hW2 hW)⟩
    · exact h
set_option maxRecDepth 100000 in
theorem se_near {γ : Gm} (hG : GF γ) (l : Launch) {o : Nat} {u : CU} {g : AH} {sz : Nat}  {gr : Nat} {b : BT} (hSp : Sep o g) (hgr : u.2.2.2.1 0 0 = some gr) (hg : GRP g gr b) (hW : WB b) {v c : Nat} (hv : v < 9) (hc : c < 3) : MX γ l yX2_near cX2_near 5 (some .int) 1 21 0 0 [.ref (o + 1), .int (nI v), .int (nI c)] (ch o u g) sz (RI (ch o u g) sz (nI (nrB b v c))) NX := by
  obtain ⟨gl, gn, fl, fn, eg, egl, egn, hgl, hgn⟩ := id hg
  refine mx_start hG (by decide) (Nat.le_of_ble_eq_true rfl) (fun x C => ?_)
  have hN := hW.2.1
  have hn9 := hW.n9 hv
  have key : ∀ j k s, k ≤ b 0 → b 0 + 1 ≤ k + j → s = nrF b v c k → AW γ l x (QX γ x 0 0 (RI (ch o u g) sz (nI (nrB b v c))) NX) 5 (ch o u g) sz 0 0 5 [(0, .ref (o + 1)), (1, .int (nI v)), (2, .int (nI c)), (3, .int (nI s)), (4, .int (nI k))] [] := by
    intro j
    induction j with
    | zero => intro k s h1 h2 hs; exact absurd h2 (by omega)
    | succ j ih =>
      intro k s h1 h2 hs
      refine aw_iload C rfl dX2_near_5 ?_
      refine aw_aload_n C rfl rfl dX2_near_7 ?_
      refine aw_getf C ck1 5 (by decide) q161 (fun _ z => z) (ch_at (i := 1) rfl) rfl dX2_near_8 ?_
      refine aw_topV (show va_rf (u.2.2.2.1 0 0) = .ref gr from by rw [hgr]; rfl) ?_
      refine aw_getfN C ck3 3 (by decide) q215 (fun _ z => z) (ch_le hSp _ _ eg) rfl dX2_near_11 ?_
      refine aw_icmpN_ge C (tgt := 55) (by omega) (by omega) dX2_near_14 (by decide) (fun gN => ?_) (fun gN => ?_)
      · refine aw_iload_n C rfl rfl dX2_near_55 ?_
        exact aw_iret C rfl dX2_near_56 (Nat.le_refl _) (Nat.le_refl _) ⟨by rw [hs, show k = b 0 by omega]; rfl, rfl, rfl⟩
      · refine aw_iload_n C rfl rfl dX2_near_17 ?_
        refine aw_aload_n C rfl rfl dX2_near_18 ?_
        refine aw_getf C ck1 5 (by decide) q161 (fun _ z => z) (ch_at (i := 1) rfl) rfl dX2_near_19 ?_
        refine aw_topV (show va_rf (u.2.2.2.1 0 0) = .ref gr from by rw [hgr]; rfl) ?_
        refine aw_getfN C ck3 2 (by decide) q209 (fun _ z => z) (ch_le hSp _ _ eg) rfl dX2_near_22 ?_
        refine aw_iload_n C rfl rfl dX2_near_25 ?_
        refine aw_ialdN C (ch_le hSp _ _ egn) (by omega) (by decide) dX2_near_26 ?_
        refine aw_top ((hgn _ (by omega))) ?_
        refine aw_iload C rfl dX2_near_27 ?_
        refine aw_callSNR C (cp_has hG l (by omega) (by omega)) q153 q154 q95 q155 (n9 := 2) (by decide +kernel) rfl (Nat.le_of_ble_eq_true rfl) (Nat.le_of_ble_eq_true rfl) (Nat.zero_le _) (Nat.zero_le _) rfl (Nat.le_of_ble_eq_true rfl) dX2_near_29 ?_
        refine aw_bit_eq0 C (tgt := 46) dX2_near_32 (by decide) (fun gB => ?_) (fun gB => ?_)
        · refine aw_iconst C (v := nI 0) (by decide) dX2_near_46 ?_
          refine aw_iorN C dX2_near_47 ?_
          refine aw_istore_n C rfl (by decide) rfl dX2_near_48 ?_
          refine aw_iinc1 C rfl (by decide) rfl dX2_near_49 ?_
          refine aw_goto C (tgt := 5) dX2_near_52 (by decide) ?_
          exact aw_lo (ih (k + 1) _ (by omega) (by omega) (by first | (rw [nrF, hs]; simp [gB, Nat.or_zero]; done) | (rw [nrF, hs]; simp [gB]; done))) ⟨rfl, rfl, rfl, rfl, rfl, trivial⟩
        · refine aw_iconst C (v := nI 1) (by decide) dX2_near_35 ?_
          refine aw_iconst C (v := nI 3) (by decide) dX2_near_36 ?_
          refine aw_iload C rfl dX2_near_37 ?_
          refine aw_imulN C dX2_near_39 ?_
          refine aw_iload_n C rfl rfl dX2_near_40 ?_
          refine aw_iaddN C dX2_near_41 ?_
          refine aw_ishlN C (by omega) dX2_near_42 ?_
          refine aw_goto C (tgt := 47) dX2_near_43 (by decide) ?_
          refine aw_iorN C dX2_near_47 ?_
          refine aw_istore_n C rfl (by decide) rfl dX2_near_48 ?_
          refine aw_iinc1 C rfl (by decide) rfl dX2_near_49 ?_
          refine aw_goto C (tgt := 5) dX2_near_52 (by decide) ?_
          exact aw_lo (ih (k + 1) _ (by omega) (by omega) (by first | (rw [nrF, hs]; simp [gB, Nat.or_zero]; done) | (rw [nrF, hs]; simp [gB]; done))) ⟨rfl, rfl, rfl, rfl, rfl, trivial⟩
  refine aw_iconst C (v := nI 0) (by decide) dX2_near_0 ?_
  refine aw_istore_n C rfl (by decide) rfl dX2_near_1 ?_
  refine aw_iconst C (v := nI 0) (by decide) dX2_near_2 ?_
  refine aw_istore C (by decide) rfl dX2_near_3 ?_
  exact aw_lo (key (b 0 + 1) 0 0 (Nat.zero_le _) (by omega) rfl) ⟨rfl, rfl, rfl, rfl, rfl, trivial⟩
set_option maxRecDepth 100000 in
theorem se_split {γ : Gm} (hG : GF γ) (l : Launch) {o : Nat} {u : CU} {g : AH} {sz : Nat}  {gr : Nat} {b : BT} (hSp : Sep o g) (hgr : u.2.2.2.1 0 0 = some gr) (hg : GRP g gr b) (hW : WB b) (hY : SY b) {S d : Nat} (hS : S < 2 ^ b 0) (hd : d < 10) : MX γ l yX2_split cX2_split 5 (some .int) 3 67 0 0 [.ref (o + 1), .int (nI S), .int (nI d)] (ch o u g) sz (RCi o sz g (fun r u' => r = nI (pts b S S).length ∧ RW d u u' ∧ ∀ i, i < (pts b S S).length → u'.2.1 (10 + d) i = nI ((pts b S S).getD i 0))) NX := by
  obtain ⟨gl, gn, fl, fn, eg, egl, egn, hgl, hgn⟩ := id hg
  refine mx_start hG (by decide) (Nat.le_of_ble_eq_true rfl) (fun x C => ?_)
  have hN := hW.2.1
  have hS9 : S < 512 := Nat.lt_of_lt_of_le hS (Nat.pow_le_pow_right (by omega) hN)
  have hlen := pts_pop hN hS hY S hS9 (rcl_self b S)
  have hp9 := pop_le S hS9
  have key : ∀ j left m u1, left + 1 ≤ j → left < 512 → Rcl b S left → (pts b S S).drop m = pts b S left → m ≤ (pts b S S).length → RW d u u1 → (∀ i, i < m → u1.2.1 (10 + d) i = nI ((pts b S S).getD i 0)) → AW γ l x (QX γ x 0 0 (RCi o sz g (fun r u' => r = nI (pts b S S).length ∧ RW d u u' ∧ ∀ i, i < (pts b S S).length → u'.2.1 (10 + d) i = nI ((pts b S S).getD i 0))) NX) 5 (ch o u1 g) sz 0 0 5 [(0, .ref (o + 1)), (1, .int (nI S)), (2, .int (nI d)), (3, .int (nI m)), (4, .int (nI left))] [] := by
    intro j
    induction j with
    | zero => intro left m u1 h2 h3 hR h4 hm hrw hrow; exact absurd h2 (by omega)
    | succ j ih =>
      intro left m u1 h2 h3 hR h4 hm hrw hrow
      have hgr1 : u1.2.2.2.1 0 0 = some gr := (congrArg (fun z => z.2.1 0 0) hrw.2.2).trans hgr
      refine aw_iload C rfl dX2_split_5 ?_
      refine aw_ifN_eq C (tgt := 48) (by omega) dX2_split_7 (by decide) (fun g0 => ?_) (fun g0 => ?_)
      · refine aw_iload_n C rfl rfl dX2_split_48 ?_
        refine aw_iret C rfl dX2_split_49 (Nat.le_refl _) (Nat.le_refl _) ?_
        have e0 : m = (pts b S S).length := by
          rw [g0] at h4
          rcases Nat.lt_or_ge m (pts b S S).length with q | q
          · rw [List.drop_eq_getElem_cons q] at h4
            cases h4
          · omega
        exact ⟨rfl, _, u1, rfl, rfl, by rw [e0], hrw, fun i hi => hrow i (by omega)⟩
      · have h0 : 0 < left := by omega
        obtain ⟨hl1, hl2, hl3⟩ := low_bit left h3 h0
        have hq := nd_rest hR hN hS h0 h3
        have hd9 := nd_lt_of hl1 (rch_self b (low left) S)
        rw [pts_s b S h0 h3] at h4
        obtain ⟨hm1, hm2, hm3⟩ := pdrop h4
        refine aw_aload_n C rfl rfl dX2_split_10 ?_
        refine aw_getf C ck1 3 (by decide) q159 (fun _ z => z) (ch_at (i := 1) rfl) rfl dX2_split_11 ?_
        refine aw_iload_n C rfl rfl dX2_split_14 ?_
        refine aw_aaldS C (t := 5) (by decide) rfl (ch_at (i := 5) rfl) (show d < 10 from hd) (by decide) (if_pos hd) dX2_split_15 ?_
        refine aw_iload_n C rfl rfl dX2_split_16 ?_
        refine aw_aload_n C rfl rfl dX2_split_17 ?_
        refine aw_getf C ck1 5 (by decide) q161 (fun _ z => z) (ch_at (i := 1) rfl) rfl dX2_split_18 ?_
        refine aw_topV (show va_rf (u1.2.2.2.1 0 0) = .ref gr from by rw [hgr1]; rfl) ?_
        refine aw_iload C rfl dX2_split_21 ?_
        refine aw_callVRR C ck3 (bd_firstPart hG l (hg.le (ch_le hSp)) hN h3 h0) q713 q714 q715 q98 q716 (Or.inl (ch_le hSp _ _ eg)) (n9 := 1) (by decide +kernel) rfl (Nat.le_of_ble_eq_true rfl) (Nat.le_of_ble_eq_true rfl) (Nat.zero_le _) (Nat.zero_le _) rfl (Nat.le_of_ble_eq_true rfl) dX2_split_23 ?_
        refine cw_row C hd (show m < 9 by omega) dX2_split_26 ?_
        rw [hq]
        refine aw_iload C rfl dX2_split_27 ?_
        refine aw_aload_n C rfl rfl dX2_split_29 ?_
        refine aw_getf C ck1 3 (by decide) q159 (fun _ z => z) (ch_at (i := 1) rfl) rfl dX2_split_30 ?_
        refine aw_iload_n C rfl rfl dX2_split_33 ?_
        refine aw_aaldS C (t := 5) (by decide) rfl (ch_at (i := 5) rfl) (show d < 10 from hd) (by decide) (if_pos hd) dX2_split_34 ?_
        refine aw_iload_n C rfl rfl dX2_split_35 ?_
        refine aw_ialdN C (ch_row hd) (by omega) (by decide) dX2_split_36 ?_
        refine aw_top (show _ = nI (rch b (low left) S) from by rw [cua_at]; exact pk_us) ?_
        refine aw_iconst C (v := -1) (by decide) dX2_split_37 ?_
        refine aw_ixor C dX2_split_38 ?_
        refine aw_iandNot C dX2_split_39 ?_
        refine aw_istore C (by decide) rfl dX2_split_40 ?_
        refine aw_iinc1 C rfl (by decide) rfl dX2_split_42 ?_
        refine aw_goto C (tgt := 5) dX2_split_45 (by decide) ?_
        refine aw_lo (ih (nd left (rch b (low left) S)) (m + 1) _ (by omega) (by omega) (rcl_nd hR hY hS hN hl1) hm3 (by omega) (hrw.st _) (fun i hi => ?_)) ⟨rfl, rfl, rfl, rfl, rfl, trivial⟩
        rw [cua_at]
        by_cases e : i = m
        · rw [e, pk_us, hm2]
        · rw [pk_un e]
          exact hrow i (by omega)
  refine aw_iconst C (v := nI 0) (by decide) dX2_split_0 ?_
  refine aw_istore_n C rfl (by decide) rfl dX2_split_1 ?_
  refine aw_iload_n C rfl rfl dX2_split_2 ?_
  refine aw_istore C (by decide) rfl dX2_split_3 ?_
  exact aw_lo (key (S + 1) S 0 u (by omega) hS9 (rcl_self b S) rfl (Nat.zero_le _) (RW.rf d u) (fun i hi => absurd hi (Nat.not_lt_zero i))) ⟨rfl, rfl, rfl, rfl, rfl, trivial⟩
