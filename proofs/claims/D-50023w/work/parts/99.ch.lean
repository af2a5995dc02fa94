/-! the reader: peek, word, accept -/
/-- a reader -/
abbrev RDO (n : Nat) (gr : Value) (p f o : Nat) : va_E := .inr (6, [.int (nI n), gr, .int (nI p), .int (nI f), .ref o])
/-- the bytes that are read -/
def RDF (h : AH) (o n : Nat) (bf : List Nat) : Prop := ∃ (u : CU) (fb : Nat → Int32), h o = some (.inr (0, cfs o u)) ∧ h (o + 31) = some (.inl (1, 500, .inl fb)) ∧ n ≤ 500 ∧ ∀ i, i < n → bf.getD i 0 < 256 ∧ fb i = vp_nar .byte (nI (bf.getD i 0))
theorem RDF.fr {h h' : AH} {o n : Nat} {bf : List Nat} (h1 : h' o = h o) (h2 : h' (o + 31) = h (o + 31)) (g : RDF h o n bf) : RDF h' o n bf := by
  obtain ⟨u, fb, e1, e2, e3⟩ := g
  exact ⟨u, fb, h1.trans e1, h2.trans e2, e3⟩
theorem bt_c : ∀ c, c < 256 → (vp_nar .byte (nI c) = nI 32 ↔ c = 32) ∧ vp_nar .byte (nI c) &&& nI 255 = nI c ∧ isI (vp_nar .byte (nI c)) (nI 97) (nI 122) = decide (97 ≤ c ∧ c ≤ 122) ∧ isI (vp_nar .byte (nI c)) (nI 48) (nI 57) = decide (48 ≤ c ∧ c ≤ 57) := by decide +kernel
theorem bt_l : ∀ c, c < 128 → vp_nar .byte (nI c) = nI c ∧ ((vp_nar .byte (nI c)).toUInt32 % 65536).toInt32 = nI c := by decide +kernel
theorem isLt_i {bf : List Nat} {n k : Nat} {x : Int32} (hk : k < n) (hb : bf.getD k 0 < 256) (hx : x = vp_nar .byte (nI (bf.getD k 0))) : isI x (nI 97) (nI 122) = isLt bf n k := by
  rw [hx, (bt_c _ hb).2.2.1]
  unfold isLt
  simp only [hk, true_and]
theorem isDg_i {bf : List Nat} {n k : Nat} {x : Int32} (hk : k < n) (hb : bf.getD k 0 < 256) (hx : x = vp_nar .byte (nI (bf.getD k 0))) : isI x (nI 48) (nI 57) = isDg bf n k := by
  rw [hx, (bt_c _ hb).2.2.2]
  unfold isDg
  simp only [hk, true_and]
set_option maxRecDepth 100000 in
theorem rd_peek {γ : Gm} (hG : GF γ) (l : Launch) {h : AH} {sz : Nat} {r o n p f : Nat} {gr : Value} {bf : List Nat} (hb : RDF h o n bf) (er : h r = some (RDO n gr p f o)) (hp : p ≤ n) : MX γ l yX7_peek cX7_peek 1 (some .int) 0 0 0 0 [.ref r] h sz (PE (some (.int (seeV bf n (rn (isSp bf n) n p)))) (hset h r (RDO n gr (rn (isSp bf n) n p) f o)) sz) NX := by
  refine mx_start hG (by decide) (Nat.le_of_ble_eq_true rfl) (fun x C => ?_)
  obtain ⟨u, fb, eo, eb, hn5, hfb⟩ := id hb
  have nor : o ≠ r := ne9 eo er (by intro z; cases z)
  have nbr : o + 31 ≠ r := ne9 eb er (by intro z; cases z)
  have key : ∀ j q, q ≤ n → n + 1 ≤ q + j → rn (isSp bf n) n q = rn (isSp bf n) n p → AW γ l x (QX γ x 0 0 (PE (some (.int (seeV bf n (rn (isSp bf n) n p)))) (hset h r (RDO n gr (rn (isSp bf n) n p) f o)) sz) NX) 1 (hset h r (RDO n gr q f o)) sz 0 0 0 [(0, .ref r)] [] := by
    intro j
    induction j with
    | zero => intro q h1 h2 hrn; exact absurd h2 (by omega)
    | succ j ih =>
      intro q h1 h2 hrn
      refine aw_aload_n C rfl rfl dX7_peek_0 ?_
      refine aw_getf C ck6 2 (by decide) q1292 (fun _ z => z) (hset_s _ _ _) rfl dX7_peek_1 ?_
      refine aw_aload_n C rfl rfl dX7_peek_4 ?_
      refine aw_getf C ck6 0 (by decide) q1290 (fun _ z => z) (hset_s _ _ _) rfl dX7_peek_5 ?_
      refine aw_icmpN_ge C (tgt := 41) (by omega) (by omega) dX7_peek_8 (by decide) (fun g8 => ?_) (fun g8 => ?_)
      · have hsp : isSp bf n q = false := by
          unfold isSp
          first
            | exact decide_eq_false (fun z => absurd z.1 (by omega))
            | exact decide_eq_false (fun z => g25 ((bt_c _ (hfb q (by omega)).1).1.2 z.2))
        have hpq : rn (isSp bf n) n p = q := hrn.symm.trans (rn_f hsp)
        refine aw_aload_n C rfl rfl dX7_peek_41 ?_
        refine aw_getf C ck6 2 (by decide) q1292 (fun _ z => z) (hset_s _ _ _) rfl dX7_peek_42 ?_
        refine aw_aload_n C rfl rfl dX7_peek_45 ?_
        refine aw_getf C ck6 0 (by decide) q1290 (fun _ z => z) (hset_s _ _ _) rfl dX7_peek_46 ?_
        refine aw_icmpN_ge C (tgt := 71) (by omega) (by omega) dX7_peek_49 (by decide) (fun g49 => ?_) (fun g49 => ?_)
        · refine aw_iconst C (v := -1) (by decide) dX7_peek_71 ?_
          refine aw_iret C rfl dX7_peek_72 (Nat.le_refl _) (Nat.le_refl _) ?_
          rw [hpq]
          refine ⟨?_, rfl, rfl⟩
          unfold seeV
          first
            | (rw [if_neg (by omega)]; done)
            | (rw [if_pos (by omega), (bt_c _ (hfb q (by omega)).1).2.1]; done)
        · refine aw_aload_n C rfl rfl dX7_peek_52 ?_
          refine aw_getf C ck6 4 (by decide) q1294 (fun _ z => z) (hset_s _ _ _) rfl dX7_peek_53 ?_
          refine aw_getfN C ck0 4 (by decide) q668 (fun _ z => z) ((hset_n _ _ nor).trans eo) rfl dX7_peek_56 ?_
          refine aw_aload_n C rfl rfl dX7_peek_59 ?_
          refine aw_getf C ck6 2 (by decide) q1292 (fun _ z => z) (hset_s _ _ _) rfl dX7_peek_60 ?_
          refine aw_baldN C ((hset_n _ _ nbr).trans eb) (by omega) (by decide) dX7_peek_63 ?_
          refine aw_top ((hfb _ (by omega)).2) ?_
          refine aw_sipush C (v := nI 255) (by decide) dX7_peek_64 ?_
          refine aw_iand C dX7_peek_67 ?_
          refine aw_goto C (tgt := 72) dX7_peek_68 (by decide) ?_
          refine aw_iret C rfl dX7_peek_72 (Nat.le_refl _) (Nat.le_refl _) ?_
          rw [hpq]
          refine ⟨?_, rfl, rfl⟩
          unfold seeV
          first
            | (rw [if_neg (by omega)]; done)
            | (rw [if_pos (by omega), (bt_c _ (hfb q (by omega)).1).2.1]; done)
      · refine aw_aload_n C rfl rfl dX7_peek_11 ?_
        refine aw_getf C ck6 4 (by decide) q1294 (fun _ z => z) (hset_s _ _ _) rfl dX7_peek_12 ?_
        refine aw_getfN C ck0 4 (by decide) q668 (fun _ z => z) ((hset_n _ _ nor).trans eo) rfl dX7_peek_15 ?_
        refine aw_aload_n C rfl rfl dX7_peek_18 ?_
        refine aw_getf C ck6 2 (by decide) q1292 (fun _ z => z) (hset_s _ _ _) rfl dX7_peek_19 ?_
        refine aw_baldN C ((hset_n _ _ nbr).trans eb) (by omega) (by decide) dX7_peek_22 ?_
        refine aw_top ((hfb _ (by omega)).2) ?_
        refine aw_bipush C (v := nI 32) (by decide) dX7_peek_23 ?_
        refine aw_icmp_ne C (tgt := 41) dX7_peek_25 (by decide) (fun g25 => ?_) (fun g25 => ?_)
        · have hsp : isSp bf n q = false := by
            unfold isSp
            first
              | exact decide_eq_false (fun z => absurd z.1 (by omega))
              | exact decide_eq_false (fun z => g25 ((bt_c _ (hfb q (by omega)).1).1.2 z.2))
          have hpq : rn (isSp bf n) n p = q := hrn.symm.trans (rn_f hsp)
          refine aw_aload_n C rfl rfl dX7_peek_41 ?_
          refine aw_getf C ck6 2 (by decide) q1292 (fun _ z => z) (hset_s _ _ _) rfl dX7_peek_42 ?_
          refine aw_aload_n C rfl rfl dX7_peek_45 ?_
          refine aw_getf C ck6 0 (by decide) q1290 (fun _ z => z) (hset_s _ _ _) rfl dX7_peek_46 ?_
          refine aw_icmpN_ge C (tgt := 71) (by omega) (by omega) dX7_peek_49 (by decide) (fun g49 => ?_) (fun g49 => ?_)
          · refine aw_iconst C (v := -1) (by decide) dX7_peek_71 ?_
            refine aw_iret C rfl dX7_peek_72 (Nat.le_refl _) (Nat.le_refl _) ?_
            rw [hpq]
            refine ⟨?_, rfl, rfl⟩
            unfold seeV
            first
              | (rw [if_neg (by omega)]; done)
              | (rw [if_pos (by omega), (bt_c _ (hfb q (by omega)).1).2.1]; done)
          · refine aw_aload_n C rfl rfl dX7_peek_52 ?_
            refine aw_getf C ck6 4 (by decide) q1294 (fun _ z => z) (hset_s _ _ _) rfl dX7_peek_53 ?_
            refine aw_getfN C ck0 4 (by decide) q668 (fun _ z => z) ((hset_n _ _ nor).trans eo) rfl dX7_peek_56 ?_
            refine aw_aload_n C rfl rfl dX7_peek_59 ?_
            refine aw_getf C ck6 2 (by decide) q1292 (fun _ z => z) (hset_s _ _ _) rfl dX7_peek_60 ?_
            refine aw_baldN C ((hset_n _ _ nbr).trans eb) (by omega) (by decide) dX7_peek_63 ?_
            refine aw_top ((hfb _ (by omega)).2) ?_
            refine aw_sipush C (v := nI 255) (by decide) dX7_peek_64 ?_
            refine aw_iand C dX7_peek_67 ?_
            refine aw_goto C (tgt := 72) dX7_peek_68 (by decide) ?_
            refine aw_iret C rfl dX7_peek_72 (Nat.le_refl _) (Nat.le_refl _) ?_
            rw [hpq]
            refine ⟨?_, rfl, rfl⟩
            unfold seeV
            first
              | (rw [if_neg (by omega)]; done)
              | (rw [if_pos (by omega), (bt_c _ (hfb q (by omega)).1).2.1]; done)
        · refine aw_aload_n C rfl rfl dX7_peek_28 ?_
          refine aw_dup C rfl dX7_peek_29 ?_
          refine aw_getf C ck6 2 (by decide) q1292 (fun _ z => z) (hset_s _ _ _) rfl dX7_peek_30 ?_
          refine aw_iconst C (v := nI 1) (by decide) dX7_peek_33 ?_
          refine aw_iaddN C dX7_peek_34 ?_
          refine aw_putf C ck6 2 (by decide) q1292 (fun _ z => z) rfl rfl (ty := .int) rfl rfl (hset_s _ _ _) (show 2 < 5 by decide) dX7_peek_35 ?_
          rw [hset_hset]
          refine aw_goto C (tgt := 0) dX7_peek_38 (by decide) ?_
          exact aw_lo (ih (q + 1) (by omega) (by omega) ((rn_t (decide_eq_true ⟨by omega, (bt_c _ (hfb q (by omega)).1).1.1 g25⟩) (by omega)).symm.trans hrn)) ⟨rfl, trivial⟩
  refine aw_hp (hset_self er).symm ?_
  exact aw_lo (key (n + 1) p hp (by omega) rfl) ⟨rfl, trivial⟩
set_option maxRecDepth 100000 in
theorem sb_init7 {γ : Gm} (hG : GF γ) (l : Launch) {h : AH} {sz : Nat} (hT : GT γ) {a : Nat} (ha : a < sz) (ea : h a = some (.inr (13, [.null, .int 0, .int 0, .int 0]))) : MX γ l yJ7_init cJ7_init 2 none 2 40 1 16 [.ref a, .int (nI 16)] h sz (PE none (hset (hset h sz (.inl (1, 16, .inl (fun _ => 0)))) a (SBF sz 0 0)) (sz + 1)) NX := by
  refine mx_start hG (by decide) (Nat.le_of_ble_eq_true rfl) (fun x C => ?_)
  refine aw_aload_n C rfl rfl dJ7_init_0 ?_
  refine aw_objInit C q332 q142 q143 (Nat.le_of_ble_eq_true rfl) (Nat.le_of_ble_eq_true rfl) dJ7_init_1 ?_
  refine aw_gets C hT.1 q333 (fun _ z => z) dJ7_init_4 ?_
  refine aw_top (show (1 : Int32) = nI 1 from rfl) ?_
  refine aw_if_eq C (tgt := 25) dJ7_init_7 (by decide) (fun g1 => ?_) (fun g1 => ?_)
  · first | exact absurd g1 (by decide) | exact absurd (by decide) g1
  · refine aw_aload_n C rfl rfl dJ7_init_10 ?_
    refine aw_iload_n C rfl rfl dJ7_init_11 ?_
    refine aw_newB C q356 (by decide) (by dsimp only; omega) (by dsimp only; omega) dJ7_init_12 ?_
    refine aw_putf C ck13 0 (by decide) q342 (fun _ z => z) rfl rfl (ty := .array .byte) rfl rfl ((hset_n _ _ (by omega)).trans ea) (show 0 < 4 by decide) dJ7_init_14 ?_
    refine aw_aload_n C rfl rfl dJ7_init_17 ?_
    refine aw_iconst C (v := nI 0) (by decide) dJ7_init_18 ?_
    refine aw_putf C ck13 1 (by decide) q343 (fun _ z => z) rfl rfl (ty := .byte) rfl rfl (hset_s _ _ _) (show 1 < 4 by decide) dJ7_init_19 ?_
    rw [hset_hset]
    refine aw_goto C (tgt := 38) dJ7_init_22 (by decide) ?_
    exact aw_vret C rfl dJ7_init_38 (by omega) (by omega) ⟨rfl, rfl, rfl⟩
set_option maxRecDepth 100000 in
theorem sb_init {γ : Gm} (hG : GF γ) (l : Launch) {h : AH} {sz : Nat} (hT : GT γ) {a : Nat} (ha : a < sz) (ea : h a = some (.inr (13, [.null, .int 0, .int 0, .int 0]))) : MX γ l yJ8_init cJ8_init 1 none 3 61 1 16 [.ref a] h sz (PE none (hset (hset h sz (.inl (1, 16, .inl (fun _ => 0)))) a (SBF sz 0 0)) (sz + 1)) NX := by
  refine mx_start hG (by decide) (Nat.le_of_ble_eq_true rfl) (fun x C => ?_)
  refine aw_aload_n C rfl rfl dJ8_init_0 ?_
  refine aw_bipush C (v := nI 16) (by decide) dJ8_init_1 ?_
  refine aw_callIP C (sb_init7 hG l hT ha ea) q329 q330 q107 q331 rfl (n9 := 1) (by decide +kernel) rfl (Nat.le_of_ble_eq_true rfl) (Nat.le_of_ble_eq_true rfl) (by dsimp only; omega) (by dsimp only; omega) rfl (Nat.le_of_ble_eq_true rfl) dJ8_init_3 ?_
  exact aw_vret C rfl dJ8_init_6 (by omega) (by omega) ⟨rfl, rfl, rfl⟩
