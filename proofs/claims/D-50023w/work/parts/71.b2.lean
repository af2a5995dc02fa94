/-! boards: why not, what can be laid -/
section VOR
variable {γ : Gm} {l : Launch} {x : WX} {y : MethodName} {cc : ByteArray} {nL : Nat} {ret : Option FieldType} {rm : Room} {et : List ExceptionTableEntry} {Q : State → Prop} {h : AH} {sz k n pc : Nat} {L : LV} {st : List Value}
variable {y9 : MethodName} {b9 : ByteArray} {nL9 : Nat} {ret9 : Option FieldType} {f9 lo9 index : Nat} {As : List Value} {st0 : List Value}
theorem aw_callVOR (C : Cx γ l x y cc nL ret rm et) {a n9 : Nat} {Cn : String} {r : Int32} (hM : MX γ l y9 b9 nL9 ret9 f9 lo9 0 0 (.ref a :: As) h sz (RI h sz r) NX)
    (q1 : Cond.methodLink y.cls index y9 ∈ lw_all) (q2 : Cond.instanceMethod y9 ∈ lw_all) (q3 : Cond.selects Cn y9 y9 ∈ lw_all) (q4 : Cond.initialized Cn ∈ lw_all) (q5 : Cond.code y9 b9 nL9 ret9 ∈ lw_all)
    (he : OBJ γ Cn a) (hd : y9.cls = Cn ∧ y9.cls ≠ "java/lang/invoke/MethodHandle" ∧ y9.cls ≠ "java/lang/invoke/VarHandle" ∧ (parseMethodDescriptor y9.desc).map (fun d => d.parameters.length) = some n9) (hn : As.length = n9)
    (hf : f9 + 1 ≤ rm.frames) (hl : 8 + (nL9 + 11) + lo9 ≤ rm.locals) (hc : k ≤ rm.cells) (hs : n ≤ rm.slots) (hst : st0 = As.reverse ++ .ref a :: st) (hw : (st.map fun v => v.category).sum ≤ 8) (d : decode cc pc = .ok (.invokevirtual index, 3))
    (kk : AW γ l x Q nL h sz k n (pc + 3) L (.int r :: st)) : AW γ l x Q nL h sz k n pc L st0 :=
  aw_callVO C hM q1 q2 q3 q4 q5 he hd hn hf hl hc hs hst hw d (fun _ _ _ z => z.elim) (fun v h' sz' hp => by
    obtain ⟨rfl, rfl, rfl⟩ := hp
    exact kk)
end VOR
/-- what is carried for the rules -/
def FRU (γ : Gm) : Prop := ∀ U, γ.X U → (Cond.interfaceMethod yX14_reason.cls yX14_reason.cls yX14_reason.name yX14_reason.desc).before #[] U = true
theorem cols_fr {b : BT} {v : Nat} (h : fr b v = true) : cols b v = clay b v (rch b v (freeS b)) (b (31 + v)) := by unfold cols; rw [if_pos h]
theorem cols_nf {b : BT} {v : Nat} (h : fr b v = false) : cols b v = 0 := by unfold cols; rw [if_neg (by rw [h]; decide)]
theorem why3_pos {b : BT} {v c : Nat} (h : ¬ why3 b v c = 0) : why b v c = why3 b v c := by
  unfold why3 at h ⊢
  unfold why
  split
  · rfl
  · split
    · rfl
    · split
      · rfl
      · rename_i g1 g2 g3
        rw [if_neg g1, if_neg g2, if_neg g3] at h
        exact absurd rfl h
/-- the colours that may be but for bans -/
theorem why3_0 {b : BT} {v c : Nat} (h : why3 b v c = 0) : fr b v = true ∧ (c0 b v).testBit c = true ∧ why b v c = if (cols b v).testBit c = true then 0 else 4 := by
  unfold why3 at h
  unfold why
  by_cases g1 : fr b v = false
  · rw [if_pos g1] at h; cases h
  · by_cases g2 : (b (4 + v)).testBit c = false
    · rw [if_neg g1, if_pos g2] at h; cases h
    · by_cases g3 : (arn b v).testBit c = true
      · rw [if_neg g1, if_neg g2, if_pos g3] at h; cases h
      · rw [if_neg g1, if_neg g2, if_neg g3]
        have e1 : fr b v = true := by cases q : fr b v; exact absurd q g1; rfl
        have e2 : (b (4 + v)).testBit c = true := by cases q : (b (4 + v)).testBit c; exact absurd q g2; rfl
        have e3 : (arn b v).testBit c = false := by cases q : (arn b v).testBit c; rfl; exact absurd q g3
        refine ⟨e1, ?_, rfl⟩
        unfold c0
        rw [nd_bit, e2, e3]
        rfl
theorem cols_cnt {b : BT} {v c : Nat} (h : fr b v = true) (hc : (c0 b v).testBit c = true) : (cols b v).testBit c = true ↔ ¬ cnt (rch b v (freeS b)) (b (31 + v)) = c + 1 := by
  rw [cols_fr h]
  have hc' : (nd (b (4 + v)) (arn b v)).testBit c = true := hc
  unfold cnt
  by_cases g : pop (rch b v (freeS b)) = 1
  · rw [clay_a (Or.inr g), if_pos g, hc']
    constructor
    · intro _; omega
    · intro _; rfl
  · rw [if_neg g]
    by_cases g0 : b (31 + v) = 0
    · rw [clay_a (Or.inl g0), hc']
      constructor
      · intro _; omega
      · intro _; rfl
    · rw [clay_b g0 g, nd_bit, hc', sh1_bit]
      simp
      omega
theorem why_0 {b : BT} {v c : Nat} (hW : WB b) (hv : v < 9) : why b v c = 0 ↔ (cols b v).testBit c = true := by
  constructor
  · intro h
    by_cases q : why3 b v c = 0
    · obtain ⟨g1, g2, g3⟩ := why3_0 q
      rw [h] at g3
      by_cases z : (cols b v).testBit c = true
      · exact z
      · rw [if_neg z] at g3; cases g3
    · rw [why3_pos q] at h
      exact absurd h q
  · intro h
    have g1 := cols_free h
    have hs : ∀ i, (cols b v).testBit i = true → (c0 b v).testBit i = true := by
      intro i hi
      rw [cols_fr g1] at hi
      unfold clay at hi
      unfold c0
      split at hi
      · exact hi
      · rw [nd_bit] at hi
        simp only [Bool.and_eq_true] at hi
        exact hi.1
    have h2 := hs c h
    unfold c0 at h2
    rw [nd_bit] at h2
    simp only [Bool.and_eq_true, Bool.not_eq_true'] at h2
    unfold why
    rw [if_neg (by rw [g1]; decide), if_neg (by rw [h2.1]; decide), if_neg (by rw [h2.2]; decide), if_pos h]
theorem cols_b1' {b : BT} (hW : WB b) {v : Nat} (hv : v < 9) : cols b v < 2 ^ b 1 := by
  apply Nat.lt_pow_two_of_testBit
  intro i hi
  cases q : (cols b v).testBit i with
  | false => rfl
  | true => exact absurd (cols_b1 hW hv q) (by omega)
theorem lay_set {b : BT} (hW : WB b) {v : Nat} (hv : v < 9) : bset (fun c => decide (why b v c = 0)) (b 1) = cols b v := by
  apply Nat.eq_of_testBit_eq
  intro i
  rw [bset_bit]
  by_cases h : (cols b v).testBit i = true
  · have h1 := cols_b1 hW hv h
    have h2 := (why_0 hW hv).mpr h
    simp [h, h1, h2]
  · have h2 := mt (why_0 (c := i) hW hv).mp h
    have h3 : (cols b v).testBit i = false := by cases q : (cols b v).testBit i; rfl; exact absurd q h
    simp [h2, h3]
theorem why_le (b : BT) (v c : Nat) : why b v c ≤ 4 := by
  unfold why
  repeat' split
  all_goals omega
theorem why3_le (b : BT) (v c : Nat) : why3 b v c ≤ 3 := by
  unfold why3
  repeat' split
  all_goals omega
theorem ban_c : ∀ m, m < 4 → ∀ c, c < 4 → ((nI m - nI 1 = nI c) ↔ m = c + 1) := by decide +kernel
theorem pairs_free (b : BT) : pairsI b (freeS b) = pairsB b := by
  unfold pairsI pairsB
  refine sumF_congr _ (fun v hv => ?_)
  rw [freeS_bit]
  by_cases h : fr b v = true
  · rw [if_pos (by simp [hv, h])]
  · have h' : fr b v = false := by cases q : fr b v; rfl; exact absurd q h
    rw [if_neg (by simp [h']), cols_nf h']
    rfl
set_option maxRecDepth 100000 in
theorem bd_reason {γ : Gm} (hG : GF γ) (l : Launch) {h : AH} {sz : Nat} {ρ : Nat} (hU : RUL γ ρ) (hI : FRU γ) {b : BT} {a g : Nat} (hb : BRD h a g b) (hW : WB b) {v c : Nat} (hv : v < 9) (hc : c < 3) : MX γ l yX15_reason cX15_reason 5 (some .int) 3 67 0 0 [.ref ρ, .ref a, .int (nI v), .int (nI c)] h sz (RI h sz (nI (why b v c))) NX := by
  obtain ⟨ca, ba, v3, v4, fc, fb, eb, eca, eba, hg, hfc, hfb⟩ := id hb
  obtain ⟨gl, gn, fl, fn, eg, egl, egn, hgl, hgn⟩ := id hg
  have hN := hW.2.1
  refine mx_start hG (by decide) (Nat.le_of_ble_eq_true rfl) (fun x C => ?_)
  have hl3 := why3_le b v c
  have hr := rch_lt (b := b) hv (freeS_lt hN)
  have hm4 : cnt (rch b v (freeS b)) (b (31 + v)) ≤ 3 := cnt_le (hW.b3 hv)
  refine aw_aload_n C rfl rfl dX15_reason_0 ?_
  refine aw_aload_n C rfl rfl dX15_reason_1 ?_
  refine aw_iload_n C rfl rfl dX15_reason_2 ?_
  refine aw_iload_n C rfl rfl dX15_reason_3 ?_
  refine aw_callSD C (Cn := "ColourDuel$FullRule") (sup := "java/lang/Object") (bd_reason3 hG l hb hW hv hc) q825 hI q827 q829 q830 hU.2 (n9 := 3) (by decide +kernel) rfl (Nat.le_of_ble_eq_true rfl) (Nat.le_of_ble_eq_true rfl) (Nat.zero_le _) (Nat.zero_le _) rfl (Nat.le_of_ble_eq_true rfl) dX15_reason_4 (fun w h2 sz2 hp => ?_)
  obtain ⟨rfl, rfl, rfl⟩ := hp
  refine aw_istore C (by decide) rfl dX15_reason_7 ?_
  refine aw_iload C rfl dX15_reason_9 ?_
  refine aw_ifN_ne C (tgt := 36) (by omega) dX15_reason_11 (by decide) (fun g0 => ?_) (fun g0 => ?_)
  · refine aw_iload C rfl dX15_reason_36 ?_
    refine aw_iret C rfl dX15_reason_38 (Nat.le_refl _) (Nat.le_refl _) ?_
    refine ⟨congrArg (fun z => some (Value.int (nI z))) ?_, rfl, rfl⟩
    first
      | exact (why3_pos (by omega)).symm
      | (have w6 := mt (ban_c _ (by omega) c (by omega)).mpr gC
         rw [w4, if_pos (w5.mpr w6), w1]
         done)
      | (have w6 := (ban_c _ (by omega) c (by omega)).mp gC
         rw [w4, if_neg (fun z => (w5.mp z) w6)])
  · have w1 := g0
    obtain ⟨w2, w3, w4⟩ := why3_0 w1
    have w5 := cols_cnt w2 w3
    refine aw_aload_n C rfl rfl dX15_reason_14 ?_
    refine aw_iload_n C rfl rfl dX15_reason_15 ?_
    refine aw_callVRR C ck2 (bd_partSet hG l hb hW (by omega)) q833 q834 q835 q97 q836 (Or.inl eb) (n9 := 1) (by decide +kernel) rfl (Nat.le_of_ble_eq_true rfl) (Nat.le_of_ble_eq_true rfl) (Nat.zero_le _) (Nat.zero_le _) rfl (Nat.le_of_ble_eq_true rfl) dX15_reason_16 ?_
    refine aw_aload_n C rfl rfl dX15_reason_19 ?_
    refine aw_getfN C ck2 2 (by decide) q617 (fun _ z => z) eb rfl dX15_reason_20 ?_
    refine aw_iload_n C rfl rfl dX15_reason_23 ?_
    refine aw_ialdN C eba (by omega) (by decide) dX15_reason_24 ?_
    refine aw_top ((hfb _ (by omega) w2)) ?_
    refine aw_callSNR C (cp_counting hG l hr) q839 q747 q95 q748 (n9 := 2) (by decide +kernel) rfl (Nat.le_of_ble_eq_true rfl) (Nat.le_of_ble_eq_true rfl) (Nat.zero_le _) (Nat.zero_le _) rfl (Nat.le_of_ble_eq_true rfl) dX15_reason_25 ?_
    refine aw_iload_n C rfl rfl dX15_reason_28 ?_
    refine aw_icmp_ne C (tgt := 36) dX15_reason_29 (by decide) (fun gC => ?_) (fun gC => ?_)
    · refine aw_iload C rfl dX15_reason_36 ?_
      refine aw_iret C rfl dX15_reason_38 (Nat.le_refl _) (Nat.le_refl _) ?_
      refine ⟨congrArg (fun z => some (Value.int (nI z))) ?_, rfl, rfl⟩
      first
        | exact (why3_pos (by omega)).symm
        | (have w6 := mt (ban_c _ (by omega) c (by omega)).mpr gC
           rw [w4, if_pos (w5.mpr w6), w1]
           done)
        | (have w6 := (ban_c _ (by omega) c (by omega)).mp gC
           rw [w4, if_neg (fun z => (w5.mp z) w6)])
    · refine aw_iconst C (v := nI 4) (by decide) dX15_reason_32 ?_
      refine aw_goto C (tgt := 38) dX15_reason_33 (by decide) ?_
      refine aw_iret C rfl dX15_reason_38 (Nat.le_refl _) (Nat.le_refl _) ?_
      refine ⟨congrArg (fun z => some (Value.int (nI z))) ?_, rfl, rfl⟩
      first
        | exact (why3_pos (by omega)).symm
        | (have w6 := mt (ban_c _ (by omega) c (by omega)).mpr gC
           rw [w4, if_pos (w5.mpr w6), w1]
           done)
        | (have w6 := (ban_c _ (by omega) c (by omega)).mp gC
           rw [w4, if_neg (fun z => (w5.mp z) w6)])
set_option maxRecDepth 100000 in
theorem bd_layable {γ : Gm} (hG : GF γ) (l : Launch) {h : AH} {sz : Nat} {ρ : Nat} (hU : RUL γ ρ) (hI : FRU γ) {b : BT} {a g : Nat} (hb : BRD h a g b) (hW : WB b) {v : Nat} (hv : v < 9) : MX γ l yX3_layable cX3_layable 4 (some .int) 4 91 0 0 [.ref a, .int (nI v)] h sz (RI h sz (nI (cols b v))) NX := by
  obtain ⟨ca, ba, v3, v4, fc, fb, eb, eca, eba, hg, hfc, hfb⟩ := id hb
  obtain ⟨gl, gn, fl, fn, eg, egl, egn, hgl, hgn⟩ := id hg
  have hN := hW.2.1
  refine mx_start hG (by decide) (Nat.le_of_ble_eq_true rfl) (fun x C => ?_)
  have h3 := hW.2.2.2.1
  have key : ∀ j c s, c ≤ b 1 → b 1 + 1 ≤ c + j → s = bset (fun c => decide (why b v c = 0)) c → AW γ l x (QX γ x 0 0 (RI h sz (nI (cols b v))) NX) 4 h sz 0 0 16 [(0, .ref a), (1, .int (nI v)), (2, .int (nI s)), (3, .int (nI c))] [] := by
    intro j
    induction j with
    | zero => intro c s h1 h2 hs; exact absurd h2 (by omega)
    | succ j ih =>
      intro c s h1 h2 hs
      have hl4 := why_le b v c
      refine aw_iload_n C rfl rfl dX3_layable_16 ?_
      refine aw_aload_n C rfl rfl dX3_layable_17 ?_
      refine aw_getf C ck2 0 (by decide) q609 (fun _ z => z) eb rfl dX3_layable_18 ?_
      refine aw_getfN C ck3 0 (by decide) q200 (fun _ z => z) eg rfl dX3_layable_21 ?_
      refine aw_icmpN_ge C (tgt := 55) (by omega) (by omega) dX3_layable_24 (by decide) (fun gN => ?_) (fun gN => ?_)
      · refine aw_iload_n C rfl rfl dX3_layable_55 ?_
        exact aw_iret C rfl dX3_layable_56 (Nat.le_refl _) (Nat.le_refl _) ⟨by rw [hs, show c = b 1 by omega, lay_set hW hv], rfl, rfl⟩
      · refine aw_iload_n C rfl rfl dX3_layable_27 ?_
        refine aw_gets C hU.1 q1526 (fun _ z => z) dX3_layable_28 ?_
        refine aw_aload_n C rfl rfl dX3_layable_31 ?_
        refine aw_iload_n C rfl rfl dX3_layable_32 ?_
        refine aw_iload_n C rfl rfl dX3_layable_33 ?_
        refine aw_callVOR C  (bd_reason hG l hU hI hb hW (by omega) (by omega)) q1527 q822 q823 q2248 q824 hU.2 (n9 := 3) (by decide +kernel) rfl (Nat.le_of_ble_eq_true rfl) (Nat.le_of_ble_eq_true rfl) (Nat.zero_le _) (Nat.zero_le _) rfl (Nat.le_of_ble_eq_true rfl) dX3_layable_34 ?_
        refine aw_ifN_ne C (tgt := 46) (by omega) dX3_layable_37 (by decide) (fun gW => ?_) (fun gW => ?_)
        · refine aw_iconst C (v := nI 0) (by decide) dX3_layable_46 ?_
          refine aw_iorN C dX3_layable_47 ?_
          refine aw_istore_n C rfl (by decide) rfl dX3_layable_48 ?_
          refine aw_iinc1 C rfl (by decide) rfl dX3_layable_49 ?_
          refine aw_goto C (tgt := 16) dX3_layable_52 (by decide) ?_
          exact aw_lo (ih (c + 1) _ (by omega) (by omega) (by rw [bset, hs]; simp [gW])) ⟨rfl, rfl, rfl, rfl, trivial⟩
        · refine aw_iconst C (v := nI 1) (by decide) dX3_layable_40 ?_
          refine aw_iload_n C rfl rfl dX3_layable_41 ?_
          refine aw_ishlN C (by omega) dX3_layable_42 ?_
          refine aw_goto C (tgt := 47) dX3_layable_43 (by decide) ?_
          refine aw_iorN C dX3_layable_47 ?_
          refine aw_istore_n C rfl (by decide) rfl dX3_layable_48 ?_
          refine aw_iinc1 C rfl (by decide) rfl dX3_layable_49 ?_
          refine aw_goto C (tgt := 16) dX3_layable_52 (by decide) ?_
          exact aw_lo (ih (c + 1) _ (by omega) (by omega) (by rw [bset, hs]; simp [gW])) ⟨rfl, rfl, rfl, rfl, trivial⟩
  have hz := hW.o3 hv
  refine aw_aload_n C rfl rfl dX3_layable_0 ?_
  refine aw_getf C ck2 1 (by decide) q614 (fun _ z => z) eb rfl dX3_layable_1 ?_
  refine aw_iload_n C rfl rfl dX3_layable_4 ?_
  refine aw_ialdN C eca (by omega) (by decide) dX3_layable_5 ?_
  refine aw_top ((hfc _ (by omega))) ?_
  refine aw_iconst C (v := -1) (by decide) dX3_layable_6 ?_
  refine aw_icmp_eq C (tgt := 12) dX3_layable_7 (by decide) (fun gF => ?_) (fun gF => ?_)
  · refine aw_iconst C (v := nI 0) (by decide) dX3_layable_12 ?_
    refine aw_istore_n C rfl (by decide) rfl dX3_layable_13 ?_
    refine aw_iconst C (v := nI 0) (by decide) dX3_layable_14 ?_
    refine aw_istore_n C rfl (by decide) rfl dX3_layable_15 ?_
    have gf := fr_yes hz gF
    exact aw_lo (key (b 1 + 1) 0 0 (Nat.zero_le _) (by omega) rfl) ⟨rfl, rfl, rfl, rfl, trivial⟩
  · refine aw_iconst C (v := nI 0) (by decide) dX3_layable_10 ?_
    exact aw_iret C rfl dX3_layable_11 (Nat.le_refl _) (Nat.le_refl _) ⟨by rw [cols_nf (fr_no hz gF)], rfl, rfl⟩
set_option maxRecDepth 100000 in
theorem bd_pairs {γ : Gm} (hG : GF γ) (l : Launch) {h : AH} {sz : Nat} {ρ : Nat} (hU : RUL γ ρ) (hI : FRU γ) {b : BT} {a g : Nat} (hb : BRD h a g b) (hW : WB b) {S : Nat} (hS : S < 512) : MX γ l yX3_pairs cX3_pairs 4 (some .int) 5 114 0 0 [.ref a, .int (nI S)] h sz (RI h sz (nI (pairsI b S))) NX := by
  obtain ⟨ca, ba, v3, v4, fc, fb, eb, eca, eba, hg, hfc, hfb⟩ := id hb
  obtain ⟨gl, gn, fl, fn, eg, egl, egn, hgl, hgn⟩ := id hg
  have hN := hW.2.1
  refine mx_start hG (by decide) (Nat.le_of_ble_eq_true rfl) (fun x C => ?_)
  have key : ∀ j v s, v ≤ b 0 → b 0 + 1 ≤ v + j → s = sumF (fun v => if S.testBit v = true then pop (cols b v) else 0) v → AW γ l x (QX γ x 0 0 (RI h sz (nI (pairsI b S))) NX) 4 h sz 0 0 4 [(0, .ref a), (1, .int (nI S)), (2, .int (nI s)), (3, .int (nI v))] [] := by
    intro j
    induction j with
    | zero => intro v s h1 h2 hs; exact absurd h2 (by omega)
    | succ j ih =>
      intro v s h1 h2 hs
      refine aw_iload_n C rfl rfl dX3_pairs_4 ?_
      refine aw_aload_n C rfl rfl dX3_pairs_5 ?_
      refine aw_getf C ck2 0 (by decide) q609 (fun _ z => z) eb rfl dX3_pairs_6 ?_
      refine aw_getfN C ck3 3 (by decide) q213 (fun _ z => z) eg rfl dX3_pairs_9 ?_
      refine aw_icmpN_ge C (tgt := 44) (by omega) (by omega) dX3_pairs_12 (by decide) (fun gN => ?_) (fun gN => ?_)
      · refine aw_iload_n C rfl rfl dX3_pairs_44 ?_
        exact aw_iret C rfl dX3_pairs_45 (Nat.le_refl _) (Nat.le_refl _) ⟨by rw [hs, show v = b 0 by omega]; rfl, rfl, rfl⟩
      · refine aw_iload_n C rfl rfl dX3_pairs_15 ?_
        refine aw_iload_n C rfl rfl dX3_pairs_16 ?_
        refine aw_iload_n C rfl rfl dX3_pairs_17 ?_
        refine aw_callSNR C (cp_has hG l (by omega) (by omega)) q741 q154 q95 q155 (n9 := 2) (by decide +kernel) rfl (Nat.le_of_ble_eq_true rfl) (Nat.le_of_ble_eq_true rfl) (Nat.zero_le _) (Nat.zero_le _) rfl (Nat.le_of_ble_eq_true rfl) dX3_pairs_18 ?_
        refine aw_bit_eq0 C (tgt := 35) dX3_pairs_21 (by decide) (fun gB => ?_) (fun gB => ?_)
        · refine aw_iconst C (v := nI 0) (by decide) dX3_pairs_35 ?_
          refine aw_iaddN C dX3_pairs_36 ?_
          refine aw_istore_n C rfl (by decide) rfl dX3_pairs_37 ?_
          refine aw_iinc1 C rfl (by decide) rfl dX3_pairs_38 ?_
          refine aw_goto C (tgt := 4) dX3_pairs_41 (by decide) ?_
          exact aw_lo (ih (v + 1) _ (by omega) (by omega) (by first | (rw [sumF, hs]; simp [*]; done) | (rw [sumF, hs]; done))) ⟨rfl, rfl, rfl, rfl, trivial⟩
        · have hc9 := cols_lt hW (v := v) (by omega)
          refine aw_aload_n C rfl rfl dX3_pairs_24 ?_
          refine aw_iload_n C rfl rfl dX3_pairs_25 ?_
          refine aw_callVRR C ck2 (bd_layable hG l hU hI hb hW (by omega)) q1522 q1523 q1524 q97 q1525 (Or.inl eb) (n9 := 1) (by decide +kernel) rfl (Nat.le_of_ble_eq_true rfl) (Nat.le_of_ble_eq_true rfl) (Nat.zero_le _) (Nat.zero_le _) rfl (Nat.le_of_ble_eq_true rfl) dX3_pairs_26 ?_
          refine aw_callSRR C (cp_bitCount hG l (by omega)) q1528 q750 q118 q751 (n9 := 1) (by decide +kernel) rfl (Nat.le_of_ble_eq_true rfl) (Nat.le_of_ble_eq_true rfl) (Nat.zero_le _) (Nat.zero_le _) rfl (Nat.le_of_ble_eq_true rfl) dX3_pairs_29 ?_
          refine aw_goto C (tgt := 36) dX3_pairs_32 (by decide) ?_
          refine aw_iaddN C dX3_pairs_36 ?_
          refine aw_istore_n C rfl (by decide) rfl dX3_pairs_37 ?_
          refine aw_iinc1 C rfl (by decide) rfl dX3_pairs_38 ?_
          refine aw_goto C (tgt := 4) dX3_pairs_41 (by decide) ?_
          exact aw_lo (ih (v + 1) _ (by omega) (by omega) (by first | (rw [sumF, hs]; simp [*]; done) | (rw [sumF, hs]; done))) ⟨rfl, rfl, rfl, rfl, trivial⟩
  refine aw_iconst C (v := nI 0) (by decide) dX3_pairs_0 ?_
  refine aw_istore_n C rfl (by decide) rfl dX3_pairs_1 ?_
  refine aw_iconst C (v := nI 0) (by decide) dX3_pairs_2 ?_
  refine aw_istore_n C rfl (by decide) rfl dX3_pairs_3 ?_
  exact aw_lo (key (b 0 + 1) 0 0 (Nat.zero_le _) (by omega) rfl) ⟨rfl, rfl, rfl, rfl, trivial⟩
set_option maxRecDepth 100000 in
theorem bd_dead {γ : Gm} (hG : GF γ) (l : Launch) {h : AH} {sz : Nat} {ρ : Nat} (hU : RUL γ ρ) (hI : FRU γ) {b : BT} {a g : Nat} (hb : BRD h a g b) (hW : WB b) : MX γ l yX3_deadVertices cX3_deadVertices 3 (some .int) 5 114 0 0 [.ref a] h sz (RI h sz (nI (stuckB b))) NX := by
  obtain ⟨ca, ba, v3, v4, fc, fb, eb, eca, eba, hg, hfc, hfb⟩ := id hb
  obtain ⟨gl, gn, fl, fn, eg, egl, egn, hgl, hgn⟩ := id hg
  have hN := hW.2.1
  refine mx_start hG (by decide) (Nat.le_of_ble_eq_true rfl) (fun x C => ?_)
  have key : ∀ j v s, v ≤ b 0 → b 0 + 1 ≤ v + j → s = sumF (fun v => if fr b v = true ∧ cols b v = 0 then 1 else 0) v → AW γ l x (QX γ x 0 0 (RI h sz (nI (stuckB b))) NX) 3 h sz 0 0 4 [(0, .ref a), (1, .int (nI s)), (2, .int (nI v))] [] := by
    intro j
    induction j with
    | zero => intro v s h1 h2 hs; exact absurd h2 (by omega)
    | succ j ih =>
      intro v s h1 h2 hs
      refine aw_iload_n C rfl rfl dX3_deadVertices_4 ?_
      refine aw_aload_n C rfl rfl dX3_deadVertices_5 ?_
      refine aw_getf C ck2 0 (by decide) q609 (fun _ z => z) eb rfl dX3_deadVertices_6 ?_
      refine aw_getfN C ck3 3 (by decide) q213 (fun _ z => z) eg rfl dX3_deadVertices_9 ?_
      refine aw_icmpN_ge C (tgt := 47) (by omega) (by omega) dX3_deadVertices_12 (by decide) (fun gN => ?_) (fun gN => ?_)
      · refine aw_iload_n C rfl rfl dX3_deadVertices_47 ?_
        exact aw_iret C rfl dX3_deadVertices_48 (Nat.le_refl _) (Nat.le_refl _) ⟨by rw [hs, show v = b 0 by omega]; rfl, rfl, rfl⟩
      · refine aw_iload_n C rfl rfl dX3_deadVertices_15 ?_
        refine aw_aload_n C rfl rfl dX3_deadVertices_16 ?_
        refine aw_getf C ck2 1 (by decide) q614 (fun _ z => z) eb rfl dX3_deadVertices_17 ?_
        refine aw_iload_n C rfl rfl dX3_deadVertices_20 ?_
        refine aw_ialdN C eca (by omega) (by decide) dX3_deadVertices_21 ?_
        refine aw_top ((hfc _ (by omega))) ?_
        refine aw_iconst C (v := -1) (by decide) dX3_deadVertices_22 ?_
        refine aw_icmp_ne C (tgt := 38) dX3_deadVertices_23 (by decide) (fun gF => ?_) (fun gF => ?_)
        · have gfn := @fr_no b v (hW.o3 (v := v) (by omega))
          have gfy := @fr_yes b v (hW.o3 (v := v) (by omega))
          refine aw_iconst C (v := nI 0) (by decide) dX3_deadVertices_38 ?_
          refine aw_iaddN C dX3_deadVertices_39 ?_
          refine aw_istore_n C rfl (by decide) rfl dX3_deadVertices_40 ?_
          refine aw_iinc1 C rfl (by decide) rfl dX3_deadVertices_41 ?_
          refine aw_goto C (tgt := 4) dX3_deadVertices_44 (by decide) ?_
          exact aw_lo (ih (v + 1) _ (by omega) (by omega) (by first | (rw [sumF, hs]; simp [*]; done) | (rw [sumF, hs]; done))) ⟨rfl, rfl, rfl, trivial⟩
        · have hc9 := cols_lt hW (v := v) (by omega)
          have gf := fr_yes (hW.o3 (v := v) (by omega)) gF
          refine aw_aload_n C rfl rfl dX3_deadVertices_26 ?_
          refine aw_iload_n C rfl rfl dX3_deadVertices_27 ?_
          refine aw_callVRR C ck2 (bd_layable hG l hU hI hb hW (by omega)) q1522 q1523 q1524 q97 q1525 (Or.inl eb) (n9 := 1) (by decide +kernel) rfl (Nat.le_of_ble_eq_true rfl) (Nat.le_of_ble_eq_true rfl) (Nat.zero_le _) (Nat.zero_le _) rfl (Nat.le_of_ble_eq_true rfl) dX3_deadVertices_28 ?_
          refine aw_ifN_ne C (tgt := 38) (by omega) dX3_deadVertices_31 (by decide) (fun gC => ?_) (fun gC => ?_)
          · have gfn := @fr_no b v (hW.o3 (v := v) (by omega))
            have gfy := @fr_yes b v (hW.o3 (v := v) (by omega))
            refine aw_iconst C (v := nI 0) (by decide) dX3_deadVertices_38 ?_
            refine aw_iaddN C dX3_deadVertices_39 ?_
            refine aw_istore_n C rfl (by decide) rfl dX3_deadVertices_40 ?_
            refine aw_iinc1 C rfl (by decide) rfl dX3_deadVertices_41 ?_
            refine aw_goto C (tgt := 4) dX3_deadVertices_44 (by decide) ?_
            exact aw_lo (ih (v + 1) _ (by omega) (by omega) (by first | (rw [sumF, hs]; simp [*]; done) | (rw [sumF, hs]; done))) ⟨rfl, rfl, rfl, trivial⟩
          · refine aw_iconst C (v := nI 1) (by decide) dX3_deadVertices_34 ?_
            refine aw_goto C (tgt := 39) dX3_deadVertices_35 (by decide) ?_
            refine aw_iaddN C dX3_deadVertices_39 ?_
            refine aw_istore_n C rfl (by decide) rfl dX3_deadVertices_40 ?_
            refine aw_iinc1 C rfl (by decide) rfl dX3_deadVertices_41 ?_
            refine aw_goto C (tgt := 4) dX3_deadVertices_44 (by decide) ?_
            exact aw_lo (ih (v + 1) _ (by omega) (by omega) (by first | (rw [sumF, hs]; simp [*]; done) | (rw [sumF, hs]; done))) ⟨rfl, rfl, rfl, trivial⟩
  refine aw_iconst C (v := nI 0) (by decide) dX3_deadVertices_0 ?_
  refine aw_istore_n C rfl (by decide) rfl dX3_deadVertices_1 ?_
  refine aw_iconst C (v := nI 0) (by decide) dX3_deadVertices_2 ?_
  refine aw_istore_n C rfl (by decide) rfl dX3_deadVertices_3 ?_
  exact aw_lo (key (b 0 + 1) 0 0 (Nat.zero_le _) (by omega) rfl) ⟨rfl, rfl, rfl, trivial⟩
set_option maxRecDepth 100000 in
theorem bd_isOver {γ : Gm} (hG : GF γ) (l : Launch) {h : AH} {sz : Nat} {ρ : Nat} (hU : RUL γ ρ) (hI : FRU γ) {b : BT} {a g : Nat} (hb : BRD h a g b) (hW : WB b) (hL : b 2 ≤ 9) : MX γ l yX3_isOver cX3_isOver 1 (some .boolean) 6 137 0 0 [.ref a] h sz (RI h sz (nI (if over b = true then 1 else 0))) NX := by
  obtain ⟨ca, ba, v3, v4, fc, fb, eb, eca, eba, hg, hfc, hfb⟩ := id hb
  obtain ⟨gl, gn, fl, fn, eg, egl, egn, hgl, hgn⟩ := id hg
  have hN := hW.2.1
  refine mx_start hG (by decide) (Nat.le_of_ble_eq_true rfl) (fun x C => ?_)
  have hF := freeS_lt hN
  have hp : pairsB b ≤ b 0 * 9 := sumF_leN (N := b 0) (fun v hv => pop_le _ (Nat.lt_trans (cols_lt hW (by omega)) (by decide))) _ (Nat.le_refl _)
  have hq := pairs_free b
  refine aw_aload_n C rfl rfl dX3_isOver_0 ?_
  refine aw_getf C ck2 5 (by decide) q623 (fun _ z => z) eb rfl dX3_isOver_1 ?_
  refine aw_ifN_ne C (tgt := 22) (by omega) dX3_isOver_4 (by decide) (fun gL => ?_) (fun gL => ?_)
  · refine aw_iconst C (v := nI 0) (by decide) dX3_isOver_22 ?_
    exact aw_zret C rfl (by decide) dX3_isOver_23 (Nat.le_refl _) (Nat.le_refl _) ⟨by unfold over; rw [hq] at *; simp [*], rfl, rfl⟩
  · refine aw_aload_n C rfl rfl dX3_isOver_7 ?_
    refine aw_aload_n C rfl rfl dX3_isOver_8 ?_
    refine aw_callVRR C ck2 (bd_free hG l hb hW) q837 q706 q707 q97 q708 (Or.inl eb) (n9 := 0) (by decide +kernel) rfl (Nat.le_of_ble_eq_true rfl) (Nat.le_of_ble_eq_true rfl) (Nat.zero_le _) (Nat.zero_le _) rfl (Nat.le_of_ble_eq_true rfl) dX3_isOver_9 ?_
    refine aw_callVRR C ck2 (bd_pairs hG l hU hI hb hW (by omega)) q1518 q1519 q1520 q97 q1521 (Or.inl eb) (n9 := 1) (by decide +kernel) rfl (Nat.le_of_ble_eq_true rfl) (Nat.le_of_ble_eq_true rfl) (Nat.zero_le _) (Nat.zero_le _) rfl (Nat.le_of_ble_eq_true rfl) dX3_isOver_12 ?_
    refine aw_ifN_ne C (tgt := 22) (by omega) dX3_isOver_15 (by decide) (fun gP => ?_) (fun gP => ?_)
    · refine aw_iconst C (v := nI 0) (by decide) dX3_isOver_22 ?_
      exact aw_zret C rfl (by decide) dX3_isOver_23 (Nat.le_refl _) (Nat.le_refl _) ⟨by unfold over; rw [hq] at *; simp [*], rfl, rfl⟩
    · refine aw_iconst C (v := nI 1) (by decide) dX3_isOver_18 ?_
      refine aw_goto C (tgt := 23) dX3_isOver_19 (by decide) ?_
      exact aw_zret C rfl (by decide) dX3_isOver_23 (Nat.le_refl _) (Nat.le_refl _) ⟨by unfold over; rw [hq] at *; simp [*], rfl, rfl⟩
