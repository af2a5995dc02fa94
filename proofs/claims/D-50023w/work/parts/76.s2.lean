/-! THE SEARCH: behind, look, solve -/
section CVI
variable {γ : Gm} {l : Launch} {x : WX} {y : MethodName} {cc : ByteArray} {nL : Nat} {ret : Option FieldType} {rm : Room} {et : List ExceptionTableEntry} {Q : State → Prop} {h : AH} {o sz k n pc : Nat} {u : CU} {g : AH} {L : LV} {st : List Value}
variable {y9 : MethodName} {b9 : ByteArray} {nL9 : Nat} {ret9 : Option FieldType} {f9 lo9 index : Nat} {As : List Value} {st0 : List Value}
theorem aw_callVI (C : Cx γ l x y cc nL ret rm et) {ci N a n9 : Nat} {Cn : String} {T : u_T} {ty : Nat → FieldType} (K : CKF ci Cn T N ty) {fs : List Value} {P : Int32 → CU → Prop} (hM : MX γ l y9 b9 nL9 ret9 f9 lo9 0 0 (.ref a :: As) h sz (RCi o sz g P) NX)
    (q1 : Cond.methodLink y.cls index y9 ∈ lw_all) (q2 : Cond.instanceMethod y9 ∈ lw_all) (q3 : Cond.selects Cn y9 y9 ∈ lw_all) (q4 : Cond.initialized Cn ∈ lw_all) (q5 : Cond.code y9 b9 nL9 ret9 ∈ lw_all)
    (he : h a = some (.inr (ci, fs))) (hd : y9.cls = Cn ∧ y9.cls ≠ "java/lang/invoke/MethodHandle" ∧ y9.cls ≠ "java/lang/invoke/VarHandle" ∧ (parseMethodDescriptor y9.desc).map (fun d => d.parameters.length) = some n9) (hn : As.length = n9)
    (hf : f9 + 1 ≤ rm.frames) (hl : 8 + (nL9 + 11) + lo9 ≤ rm.locals) (hc : k ≤ rm.cells) (hs : n ≤ rm.slots) (hst : st0 = As.reverse ++ .ref a :: st) (hw : (st.map fun v => v.category).sum ≤ 8) (d : decode cc pc = .ok (.invokevirtual index, 3))
    (kk : ∀ r u', P r u' → AW γ l x Q nL (ch o u' g) sz k n (pc + 3) L (.int r :: st)) : AW γ l x Q nL h sz k n pc L st0 :=
  aw_callVR C K hM q1 q2 q3 q4 q5 (Or.inl he) hd hn hf hl hc hs hst hw d (fun _ _ _ z => z.elim) (fun v h' sz' hp => by
    obtain ⟨rfl, r, u', rfl, rfl, hP⟩ := hp
    exact kk r u' hP)
theorem aw_callVV (C : Cx γ l x y cc nL ret rm et) {ci N a n9 : Nat} {Cn : String} {T : u_T} {ty : Nat → FieldType} (K : CKF ci Cn T N ty) {fs : List Value} {P : CU → Prop} (hM : MX γ l y9 b9 nL9 ret9 f9 lo9 0 0 (.ref a :: As) h sz (RCv o sz g P) NX)
    (q1 : Cond.methodLink y.cls index y9 ∈ lw_all) (q2 : Cond.instanceMethod y9 ∈ lw_all) (q3 : Cond.selects Cn y9 y9 ∈ lw_all) (q4 : Cond.initialized Cn ∈ lw_all) (q5 : Cond.code y9 b9 nL9 ret9 ∈ lw_all)
    (he : h a = some (.inr (ci, fs))) (hd : y9.cls = Cn ∧ y9.cls ≠ "java/lang/invoke/MethodHandle" ∧ y9.cls ≠ "java/lang/invoke/VarHandle" ∧ (parseMethodDescriptor y9.desc).map (fun d => d.parameters.length) = some n9) (hn : As.length = n9)
    (hf : f9 + 1 ≤ rm.frames) (hl : 8 + (nL9 + 11) + lo9 ≤ rm.locals) (hc : k ≤ rm.cells) (hs : n ≤ rm.slots) (hst : st0 = As.reverse ++ .ref a :: st) (hw : (st.map fun v => v.category).sum ≤ 8) (d : decode cc pc = .ok (.invokevirtual index, 3))
    (kk : ∀ u', P u' → AW γ l x Q nL (ch o u' g) sz k n (pc + 3) L st) : AW γ l x Q nL h sz k n pc L st0 :=
  aw_callVR C K hM q1 q2 q3 q4 q5 (Or.inl he) hd hn hf hl hc hs hst hw d (fun _ _ _ z => z.elim) (fun v h' sz' hp => by
    obtain ⟨rfl, rfl, u', rfl, hP⟩ := hp
    exact kk u' hP)
theorem aw_mmaxR (C : Cx γ l x y cc nL ret rm et) {index : Nat} {a b : Int32} (q1 : Cond.methodLink y.cls index Lib.Math.max.name ∈ lw_all) (q2 : Cond.static Lib.Math.max.name ∈ lw_all) (q3 : Cond.initialized "java/lang/Math" ∈ lw_all) (q4 : Cond.code Lib.Math.max.name Lib.Math.max.code 2 (some .int) ∈ lw_all) (hf : 1 ≤ rm.frames) (hl : (st.map fun v => v.category).sum + 13 ≤ rm.locals) (hc : k ≤ rm.cells) (hs : n ≤ rm.slots) (d : decode cc pc = .ok (.invokestatic index, 3)) (kk : AW γ l x Q nL h sz k n (pc + 3) L (.int (if a < b then b else a) :: st)) : AW γ l x Q nL h sz k n pc L (.int b :: .int a :: st) := fun H locs ls h1 h2 h3 h4 =>
  va_mmax C.hx C.hb (by rw [C.hml]; exact h4.1.symm) C.hown (C.hts _ q1) (C.hts _ q2) (C.hts _ q3) (C.hts _ q4) (by rw [C.hR]; exact hf) (by rw [C.hR]; exact hl) (by rw [C.hR]; exact hc) (by rw [C.hR]; exact hs) d (kk H locs ls h1 h2 h3 h4)
end CVI
theorem max_m1 : ∀ m, m < 32 → (if nI 0 < nI m - nI 1 then nI m - nI 1 else nI 0) = nI (m - 1) := by decide +kernel
theorem scC_hi {t : (Nat → Nat) → Nat → Nat → G3} {b : Nat → Nat} {part v set : Nat} {a : G3} (hs : set < 2 ^ b 1) : ∀ n, b 1 ≤ n → scC t b part v set a n = scC t b part v set a (b 1) := by
  intro n
  induction n with
  | zero => intro h; rw [show b 1 = 0 by omega]
  | succ n ih =>
    intro h
    by_cases e : b 1 = n + 1
    · rw [e]
    · rw [scC, if_neg (by rw [Nat.testBit_lt_two_pow (Nat.lt_of_lt_of_le hs (Nat.pow_le_pow_right (by omega) (show b 1 ≤ n by omega)))]; decide), ih (by omega)]
theorem scS_b1 {b : BT} (hW : WB b) {part m v : Nat} (hv : v < 9) : scS b part m v < 2 ^ b 1 := by
  have h1 := hW.2.2.2.2.1 v hv
  unfold scS
  split
  · unfold clay
    split
    · exact nd_lt h1
    · exact nd_lt (nd_lt h1)
  · exact Nat.two_pow_pos _
theorem go6m {a i : G3} (h : ¬ a.2.2 = 0) : some (Value.int (nI (if 1 + i.2.2 < a.2.2 - 1 then 1 + i.2.2 else a.2.2 - 1))) = some (.int (nI (gopt a i).2.2 - nI 1)) := by
  by_cases g : 1 + i.2.2 < a.2.2 - 1
  · rw [if_pos g]
    exact go6a (Or.inr g)
  · rw [if_neg g]
    exact go6b (by omega)
/-- a vertex's colours out of the masks -/
theorem mk_at {b : BT} {S v : Nat} (hW : WB b) (hv : v < b 0) (hs : S.testBit v = true) : (mkB b S >>> (3 * v)) &&& 7 = c0 b v := by
  have h9 := hW.2.1
  apply Nat.eq_of_testBit_eq
  intro i
  rw [show (7 : Nat) = 2 ^ 3 - 1 from rfl, Nat.testBit_and, Nat.testBit_two_pow_sub_one, Nat.testBit_shiftRight]
  unfold mkB
  rw [mkF_bit (fun u hu => hW.l8 hu) S _ h9]
  by_cases hi : i < 3
  · rw [show (3 * v + i) / 3 = v by omega, show (3 * v + i) % 3 = i by omega]
    simp [hi, hv, hs]
  · rw [Nat.testBit_lt_two_pow (Nat.lt_of_lt_of_le (c0_lt (hW.l8 (v := v) (by omega))) (Nat.pow_le_pow_right (n := 2) (i := 3) (by omega) (by omega)))]
    simp [hi]
theorem and_7 {x : Nat} (h : x < 8) : x &&& 7 = x := by
  rw [show (7 : Nat) = 2 ^ 3 - 1 from rfl, Nat.and_two_pow_sub_one_eq_mod]
  omega
theorem cnt_1 {S m : Nat} (h : cnt S m = m) (hm : ¬ m = 0) : ¬ pop S = 1 := fun e => by
  unfold cnt at h
  rw [if_pos e] at h
  exact hm h.symm
theorem cnt_cnt (S m : Nat) : cnt S (cnt S m) = cnt S m := by
  unfold cnt
  by_cases e : pop S = 1 <;> simp [e]
/-- the contracts of solve, look and behind for parts of f vertices at most -/
def SO (γ : Gm) (l : Launch) (o sz : Nat) (g : AH) (gr f : Nat) : Prop := ∀ (u : CU) (b : BT) (S m d k : Nat), GRP g gr b → WB b → SY b → S < 2 ^ b 0 → 0 < S → (∀ v, S.testBit v = true → fr b v = true) → pop S ≤ f → f + d ≤ 9 → m ≤ 3 → cnt S m = m → u.2.2.2.1 0 0 = some gr → TB u b k → MX γ l yX2_solve cX2_solve 9 (some .int) (10 + 3 * f) (400 + 100 * f) 0 0 [.ref (o + 1), .int (nI S), .int (nI (mkB b S)), .int (nI m - nI 1), .int (nI d)] (ch o u g) sz (RCi o sz g (fun r u' => r = nI (pq (G b S m)) ∧ SK d u u' ∧ TB u' b k)) NX
def LO (γ : Gm) (l : Launch) (o sz : Nat) (g : AH) (gr f : Nat) : Prop := ∀ (u : CU) (b : BT) (S m d k : Nat), GRP g gr b → WB b → SY b → S < 2 ^ b 0 → 0 < S → (∀ v, S.testBit v = true → fr b v = true) → pop S ≤ f → f + d ≤ 9 → m ≤ 3 → cnt S m = m → u.2.2.2.1 0 0 = some gr → TB u b k → MX γ l yX2_look cX2_look 13 (some .int) (9 + 3 * f) (368 + 100 * f) 0 0 [.ref (o + 1), .int (nI S), .int (nI (mkB b S)), .int (nI m - nI 1), .int (nI d)] (ch o u g) sz (RCi o sz g (fun r u' => r = nI (pq (G b S m)) ∧ SK d u u' ∧ TB u' b k)) NX
def BO (γ : Gm) (l : Launch) (o sz : Nat) (g : AH) (gr f : Nat) : Prop := ∀ (u : CU) (b : BT) (L : List Nat) (MS c d k : Nat), GRP g gr b → WB b → SY b → (∀ p, p ∈ L → p < 2 ^ b 0 ∧ 0 < p ∧ (∀ v, p.testBit v = true → fr b v = true) ∧ pop p ≤ f ∧ MS &&& btB p = mkB b p) → MS < 2 ^ 27 → L.length ≤ 9 → f + (d + 1) ≤ 9 → c < 3 → u.2.2.2.1 0 0 = some gr → TB u b k → (∀ i, i < L.length → u.2.1 (10 + d) i = nI (L.getD i 0)) → MX γ l yX2_behind cX2_behind 11 (some .int) (11 + 3 * f) (438 + 100 * f) 0 0 [.ref (o + 1), .int (nI MS), .int (nI L.length), .int (nI c), .int (nI d)] (ch o u g) sz (RCi o sz g (fun r u' => r = nI (pq (tgF (fun p => G b p (c + 1)) L)) ∧ SK (d + 1) u u' ∧ TB u' b k)) NX
set_option maxRecDepth 100000 in
theorem be_of {γ : Gm} (hG : GF γ) (l : Launch) {o sz : Nat} {g : AH} {gr f : Nat} (hSp : Sep o g) (hK : SO γ l o sz g gr f) : BO γ l o sz g gr f := by
  intro u b L MS c d k hg hW hY hL hMS hlen hd hc hgr hT0 hrow0
  refine mx_start hG (by decide) (Nat.le_of_ble_eq_true rfl) (fun x C => ?_)
  have hN := hW.2.1
  have key : ∀ j e a u1, e ≤ L.length → L.length + 1 ≤ e + j → tgA (fun p => G b p (c + 1)) a (L.drop e) = tgF (fun p => G b p (c + 1)) L → SK (d + 1) u u1 → TB u1 b k → AW γ l x (QX γ x 0 0 (RCi o sz g (fun r u' => r = nI (pq (tgF (fun p => G b p (c + 1)) L)) ∧ SK (d + 1) u u' ∧ TB u' b k)) NX) 11 (ch o u1 g) sz 0 0 12 [(0, .ref (o + 1)), (1, .int (nI MS)), (2, .int (nI L.length)), (3, .int (nI c)), (4, .int (nI d)), (5, .int (nI a.1)), (6, .int (nI a.2.1)), (7, .int (nI a.2.2)), (8, .int (nI e))] [] := by
    intro j
    induction j with
    | zero => intro e a u1 h1 h2 ha hk hT; exact absurd h2 (by omega)
    | succ j ih =>
      intro e a u1 h1 h2 ha hk hT
      have hgr1 : u1.2.2.2.1 0 0 = some gr := (congrArg (fun z => z.1 0 0) hk.2.2).trans hgr
      have hrow1 : ∀ i, i < L.length → u1.2.1 (10 + d) i = nI (L.getD i 0) := fun i hi => by rw [hk.2.1 (10 + d) (by omega) (by omega)]; exact hrow0 i hi
      refine aw_iload C rfl dX2_behind_12 ?_
      refine aw_iload_n C rfl rfl dX2_behind_14 ?_
      refine aw_icmpN_ge C (tgt := 93) (by omega) (by omega) dX2_behind_15 (by decide) (fun gE => ?_) (fun gE => ?_)
      · refine aw_iload C rfl dX2_behind_93 ?_
        refine aw_iload C rfl dX2_behind_95 ?_
        refine aw_iload C rfl dX2_behind_97 ?_
        refine aw_callSNR C (cp_packed hG l (i := a)) q790 q791 q95 q792 (n9 := 3) (by decide +kernel) rfl (by dsimp only; omega) (by dsimp only; omega) (Nat.zero_le _) (Nat.zero_le _) rfl (Nat.le_of_ble_eq_true rfl) dX2_behind_99 ?_
        refine aw_iret C rfl dX2_behind_102 (Nat.le_refl _) (Nat.le_refl _) ?_
        have hae : a = tgF (fun p => G b p (c + 1)) L := by
          rw [← ha, List.drop_eq_nil_of_le (show L.length ≤ e by omega)]
          rfl
        exact ⟨rfl, _, u1, rfl, rfl, by rw [hae], hk, hT⟩
      · have gE2 : e < L.length := by omega
        have hdr := List.drop_eq_getElem_cons gE2
        rw [hdr] at ha
        have hpe : L.getD e 0 = L[e] := by rw [List.getD_eq_getElem?_getD, List.getElem?_eq_getElem gE2]; rfl
        have hpm := hL L[e] (List.getElem_mem gE2)
        obtain ⟨hp1, hp2, hp3, hp4, hp5⟩ := hpm
        rw [← hpe] at hp1 hp2 hp3 hp4 hp5
        have ha2 : tgA (fun p => G b p (c + 1)) (gadd a (G b (L.getD e 0) (c + 1))) (L.drop (e + 1)) = tgF (fun p => G b p (c + 1)) L := by rw [hpe]; exact ha
        generalize hpp : L.getD e 0 = p at *
        have hp9 : p < 512 := Nat.lt_of_lt_of_le hp1 (Nat.pow_le_pow_right (by omega) hN)
        refine aw_aload_n C rfl rfl dX2_behind_18 ?_
        refine aw_getf C ck1 3 (by decide) q159 (fun _ z => z) (ch_at (i := 1) rfl) rfl dX2_behind_19 ?_
        refine aw_iload C rfl dX2_behind_22 ?_
        refine aw_aaldS C (t := 5) (by decide) rfl (ch_at (i := 5) rfl) (show d < 10 by omega) (by decide) (if_pos (show d < 10 by omega)) dX2_behind_24 ?_
        refine aw_iload C rfl dX2_behind_25 ?_
        refine aw_ialdN C (ch_row (show d < 10 by omega)) (by omega) (by decide) dX2_behind_27 ?_
        refine aw_top ((hrow1 _ (by omega))) ?_
        rw [hpp]
        refine aw_istore C (by decide) rfl dX2_behind_28 ?_
        refine aw_aload_n C rfl rfl dX2_behind_30 ?_
        refine aw_iload C rfl dX2_behind_31 ?_
        refine aw_iload_n C rfl rfl dX2_behind_33 ?_
        refine aw_aload_n C rfl rfl dX2_behind_34 ?_
        refine aw_getf C ck1 4 (by decide) q160 (fun _ z => z) (ch_at (i := 1) rfl) rfl dX2_behind_35 ?_
        refine aw_iload C rfl dX2_behind_38 ?_
        refine aw_ialdN C (ch_at (i := 16) rfl) (by omega) (by decide) dX2_behind_40 ?_
        refine aw_top ((hT.1.2.2 _ hp9)) ?_
        refine aw_iandN C dX2_behind_41 ?_
        rw [hp5]
        refine aw_iload C rfl dX2_behind_42 ?_
        refine aw_iload_n C rfl rfl dX2_behind_44 ?_
        refine aw_top (pk_s c) ?_
        refine aw_callSNR C (cp_counting hG l (m := c + 1) hp9) q746 q747 q95 q748 (n9 := 2) (by decide +kernel) rfl (by dsimp only; omega) (by dsimp only; omega) (Nat.zero_le _) (Nat.zero_le _) rfl (Nat.le_of_ble_eq_true rfl) dX2_behind_45 ?_
        refine aw_iload C rfl dX2_behind_48 ?_
        refine aw_iconst C (v := nI 1) (by decide) dX2_behind_50 ?_
        refine aw_iaddN C dX2_behind_51 ?_
        refine aw_callVI C ck1 (hK u1 b p (cnt p (c + 1)) (d + 1) k hg hW hY hp1 hp2 hp3 hp4 hd (cnt_le (by omega)) (cnt_cnt _ _) hgr1 hT) q755 q757 qs3 q96 q758 (ch_at (i := 1) rfl) (n9 := 4) (by decide +kernel) rfl (by dsimp only; omega) (by dsimp only; omega) (Nat.zero_le _) (Nat.zero_le _) rfl (Nat.le_of_ble_eq_true rfl) dX2_behind_52 (fun r u2 hp => ?_)
        obtain ⟨rfl, hk2, hT2⟩ := hp
        rw [G_cnt]
        obtain ⟨hi1, hi2, hi3⟩ := G_gb hY hW hp1 (c + 1)
        generalize hi : G b p (c + 1) = i at *
        have hil := pq_lt (i := i) hi1 (by omega) (by omega)
        refine aw_istore C (by decide) rfl dX2_behind_55 ?_
        refine aw_iload C rfl dX2_behind_57 ?_
        refine aw_iload C rfl dX2_behind_59 ?_
        refine aw_callSNR C (cp_value hG l (p := pq i) (by omega)) q781 q782 q95 q783 (n9 := 1) (by decide +kernel) rfl (by dsimp only; omega) (by dsimp only; omega) (Nat.zero_le _) (Nat.zero_le _) rfl (Nat.le_of_ble_eq_true rfl) dX2_behind_61 ?_
        refine aw_top (show _ = nI i.1 from by rw [pq_v (by omega) (by omega)]) ?_
        refine aw_ixorN C dX2_behind_64 ?_
        refine aw_istore C (by decide) rfl dX2_behind_65 ?_
        refine aw_iload C rfl dX2_behind_67 ?_
        refine aw_iload C rfl dX2_behind_69 ?_
        refine aw_callSNR C (cp_longest hG l (p := pq i) (by omega)) q784 q785 q95 q786 (n9 := 1) (by decide +kernel) rfl (by dsimp only; omega) (by dsimp only; omega) (Nat.zero_le _) (Nat.zero_le _) rfl (Nat.le_of_ble_eq_true rfl) dX2_behind_71 ?_
        refine aw_top (show _ = nI i.2.1 from by rw [pq_l (by omega) (by omega)]) ?_
        refine aw_iaddN C dX2_behind_74 ?_
        refine aw_istore C (by decide) rfl dX2_behind_75 ?_
        refine aw_iload C rfl dX2_behind_77 ?_
        refine aw_iload C rfl dX2_behind_79 ?_
        refine aw_callSNR C (cp_shortest hG l (p := pq i)) q787 q788 q95 q789 (n9 := 1) (by decide +kernel) rfl (by dsimp only; omega) (by dsimp only; omega) (Nat.zero_le _) (Nat.zero_le _) rfl (Nat.le_of_ble_eq_true rfl) dX2_behind_81 ?_
        refine aw_top (show _ = nI i.2.2 from by rw [pq_s (by omega) (by omega)]) ?_
        refine aw_iaddN C dX2_behind_84 ?_
        refine aw_istore C (by decide) rfl dX2_behind_85 ?_
        refine aw_iinc1 C rfl (by decide) rfl dX2_behind_87 ?_
        refine aw_goto C (tgt := 12) dX2_behind_90 (by decide) ?_
        exact aw_lo (ih (e + 1) (gadd a i) u2 (by omega) (by omega) ha2 (hk.tr hk2) hT2) ⟨rfl, rfl, rfl, rfl, rfl, rfl, rfl, rfl, rfl, trivial⟩
  refine aw_iconst C (v := nI 0) (by decide) dX2_behind_0 ?_
  refine aw_istore C (by decide) rfl dX2_behind_1 ?_
  refine aw_iconst C (v := nI 0) (by decide) dX2_behind_3 ?_
  refine aw_istore C (by decide) rfl dX2_behind_4 ?_
  refine aw_iconst C (v := nI 0) (by decide) dX2_behind_6 ?_
  refine aw_istore C (by decide) rfl dX2_behind_7 ?_
  refine aw_iconst C (v := nI 0) (by decide) dX2_behind_9 ?_
  refine aw_istore C (by decide) rfl dX2_behind_10 ?_
  exact aw_lo (key (L.length + 1) 0 (0, 0, 0) u (Nat.zero_le _) (by omega) rfl (SK.rf _ u) hT0) ⟨rfl, rfl, rfl, rfl, rfl, rfl, rfl, rfl, rfl, trivial⟩
set_option maxRecDepth 100000 in
theorem lo_of {γ : Gm} (hG : GF γ) (l : Launch) {o sz : Nat} {g : AH} {gr f : Nat} (hSp : Sep o g) (hB : BO γ l o sz g gr f) : LO γ l o sz g gr (f + 1) := by
  intro u b S m d k hg hW hY hS hS0 hfr hf hd hm hcm hgr hT0
  refine mx_start hG (by decide) (Nat.le_of_ble_eq_true rfl) (fun x C => ?_)
  have hN := hW.2.1
  have hS9 : S < 512 := Nat.lt_of_lt_of_le hS (Nat.pow_le_pow_right (by omega) hN)
  have hC3 := hW.2.2.2.1
  have hMS := mkB_lt hW S
  obtain ⟨gl, gn, fl, fn, eg, egl, egn, hgl, hgn⟩ := id hg
  have key : ∀ j v a u1, v ≤ b 0 → b 0 + 1 ≤ v + j → a = scV (tog 9) b S m v → SK d u u1 → TB u1 b k → AW γ l x (QX γ x 0 0 (RCi o sz g (fun r u' => r = nI (pq (G b S m)) ∧ SK d u u' ∧ TB u' b k)) NX) 13 (ch o u1 g) sz 0 0 12 [(0, .ref (o + 1)), (1, .int (nI S)), (2, .int (nI (mkB b S))), (3, .int (nI m - nI 1)), (4, .int (nI d)), (5, .int (nI a.1)), (6, .int (nI a.2.1)), (7, .int (nI a.2.2 - nI 1)), (8, .int (nI v))] [] := by
    intro j
    induction j with
    | zero => intro v a u1 h1 h2 ha hk hT; exact absurd h2 (by omega)
    | succ j ih =>
      intro v a u1 h1 h2 ha hk hT
      have hgr1 : u1.2.2.2.1 0 0 = some gr := (congrArg (fun z => z.1 0 0) hk.2.2).trans hgr
      have hA := sv_ab hY hW (m := m) (v := v) hS
      rw [← ha] at hA
      have hA3 := hA.2.2.1
      have hA4 := hA.2.2.2
      have hA5 := hA.2.1
      have hvb : v * b 1 ≤ 9 * 3 := Nat.mul_le_mul (by omega) hC3
      have key2 : ∀ j c a u1 mn, v < b 0 → c ≤ 3 → 4 ≤ c + j → a = scC (tog 9) b S v (scS b S m v) (scV (tog 9) b S m v) c → SK d u u1 → TB u1 b k → (¬ scS b S m v = 0 → mn = (pts b (nd S (1 <<< v)) (nd S (1 <<< v))).length ∧ ∀ i, i < (pts b (nd S (1 <<< v)) (nd S (1 <<< v))).length → u1.2.1 (10 + d) i = nI ((pts b (nd S (1 <<< v)) (nd S (1 <<< v))).getD i 0)) → AW γ l x (QX γ x 0 0 (RCi o sz g (fun r u' => r = nI (pq (G b S m)) ∧ SK d u u' ∧ TB u' b k)) NX) 13 (ch o u1 g) sz 0 0 91 [(0, .ref (o + 1)), (1, .int (nI S)), (2, .int (nI (mkB b S))), (3, .int (nI m - nI 1)), (4, .int (nI d)), (5, .int (nI a.1)), (6, .int (nI a.2.1)), (7, .int (nI a.2.2 - nI 1)), (8, .int (nI v)), (9, .int (nI (scS b S m v))), (10, .int (nI mn)), (11, .int (nI c))] [] := by
        intro j
        induction j with
        | zero => intro c a u1 mn gV h1 h2 ha hk hT hmn; exact absurd h2 (by omega)
        | succ j ih2 =>
          intro c a u1 mn gV h1 h2 ha hk hT hmn
          have hgr1 : u1.2.2.2.1 0 0 = some gr := (congrArg (fun z => z.1 0 0) hk.2.2).trans hgr
          have hsl := scS_lt hW (part := S) (m := m) (v := v) hS9 (by omega)
          have hA := sc_ab hY hW (m := m) (v := v) (c := c) hS
          rw [← ha] at hA
          have hA3 := hA.2.2.1
          have hA4 := hA.2.2.2
          have hA5 := hA.2.1
          refine aw_iload C rfl dX2_look_91 ?_
          refine aw_iconst C (v := nI 3) (by decide) dX2_look_93 ?_
          refine aw_icmpN_ge C (tgt := 196) (by omega) (by omega) dX2_look_94 (by decide) (fun gC => ?_) (fun gC => ?_)
          · refine aw_iinc1 C rfl (by decide) rfl dX2_look_196 ?_
            refine aw_goto C (tgt := 12) dX2_look_199 (by decide) ?_
            have hc3 : c = 3 := by omega
            subst hc3
            exact aw_lo (ih (v + 1) a u1 (by omega) (by omega) (by rw [scV, ha, scC_hi (scS_b1 hW (by omega)) 3 hC3]) hk hT) ⟨rfl, rfl, rfl, rfl, rfl, rfl, rfl, rfl, rfl, trivial⟩
          · refine aw_iload C rfl dX2_look_97 ?_
            refine aw_iload C rfl dX2_look_99 ?_
            refine aw_callSNR C (cp_has hG l (by omega) (by omega)) q153 q154 q95 q155 (n9 := 2) (by decide +kernel) rfl (by dsimp only; omega) (by dsimp only; omega) (Nat.zero_le _) (Nat.zero_le _) rfl (Nat.le_of_ble_eq_true rfl) dX2_look_101 ?_
            refine aw_bit_ne0 C (tgt := 110) dX2_look_104 (by decide) (fun gB => ?_) (fun gB => ?_)
            · have hb := scS_bit gB
              have hne : ¬ scS b S m v = 0 := fun e => by rw [e] at gB; simp at gB
              obtain ⟨rfl, hrow2⟩ := hmn hne
              have hcb : c < b 1 := bit_lt (scS_b1 hW (by omega)) gB
              have hsg := sc_gb hY hW hS gB
              have hpl2 := pop_less (S := S) (by omega) hb
              have hS1 : nd S (1 <<< v) < 2 ^ b 0 := nd_lt hS
              have hS2 : nd S (1 <<< v) < 512 := nd_lt hS9
              have hlen := pts_pop hN hS1 hY _ hS2 (rcl_self b _)
              have hp9 := pop_le _ hS2
              have hlen : (pts b (nd S (1 <<< v)) (nd S (1 <<< v))).length ≤ 9 := by omega
              have e0 : layO b v c 0 = b 0 := layO_n b v c (by omega)
              have hLp : ∀ p, p ∈ (pts b (nd S (1 <<< v)) (nd S (1 <<< v))) → p < 2 ^ layO b v c 0 ∧ 0 < p ∧ (∀ w, p.testBit w = true → fr (layO b v c) w = true) ∧ pop p ≤ f ∧ nd (mkB b S) (nrB b v c) &&& btB p = mkB (layO b v c) p := by
                intro p hp
                obtain ⟨p1, p2, p3⟩ := pts_mem hS2 _ hS2 (fun _ h => h) p hp
                have p4 := pop_mono p1
                have p5 : ∀ i, p.testBit i = true → S.testBit i = true := fun i hi => by
                  have := p1 i hi
                  rw [nd_bit] at this
                  simp at this
                  exact this.1
                refine ⟨by rw [e0]; exact lt_of_sub hS1 p1, p3, fun w hw => ?_, by omega, mk_lay hW hY (hfr v hb) gV (by omega) p5⟩
                have q := p1 w hw
                rw [nd_bit, sh1_bit] at q
                simp only [Bool.and_eq_true, Bool.not_eq_true', decide_eq_false_iff_not] at q
                rw [fr_lay q.2]
                exact hfr w q.1
              have hti : tgF (fun p => G (layO b v c) p (c + 1)) (pts b (nd S (1 <<< v)) (nd S (1 <<< v))) = tog 9 (layO b v c) (nd S (1 <<< v)) (c + 1) := by
                unfold tog
                rw [pts_congr (sg_lay hN v c)]
                rfl
              refine aw_aload_n C rfl rfl dX2_look_110 ?_
              refine aw_iload_n C rfl rfl dX2_look_111 ?_
              refine aw_aload_n C rfl rfl dX2_look_112 ?_
              refine aw_iload C rfl dX2_look_113 ?_
              refine aw_iload C rfl dX2_look_115 ?_
              refine aw_callVRR C ck1 (se_near hG l hSp hgr1 hg hW (by omega) (by omega)) q773 q775 qs7 q96 q776 (Or.inl (ch_at (i := 1) rfl)) (n9 := 2) (by decide +kernel) rfl (by dsimp only; omega) (by dsimp only; omega) (Nat.zero_le _) (Nat.zero_le _) rfl (Nat.le_of_ble_eq_true rfl) dX2_look_117 ?_
              refine aw_iconst C (v := -1) (by decide) dX2_look_120 ?_
              refine aw_ixor C dX2_look_121 ?_
              refine aw_iandNot C dX2_look_122 ?_
              refine aw_iload C rfl dX2_look_123 ?_
              refine aw_iload C rfl dX2_look_125 ?_
              refine aw_iload C rfl dX2_look_127 ?_
              refine aw_callVI C ck1 (hB u1 (layO b v c) (pts b (nd S (1 <<< v)) (nd S (1 <<< v))) (nd (mkB b S) (nrB b v c)) c d k (hg.st (st_lay b v c) hN) (wb_lay hW hcb) (sy_lay hY hN v c) hLp (nd_lt hMS) hlen (by omega) (by omega) hgr1 (hT.st (st_lay b v c)) hrow2) q777 q779 qs8 q96 q780 (ch_at (i := 1) rfl) (n9 := 4) (by decide +kernel) rfl (by dsimp only; omega) (by dsimp only; omega) (Nat.zero_le _) (Nat.zero_le _) rfl (Nat.le_of_ble_eq_true rfl) dX2_look_129 (fun r u2 hp => ?_)
              obtain ⟨rfl, hk2, hT2⟩ := hp
              rw [hti]
              obtain ⟨hi1, hi2, hi3⟩ := hsg
              generalize hi : tog 9 (layO b v c) (nd S (1 <<< v)) (c + 1) = i at *
              have hil := pq_lt (i := i) hi1 (by omega) (by omega)
              refine aw_istore C (by decide) rfl dX2_look_132 ?_
              refine aw_iload C rfl dX2_look_134 ?_
              refine aw_iconst C (v := nI 1) (by decide) dX2_look_136 ?_
              refine aw_iload C rfl dX2_look_137 ?_
              refine aw_callSNR C (cp_value hG l (p := pq i) (by omega)) q781 q782 q95 q783 (n9 := 1) (by decide +kernel) rfl (by dsimp only; omega) (by dsimp only; omega) (Nat.zero_le _) (Nat.zero_le _) rfl (Nat.le_of_ble_eq_true rfl) dX2_look_139 ?_
              refine aw_top (show _ = nI i.1 from by rw [pq_v (by omega) (by omega)]) ?_
              refine aw_ishlN C (by omega) dX2_look_142 ?_
              refine aw_iorN C dX2_look_143 ?_
              refine aw_istore C (by decide) rfl dX2_look_144 ?_
              refine aw_iload C rfl dX2_look_146 ?_
              refine aw_iconst C (v := nI 1) (by decide) dX2_look_148 ?_
              refine aw_iload C rfl dX2_look_149 ?_
              refine aw_callSNR C (cp_longest hG l (p := pq i) (by omega)) q784 q785 q95 q786 (n9 := 1) (by decide +kernel) rfl (by dsimp only; omega) (by dsimp only; omega) (Nat.zero_le _) (Nat.zero_le _) rfl (Nat.le_of_ble_eq_true rfl) dX2_look_151 ?_
              refine aw_top (show _ = nI i.2.1 from by rw [pq_l (by omega) (by omega)]) ?_
              refine aw_iaddN C dX2_look_154 ?_
              refine aw_mmax C (by omega) (by omega) q793 qmax1 q112 qmax2 (by dsimp only; omega) (show 0 + 13 ≤ _ by dsimp only; omega) (Nat.zero_le _) (Nat.zero_le _) dX2_look_155 ?_
              refine aw_istore C (by decide) rfl dX2_look_158 ?_
              refine aw_iload C rfl dX2_look_160 ?_
              refine aw_iconst C (v := -1) (by decide) dX2_look_162 ?_
              refine aw_icmp_ne C (tgt := 176) dX2_look_163 (by decide) (fun gs => ?_) (fun gs => ?_)
              · refine aw_iload C rfl dX2_look_176 ?_
                have gs2 : ¬ a.2.2 = 0 := mt (sh_m1 a.2.2 (by omega)).mpr gs
                refine aw_top (pk_sub (show 1 ≤ a.2.2 by omega)) ?_
                refine aw_iconst C (v := nI 1) (by decide) dX2_look_178 ?_
                refine aw_iload C rfl dX2_look_179 ?_
                refine aw_callSNR C (cp_shortest hG l (p := pq i)) q787 q788 q95 q789 (n9 := 1) (by decide +kernel) rfl (by dsimp only; omega) (by dsimp only; omega) (Nat.zero_le _) (Nat.zero_le _) rfl (Nat.le_of_ble_eq_true rfl) dX2_look_181 ?_
                refine aw_top (show _ = nI i.2.2 from by rw [pq_s (by omega) (by omega)]) ?_
                refine aw_iaddN C dX2_look_184 ?_
                refine aw_mmin C (by omega) (by omega) q794 qmin1 q112 qmin2 (by dsimp only; omega) (show 0 + 13 ≤ _ by dsimp only; omega) (Nat.zero_le _) (Nat.zero_le _) dX2_look_185 ?_
                refine aw_istore C (by decide) rfl dX2_look_188 ?_
                refine aw_iinc1 C rfl (by decide) rfl dX2_look_190 ?_
                refine aw_goto C (tgt := 91) dX2_look_193 (by decide) ?_
                have gz := sh_m1 a.2.2 (by omega)
                have hT3 : TB u2 b k := hT2.st (st_lay b v c).sy
                refine aw_lo (ih2 (c + 1) (gopt a i) u2 _ gV (by omega) (by omega) (by rw [scC, if_pos gB, ← ha, hi]) (hk.tr (hk2.up (by omega))) hT3 (fun _ => ⟨rfl, fun z hz => ?_⟩)) ⟨rfl, rfl, rfl, rfl, rfl, ?_, rfl, ?_, rfl, rfl, rfl, rfl, trivial⟩
                · rw [hk2.2.1 (10 + d) (by omega) (by omega)]
                  exact hrow2 z hz
                · rfl
                · first | exact go6m gs2 | exact go6a (Or.inl (gz.mp gs))
              · refine aw_iconst C (v := nI 1) (by decide) dX2_look_166 ?_
                refine aw_iload C rfl dX2_look_167 ?_
                refine aw_callSNR C (cp_shortest hG l (p := pq i)) q787 q788 q95 q789 (n9 := 1) (by decide +kernel) rfl (by dsimp only; omega) (by dsimp only; omega) (Nat.zero_le _) (Nat.zero_le _) rfl (Nat.le_of_ble_eq_true rfl) dX2_look_169 ?_
                refine aw_top (show _ = nI i.2.2 from by rw [pq_s (by omega) (by omega)]) ?_
                refine aw_iaddN C dX2_look_172 ?_
                refine aw_goto C (tgt := 188) dX2_look_173 (by decide) ?_
                refine aw_istore C (by decide) rfl dX2_look_188 ?_
                refine aw_iinc1 C rfl (by decide) rfl dX2_look_190 ?_
                refine aw_goto C (tgt := 91) dX2_look_193 (by decide) ?_
                have gz := sh_m1 a.2.2 (by omega)
                have hT3 : TB u2 b k := hT2.st (st_lay b v c).sy
                refine aw_lo (ih2 (c + 1) (gopt a i) u2 _ gV (by omega) (by omega) (by rw [scC, if_pos gB, ← ha, hi]) (hk.tr (hk2.up (by omega))) hT3 (fun _ => ⟨rfl, fun z hz => ?_⟩)) ⟨rfl, rfl, rfl, rfl, rfl, ?_, rfl, ?_, rfl, rfl, rfl, rfl, trivial⟩
                · rw [hk2.2.1 (10 + d) (by omega) (by omega)]
                  exact hrow2 z hz
                · rfl
                · first | exact go6m gs2 | exact go6a (Or.inl (gz.mp gs))
            · refine aw_goto C (tgt := 190) dX2_look_107 (by decide) ?_
              refine aw_iinc1 C rfl (by decide) rfl dX2_look_190 ?_
              refine aw_goto C (tgt := 91) dX2_look_193 (by decide) ?_
              exact aw_lo (ih2 (c + 1) a u1 mn gV (by omega) (by omega) (by rw [scC, if_neg (by rw [gB]; decide)]; exact ha) hk hT hmn) ⟨rfl, rfl, rfl, rfl, rfl, rfl, rfl, rfl, rfl, rfl, rfl, rfl, trivial⟩
      refine aw_iload C rfl dX2_look_12 ?_
      refine aw_aload_n C rfl rfl dX2_look_14 ?_
      refine aw_getf C ck1 5 (by decide) q161 (fun _ z => z) (ch_at (i := 1) rfl) rfl dX2_look_15 ?_
      refine aw_topV (show va_rf (u1.2.2.2.1 0 0) = .ref gr from by rw [hgr1]; rfl) ?_
      refine aw_getfN C ck3 3 (by decide) q215 (fun _ z => z) (ch_le hSp _ _ eg) rfl dX2_look_18 ?_
      refine aw_icmpN_ge C (tgt := 202) (by omega) (by omega) dX2_look_21 (by decide) (fun gV => ?_) (fun gV => ?_)
      · have hgf : gfin a = G b S m := by rw [G_s hN hS9, ha, show v = b 0 by omega]
        have hmx : mex a.1 < 32 := Nat.lt_of_le_of_lt (mex_le _) (by have := hA.1; omega)
        refine aw_iload C rfl dX2_look_202 ?_
        refine aw_iconst C (v := -1) (by decide) dX2_look_204 ?_
        refine aw_ixor C dX2_look_205 ?_
        refine aw_callSRR C (cp_ntzM hG l hA.2.1 hmx) q725 q726 q118 q727 (n9 := 1) (by decide +kernel) rfl (by dsimp only; omega) (by dsimp only; omega) (Nat.zero_le _) (Nat.zero_le _) rfl (Nat.le_of_ble_eq_true rfl) dX2_look_206 ?_
        refine aw_iload C rfl dX2_look_209 ?_
        refine aw_iconst C (v := nI 0) (by decide) dX2_look_211 ?_
        refine aw_iload C rfl dX2_look_212 ?_
        refine aw_mmaxR C q793 qmax1 q112 qmax2 (by dsimp only; omega) (show 2 + 13 ≤ _ by dsimp only; omega) (Nat.zero_le _) (Nat.zero_le _) dX2_look_214 ?_
        refine aw_top (max_m1 a.2.2 (by omega)) ?_
        refine aw_callSNR C (cp_packed hG l (i := gfin a)) q790 q791 q95 q792 (n9 := 3) (by decide +kernel) rfl (by dsimp only; omega) (by dsimp only; omega) (Nat.zero_le _) (Nat.zero_le _) rfl (Nat.le_of_ble_eq_true rfl) dX2_look_217 ?_
        exact aw_iret C rfl dX2_look_220 (Nat.le_refl _) (Nat.le_refl _) ⟨rfl, _, u1, rfl, rfl, by rw [hgf], hk, hT⟩
      · refine aw_iload_n C rfl rfl dX2_look_24 ?_
        refine aw_iload C rfl dX2_look_25 ?_
        refine aw_callSNR C (cp_has hG l (by omega) (by omega)) q153 q154 q95 q155 (n9 := 2) (by decide +kernel) rfl (by dsimp only; omega) (by dsimp only; omega) (Nat.zero_le _) (Nat.zero_le _) rfl (Nat.le_of_ble_eq_true rfl) dX2_look_27 ?_
        refine aw_bit_ne0 C (tgt := 36) dX2_look_30 (by decide) (fun gB => ?_) (fun gB => ?_)
        · have hc0 := mk_at hW (show v < b 0 by omega) gB
          have hsl := scS_lt hW (part := S) (m := m) (v := v) hS9 (by omega)
          refine aw_iload_n C rfl rfl dX2_look_36 ?_
          refine aw_iconst C (v := nI 3) (by decide) dX2_look_37 ?_
          refine aw_iload C rfl dX2_look_38 ?_
          refine aw_imulN C dX2_look_40 ?_
          refine aw_ishrN C (by omega) (by omega) dX2_look_41 ?_
          refine aw_bipush C (v := nI 7) (by decide) dX2_look_42 ?_
          refine aw_iandN C dX2_look_44 ?_
          refine aw_iload_n C rfl rfl dX2_look_45 ?_
          refine aw_iconst C (v := -1) (by decide) dX2_look_46 ?_
          refine aw_icmp_ne C (tgt := 55) dX2_look_47 (by decide) (fun gm1 => ?_) (fun gm1 => ?_)
          · have gm : ¬ m = 0 := mt (sh_m1 m (by omega)).mpr gm1
            refine aw_iconst C (v := nI 1) (by decide) dX2_look_55 ?_
            refine aw_iload_n C rfl rfl dX2_look_56 ?_
            refine aw_top (pk_sub (show 1 ≤ m by omega)) ?_
            refine aw_ishlN C (by omega) dX2_look_57 ?_
            refine aw_iconst C (v := -1) (by decide) dX2_look_58 ?_
            refine aw_ixor C dX2_look_59 ?_
            refine aw_iandNot C dX2_look_60 ?_
            refine aw_top (show _ = nI (scS b S m v) from by
              rw [hc0]
              first
              | rw [gm, ← scS_y gB, clay_a (Or.inl rfl), and_7 (c0_lt (hW.l8 (by omega)))]; rfl
              | rw [← scS_y gB, clay_b gm (cnt_1 hcm gm)]; rfl) ?_
            refine aw_istore C (by decide) rfl dX2_look_61 ?_
            refine aw_iload C rfl dX2_look_63 ?_
            refine aw_ifN_ne C (tgt := 72) (by omega) dX2_look_65 (by decide) (fun gz => ?_) (fun gz => ?_)
            · refine aw_aload_n C rfl rfl dX2_look_72 ?_
              refine aw_iload_n C rfl rfl dX2_look_73 ?_
              refine aw_iconst C (v := nI 1) (by decide) dX2_look_74 ?_
              refine aw_iload C rfl dX2_look_75 ?_
              refine aw_ishlN C (by omega) dX2_look_77 ?_
              refine aw_iconst C (v := -1) (by decide) dX2_look_78 ?_
              refine aw_ixor C dX2_look_79 ?_
              refine aw_iandNot C dX2_look_80 ?_
              refine aw_iload C rfl dX2_look_81 ?_
              refine aw_callVI C ck1 (se_split hG l hSp hgr1 hg hW hY (d := d) (nd_lt (c := 1 <<< v) hS) (by omega)) q769 q771 qs6 q96 q772 (ch_at (i := 1) rfl) (n9 := 2) (by decide +kernel) rfl (by dsimp only; omega) (by dsimp only; omega) (Nat.zero_le _) (Nat.zero_le _) rfl (Nat.le_of_ble_eq_true rfl) dX2_look_83 (fun r u2 hp => ?_)
              obtain ⟨rfl, hrw, hrow⟩ := hp
              refine aw_istore C (by decide) rfl dX2_look_86 ?_
              refine aw_iconst C (v := nI 0) (by decide) dX2_look_88 ?_
              refine aw_istore C (by decide) rfl dX2_look_89 ?_
              first
              | exact aw_lo (key2 4 0 a u1 0 (by omega) (Nat.zero_le _) (by omega) ha hk hT (fun z => absurd gz z)) ⟨rfl, rfl, rfl, rfl, rfl, rfl, rfl, rfl, rfl, rfl, rfl, rfl, trivial⟩
              | exact aw_lo (key2 4 0 a u2 _ (by omega) (Nat.zero_le _) (by omega) ha (hk.tr hrw.sk) (hrw.tb hT) (fun _ => ⟨rfl, hrow⟩)) ⟨rfl, rfl, rfl, rfl, rfl, rfl, rfl, rfl, rfl, rfl, rfl, rfl, trivial⟩
            · refine aw_iconst C (v := nI 0) (by decide) dX2_look_68 ?_
              refine aw_goto C (tgt := 86) dX2_look_69 (by decide) ?_
              refine aw_istore C (by decide) rfl dX2_look_86 ?_
              refine aw_iconst C (v := nI 0) (by decide) dX2_look_88 ?_
              refine aw_istore C (by decide) rfl dX2_look_89 ?_
              first
              | exact aw_lo (key2 4 0 a u1 0 (by omega) (Nat.zero_le _) (by omega) ha hk hT (fun z => absurd gz z)) ⟨rfl, rfl, rfl, rfl, rfl, rfl, rfl, rfl, rfl, rfl, rfl, rfl, trivial⟩
              | exact aw_lo (key2 4 0 a u2 _ (by omega) (Nat.zero_le _) (by omega) ha (hk.tr hrw.sk) (hrw.tb hT) (fun _ => ⟨rfl, hrow⟩)) ⟨rfl, rfl, rfl, rfl, rfl, rfl, rfl, rfl, rfl, rfl, rfl, rfl, trivial⟩
          · have gm : m = 0 := (sh_m1 m (by omega)).mp gm1
            refine aw_bipush C (v := nI 7) (by decide) dX2_look_50 ?_
            refine aw_goto C (tgt := 60) dX2_look_52 (by decide) ?_
            refine aw_iandN C dX2_look_60 ?_
            refine aw_top (show _ = nI (scS b S m v) from by
              rw [hc0]
              first
              | rw [gm, ← scS_y gB, clay_a (Or.inl rfl), and_7 (c0_lt (hW.l8 (by omega)))]; rfl
              | rw [← scS_y gB, clay_b gm (cnt_1 hcm gm)]; rfl) ?_
            refine aw_istore C (by decide) rfl dX2_look_61 ?_
            refine aw_iload C rfl dX2_look_63 ?_
            refine aw_ifN_ne C (tgt := 72) (by omega) dX2_look_65 (by decide) (fun gz => ?_) (fun gz => ?_)
            · refine aw_aload_n C rfl rfl dX2_look_72 ?_
              refine aw_iload_n C rfl rfl dX2_look_73 ?_
              refine aw_iconst C (v := nI 1) (by decide) dX2_look_74 ?_
              refine aw_iload C rfl dX2_look_75 ?_
              refine aw_ishlN C (by omega) dX2_look_77 ?_
              refine aw_iconst C (v := -1) (by decide) dX2_look_78 ?_
              refine aw_ixor C dX2_look_79 ?_
              refine aw_iandNot C dX2_look_80 ?_
              refine aw_iload C rfl dX2_look_81 ?_
              refine aw_callVI C ck1 (se_split hG l hSp hgr1 hg hW hY (d := d) (nd_lt (c := 1 <<< v) hS) (by omega)) q769 q771 qs6 q96 q772 (ch_at (i := 1) rfl) (n9 := 2) (by decide +kernel) rfl (by dsimp only; omega) (by dsimp only; omega) (Nat.zero_le _) (Nat.zero_le _) rfl (Nat.le_of_ble_eq_true rfl) dX2_look_83 (fun r u2 hp => ?_)
              obtain ⟨rfl, hrw, hrow⟩ := hp
              refine aw_istore C (by decide) rfl dX2_look_86 ?_
              refine aw_iconst C (v := nI 0) (by decide) dX2_look_88 ?_
              refine aw_istore C (by decide) rfl dX2_look_89 ?_
              first
              | exact aw_lo (key2 4 0 a u1 0 (by omega) (Nat.zero_le _) (by omega) ha hk hT (fun z => absurd gz z)) ⟨rfl, rfl, rfl, rfl, rfl, rfl, rfl, rfl, rfl, rfl, rfl, rfl, trivial⟩
              | exact aw_lo (key2 4 0 a u2 _ (by omega) (Nat.zero_le _) (by omega) ha (hk.tr hrw.sk) (hrw.tb hT) (fun _ => ⟨rfl, hrow⟩)) ⟨rfl, rfl, rfl, rfl, rfl, rfl, rfl, rfl, rfl, rfl, rfl, rfl, trivial⟩
            · refine aw_iconst C (v := nI 0) (by decide) dX2_look_68 ?_
              refine aw_goto C (tgt := 86) dX2_look_69 (by decide) ?_
              refine aw_istore C (by decide) rfl dX2_look_86 ?_
              refine aw_iconst C (v := nI 0) (by decide) dX2_look_88 ?_
              refine aw_istore C (by decide) rfl dX2_look_89 ?_
              first
              | exact aw_lo (key2 4 0 a u1 0 (by omega) (Nat.zero_le _) (by omega) ha hk hT (fun z => absurd gz z)) ⟨rfl, rfl, rfl, rfl, rfl, rfl, rfl, rfl, rfl, rfl, rfl, rfl, trivial⟩
              | exact aw_lo (key2 4 0 a u2 _ (by omega) (Nat.zero_le _) (by omega) ha (hk.tr hrw.sk) (hrw.tb hT) (fun _ => ⟨rfl, hrow⟩)) ⟨rfl, rfl, rfl, rfl, rfl, rfl, rfl, rfl, rfl, rfl, rfl, rfl, trivial⟩
        · refine aw_goto C (tgt := 196) dX2_look_33 (by decide) ?_
          refine aw_iinc1 C rfl (by decide) rfl dX2_look_196 ?_
          refine aw_goto C (tgt := 12) dX2_look_199 (by decide) ?_
          exact aw_lo (ih (v + 1) a u1 (by omega) (by omega) (by rw [scV, ← scS_n gB, scC_zero]; exact ha) hk hT) ⟨rfl, rfl, rfl, rfl, rfl, rfl, rfl, rfl, rfl, trivial⟩
  refine aw_iconst C (v := nI 0) (by decide) dX2_look_0 ?_
  refine aw_istore C (by decide) rfl dX2_look_1 ?_
  refine aw_iconst C (v := nI 0) (by decide) dX2_look_3 ?_
  refine aw_istore C (by decide) rfl dX2_look_4 ?_
  refine aw_iconst C (v := nI 0 - nI 1) (by decide) dX2_look_6 ?_
  refine aw_istore C (by decide) rfl dX2_look_7 ?_
  refine aw_iconst C (v := nI 0) (by decide) dX2_look_9 ?_
  refine aw_istore C (by decide) rfl dX2_look_10 ?_
  exact aw_lo (key (b 0 + 1) 0 (0, 0, 0) u (Nat.zero_le _) (by omega) rfl (SK.rf d u) hT0) ⟨rfl, rfl, rfl, rfl, rfl, rfl, rfl, rfl, rfl, trivial⟩
/-- a free place -/
theorem fr9 {u : CU} {b : BT} {k : Nat} (hT : TB u b k) : ∃ j, j < 65536 ∧ ¬ u.2.1 1 j = u.1 2 := by
  obtain ⟨⟨h1, -, -⟩, ⟨m, h2, -, h3⟩, -⟩ := hT
  rw [h1]
  exact ctF_free 65536 (by omega)
set_option maxRecDepth 100000 in
theorem so_of {γ : Gm} (hG : GF γ) (l : Launch) {o sz : Nat} {g : AH} {gr f : Nat} (hSp : Sep o g) (hL : LO γ l o sz g gr f) : SO γ l o sz g gr f := by
  intro u b S m d k hg hW hY hS hS0 hfr hf hd hm hcm hgr hT
  refine mx_start hG (by decide) (Nat.le_of_ble_eq_true rfl) (fun x C => ?_)
  have hN := hW.2.1
  have hS9 : S < 512 := Nat.lt_of_lt_of_le hS (Nat.pow_le_pow_right (by omega) hN)
  have hMS := mkB_lt hW S
  refine aw_iload_n C rfl rfl dX2_solve_0 ?_
  refine aw_i2l C (kN_i (by omega)) dX2_solve_1 ?_
  refine aw_bipush C (v := nI 9) (by decide) dX2_solve_2 ?_
  refine aw_lshl C (kN_shl _ (by decide)) dX2_solve_4 ?_
  refine aw_iload_n C rfl rfl dX2_solve_5 ?_
  refine aw_i2l C (kN_i (by omega)) dX2_solve_6 ?_
  refine aw_lor C dX2_solve_7 ?_
  refine aw_topl (kN_or _ _) ?_
  refine aw_iconst C (v := nI 2) (by decide) dX2_solve_8 ?_
  refine aw_lshl C (kN_shl _ (by decide)) dX2_solve_9 ?_
  refine aw_iload_n C rfl rfl dX2_solve_10 ?_
  refine aw_iconst C (v := nI 1) (by decide) dX2_solve_11 ?_
  refine aw_iadd C dX2_solve_12 ?_
  refine aw_i2l C (ban_l m (by omega)) dX2_solve_13 ?_
  refine aw_lor C dX2_solve_14 ?_
  refine aw_topl (show _ = lK (mkB b S) S m from kN_or _ _) ?_
  refine aw_lstore C (by decide) rfl dX2_solve_15 ?_
  refine aw_aload_n C rfl rfl dX2_solve_17 ?_
  refine aw_lload C rfl dX2_solve_18 ?_
  refine aw_callVR C ck1 (se_place hG l (u := u) (x0 := lK (mkB b S) S m) (fr9 hT)) q759 q761 qs4 q96 q762 (Or.inl (ch_at (i := 1) rfl)) (n9 := 1) (by decide +kernel) rfl (by dsimp only; omega) (by dsimp only; omega) (Nat.zero_le _) (Nat.zero_le _) rfl (Nat.le_of_ble_eq_true rfl) dX2_solve_20 (fun _ _ _ z => z.elim) (fun v9 h9 sz9 hp => ?_)
  obtain ⟨rfl, rfl, i, hi, rfl, hky⟩ := hp
  refine aw_top rfl ?_
  refine aw_istore C (by decide) rfl dX2_solve_23 ?_
  refine aw_aload_n C rfl rfl dX2_solve_25 ?_
  refine aw_getf C ck1 2 (by decide) q158 (fun _ z => z) (ch_at (i := 1) rfl) rfl dX2_solve_26 ?_
  refine aw_iload C rfl dX2_solve_29 ?_
  refine aw_ialdN C (ch_at (i := 4) rfl) (by omega) (by decide) dX2_solve_31 ?_
  refine aw_aload_n C rfl rfl dX2_solve_32 ?_
  refine aw_getf C ck1 6 (by decide) q162 (fun _ z => z) (ch_at (i := 1) rfl) rfl dX2_solve_33 ?_
  refine aw_icmp_ne C (tgt := 47) dX2_solve_36 (by decide) (fun gS => ?_) (fun gS => ?_)
  · refine aw_aload_n C rfl rfl dX2_solve_47 ?_
    refine aw_iload_n C rfl rfl dX2_solve_48 ?_
    refine aw_iload_n C rfl rfl dX2_solve_49 ?_
    refine aw_iload_n C rfl rfl dX2_solve_50 ?_
    refine aw_iload C rfl dX2_solve_51 ?_
    refine aw_callVI C ck1 (hL u b S m d k hg hW hY hS hS0 hfr hf hd hm hcm hgr hT) q765 q767 qs5 q96 q768 (ch_at (i := 1) rfl) (n9 := 4) (by decide +kernel) rfl (by dsimp only; omega) (by dsimp only; omega) (Nat.zero_le _) (Nat.zero_le _) rfl (Nat.le_of_ble_eq_true rfl) dX2_solve_53 (fun r u1 hp => ?_)
    obtain ⟨rfl, hk1, hT1⟩ := hp
    obtain ⟨m0, hm0, hm1, hm2⟩ := hT1.2.1
    refine aw_istore C (by decide) rfl dX2_solve_56 ?_
    refine aw_aload_n C rfl rfl dX2_solve_58 ?_
    refine aw_getf C ck1 7 (by decide) q163 (fun _ z => z) (ch_at (i := 1) rfl) rfl dX2_solve_59 ?_
    refine aw_top (show _ = nI m0 from hm1) ?_
    refine aw_ldc C q795 dX2_solve_62 ?_
    refine aw_top ((show (50000 : Int32) = nI 50000 from rfl)) ?_
    refine aw_icmpN_ne C (tgt := 70) (by omega) (by omega) dX2_solve_64 (by decide) (fun gF => ?_) (fun gF => ?_)
    · refine aw_aload_n C rfl rfl dX2_solve_70 ?_
      refine aw_lload C rfl dX2_solve_71 ?_
      refine aw_callVR C ck1 (se_place hG l (u := u1) (x0 := lK (mkB b S) S m) (fr9 hT1)) q759 q761 qs4 q96 q762 (Or.inl (ch_at (i := 1) rfl)) (n9 := 1) (by decide +kernel) rfl (by dsimp only; omega) (by dsimp only; omega) (Nat.zero_le _) (Nat.zero_le _) rfl (Nat.le_of_ble_eq_true rfl) dX2_solve_73 (fun _ _ _ z => z.elim) (fun v9 h9 sz9 hp => ?_)
      obtain ⟨rfl, rfl, i1, hi1, rfl, hky1⟩ := hp
      refine aw_top rfl ?_
      refine aw_istore C (by decide) rfl dX2_solve_76 ?_
      refine aw_aload_n C rfl rfl dX2_solve_78 ?_
      refine aw_dup C rfl dX2_solve_79 ?_
      refine aw_getf C ck1 7 (by decide) q163 (fun _ z => z) (ch_at (i := 1) rfl) rfl dX2_solve_80 ?_
      refine aw_top (show _ = nI m0 from hm1) ?_
      refine aw_aload_n C rfl rfl dX2_solve_83 ?_
      refine aw_getf C ck1 2 (by decide) q158 (fun _ z => z) (ch_at (i := 1) rfl) rfl dX2_solve_84 ?_
      refine aw_iload C rfl dX2_solve_87 ?_
      refine aw_ialdN C (ch_at (i := 4) rfl) (by omega) (by decide) dX2_solve_89 ?_
      refine aw_aload_n C rfl rfl dX2_solve_90 ?_
      refine aw_getf C ck1 6 (by decide) q162 (fun _ z => z) (ch_at (i := 1) rfl) rfl dX2_solve_91 ?_
      refine aw_icmp_ne C (tgt := 101) dX2_solve_94 (by decide) (fun gT => ?_) (fun gT => ?_)
      · refine aw_iconst C (v := nI 1) (by decide) dX2_solve_101 ?_
        refine aw_iaddN C dX2_solve_102 ?_
        refine cw_known C q163 dX2_solve_103 ?_
        refine aw_aload_n C rfl rfl dX2_solve_106 ?_
        refine aw_getf C ck1 2 (by decide) q158 (fun _ z => z) (ch_at (i := 1) rfl) rfl dX2_solve_107 ?_
        refine aw_iload C rfl dX2_solve_110 ?_
        refine aw_aload_n C rfl rfl dX2_solve_112 ?_
        refine aw_getf C ck1 6 (by decide) q162 (fun _ z => z) (ch_at (i := 1) rfl) rfl dX2_solve_113 ?_
        refine cw_stamps C hi1 dX2_solve_116 ?_
        refine aw_aload_n C rfl rfl dX2_solve_117 ?_
        refine aw_getf C ck1 0 (by decide) q156 (fun _ z => z) (ch_at (i := 1) rfl) rfl dX2_solve_118 ?_
        refine aw_iload C rfl dX2_solve_121 ?_
        refine aw_lload C rfl dX2_solve_123 ?_
        refine cw_keys C hi1 dX2_solve_125 ?_
        refine aw_aload_n C rfl rfl dX2_solve_126 ?_
        refine aw_getf C ck1 1 (by decide) q157 (fun _ z => z) (ch_at (i := 1) rfl) rfl dX2_solve_127 ?_
        refine aw_iload C rfl dX2_solve_130 ?_
        refine aw_iload C rfl dX2_solve_132 ?_
        refine cw_found C hi1 dX2_solve_134 ?_
        refine aw_iload C rfl dX2_solve_135 ?_
        refine aw_iret C rfl dX2_solve_137 (Nat.le_refl _) (Nat.le_refl _) ?_
        refine ⟨rfl, _, sto u1 i1 (lK (mkB b S) S m) (nI (pq (G b S m))) _, rfl, rfl, rfl, hk1.tr (sto_sk u1 i1 _ _ _), hT1.sto hW hS hfr (by omega) hi1 hm1 (by omega) hm2 ?_⟩
        first
        | rw [if_pos (show u1.2.1 1 i1 = nI k from gT.trans hT1.1.1)]; rfl
        | rw [if_neg (show ¬ u1.2.1 1 i1 = nI k from fun z => gT (z.trans hT1.1.1.symm))]
      · refine aw_iconst C (v := nI 0) (by decide) dX2_solve_97 ?_
        refine aw_goto C (tgt := 102) dX2_solve_98 (by decide) ?_
        refine aw_iaddN C dX2_solve_102 ?_
        refine cw_known C q163 dX2_solve_103 ?_
        refine aw_aload_n C rfl rfl dX2_solve_106 ?_
        refine aw_getf C ck1 2 (by decide) q158 (fun _ z => z) (ch_at (i := 1) rfl) rfl dX2_solve_107 ?_
        refine aw_iload C rfl dX2_solve_110 ?_
        refine aw_aload_n C rfl rfl dX2_solve_112 ?_
        refine aw_getf C ck1 6 (by decide) q162 (fun _ z => z) (ch_at (i := 1) rfl) rfl dX2_solve_113 ?_
        refine cw_stamps C hi1 dX2_solve_116 ?_
        refine aw_aload_n C rfl rfl dX2_solve_117 ?_
        refine aw_getf C ck1 0 (by decide) q156 (fun _ z => z) (ch_at (i := 1) rfl) rfl dX2_solve_118 ?_
        refine aw_iload C rfl dX2_solve_121 ?_
        refine aw_lload C rfl dX2_solve_123 ?_
        refine cw_keys C hi1 dX2_solve_125 ?_
        refine aw_aload_n C rfl rfl dX2_solve_126 ?_
        refine aw_getf C ck1 1 (by decide) q157 (fun _ z => z) (ch_at (i := 1) rfl) rfl dX2_solve_127 ?_
        refine aw_iload C rfl dX2_solve_130 ?_
        refine aw_iload C rfl dX2_solve_132 ?_
        refine cw_found C hi1 dX2_solve_134 ?_
        refine aw_iload C rfl dX2_solve_135 ?_
        refine aw_iret C rfl dX2_solve_137 (Nat.le_refl _) (Nat.le_refl _) ?_
        refine ⟨rfl, _, sto u1 i1 (lK (mkB b S) S m) (nI (pq (G b S m))) _, rfl, rfl, rfl, hk1.tr (sto_sk u1 i1 _ _ _), hT1.sto hW hS hfr (by omega) hi1 hm1 (by omega) hm2 ?_⟩
        first
        | rw [if_pos (show u1.2.1 1 i1 = nI k from gT.trans hT1.1.1)]; rfl
        | rw [if_neg (show ¬ u1.2.1 1 i1 = nI k from fun z => gT (z.trans hT1.1.1.symm))]
    · refine aw_iload C rfl dX2_solve_67 ?_
      exact aw_iret C rfl dX2_solve_69 (Nat.le_refl _) (Nat.le_refl _) ⟨rfl, _, u1, rfl, rfl, rfl, hk1, hT1⟩
  · refine aw_aload_n C rfl rfl dX2_solve_39 ?_
    refine aw_getf C ck1 1 (by decide) q157 (fun _ z => z) (ch_at (i := 1) rfl) rfl dX2_solve_40 ?_
    refine aw_iload C rfl dX2_solve_43 ?_
    refine aw_ialdN C (ch_at (i := 3) rfl) (by omega) (by decide) dX2_solve_45 ?_
    exact aw_iret C rfl dX2_solve_46 (Nat.le_refl _) (Nat.le_refl _) ⟨rfl, _, u, rfl, rfl, hT.2.2 i b S m hi (gS.trans hT.1.1) (ST.rf b) hW hS hfr (by omega) (hky gS), SK.rf d u, hT⟩
theorem so_all {γ : Gm} (hG : GF γ) (l : Launch) {o sz : Nat} {g : AH} {gr : Nat} (hSp : Sep o g) : ∀ f, SO γ l o sz g gr f := by
  intro f
  induction f with
  | zero =>
    intro u b S m d k hg hW hY hS hS0 hfr hf
    have := pop_pos S (Nat.lt_of_lt_of_le hS (Nat.pow_le_pow_right (by omega) hW.2.1)) hS0
    omega
  | succ f ih => exact so_of hG l hSp (lo_of hG l hSp (be_of hG l hSp ih))
