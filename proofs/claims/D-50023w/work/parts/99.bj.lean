/-! calls that may throw: rows; a vertex, a pair -/
section SQX
variable {γ : Gm} {l : Launch} {x : WX} {y : MethodName} {cc : ByteArray} {nL : Nat} {ret : Option FieldType} {rm : Room} {et : List ExceptionTableEntry} {Q : State → Prop} {h : AH} {sz k n pc : Nat} {L : LV} {st : List Value}
variable {y9 : MethodName} {b9 : ByteArray} {nL9 : Nat} {ret9 : Option FieldType} {f9 lo9 mc ms index : Nat} {As : List Value} {st0 : List Value} {h' : AH} {sz' : Nat}
variable {Post : Option Value → AH → Nat → Prop} {PX : String → AH → Nat → Prop}
theorem aw_callSQ (C : Cx γ l x y cc nL ret rm []) {n9 : Nat} {t : Bool} {cls : String} (hM : MX γ l y9 b9 nL9 ret9 f9 lo9 1 6 As h sz (RQ t h sz) (RQX cls t h sz))
    (q1 : Cond.methodLink y.cls index y9 ∈ lw_all) (q2 : Cond.static y9 ∈ lw_all) (q3 : Cond.initialized y9.cls ∈ lw_all) (q4 : Cond.code y9 b9 nL9 ret9 ∈ lw_all)
    (hd : y9.cls ≠ "java/lang/invoke/MethodHandle" ∧ y9.cls ≠ "java/lang/invoke/VarHandle" ∧ (parseMethodDescriptor y9.desc).map (fun d => d.parameters.length) = some n9) (hn : As.length = n9) (hf : f9 + 1 ≤ rm.frames) (hl : 8 + (nL9 + 11) + lo9 ≤ rm.locals) (hc : k + 1 ≤ rm.cells) (hs : n + 6 ≤ rm.slots) (hst : st0 = As.reverse ++ st) (hw : (st.map fun v => v.category).sum ≤ 8) (d : decode cc pc = .ok (.invokestatic index, 3)) (hk : k + 1 ≤ mc) (hm : n + 6 ≤ ms)
    (kx : t = false → ∀ sz', sz ≤ sz' → PX cls h sz') (kk : t = true → AW γ l x (QX γ x mc ms Post PX) nL h sz (k + 1) (n + 6) (pc + 3) L st) : AW γ l x (QX γ x mc ms Post PX) nL h sz k n pc L st0 :=
  aw_callS C hM q1 q2 q3 q4 hd hn hf hl hc hs hst hw d (fun E h' sz' hp => by
    obtain ⟨rfl, rfl, q, e⟩ := hp
    exact ax_out C hk hm (kx e sz' q)) (fun v h' sz' hp => by
    obtain ⟨rfl, rfl, rfl, e⟩ := hp
    exact kk e)
theorem aw_callVQ (C : Cx γ l x y cc nL ret rm []) {ci N a n9 m9 s9 : Nat} {t : Bool} {cls Cn : String} {T : u_T} {ty : Nat → FieldType} (K : CKF ci Cn T N ty) {fs : List Value} (hM : MX γ l y9 b9 nL9 ret9 f9 lo9 m9 s9 (.ref a :: As) h sz (RQ t h sz) (RQX cls t h sz))
    (q1 : Cond.methodLink y.cls index y9 ∈ lw_all) (q2 : Cond.instanceMethod y9 ∈ lw_all) (q3 : Cond.selects Cn y9 y9 ∈ lw_all) (q4 : Cond.initialized Cn ∈ lw_all) (q5 : Cond.code y9 b9 nL9 ret9 ∈ lw_all) (he : h a = some (.inr (ci, fs)))
    (hd : y9.cls = Cn ∧ y9.cls ≠ "java/lang/invoke/MethodHandle" ∧ y9.cls ≠ "java/lang/invoke/VarHandle" ∧ (parseMethodDescriptor y9.desc).map (fun d => d.parameters.length) = some n9) (hn : As.length = n9) (hf : f9 + 1 ≤ rm.frames) (hl : 8 + (nL9 + 11) + lo9 ≤ rm.locals) (hc : k + m9 ≤ rm.cells) (hs : n + s9 ≤ rm.slots) (hst : st0 = As.reverse ++ .ref a :: st) (hw : (st.map fun v => v.category).sum ≤ 8) (d : decode cc pc = .ok (.invokevirtual index, 3)) (hk : k + m9 ≤ mc) (hm : n + s9 ≤ ms)
    (kx : t = false → ∀ sz', sz ≤ sz' → PX cls h sz') (kk : t = true → AW γ l x (QX γ x mc ms Post PX) nL h sz (k + m9) (n + s9) (pc + 3) L st) : AW γ l x (QX γ x mc ms Post PX) nL h sz k n pc L st0 :=
  aw_callV C K hM q1 q2 q3 q4 q5 he hd hn hf hl hc hs hst hw d (fun E h' sz' hp => by
    obtain ⟨rfl, rfl, q, e⟩ := hp
    exact ax_out C hk hm (kx e sz' q)) (fun v h' sz' hp => by
    obtain ⟨rfl, rfl, rfl, e⟩ := hp
    exact kk e)
end SQX
theorem CS.mono {o sz sz' K : Nat} {u : CU} {g : AH} {s : SS} (h : CS o sz u g K s) (hs : sz ≤ sz') : CS o sz' u g K s := ⟨h.1, by have := h.2.1; omega, h.2.2⟩
theorem isV_i {b : BT} (hW : WB b) (v : Int32) : isI v (nI 0) (nI (b 0) - nI 1) = isV b v := by
  unfold isI isV
  rw [pk_sub hW.1]
theorem isC_i {b : BT} (hW : WB b) (c : Int32) : isI c (nI 0) (nI (b 1) - nI 1) = isC b c := by
  unfold isI isC
  rw [pk_sub hW.2.2.1]
set_option maxRecDepth 100000 in
theorem rq_Vertex {γ : Gm} (hG : GF γ) (l : Launch) {o : Nat} {u : CU} {g : AH} {sz : Nat} (hX : GEX γ l) {gr a : Nat} {b : BT} (hSp : Sep o g) (hb : BRD g a gr b) (hW : WB b) (hcu : u.2.2.2.2 = a) (v : Int32) : MX γ l yX1_requireVertex cX1_requireVertex 2 none 7 161 1 6 [.ref o, .int v] (ch o u g) sz (RQ (isV b v) (ch o u g) sz) (RQX "java/lang/IndexOutOfBoundsException" (isV b v) (ch o u g) sz) := by
  refine mx_start hG (by decide) (Nat.le_of_ble_eq_true rfl) (fun x C => ?_)
  obtain ⟨ca, ba, v3, v4, fc, fb, eb, eca, eba, hg, hfc, hfb⟩ := id hb
  obtain ⟨gl, gn, fl, fn, eg, egl, egn, hgl, hgn⟩ := id hg
  refine aw_iload_n C rfl rfl dX1_requireVertex_0 ?_
  refine aw_aload_n C rfl rfl dX1_requireVertex_1 ?_
  refine aw_getf C ck0 1 (by decide) q665 (fun _ z => z) (ch_at (i := 0) rfl) rfl dX1_requireVertex_2 ?_
  refine aw_topV (congrArg Value.ref hcu) ?_
  refine aw_getfN C ck2 0 (by decide) q612 (fun _ z => z) (ch_le hSp _ _ eb) rfl dX1_requireVertex_5 ?_
  refine aw_getfN C ck3 3 (by decide) q217 (fun _ z => z) (ch_le hSp _ _ eg) rfl dX1_requireVertex_8 ?_
  refine aw_callSQ C (rq_Index hG l hX v (nI (b 0))) q1548 q1549 q95 q1550 (n9 := 2) (by decide +kernel) rfl (Nat.le_of_ble_eq_true rfl) (Nat.le_of_ble_eq_true rfl) (by dsimp only; omega) (by dsimp only; omega) rfl (Nat.le_of_ble_eq_true rfl) dX1_requireVertex_11 (by omega) (by omega) (fun e sz' q => ⟨rfl, rfl, q, by rw [← isV_i hW]; exact e⟩) (fun e => ?_)
  exact aw_vret C rfl dX1_requireVertex_14 (by omega) (by omega) ⟨rfl, rfl, rfl, by rw [← isV_i hW]; exact e⟩
set_option maxRecDepth 100000 in
theorem rq_Pair {γ : Gm} (hG : GF γ) (l : Launch) {o : Nat} {u : CU} {g : AH} {sz : Nat} (hX : GEX γ l) {gr a : Nat} {b : BT} (hSp : Sep o g) (hb : BRD g a gr b) (hW : WB b) (hcu : u.2.2.2.2 = a) (v c : Int32) : MX γ l yX1_requirePair cX1_requirePair 3 none 8 182 2 12 [.ref o, .int v, .int c] (ch o u g) sz (RQ (isV b v && isC b c) (ch o u g) sz) (RQX "java/lang/IndexOutOfBoundsException" (isV b v && isC b c) (ch o u g) sz) := by
  refine mx_start hG (by decide) (Nat.le_of_ble_eq_true rfl) (fun x C => ?_)
  obtain ⟨ca, ba, v3, v4, fc, fb, eb, eca, eba, hg, hfc, hfb⟩ := id hb
  obtain ⟨gl, gn, fl, fn, eg, egl, egn, hgl, hgn⟩ := id hg
  refine aw_aload_n C rfl rfl dX1_requirePair_0 ?_
  refine aw_iload_n C rfl rfl dX1_requirePair_1 ?_
  refine aw_callVQ C ck0 (rq_Vertex hG l hX hSp hb hW hcu v) q1544 q1546 qs36 q95 q1547 (ch_at (i := 0) rfl) (n9 := 1) (by decide +kernel) rfl (Nat.le_of_ble_eq_true rfl) (Nat.le_of_ble_eq_true rfl) (by dsimp only; omega) (by dsimp only; omega) rfl (Nat.le_of_ble_eq_true rfl) dX1_requirePair_2 (by omega) (by omega) (fun e sz' q => ⟨rfl, rfl, q, by rw [e]; rfl⟩) (fun e1 => ?_)
  refine aw_iload_n C rfl rfl dX1_requirePair_5 ?_
  refine aw_aload_n C rfl rfl dX1_requirePair_6 ?_
  refine aw_getf C ck0 1 (by decide) q665 (fun _ z => z) (ch_at (i := 0) rfl) rfl dX1_requirePair_7 ?_
  refine aw_topV (congrArg Value.ref hcu) ?_
  refine aw_getfN C ck2 0 (by decide) q612 (fun _ z => z) (ch_le hSp _ _ eb) rfl dX1_requirePair_10 ?_
  refine aw_getfN C ck3 0 (by decide) q201 (fun _ z => z) (ch_le hSp _ _ eg) rfl dX1_requirePair_13 ?_
  refine aw_callSQ C (rq_Index hG l hX c (nI (b 1))) q1548 q1549 q95 q1550 (n9 := 2) (by decide +kernel) rfl (Nat.le_of_ble_eq_true rfl) (Nat.le_of_ble_eq_true rfl) (by dsimp only; omega) (by dsimp only; omega) rfl (Nat.le_of_ble_eq_true rfl) dX1_requirePair_16 (by omega) (by omega) (fun e sz' q => ⟨rfl, rfl, q, by rw [e1, ← isC_i hW, e]; rfl⟩) (fun e2 => ?_)
  exact aw_vret C rfl dX1_requirePair_19 (by omega) (by omega) ⟨rfl, rfl, rfl, by rw [e1, ← isC_i hW, e2]; rfl⟩
set_option maxRecDepth 100000 in
theorem pc_reason {γ : Gm} (hG : GF γ) (l : Launch) {o : Nat} {u : CU} {g : AH} {sz : Nat} {ρ : Nat} (hU : RUL γ ρ) (hI : FRU γ) (hX : GEX γ l) {K : Nat} {s : SS} (hC : CS o sz u g K s) (hA : WA s.1) (v c : Int32) : MX γ l yX1_reason cX1_reason 3 (some .int) 9 204 2 12 [.ref o, .int v, .int c] (ch o u g) sz (PCV o K (spWhy s.1 v c, s)) (PCX o K "java/lang/IndexOutOfBoundsException" "" (spWhy s.1 v c, s)) := by
  refine mx_start hG (by decide) (Nat.le_of_ble_eq_true rfl) (fun x C => ?_)
  obtain ⟨hSp, hsz, hI9, ⟨gr, cap, hbc, hg, hc9⟩, hrest⟩ := id hC
  obtain ⟨a, hcu⟩ : ∃ a, u.2.2.2.2 = a := ⟨_, rfl⟩
  rw [hcu] at hbc
  obtain ⟨b, hbs⟩ : ∃ b, s.1 = b := ⟨_, rfl⟩
  rw [hbs] at hbc hg hA
  have hb : BRD g a gr b := hbc.brd hg
  obtain ⟨ca, ba, v3, v4, fc, fb, eb, eca, eba, hg, hfc, hfb⟩ := id hb
  obtain ⟨gl, gn, fl, fn, eg, egl, egn, hgl, hgn⟩ := id hg
  have hN := hA.1.2.1
  have hC3 := hA.1.2.2.2.1
  refine aw_aload_n C rfl rfl dX1_reason_0 ?_
  refine aw_iload_n C rfl rfl dX1_reason_1 ?_
  refine aw_iload_n C rfl rfl dX1_reason_2 ?_
  refine aw_callVQ C ck0 (rq_Pair hG l hX hSp hb hA.1 hcu v c) q1583 q1585 qs37 q95 q1586 (ch_at (i := 0) rfl) (n9 := 2) (by decide +kernel) rfl (Nat.le_of_ble_eq_true rfl) (Nat.le_of_ble_eq_true rfl) (by dsimp only; omega) (by dsimp only; omega) rfl (Nat.le_of_ble_eq_true rfl) dX1_reason_3 (by omega) (by omega) (fun e sz' q => ⟨Or.inl ⟨by unfold spWhy; rw [hbs, if_pos e], rfl⟩, u, g, rfl, hC.mono q⟩) (fun e => ?_)
  have e2 := e
  rw [Bool.and_eq_true] at e2
  obtain ⟨v1, rfl, hv1⟩ := isV_ex hN hA.1.1 e2.1
  obtain ⟨c1, rfl, hc1⟩ := isC_ex hC3 hA.1.2.2.1 e2.2
  refine aw_getsN C hU.1 q1587 (fun _ z => z) dX1_reason_6 ?_
  refine aw_aload_n C rfl rfl dX1_reason_9 ?_
  refine aw_getf C ck0 1 (by decide) q665 (fun _ z => z) (ch_at (i := 0) rfl) rfl dX1_reason_10 ?_
  refine aw_topV (congrArg Value.ref hcu) ?_
  refine aw_iload_n C rfl rfl dX1_reason_13 ?_
  refine aw_iload_n C rfl rfl dX1_reason_14 ?_
  refine aw_callVOR C  (bd_reason hG l hU hI (hb.le (ch_le hSp)) hA.1 (by omega) (by omega)) q1588 q822 q823 q2248 q824 hU.2 (n9 := 3) (by decide +kernel) rfl (Nat.le_of_ble_eq_true rfl) (Nat.le_of_ble_eq_true rfl) (by dsimp only; omega) (by dsimp only; omega) rfl (Nat.le_of_ble_eq_true rfl) dX1_reason_15 ?_
  refine aw_iret C rfl dX1_reason_18 (by omega) (by omega) ?_
  refine ⟨by unfold spWhy; rw [hbs, if_neg (by rw [e]; decide)], ?_, u, g, rfl, hC⟩
  unfold spWhy
  rw [hbs, if_neg (by rw [e]; decide), nt_n (by omega), nt_n (by omega)]
