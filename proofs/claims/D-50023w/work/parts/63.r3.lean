/-! calls of other kinds: a nest mate's, inherited, super's, an interface's; copies; class objects; clone -/
section R3
variable {γ : Gm} {l : Launch} {x : WX} {y : MethodName} {cc : ByteArray} {nL : Nat} {ret : Option FieldType} {rm : Room} {et : List ExceptionTableEntry} {Q : State → Prop} {h : AH} {sz k n pc : Nat} {L : LV} {st : List Value}
variable {y9 : MethodName} {b9 : ByteArray} {nL9 : Nat} {ret9 : Option FieldType} {f9 lo9 mc ms index : Nat} {As : List Value} {Post : Option Value → AH → Nat → Prop} {PX : String → AH → Nat → Prop} {st0 : List Value}
theorem ax_goes5 (kr : ∀ (H : Heap) (locs : List Loc) (ls : Array Slot), H.size = sz → Rep γ h H → va_S γ.W x.s.heap H locs → LH ls nL L → vx_Run5 x.p l x.e x.R x.s x.m x.args x.below x.meth x.c H locs k n mc ms (F0 x.m pc ls st0) st (QcA γ Post As.toArray) (XcA γ PX) γ.W)
    (kx : ∀ (E : String) (h' : AH) (sz' : Nat), PX E h' sz' → AX γ l x Q nL h' sz' (k + mc) (n + ms) pc L E)
    (kk : ∀ (v : Option Value) (h' : AH) (sz' : Nat), Post v h' sz' → AW γ l x Q nL h' sz' (k + mc) (n + ms) (pc + 5) L (v.toList ++ st)) : AW γ l x Q nL h sz k n pc L st0 := by
  intro H locs ls h1 h2 h3 h4 T hT X
  rcases kr H locs ls h1 h2 h3 h4 T hT X with ⟨v, st₀, t, T', Lc, e0, X', hL, e1, e2, ⟨⟨v', h', sz', hv, hp, hz, hRep⟩, hF⟩, sg⟩ | ⟨q, st₀, t, T', Lc, E, ce, e0, X', hL, e1, e2, ⟨⟨h', sz', hp, hz, hRep⟩, hF⟩, hce, hcv, hcl, sg⟩
  · cases hv
    obtain ⟨k1, k2, k3⟩ := vx_keep e0 e1 h3 (fun q _ z => z) (fun q z => z) hL hF
    obtain ⟨t2, a1, b1⟩ := kk v h' sz' hp T'.heap (locs ++ Lc) ls (by rw [e1]; exact hz) (by rw [e1]; exact hRep) k3 h4 T' rfl X'
    exact ⟨t2, sg t2 a1, b1⟩
  · obtain ⟨k1, k2, k3⟩ := vx_keep e0 e1 h3 (fun q _ z => z) (fun q z => z) hL hF
    obtain ⟨t2, a1, b1⟩ := kx E h' sz' hp T'.heap (locs ++ Lc) ls st q ce (by rw [e1]; exact hz) (by rw [e1]; exact hRep) k3 h4 (by rw [e1]; exact hce) hcv hcl T' rfl X'
    exact ⟨t2, sg.trans a1, b1⟩
/-- invokevirtual, of any receiver whose class is known -/
theorem aw_callVO (C : Cx γ l x y cc nL ret rm et) {a n9 : Nat} {Cn : String} (hM : MX γ l y9 b9 nL9 ret9 f9 lo9 mc ms (.ref a :: As) h sz Post PX)
    (q1 : Cond.methodLink y.cls index y9 ∈ lw_all) (q2 : Cond.instanceMethod y9 ∈ lw_all) (q3 : Cond.selects Cn y9 y9 ∈ lw_all) (q4 : Cond.initialized Cn ∈ lw_all) (q5 : Cond.code y9 b9 nL9 ret9 ∈ lw_all)
    (he : OBJ γ Cn a) (hd : y9.cls = Cn ∧ y9.cls ≠ "java/lang/invoke/MethodHandle" ∧ y9.cls ≠ "java/lang/invoke/VarHandle" ∧ (parseMethodDescriptor y9.desc).map (fun d => d.parameters.length) = some n9) (hn : As.length = n9)
    (hf : f9 + 1 ≤ rm.frames) (hl : 8 + (nL9 + 11) + lo9 ≤ rm.locals) (hc : k + mc ≤ rm.cells) (hs : n + ms ≤ rm.slots) (hst : st0 = As.reverse ++ .ref a :: st) (hw : (st.map fun v => v.category).sum ≤ 8) (d : decode cc pc = .ok (.invokevirtual index, 3))
    (kx : ∀ (E : String) (h' : AH) (sz' : Nat), PX E h' sz' → AX γ l x Q nL h' sz' (k + mc) (n + ms) pc L E)
    (kk : ∀ (v : Option Value) (h' : AH) (sz' : Nat), Post v h' sz' → AW γ l x Q nL h' sz' (k + mc) (n + ms) (pc + 3) L (v.toList ++ st)) : AW γ l x Q nL h sz k n pc L st0 :=
  ax_goes (As := .ref a :: As) (fun H locs ls h1 h2 h3 h4 => vx_runV (C := Cn) (b := a) (As := As) (rest := st) C.fix hM
    (cwV n9 C.hts (lw_V q1 q2 q3 q4 q5) rfl rfl rfl hd (by rw [C.hR]; exact ⟨hf, hl⟩)) ⟨pc_blind C.hG, he { x.s with heap := H } (C.later h3 rfl (State.WarmedH.refl x.s)), fun U hU hW => pc_at C h1 h2 h3 hU hW⟩ rfl hn h4.1 hst (lv_room hw) d (by rw [C.hR]; exact ⟨hc, hs⟩)) kx kk
/-- a nest mate's private method -/
theorem aw_callVN (C : Cx γ l x y cc nL ret rm et) {ci N a n9 : Nat} {Cn host : String} {T : u_T} {ty : Nat → FieldType} (K : CKF ci Cn T N ty) {fs : List Value} (hM : MX γ l y9 b9 nL9 ret9 f9 lo9 mc ms (.ref a :: As) h sz Post PX)
    (q1 : Cond.methodLinkNest y.cls index y9 host ∈ lw_tbl) (q2 : Cond.instanceMethod y9 ∈ lw_all) (q3 : Cond.selects Cn y9 y9 ∈ lw_all) (q4 : Cond.initialized y9.cls ∈ lw_all) (q5 : Cond.code y9 b9 nL9 ret9 ∈ lw_all)
    (he : h a = some (.inr (ci, fs))) (hd : y9.cls ≠ "java/lang/invoke/MethodHandle" ∧ y9.cls ≠ "java/lang/invoke/VarHandle" ∧ (parseMethodDescriptor y9.desc).map (fun d => d.parameters.length) = some n9) (hn : As.length = n9)
    (hf : f9 + 1 ≤ rm.frames) (hl : 8 + (nL9 + 11) + lo9 ≤ rm.locals) (hc : k + mc ≤ rm.cells) (hs : n + ms ≤ rm.slots) (hst : st0 = As.reverse ++ .ref a :: st) (hw : (st.map fun v => v.category).sum ≤ 8) (d : decode cc pc = .ok (.invokevirtual index, 3))
    (kx : ∀ (E : String) (h' : AH) (sz' : Nat), PX E h' sz' → AX γ l x Q nL h' sz' (k + mc) (n + ms) pc L E)
    (kk : ∀ (v : Option Value) (h' : AH) (sz' : Nat), Post v h' sz' → AW γ l x Q nL h' sz' (k + mc) (n + ms) (pc + 3) L (v.toList ++ st)) : AW γ l x Q nL h sz k n pc L st0 :=
  ax_goes (As := .ref a :: As) (fun H locs ls h1 h2 h3 h4 => vx_runVN (C := Cn) (host := host) (b := a) (As := As) (rest := st) C.fix hM
    ⟨va_cnB n9 C.hts (lw_meth q5) rfl rfl rfl (C.nest q1 rfl) (C.hts _ q4) hd (by rw [C.hR]; exact ⟨hf, hl⟩), C.hts _ q2, C.hts _ q3⟩ ⟨pc_blind C.hG, rep_recv C h2 K he, fun U hU hW => pc_at C h1 h2 h3 hU hW⟩ rfl hn h4.1 hst (lv_room hw) d (by rw [C.hR]; exact ⟨hc, hs⟩)) kx kk
theorem aw_callSN (C : Cx γ l x y cc nL ret rm et) {n9 : Nat} {host : String} (hM : MX γ l y9 b9 nL9 ret9 f9 lo9 mc ms As h sz Post PX)
    (q1 : Cond.methodLinkNest y.cls index y9 host ∈ lw_tbl) (q2 : Cond.static y9 ∈ lw_all) (q3 : Cond.initialized y9.cls ∈ lw_all) (q4 : Cond.code y9 b9 nL9 ret9 ∈ lw_all)
    (hd : y9.cls ≠ "java/lang/invoke/MethodHandle" ∧ y9.cls ≠ "java/lang/invoke/VarHandle" ∧ (parseMethodDescriptor y9.desc).map (fun d => d.parameters.length) = some n9) (hn : As.length = n9)
    (hf : f9 + 1 ≤ rm.frames) (hl : 8 + (nL9 + 11) + lo9 ≤ rm.locals) (hc : k + mc ≤ rm.cells) (hs : n + ms ≤ rm.slots) (hst : st0 = As.reverse ++ st) (hw : (st.map fun v => v.category).sum ≤ 8) (d : decode cc pc = .ok (.invokestatic index, 3))
    (kx : ∀ (E : String) (h' : AH) (sz' : Nat), PX E h' sz' → AX γ l x Q nL h' sz' (k + mc) (n + ms) pc L E)
    (kk : ∀ (v : Option Value) (h' : AH) (sz' : Nat), Post v h' sz' → AW γ l x Q nL h' sz' (k + mc) (n + ms) (pc + 3) L (v.toList ++ st)) : AW γ l x Q nL h sz k n pc L st0 :=
  ax_goes (As := As) (fun H locs ls h1 h2 h3 h4 => vx_runSN (host := host) (As := As) (rest := st) C.fix hM
    ⟨va_cnB n9 C.hts (lw_meth q4) rfl rfl rfl (C.nest q1 rfl) (C.hts _ q3) hd (by rw [C.hR]; exact ⟨hf, hl⟩), C.hts _ q2, trivial⟩ ⟨pc_blind C.hG, fun U hU hW => pc_at C h1 h2 h3 hU hW⟩ rfl hn h4.1 hst (lv_room hw) d (by rw [C.hR]; exact ⟨hc, hs⟩)) kx kk
theorem aw_callIN (C : Cx γ l x y cc nL ret rm et) {a n9 : Nat} {host : String} (hM : MX γ l y9 b9 nL9 none f9 lo9 mc ms (.ref a :: As) h sz Post PX)
    (q1 : Cond.methodLinkNest y.cls index y9 host ∈ lw_tbl) (q2 : Cond.instanceMethod y9 ∈ lw_all) (q3 : Cond.initialized y9.cls ∈ lw_all) (q4 : Cond.code y9 b9 nL9 none ∈ lw_all) (hy1 : y9.name = "<init>")
    (hd : y9.cls ≠ "java/lang/invoke/MethodHandle" ∧ y9.cls ≠ "java/lang/invoke/VarHandle" ∧ (parseMethodDescriptor y9.desc).map (fun d => d.parameters.length) = some n9) (hn : As.length = n9)
    (hf : f9 + 1 ≤ rm.frames) (hl : 8 + (nL9 + 11) + lo9 ≤ rm.locals) (hc : k + mc ≤ rm.cells) (hs : n + ms ≤ rm.slots) (hst : st0 = As.reverse ++ .ref a :: st) (hw : (st.map fun v => v.category).sum ≤ 8) (d : decode cc pc = .ok (.invokespecial index, 3))
    (kx : ∀ (E : String) (h' : AH) (sz' : Nat), PX E h' sz' → AX γ l x Q nL h' sz' (k + mc) (n + ms) pc L E)
    (kk : ∀ (v : Option Value) (h' : AH) (sz' : Nat), Post v h' sz' → AW γ l x Q nL h' sz' (k + mc) (n + ms) (pc + 3) L (v.toList ++ st)) : AW γ l x Q nL h sz k n pc L st0 :=
  ax_goes (As := .ref a :: As) (fun H locs ls h1 h2 h3 h4 => vx_runIN (host := host) (As := As) (b := a) (rest := st) C.fix hM
    ⟨va_cnB n9 C.hts (lw_meth q4) rfl rfl rfl (C.nest q1 rfl) (C.hts _ q3) hd (by rw [C.hR]; exact ⟨hf, hl⟩), hy1, C.hts _ q2⟩ ⟨pc_blind C.hG, fun U hU hW => pc_at C h1 h2 h3 hU hW⟩ rfl hn h4.1 hst (lv_room hw) d (by rw [C.hR]; exact ⟨hc, hs⟩)) kx kk
theorem aw_callSNR (C : Cx γ l x y cc nL ret rm et) {n9 : Nat} {host : String} {r : Int32} (hM : MX γ l y9 b9 nL9 ret9 f9 lo9 0 0 As h sz (RI h sz r) NX)
    (q1 : Cond.methodLinkNest y.cls index y9 host ∈ lw_tbl) (q2 : Cond.static y9 ∈ lw_all) (q3 : Cond.initialized y9.cls ∈ lw_all) (q4 : Cond.code y9 b9 nL9 ret9 ∈ lw_all)
    (hd : y9.cls ≠ "java/lang/invoke/MethodHandle" ∧ y9.cls ≠ "java/lang/invoke/VarHandle" ∧ (parseMethodDescriptor y9.desc).map (fun d => d.parameters.length) = some n9) (hn : As.length = n9)
    (hf : f9 + 1 ≤ rm.frames) (hl : 8 + (nL9 + 11) + lo9 ≤ rm.locals) (hc : k ≤ rm.cells) (hs : n ≤ rm.slots) (hst : st0 = As.reverse ++ st) (hw : (st.map fun v => v.category).sum ≤ 8) (d : decode cc pc = .ok (.invokestatic index, 3))
    (kk : AW γ l x Q nL h sz k n (pc + 3) L (.int r :: st)) : AW γ l x Q nL h sz k n pc L st0 :=
  aw_callSN C hM q1 q2 q3 q4 hd hn hf hl hc hs hst hw d (fun _ _ _ z => z.elim) (fun v h' sz' hp => by
    obtain ⟨rfl, rfl, rfl⟩ := hp
    exact kk)
theorem aw_callVNR (C : Cx γ l x y cc nL ret rm et) {ci N a n9 : Nat} {Cn host : String} {T : u_T} {ty : Nat → FieldType} (K : CKF ci Cn T N ty) {fs : List Value} {r : Int32} (hM : MX γ l y9 b9 nL9 ret9 f9 lo9 0 0 (.ref a :: As) h sz (RI h sz r) NX)
    (q1 : Cond.methodLinkNest y.cls index y9 host ∈ lw_tbl) (q2 : Cond.instanceMethod y9 ∈ lw_all) (q3 : Cond.selects Cn y9 y9 ∈ lw_all) (q4 : Cond.initialized y9.cls ∈ lw_all) (q5 : Cond.code y9 b9 nL9 ret9 ∈ lw_all)
    (he : h a = some (.inr (ci, fs))) (hd : y9.cls ≠ "java/lang/invoke/MethodHandle" ∧ y9.cls ≠ "java/lang/invoke/VarHandle" ∧ (parseMethodDescriptor y9.desc).map (fun d => d.parameters.length) = some n9) (hn : As.length = n9)
    (hf : f9 + 1 ≤ rm.frames) (hl : 8 + (nL9 + 11) + lo9 ≤ rm.locals) (hc : k ≤ rm.cells) (hs : n ≤ rm.slots) (hst : st0 = As.reverse ++ .ref a :: st) (hw : (st.map fun v => v.category).sum ≤ 8) (d : decode cc pc = .ok (.invokevirtual index, 3))
    (kk : AW γ l x Q nL h sz k n (pc + 3) L (.int r :: st)) : AW γ l x Q nL h sz k n pc L st0 :=
  aw_callVN C K hM q1 q2 q3 q4 q5 he hd hn hf hl hc hs hst hw d (fun _ _ _ z => z.elim) (fun v h' sz' hp => by
    obtain ⟨rfl, rfl, rfl⟩ := hp
    exact kk)
theorem lw_U {own : String} {idx : Nat} {Cn owner : String} {xm ym : MethodName} {b : ByteArray} {nl : Nat} {r : Option FieldType} (h1 : Cond.methodLink own idx xm ∈ lw_all) (h2 : Cond.sameMethod xm.cls owner xm.name xm.desc ∈ lw_all) (h3 : Cond.selects Cn xm ym ∈ lw_all) (h4 : Cond.instanceMethod ym ∈ lw_all) (h5 : Cond.initialized ym.cls ∈ lw_all) (h6 : Cond.code ym b nl r ∈ lw_all) : GoodIn lw_all (va_wsU own idx Cn owner xm ym (ws_ ym b nl r)) := by
  refine lw_app ?_ (lw_meth h6)
  intro w hw
  simp only [List.mem_cons, List.not_mem_nil, or_false] at hw
  rcases hw with e | e | e | e | e
  · rw [e]; exact h1
  · rw [e]; exact h2
  · rw [e]; exact h3
  · rw [e]; exact h4
  · rw [e]; exact h5
/-- an inherited method -/
theorem aw_callU (C : Cx γ l x y cc nL ret rm et) {ci N a n9 : Nat} {Cn owner : String} {T : u_T} {ty : Nat → FieldType} (K : CKF ci Cn T N ty) {fs : List Value} {xm : MethodName} (hM : MX γ l y9 b9 nL9 ret9 f9 lo9 mc ms (.ref a :: As) h sz Post PX)
    (q1 : Cond.methodLink y.cls index xm ∈ lw_all) (q2 : Cond.sameMethod xm.cls owner xm.name xm.desc ∈ lw_all) (q3 : Cond.selects Cn xm y9 ∈ lw_all) (q4 : Cond.instanceMethod y9 ∈ lw_all) (q5 : Cond.initialized y9.cls ∈ lw_all) (q6 : Cond.code y9 b9 nL9 ret9 ∈ lw_all) (hyx : y9 = ⟨owner, xm.name, xm.desc⟩)
    (he : h a = some (.inr (ci, fs))) (hd : owner ≠ "java/lang/invoke/MethodHandle" ∧ owner ≠ "java/lang/invoke/VarHandle" ∧ (parseMethodDescriptor xm.desc).map (fun d => d.parameters.length) = some n9) (hn : As.length = n9)
    (hf : f9 + 1 ≤ rm.frames) (hl : 8 + (nL9 + 11) + lo9 ≤ rm.locals) (hc : k + mc ≤ rm.cells) (hs : n + ms ≤ rm.slots) (hst : st0 = As.reverse ++ .ref a :: st) (hw : (st.map fun v => v.category).sum ≤ 8) (d : decode cc pc = .ok (.invokevirtual index, 3))
    (kx : ∀ (E : String) (h' : AH) (sz' : Nat), PX E h' sz' → AX γ l x Q nL h' sz' (k + mc) (n + ms) pc L E)
    (kk : ∀ (v : Option Value) (h' : AH) (sz' : Nat), Post v h' sz' → AW γ l x Q nL h' sz' (k + mc) (n + ms) (pc + 3) L (v.toList ++ st)) : AW γ l x Q nL h sz k n pc L st0 :=
  ax_goes (As := .ref a :: As) (fun H locs ls h1 h2 h3 h4 => vx_runU (C := Cn) (owner := owner) (x := xm) (b := a) (As := As) (rest := st) C.fix hM
    (va_cwU n9 C.hts (lw_U q1 q2 q3 q4 q5 q6) rfl rfl rfl hyx hd (by rw [C.hR]; exact ⟨hf, hl⟩)) ⟨pc_blind C.hG, rep_recv C h2 K he, fun U hU hW => pc_at C h1 h2 h3 hU hW⟩ rfl hn h4.1 hst (lv_room hw) d (by rw [C.hR]; exact ⟨hc, hs⟩)) kx kk
/-- a method that is named of a superclass and overrides there; the named one has code -/
theorem aw_callO (C : Cx γ l x y cc nL ret rm et) {ci N a n9 : Nat} {Cn owner : String} {T : u_T} {ty : Nat → FieldType} (K : CKF ci Cn T N ty) {fs : List Value} {xm : MethodName} {b0 : ByteArray} {m0 : Nat} {r0 : Option FieldType} (hM : MX γ l y9 b9 nL9 ret9 f9 lo9 mc ms (.ref a :: As) h sz Post PX)
    (q1 : Cond.methodLink y.cls index xm ∈ lw_all) (q2 : Cond.sameMethod xm.cls owner xm.name xm.desc ∈ lw_all) (q7 : Cond.instanceMethod ⟨owner, xm.name, xm.desc⟩ ∈ lw_all) (q3 : Cond.selects Cn xm y9 ∈ lw_all) (q4 : Cond.instanceMethod y9 ∈ lw_all) (q5 : Cond.initialized y9.cls ∈ lw_all) (q6 : Cond.code y9 b9 nL9 ret9 ∈ lw_all) (q8 : Cond.code ⟨owner, xm.name, xm.desc⟩ b0 m0 r0 ∈ lw_all)
    (he : h a = some (.inr (ci, fs))) (hd : owner ≠ "java/lang/invoke/MethodHandle" ∧ owner ≠ "java/lang/invoke/VarHandle" ∧ (parseMethodDescriptor xm.desc).map (fun d => d.parameters.length) = some n9) (hn : As.length = n9)
    (hf : f9 + 1 ≤ rm.frames) (hl : 8 + (nL9 + 11) + lo9 ≤ rm.locals) (hc : k + mc ≤ rm.cells) (hs : n + ms ≤ rm.slots) (hst : st0 = As.reverse ++ .ref a :: st) (hw : (st.map fun v => v.category).sum ≤ 8) (d : decode cc pc = .ok (.invokevirtual index, 3))
    (kx : ∀ (E : String) (h' : AH) (sz' : Nat), PX E h' sz' → AX γ l x Q nL h' sz' (k + mc) (n + ms) pc L E)
    (kk : ∀ (v : Option Value) (h' : AH) (sz' : Nat), Post v h' sz' → AW γ l x Q nL h' sz' (k + mc) (n + ms) (pc + 3) L (v.toList ++ st)) : AW γ l x Q nL h sz k n pc L st0 :=
  ax_goes (As := .ref a :: As) (fun H locs ls h1 h2 h3 h4 => vx_runU (C := Cn) (owner := owner) (x := xm) (b := a) (As := As) (rest := st) C.fix hM
    (va_cwO n9 C.hts (by
      refine lw_app ?_ (lw_meth q6)
      intro w hw
      simp only [List.mem_cons, List.not_mem_nil, or_false] at hw
      rcases hw with e | e | e | e | e | e
      · rw [e]; exact q1
      · rw [e]; exact q2
      · rw [e]; exact q7
      · rw [e]; exact q3
      · rw [e]; exact q4
      · rw [e]; exact q5) rfl rfl rfl q8 hd (by rw [C.hR]; exact ⟨hf, hl⟩)) ⟨pc_blind C.hG, rep_recv C h2 K he, fun U hU hW => pc_at C h1 h2 h3 hU hW⟩ rfl hn h4.1 hst (lv_room hw) d (by rw [C.hR]; exact ⟨hc, hs⟩)) kx kk
/-- the named one is abstract -/
theorem aw_callA (C : Cx γ l x y cc nL ret rm et) {ci N a n9 : Nat} {Cn owner : String} {T : u_T} {ty : Nat → FieldType} (K : CKF ci Cn T N ty) {fs : List Value} {xm : MethodName} (hM : MX γ l y9 b9 nL9 ret9 f9 lo9 mc ms (.ref a :: As) h sz Post PX)
    (q1 : Cond.methodLink y.cls index xm ∈ lw_all) (q2 : Cond.sameMethod xm.cls owner xm.name xm.desc ∈ lw_all) (q3 : Cond.selects Cn xm y9 ∈ lw_all) (q4 : Cond.instanceMethod y9 ∈ lw_all) (q5 : Cond.initialized y9.cls ∈ lw_all) (q6 : Cond.code y9 b9 nL9 ret9 ∈ lw_all) (q7 : Cond.declares ⟨owner, xm.name, xm.desc⟩ ∈ lw_tbl)
    (he : h a = some (.inr (ci, fs))) (hd : owner ≠ "java/lang/invoke/MethodHandle" ∧ owner ≠ "java/lang/invoke/VarHandle" ∧ (parseMethodDescriptor xm.desc).map (fun d => d.parameters.length) = some n9) (hn : As.length = n9)
    (hf : f9 + 1 ≤ rm.frames) (hl : 8 + (nL9 + 11) + lo9 ≤ rm.locals) (hc : k + mc ≤ rm.cells) (hs : n + ms ≤ rm.slots) (hst : st0 = As.reverse ++ .ref a :: st) (hw : (st.map fun v => v.category).sum ≤ 8) (d : decode cc pc = .ok (.invokevirtual index, 3))
    (kx : ∀ (E : String) (h' : AH) (sz' : Nat), PX E h' sz' → AX γ l x Q nL h' sz' (k + mc) (n + ms) pc L E)
    (kk : ∀ (v : Option Value) (h' : AH) (sz' : Nat), Post v h' sz' → AW γ l x Q nL h' sz' (k + mc) (n + ms) (pc + 3) L (v.toList ++ st)) : AW γ l x Q nL h sz k n pc L st0 :=
  ax_goes (As := .ref a :: As) (fun H locs ls h1 h2 h3 h4 => vx_runU (C := Cn) (owner := owner) (x := xm) (b := a) (As := As) (rest := st) C.fix hM
    (va_cwA n9 C.hts (lw_U q1 q2 q3 q4 q5 q6) rfl rfl rfl (C.nest q7 rfl) hd (by rw [C.hR]; exact ⟨hf, hl⟩)) ⟨pc_blind C.hG, rep_recv C h2 K he, fun U hU hW => pc_at C h1 h2 h3 hU hW⟩ rfl hn h4.1 hst (lv_room hw) d (by rw [C.hR]; exact ⟨hc, hs⟩)) kx kk
/-- super.m(..) -/
theorem aw_callSU (C : Cx γ l x y cc nL ret rm et) {ci N a n9 : Nat} {Cn : String} {T : u_T} {ty : Nat → FieldType} (K : CKF ci Cn T N ty) {fs : List Value} (hM : MX γ l y9 b9 nL9 ret9 f9 lo9 mc ms (.ref a :: As) h sz Post PX)
    (q1 : Cond.methodLink y.cls index y9 ∈ lw_all) (q2 : Cond.sameMethod y9.cls y9.cls y9.name y9.desc ∈ lw_all) (q3 : Cond.superclass y.cls y9.cls ∈ lw_all) (q4 : Cond.instanceMethod y9 ∈ lw_all) (q5 : Cond.initialized y9.cls ∈ lw_all) (q6 : Cond.code y9 b9 nL9 ret9 ∈ lw_all)
    (he : h a = some (.inr (ci, fs))) (hd : y9.name ≠ "<init>" ∧ (parseMethodDescriptor y9.desc).map (fun d => d.parameters.length) = some n9) (hn : As.length = n9)
    (hf : f9 + 1 ≤ rm.frames) (hl : 8 + (nL9 + 11) + lo9 ≤ rm.locals) (hc : k + mc ≤ rm.cells) (hs : n + ms ≤ rm.slots) (hst : st0 = As.reverse ++ .ref a :: st) (hw : (st.map fun v => v.category).sum ≤ 8) (d : decode cc pc = .ok (.invokespecial index, 3))
    (kx : ∀ (E : String) (h' : AH) (sz' : Nat), PX E h' sz' → AX γ l x Q nL h' sz' (k + mc) (n + ms) pc L E)
    (kk : ∀ (v : Option Value) (h' : AH) (sz' : Nat), Post v h' sz' → AW γ l x Q nL h' sz' (k + mc) (n + ms) (pc + 3) L (v.toList ++ st)) : AW γ l x Q nL h sz k n pc L st0 :=
  ax_goes (As := .ref a :: As) (fun H locs ls h1 h2 h3 h4 => vx_runSU (C := Cn) (b := a) (As := As) (rest := st) (C.hK.1 ci _ K.1).2 C.fix hM
    (va_cwSU n9 C.hts (by
      refine lw_app ?_ (lw_meth q6)
      intro w hw
      simp only [List.mem_cons, List.not_mem_nil, or_false] at hw
      rcases hw with e | e | e | e | e
      · rw [e]; exact q1
      · rw [e]; exact q2
      · rw [e]; exact q3
      · rw [e]; exact q4
      · rw [e]; exact q5) rfl rfl rfl hd (by rw [C.hR]; exact ⟨hf, hl⟩)) ⟨pc_blind C.hG, rep_recv C h2 K he, fun U hU hW => pc_at C h1 h2 h3 hU hW⟩ rfl hn h4.1 hst (lv_room hw) d (by rw [C.hR]; exact ⟨hc, hs⟩)) kx kk
/-- through an interface -/
theorem aw_callF (C : Cx γ l x y cc nL ret rm et) {ci N a n9 count : Nat} {Cn : String} {T : u_T} {ty : Nat → FieldType} (K : CKF ci Cn T N ty) {fs : List Value} {xm : MethodName} (hM : MX γ l y9 b9 nL9 ret9 f9 lo9 mc ms (.ref a :: As) h sz Post PX)
    (q1 : Cond.methodLink y.cls index xm ∈ lw_all) (q2 : Cond.selects Cn xm y9 ∈ lw_all) (q3 : Cond.instanceMethod y9 ∈ lw_all) (q4 : Cond.initialized y9.cls ∈ lw_all) (q5 : Cond.code y9 b9 nL9 ret9 ∈ lw_all) (hF : FWK γ Cn xm y9)
    (he : h a = some (.inr (ci, fs))) (hd : xm.cls ≠ "java/lang/invoke/MethodHandle" ∧ xm.cls ≠ "java/lang/invoke/VarHandle" ∧ (parseMethodDescriptor xm.desc).map (fun d => d.parameters.length) = some n9) (hn : As.length = n9)
    (hf : f9 + 1 ≤ rm.frames) (hl : 8 + (nL9 + 11) + lo9 ≤ rm.locals) (hc : k + mc ≤ rm.cells) (hs : n + ms ≤ rm.slots) (hst : st0 = As.reverse ++ .ref a :: st) (hw : (st.map fun v => v.category).sum ≤ 8) (d : decode cc pc = .ok (.invokeinterface index count, 5))
    (kx : ∀ (E : String) (h' : AH) (sz' : Nat), PX E h' sz' → AX γ l x Q nL h' sz' (k + mc) (n + ms) pc L E)
    (kk : ∀ (v : Option Value) (h' : AH) (sz' : Nat), Post v h' sz' → AW γ l x Q nL h' sz' (k + mc) (n + ms) (pc + 5) L (v.toList ++ st)) : AW γ l x Q nL h sz k n pc L st0 :=
  ax_goes5 (As := .ref a :: As) (fun H locs ls h1 h2 h3 h4 => vx_runF (C := Cn) (x := xm) (b := a) (As := As) (rest := st) (C.hK.1 ci _ K.1).2 C.fix hM
    (va_cwF n9 C.hts (by
      refine lw_app ?_ (lw_meth q5)
      intro w hw
      simp only [List.mem_cons, List.not_mem_nil, or_false] at hw
      rcases hw with e | e | e | e
      · rw [e]; exact q1
      · rw [e]; exact q2
      · rw [e]; exact q3
      · rw [e]; exact q4) rfl rfl rfl (hF x.s C.hX) hd (by rw [C.hR]; exact ⟨hf, hl⟩)) ⟨pc_blind C.hG, rep_recv C h2 K he, fun U hU hW => pc_at C h1 h2 h3 hU hW⟩ rfl hn h4.1 hst (lv_room hw) d (by rw [C.hR]; exact ⟨hc, hs⟩)) kx kk
/-! copies -/
/-- System.arraycopy of numbers between two arrays of one kind -/
theorem aw_copyN (C : Cx γ l x y cc nL ret rm et) {a0 a t n0 n1 sp dp m : Nat} {f g : Nat → Int32} (q1 : Cond.methodLink y.cls index arraycopyName ∈ lw_all) (q2 : Cond.native arraycopyName ∈ lw_all) (q3 : Cond.static arraycopyName ∈ lw_all) (q4 : Cond.initialized "java/lang/System" ∈ lw_all)
    (ht : t < 8) (hprim : refKind (uty t) = false) (ha0 : RB γ h a0 (.inl (t, n0, .inl f))) (ha1 : h a = some (.inl (t, n1, .inl g))) (h4' : sp + m ≤ n0) (h5' : dp + m ≤ n1) (hm0 : n0 < 2 ^ 30) (hm1 : n1 < 2 ^ 30) (hfit : ∀ i, i < m → fits (uty t) (.int (f (sp + i))) = true)
    (hf : 1 ≤ rm.frames) (hl : (st.map fun v => v.category).sum + (nativeFrameWords "java/lang/System" "arraycopy" 5 + 11) ≤ rm.locals) (d : decode cc pc = .ok (.invokestatic index, 3))
    (kk : AW γ l x Q nL (hset h a (.inl (t, n1, .inl (va_cpy f g sp dp m)))) sz k n (pc + 3) L st) : AW γ l x Q nL h sz k n pc L (.int (nI m) :: .int (nI dp) :: .ref a :: .int (nI sp) :: .ref a0 :: st) := by
  intro H locs ls h1 h2 h3 h4 T hT X
  have c1 : (nI sp).toNatClampNeg = sp := nI_clamp (by omega)
  have c2 : (nI dp).toNatClampNeg = dp := nI_clamp (by omega)
  have c3 : (nI m).toNatClampNeg = m := nI_clamp (by omega)
  have hc0 : H[a0]? = some (vp_cell (γ.2.1 t) (n0, .inl f)) := (ha0.at C h2 h3) 0 _ rfl
  have hc1 : H[a]? = some (vp_cell (γ.2.1 t) (n1, .inl g)) := (h2 a _ ha1).2
  have hz := (h2 a _ ha1).1
  obtain ⟨-, k0, hk0, cm0, hkk0⟩ := (C.hK.2 t _ (tysL_at γ ht)).1 n0 (fun j => .int (f j))
  obtain ⟨-, k1, hk1, cm1, hkk1⟩ := (C.hK.2 t _ (tysL_at γ ht)).1 n1 (fun j => .int (g j))
  obtain ⟨vm', X', step⟩ := X.arraycopy C.hx C.hown (C.hts _ q1) (C.hts _ q2) (C.hts _ q3) (C.hts _ q4) (src := a0) (dst := a) (cs := vp_cell (γ.2.1 t) (n0, .inl f)) (cd := vp_cell (γ.2.1 t) (n1, .inl g)) (srcPos := nI sp) (destPos := nI dp) (n := nI m) (by rw [hT]; exact hc0) (by rw [hT]; exact hc1)
    (fun _ z => by cases z) (fun _ z => by cases z) (fun z => by cases z) (fun z => by cases z) hk0 hk1 hkk0 hkk1 (by simp [hprim]) (nI_pos (by omega)) (nI_pos (by omega)) (nI_pos (by omega))
    (by rw [nI_toInt (by omega), nI_toInt (by omega)]; show ¬ _ > ((arrV _ n0 (fun j => .int (f j))).slots.size : Int); rw [arrV_size]; omega)
    (by rw [nI_toInt (by omega), nI_toInt (by omega)]; show ¬ _ > ((arrV _ n1 (fun j => .int (g j))).slots.size : Int); rw [arrV_size]; omega)
    (fun vm₁ _ i hi => by
      rw [c3] at hi
      have e : (vp_cell (γ.2.1 t) (n0, .inl f)).slots.getD ((nI sp).toNatClampNeg + i) .null = .int (f (sp + i)) := by
        show (arrV _ n0 (fun j => .int (f j))).slots.getD _ _ = _
        rw [c1, Array.getD_eq_getD_getElem?, arrV_read _ _ (by omega)]
        rfl
      refine ⟨?_, ?_⟩
      · rw [e]
        exact hfit i hi
      · rw [e]
        exact trivial)
    (g := F0 x.m pc ls (.int (nI m) :: .int (nI dp) :: .ref a :: .int (nI sp) :: .ref a0 :: st)) rfl (by show ls.size = _; rw [h4.1, C.hml]) (rest := st) rfl (by rw [C.hb]; exact d) (by rw [C.hR]; exact hf) (by rw [C.hR]; show 2 * 0 + _ + _ ≤ _; omega)
  have e1 : copied (vp_cell (γ.2.1 t) (n0, .inl f)) (vp_cell (γ.2.1 t) (n1, .inl g)) (nI sp) (nI dp) (nI m) = vp_cell (γ.2.1 t) (n1, .inl (va_cpy f g (nI sp).toNatClampNeg (nI dp).toNatClampNeg (nI m).toNatClampNeg)) := va_copied (fun z => .int z) _ _ f g (by rw [c1, c3]; exact h4')
  rw [e1, c1, c2, c3] at X' step
  have hlt : a < H.size := (Array.getElem?_eq_some_iff.mp hc1).1
  have hheap : ((T.setVm vm').setCell a (vp_cell (γ.2.1 t) (n1, .inl (va_cpy f g sp dp m)))).heap = H.setIfInBounds a (vp_cell (γ.2.1 t) (n1, .inl (va_cpy f g sp dp m))) := by rw [← hT]; rfl
  have oq : ∀ q : Nat, q ≠ a → (H.setIfInBounds a (vp_cell (γ.2.1 t) (n1, .inl (va_cpy f g sp dp m))))[q]? = H[q]? := fun q hq => by simp [Array.getElem?_setIfInBounds, Ne.symm hq]
  obtain ⟨t9, a1, b1⟩ := kk _ _ ls (by simp [h1]) (h2.set hz (show (H.setIfInBounds a _)[a]? = some _ by simp [Array.getElem?_setIfInBounds, hlt]) oq) ⟨by simp; exact h3.1, fun q g1 g2 => by
      rw [oq q (fun e => g2 (by rw [e]; exact hz))]
      exact h3.2.1 q g1 g2, fun q hq => by
      rcases List.mem_append.mp hq with z | z
      · exact h3.2.2 q z
      · obtain ⟨w, -, hw⟩ := List.mem_map.mp z
        rw [← hw]
        exact hz⟩ h4 _ hheap X'
  exact ⟨t9, step t9 a1, b1⟩
/-- of references, into an array of Objects; what is copied is of classes of ours -/
theorem aw_copyR (C : Cx γ l x y cc nL ret rm et) {a0 a n0 n1 sp dp m : Nat} {f g : Nat → Option Nat} (q1 : Cond.methodLink y.cls index arraycopyName ∈ lw_all) (q2 : Cond.native arraycopyName ∈ lw_all) (q3 : Cond.static arraycopyName ∈ lw_all) (q4 : Cond.initialized "java/lang/System" ∈ lw_all)
    (ha0 : h a0 = some (rfs 4 n0 f)) (ha1 : h a = some (rfs 4 n1 g)) (h4' : sp + m ≤ n0) (h5' : dp + m ≤ n1) (hm0 : n0 < 2 ^ 30) (hm1 : n1 < 2 ^ 30)
    {ci N : Nat} {Cn : String} {T0 : u_T} {ty : Nat → FieldType} (K : CKF ci Cn T0 N ty) (hca : Cond.castable Cn "java/lang/Object" ∈ lw_tbl) (hel : ∀ i, i < m → ∀ z, f (sp + i) = some z → ∃ fs, h z = some (.inr (ci, fs)))
    (hf : 1 ≤ rm.frames) (hl : (st.map fun v => v.category).sum + (nativeFrameWords "java/lang/System" "arraycopy" 5 + 11) ≤ rm.locals) (d : decode cc pc = .ok (.invokestatic index, 3))
    (kk : AW γ l x Q nL (hset h a (rfs 4 n1 (va_cpy f g sp dp m))) sz k n (pc + 3) L st) : AW γ l x Q nL h sz k n pc L (.int (nI m) :: .int (nI dp) :: .ref a :: .int (nI sp) :: .ref a0 :: st) := by
  intro H locs ls h1 h2 h3 h4 T hT X
  have c1 : (nI sp).toNatClampNeg = sp := nI_clamp (by omega)
  have c2 : (nI dp).toNatClampNeg = dp := nI_clamp (by omega)
  have c3 : (nI m).toNatClampNeg = m := nI_clamp (by omega)
  have hc0 : H[a0]? = some (vp_cell (γ.2.1 4) (n0, .inr (.inr (.inr (.inr f))))) := (h2 a0 _ ha0).2
  have hc1 : H[a]? = some (vp_cell (γ.2.1 4) (n1, .inr (.inr (.inr (.inr g))))) := (h2 a _ ha1).2
  have hz := (h2 a _ ha1).1
  obtain ⟨-, k0, hk0, cm0, hkk0⟩ := (C.hK.2 4 _ (tysL_at γ (by decide))).1 n0 (fun j => va_rf (f j))
  obtain ⟨-, k1, hk1, cm1, hkk1⟩ := (C.hK.2 4 _ (tysL_at γ (by decide))).1 n1 (fun j => va_rf (g j))
  obtain ⟨vm', X', step⟩ := X.arraycopy C.hx C.hown (C.hts _ q1) (C.hts _ q2) (C.hts _ q3) (C.hts _ q4) (src := a0) (dst := a) (cs := vp_cell (γ.2.1 4) (n0, .inr (.inr (.inr (.inr f))))) (cd := vp_cell (γ.2.1 4) (n1, .inr (.inr (.inr (.inr g))))) (srcPos := nI sp) (destPos := nI dp) (n := nI m) (by rw [hT]; exact hc0) (by rw [hT]; exact hc1)
    (fun _ z => by cases z) (fun _ z => by cases z) (fun z => by cases z) (fun z => by cases z) hk0 hk1 hkk0 hkk1 rfl (nI_pos (by omega)) (nI_pos (by omega)) (nI_pos (by omega))
    (by rw [nI_toInt (by omega), nI_toInt (by omega)]; show ¬ _ > ((arrV _ n0 (fun j => va_rf (f j))).slots.size : Int); rw [arrV_size]; omega)
    (by rw [nI_toInt (by omega), nI_toInt (by omega)]; show ¬ _ > ((arrV _ n1 (fun j => va_rf (g j))).slots.size : Int); rw [arrV_size]; omega)
    (fun vm₁ hal i hi => by
      rw [c3] at hi
      have e : (vp_cell (γ.2.1 4) (n0, .inr (.inr (.inr (.inr f))))).slots.getD ((nI sp).toNatClampNeg + i) .null = va_rf (f (sp + i)) := by
        show (arrV _ n0 (fun j => va_rf (f j))).slots.getD _ _ = _
        rw [c1, Array.getD_eq_getD_getElem?, arrV_read _ _ (by omega)]
        rfl
      rw [e]
      cases hy : f (sp + i) with
      | none => exact ⟨rfl, trivial⟩
      | some z =>
        obtain ⟨fs, hzf⟩ := hel i hi z hy
        obtain ⟨cellV, g1, g2, g3⟩ := rep_recv C h2 K hzf
        obtain ⟨kA, comp, r1, r2, r3, -⟩ := (C.hK.2 4 _ (tysL_at γ (by decide))).2
        cases hk1.symm.trans r1
        cases hkk1.symm.trans r2
        obtain ⟨kC, hkC, -⟩ := Vm.findClass_spec g3
        obtain ⟨kE, hkE, -⟩ := Vm.findClass_spec r3
        obtain ⟨kC', hkC', -⟩ := hal.2.2 _ _ hkC
        obtain ⟨kE', hkE', -⟩ := hal.2.2 _ _ hkE
        refine ⟨rfl, cellV, (show T.heap[z]? = some cellV by rw [hT]; exact g1), (fun q w => by rw [w] at g2; cases g2), ⟨kC', hkC'⟩, ?_, ?_⟩
        · exact ⟨kE', hkE'⟩
        · show vm₁.assignable _ _ = true
          rw [hal.assignable]
          exact vb_asgC (C.nest hca rfl) _ _ r3 g3)
    (g := F0 x.m pc ls (.int (nI m) :: .int (nI dp) :: .ref a :: .int (nI sp) :: .ref a0 :: st)) rfl (by show ls.size = _; rw [h4.1, C.hml]) (rest := st) rfl (by rw [C.hb]; exact d) (by rw [C.hR]; exact hf) (by rw [C.hR]; show 2 * 0 + _ + _ ≤ _; omega)
  have e1 : copied (vp_cell (γ.2.1 4) (n0, .inr (.inr (.inr (.inr f))))) (vp_cell (γ.2.1 4) (n1, .inr (.inr (.inr (.inr g))))) (nI sp) (nI dp) (nI m) = vp_cell (γ.2.1 4) (n1, .inr (.inr (.inr (.inr (va_cpy f g (nI sp).toNatClampNeg (nI dp).toNatClampNeg (nI m).toNatClampNeg))))) := by
    rw [vp_cell_q, vp_cell_q, vp_cell_q]
    exact va_copied (fun z => va_rf z) _ _ f g (by rw [c1, c3]; exact h4')
  rw [e1, c1, c2, c3] at X' step
  have hlt : a < H.size := (Array.getElem?_eq_some_iff.mp hc1).1
  have hheap : ((T.setVm vm').setCell a (vp_cell (γ.2.1 4) (n1, .inr (.inr (.inr (.inr (va_cpy f g sp dp m))))))).heap = H.setIfInBounds a (vp_cell (γ.2.1 4) (n1, .inr (.inr (.inr (.inr (va_cpy f g sp dp m)))))) := by rw [← hT]; rfl
  have oq : ∀ q : Nat, q ≠ a → (H.setIfInBounds a (vp_cell (γ.2.1 4) (n1, .inr (.inr (.inr (.inr (va_cpy f g sp dp m)))))))[q]? = H[q]? := fun q hq => by simp [Array.getElem?_setIfInBounds, Ne.symm hq]
  obtain ⟨t9, a1, b1⟩ := kk _ _ ls (by simp [h1]) (h2.set hz (show (H.setIfInBounds a _)[a]? = some _ by simp [Array.getElem?_setIfInBounds, hlt]) oq) ⟨by simp; exact h3.1, fun q g1 g2 => by
      rw [oq q (fun e => g2 (by rw [e]; exact hz))]
      exact h3.2.1 q g1 g2, fun q hq => by
      rcases List.mem_append.mp hq with z | z
      · exact h3.2.2 q z
      · obtain ⟨w, -, hw⟩ := List.mem_map.mp z
        rw [← hw]
        exact hz⟩ h4 _ hheap X'
  exact ⟨t9, step t9 a1, b1⟩
/-! class objects -/
theorem aw_ldcM (C : Cx γ l x y cc nL ret rm et) {Cn : String} {mi : Nat} (q : Cond.classLink y.cls index Cn ∈ lw_all) (hM : ∀ U, γ.X U → va_Mi Cn mi U) (d : decode cc pc = .ok (.ldc index, 2)) (kk : AW γ l x Q nL h sz k n (pc + 2) L (.ref mi :: st)) : AW γ l x Q nL h sz k n pc L st := fun H locs ls h1 h2 h3 h4 =>
  va_ldcM C.hx C.hb C.hown (C.hts _ q) (hM x.s C.hX) d (kk H locs ls h1 h2 h3 h4)
/-- getClass of an array of Objects -/
theorem aw_getC (C : Cx γ l x y cc nL ret rm et) {a m mi : Nat} {f : Nat → Option Nat} (q1 : Cond.methodLink y.cls index ⟨"java/lang/Object", "getClass", "()Ljava/lang/Class;"⟩ ∈ lw_all) (q2 : Cond.declares ⟨"java/lang/Object", "getClass", "()Ljava/lang/Class;"⟩ ∈ lw_tbl) (q3 : Cond.selects "[Ljava/lang/Object;" ⟨"java/lang/Object", "getClass", "()Ljava/lang/Class;"⟩ ⟨"java/lang/Object", "getClass", "()Ljava/lang/Class;"⟩ ∈ lw_all) (q4 : Cond.instanceMethod ⟨"java/lang/Object", "getClass", "()Ljava/lang/Class;"⟩ ∈ lw_all) (q5 : Cond.native ⟨"java/lang/Object", "getClass", "()Ljava/lang/Class;"⟩ ∈ lw_all) (hM : ∀ U, γ.X U → va_Mi "[Ljava/lang/Object;" mi U)
    (he : h a = some (rfs 4 m f)) (hf : 1 ≤ rm.frames) (hl : (st.map fun v => v.category).sum + 14 ≤ rm.locals) (d : decode cc pc = .ok (.invokevirtual index, 3)) (kk : AW γ l x Q nL h sz k n (pc + 3) L (.ref mi :: st)) : AW γ l x Q nL h sz k n pc L (.ref a :: st) := fun H locs ls h1 h2 h3 h4 =>
  va_getC C.hx C.hb (by rw [C.hml]; exact h4.1.symm) C.hown (C.hts _ q1) (va_Nw.use rfl (C.nest q2 rfl)) (C.hts _ q3) (C.hts _ q4) (C.hts _ q5) (hM x.s C.hX)
    ⟨_, (h2 a _ he).2, rfl, va_nmO (C.hK.2 4 _ (tysL_at γ (by decide))).2 rfl⟩ (by rw [C.hR]; exact hf) (by rw [C.hR]; exact hl) d (kk H locs ls h1 h2 h3 h4)
/-- clone of an array of bytes -/
theorem aw_cloneB (C : Cx γ l x y cc nL ret rm et) {a m : Nat} {f : Nat → Int32} (q1 : Cond.methodLink y.cls index ⟨"[B", "clone", "()Ljava/lang/Object;"⟩ ∈ lw_all) (q2 : Cond.sameMethod "[B" "java/lang/Object" "clone" "()Ljava/lang/Object;" ∈ lw_all) (q3 : Cond.native ⟨"java/lang/Object", "clone", "()Ljava/lang/Object;"⟩ ∈ lw_all) (q4 : Cond.instanceMethod ⟨"java/lang/Object", "clone", "()Ljava/lang/Object;"⟩ ∈ lw_all) (q5 : Cond.selects "[B" ⟨"[B", "clone", "()Ljava/lang/Object;"⟩ ⟨"java/lang/Object", "clone", "()Ljava/lang/Object;"⟩ ∈ lw_all) (q6 : Cond.castable "[B" "java/lang/Cloneable" ∈ lw_tbl)
    (he : h a = some (.inl (1, m, .inl f))) (hfit : ∀ i, fits .byte (.int (f i)) = true) (hf : 1 ≤ rm.frames) (hl : (st.map fun v => v.category).sum + 14 ≤ rm.locals) (hc : k + 1 ≤ rm.cells) (hs : n + m ≤ rm.slots) (d : decode cc pc = .ok (.invokevirtual index, 3)) (kk : AW γ l x Q nL (hset h sz (.inl (1, m, .inl f))) (sz + 1) (k + 1) (n + m) (pc + 3) L (.ref sz :: st)) : AW γ l x Q nL h sz k n pc L (.ref a :: st) := by
  intro H locs ls h1 h2 h3 h4 T hT X
  have hcell : H[a]? = some (vp_cell (γ.2.1 1) (m, .inl f)) := (h2 a _ he).2
  obtain ⟨c0, t0', f1, f2, f3⟩ := Cond.castable_spec (va_Nw.use (A := x.args) rfl (C.nest q6 rfl))
  cases (kk_nm1 C.hK).symm.trans f1
  obtain ⟨-, kA, hkA, comp, hkind⟩ := State.isArrayOf_alike X.warmed.alike ((C.hK.2 1 _ rfl).1 0 (fun _ => .null))
  obtain ⟨-, kS, hkS, compS, hkindS⟩ := (C.hK.2 1 _ rfl).1 0 (fun _ => .null)
  obtain ⟨vm', X', step⟩ := X.cloneArray C.hx C.hown (C.hts _ q1) (C.hts _ q2) (C.hts _ q3) (C.hts _ q4) (C.hts _ q5) (a := a) (cell := vp_cell (γ.2.1 1) (m, .inl f)) (by rw [hT]; exact hcell) (fun _ z => by cases z) (fun z => by cases z) (kk_nm1 C.hK) f2 f3
    (fun i v hv => by
      have hk' : T.vm.classes[γ.2.1 1]? = some kA := hkA
      have hv' : (arrV (γ.2.1 1) m (fun j => .int (f j))).slots[i]? = some v := hv
      have hi : i < m := by
        have := (Array.getElem?_eq_some_iff.mp hv').1
        rw [arrV_size] at this
        exact this
      rw [arrV_read _ _ hi] at hv'
      cases hv'
      show T.fitsSlot (γ.2.1 1) _ _ _ = true
      have hq : fits (uty 1) (.int (f i)) = true := hfit i
      simpa [State.fitsSlot, State.slotType?, hk', hkind] using hq)
    (g := F0 x.m pc ls (.ref a :: st)) rfl (by show ls.size = _; rw [h4.1, C.hml]) rfl (by rw [C.hb]; exact d) (by rw [C.hR]; exact hf) (by rw [C.hR]; show 2 * 0 + _ + 14 ≤ _; omega) (by rw [C.hR]; exact hc) (by rw [C.hR]; show n + (arrV (γ.2.1 1) m (fun j => .int (f j))).slots.size ≤ _; rw [arrV_size]; exact hs) (hloader := Vm.clonesLoader_of_array hkS hkindS)
  have hsz : (vp_cell (γ.2.1 1) (m, .inl f)).slots.size = m := arrV_size _ _ _
  have hcellE : ({ cls := (vp_cell (γ.2.1 1) (m, .inl f)).cls, slots := (vp_cell (γ.2.1 1) (m, .inl f)).slots } : Cell) = vp_cell (γ.2.1 1) (m, .inl f) := rfl
  rw [hcellE, hsz] at X'
  generalize hH1 : H.push (vp_cell (γ.2.1 1) (m, .inl f)) = H1
  have z1 : H1.size = H.size + 1 := by rw [← hH1, Array.size_push]
  have e1 : H1[H.size]? = some (vp_cell (γ.2.1 1) (m, .inl f)) := by rw [← hH1, Array.getElem?_push_size]
  have o1 : ∀ q : Nat, q < H.size → H1[q]? = H[q]? := fun q hq => by rw [← hH1, Array.getElem?_push, if_neg (Nat.ne_of_lt hq)]
  have hz : γ.W H.size := C.hZ _ h3.1
  subst h1
  obtain ⟨t9, b1, b2⟩ := kk H1 locs ls z1 (h2.push hz e1 o1) ⟨Nat.le_trans h3.1 (by omega), fun q g1 g2 => (o1 q (Nat.lt_of_lt_of_le g1 h3.1)).trans (h3.2.1 q g1 g2), h3.2.2⟩ h4 ((T.setVm vm').pushCell (vp_cell (γ.2.1 1) (m, .inl f))) (by rw [← hH1, ← hT]; rfl) X'
  refine ⟨t9, step t9 ?_, b2⟩
  rw [hcellE, hT]
  exact b1
end R3
