/-! methods with handlers -/
def MH (γ : Gm) (l : Launch) (y : MethodName) (b : ByteArray) (nL : Nat) (ret : Option FieldType) (hh : List (Nat × Nat × Nat × Nat)) (f lo mc ms : Nat) (As : List Value) (h : AH) (sz : Nat) (Post : Option Value → AH → Nat → Prop) (PX : String → AH → Nat → Prop) : Prop :=
  vx_Met l y (wsW_ y b nL ret hh) { frames := f, cells := mc, slots := ms, locals := lo } (PcA γ As h sz) (QcA γ Post) (XcA γ PX) mc ms γ.W
theorem mh_start {γ : Gm} {l : Launch} {y : MethodName} {cc : ByteArray} {nL : Nat} {ret : Option FieldType} {hh : List (Nat × Nat × Nat × Nat)} {f lo mc ms : Nat} {As : List Value} {h : AH} {sz : Nat} {Post : Option Value → AH → Nat → Prop} {PX : String → AH → Nat → Prop}
    (hG : GF γ) (hy : plainName y.cls = true) (hsl : (lg_sl As).length ≤ nL)
    (body : ∀ (x : WX) (et : List ExceptionTableEntry), et.map (fun h => (h.startPc, h.endPc, h.handlerPc, h.catchType)) = hh → Cx γ l x y cc nL ret { frames := f, cells := mc, slots := ms, locals := lo } et → AW γ l x (QX γ x mc ms Post PX) nL h sz 0 0 0 (lv_args 0 As) []) : MH γ l y cc nL ret hh f lo mc ms As h sz Post PX := by
  refine vx_ofWH (cc := cc) (maxL := nL) (ret := ret) (hh := hh) hy rfl ?_
  intro p e s m args below meth c s₁ B hml hv
  obtain ⟨rfl, hsz, hz, hR, hK, hX⟩ := hv
  have hts := atoms_spec (ws := wsW_ y cc nL ret hh) B.pre
  have het : c.exceptionTable.toList.map (fun h => (h.startPc, h.endPc, h.handlerPc, h.catchType)) = hh := by
    obtain ⟨m9, meth9, c9, hn9, h1, h2, -, -, h7, -⟩ := Cond.codeWith_spec (hts _ List.mem_cons_self)
    cases hn9.symm.trans B.named
    cases Option.some.inj (h1.symm.trans B.method)
    cases Option.some.inj (h2.symm.trans (Stand.of_body B).code)
    exact h7
  rw [lg_entry_eq]
  exact body (p, e, _, s, m, _, below, meth, c) c.exceptionTable.toList het ⟨B.exec, B.bytes, hml, findClass_of_methodNamed B.named, fun w hw => hts w (List.mem_cons_of_mem _ hw), B.returns, B.notSynchronized, rfl, hK, by rw [hsz]; exact hz, hX, hG, rfl, (name_of_methodNamed B.named B.method).1⟩ s.heap [] _ hsz hR va_S.rf (lh_of (lv_entry As hsl))
section MHR
variable {γ : Gm} {l : Launch} {x : WX} {y : MethodName} {cc : ByteArray} {nL : Nat} {ret : Option FieldType} {rm : Room} {et : List ExceptionTableEntry} {Q : State → Prop} {h : AH} {sz k n pc : Nat} {L : LV} {st : List Value}
theorem ax_outH {mc ms : Nat} {Post : Option Value → AH → Nat → Prop} {PX : String → AH → Nat → Prop} (C : Cx γ l x y cc nL ret rm et) {E : String} (hout : ∀ z ∈ et, covers z pc = false) (hk : k ≤ mc) (hn : n ≤ ms) (hp : PX E h sz) : AX γ l x (QX γ x mc ms Post PX) nL h sz k n pc L E := fun H locs ls rest q ce h1 h2 h3 h4 g1 g2 g3 =>
  vx_out (by rw [C.het]; exact hout) C.hlk g1 g2 g3 (fun t ht hvm => ⟨⟨h, sz, hp, by rw [ht]; exact h1, by rw [ht]; exact h2⟩, h3.F ht⟩) h3.2.2 hk hn
/-- a handler takes it -/
theorem ax_catch (C : Cx γ l x y cc nL ret rm et) {E nm : String} (pre : List ExceptionTableEntry) (t : ExceptionTableEntry) (suf : List ExceptionTableEntry) (hsplit : et = pre ++ t :: suf) (hpass : ∀ z ∈ pre, covers z pc = false ∨ (z.catchType ≠ 0 ∧ ∃ nm9 : String, Cond.classLink y.cls z.catchType nm9 ∈ lw_all ∧ va_Nc E nm9 x.s)) (hc : covers t pc = true) (h0 : t.catchType ≠ 0) (hl : Cond.classLink y.cls t.catchType nm ∈ lw_all) (hcast : Cond.castable E nm ∈ lw_tbl) (kk : ∀ q, AW γ l x Q nL h sz k n t.handlerPc L [.ref q]) : AX γ l x Q nL h sz k n pc L E := fun H locs ls rest q ce h1 h2 h3 h4 g1 g2 g3 =>
  vx_catch C.hown pre t suf (C.het.trans hsplit) (fun z hz => (hpass z hz).imp_right (fun ⟨a, nm9, b, c⟩ => ⟨a, nm9, C.hts _ b, c⟩)) hc h0 (C.hts _ hl) (va_Nw.use (A := x.args) rfl (C.nest hcast rfl)) g1 g2 g3 (kk q H locs ls h1 h2 h3 h4)
theorem ay_catch (C : Cx γ l x y cc nL ret rm et) {ci N q : Nat} {Cn nm : String} {T : u_T} {ty : Nat → FieldType} (K : CKF ci Cn T N ty) {fs : List Value} (he : h q = some (.inr (ci, fs))) (pre : List ExceptionTableEntry) (t : ExceptionTableEntry) (suf : List ExceptionTableEntry) (hsplit : et = pre ++ t :: suf) (hpass : ∀ z ∈ pre, covers z pc = false) (hc : covers t pc = true) (h0 : t.catchType ≠ 0) (hl : Cond.classLink y.cls t.catchType nm ∈ lw_all) (hcast : Cond.castable Cn nm ∈ lw_tbl) (kk : AW γ l x Q nL h sz k n t.handlerPc L [.ref q]) : AY γ l x Q nL h sz k n pc L q := fun H locs ls rest h1 h2 h3 h4 => by
  obtain ⟨r, e1, cell, e2, e3, e4, -⟩ := (h2 q _ he).2
  have e1' : ucl[ci]? = some r := e1
  rw [K.1] at e1'
  cases e1'
  exact vx_catch C.hown pre t suf (C.het.trans hsplit) (fun z hz => Or.inl (hpass z hz)) hc h0 (C.hts _ hl) (va_Nw.use (A := x.args) rfl (C.nest hcast rfl)) e2 e4 (by rw [e3]; exact (C.hK.1 ci _ K.1).2.1) (kk H locs ls h1 h2 h3 h4)
variable {y9 : MethodName} {b9 : ByteArray} {nL9 : Nat} {ret9 : Option FieldType} {hh9 : List (Nat × Nat × Nat × Nat)} {f9 lo9 mc ms index : Nat} {As : List Value} {Post : Option Value → AH → Nat → Prop} {PX : String → AH → Nat → Prop} {st0 : List Value}
theorem aw_callVH (C : Cx γ l x y cc nL ret rm et) {ci N a n9 : Nat} {Cn : String} {T : u_T} {ty : Nat → FieldType} (K : CKF ci Cn T N ty) {fs : List Value} (hM : MH γ l y9 b9 nL9 ret9 hh9 f9 lo9 mc ms (.ref a :: As) h sz Post PX)
    (q1 : Cond.methodLink y.cls index y9 ∈ lw_all) (q2 : Cond.instanceMethod y9 ∈ lw_all) (q3 : Cond.selects Cn y9 y9 ∈ lw_all) (q4 : Cond.initialized Cn ∈ lw_all) (q5 : Cond.codeWith y9 b9 nL9 ret9 hh9 ∈ lw_all)
    (he : h a = some (.inr (ci, fs))) (hd : y9.cls = Cn ∧ y9.cls ≠ "java/lang/invoke/MethodHandle" ∧ y9.cls ≠ "java/lang/invoke/VarHandle" ∧ (parseMethodDescriptor y9.desc).map (fun d => d.parameters.length) = some n9) (hn : As.length = n9)
    (hf : f9 + 1 ≤ rm.frames) (hl : 8 + (nL9 + 11) + lo9 ≤ rm.locals) (hc : k + mc ≤ rm.cells) (hs : n + ms ≤ rm.slots) (hst : st0 = As.reverse ++ .ref a :: st) (hw : (st.map fun v => v.category).sum ≤ 8) (d : decode cc pc = .ok (.invokevirtual index, 3))
    (kx : ∀ (E : String) (h' : AH) (sz' : Nat), PX E h' sz' → AX γ l x Q nL h' sz' (k + mc) (n + ms) pc L E)
    (kk : ∀ (v : Option Value) (h' : AH) (sz' : Nat), Post v h' sz' → AW γ l x Q nL h' sz' (k + mc) (n + ms) (pc + 3) L (v.toList ++ st)) : AW γ l x Q nL h sz k n pc L st0 :=
  ax_goes (As := .ref a :: As) (fun H locs ls h1 h2 h3 h4 => vx_runVX (C := Cn) (b := a) (As := As) (rest := st) C.fix hM
    (vx_cwVW n9 C.hts (lw_VW q1 q2 q3 q4 q5) rfl rfl rfl hd (by rw [C.hR]; exact ⟨hf, hl⟩)) ⟨pc_blind C.hG, rep_recv C h2 K he, fun U hU hW => pc_at C h1 h2 h3 hU hW⟩ rfl hn h4.1 hst (lv_room hw) d (by rw [C.hR]; exact ⟨hc, hs⟩)) kx kk
theorem aw_callSH (C : Cx γ l x y cc nL ret rm et) {n9 : Nat} (hM : MH γ l y9 b9 nL9 ret9 hh9 f9 lo9 mc ms As h sz Post PX)
    (q1 : Cond.methodLink y.cls index y9 ∈ lw_all) (q2 : Cond.static y9 ∈ lw_all) (q3 : Cond.initialized y9.cls ∈ lw_all) (q4 : Cond.codeWith y9 b9 nL9 ret9 hh9 ∈ lw_all)
    (hd : y9.cls ≠ "java/lang/invoke/MethodHandle" ∧ y9.cls ≠ "java/lang/invoke/VarHandle" ∧ (parseMethodDescriptor y9.desc).map (fun d => d.parameters.length) = some n9) (hn : As.length = n9)
    (hf : f9 + 1 ≤ rm.frames) (hl : 8 + (nL9 + 11) + lo9 ≤ rm.locals) (hc : k + mc ≤ rm.cells) (hs : n + ms ≤ rm.slots) (hst : st0 = As.reverse ++ st) (hw : (st.map fun v => v.category).sum ≤ 8) (d : decode cc pc = .ok (.invokestatic index, 3))
    (kx : ∀ (E : String) (h' : AH) (sz' : Nat), PX E h' sz' → AX γ l x Q nL h' sz' (k + mc) (n + ms) pc L E)
    (kk : ∀ (v : Option Value) (h' : AH) (sz' : Nat), Post v h' sz' → AW γ l x Q nL h' sz' (k + mc) (n + ms) (pc + 3) L (v.toList ++ st)) : AW γ l x Q nL h sz k n pc L st0 :=
  ax_goes (As := As) (fun H locs ls h1 h2 h3 h4 => vx_runSX (As := As) (rest := st) C.fix hM
    (vx_cwSW n9 C.hts (lw_SW q1 q2 q3 q4) rfl rfl rfl hd (by rw [C.hR]; exact ⟨hf, hl⟩)) ⟨pc_blind C.hG, fun U hU hW => pc_at C h1 h2 h3 hU hW⟩ rfl hn h4.1 hst (lv_room hw) d (by rw [C.hR]; exact ⟨hc, hs⟩)) kx kk
end MHR
