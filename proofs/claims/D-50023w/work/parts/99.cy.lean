/-! calls under a smaller 'what may be written' -/
/-- one heap over another, where W' holds -/
noncomputable def mrg (W' : Nat → Prop) (h' h : AH) : AH := fun q => @ite _ (W' q) (Classical.propDecidable (W' q)) (h' q) (h q)
theorem mrg_y {W' : Nat → Prop} {h' h : AH} {q : Nat} (e : W' q) : mrg W' h' h q = h' q := if_pos e
theorem mrg_n {W' : Nat → Prop} {h' h : AH} {q : Nat} (e : ¬ W' q) : mrg W' h' h q = h q := if_neg e
theorem mrg_le {W' : Nat → Prop} {h' h : AH} (e : ∀ q c, h' q = some c → W' q) : HLE h' (mrg W' h' h) := fun q c z => (mrg_y (e q c z)).trans z
/-- the same carried, less to be written -/
def gsub (γ : Gm) (W' : Nat → Prop) : Gm := (γ.1, γ.2.1, W', γ.2.2.2)
theorem gsub_ok {γ : Gm} {W' : Nat → Prop} (hW : ∀ q, W' q → γ.W q) (hG : GF γ) : GF (gsub γ W') := ⟨fun U V h1 h2 h3 => hG.1 U V h1 (fun q hq => h2 q (fun z => hq (hW q z))) h3, hG.2⟩
section SUB
variable {γ : Gm} {l : Launch} {x : WX} {y : MethodName} {cc : ByteArray} {nL : Nat} {ret : Option FieldType} {rm : Room} {et : List ExceptionTableEntry} {Q : State → Prop} {h h0 : AH} {sz k n pc : Nat} {L : LV} {st : List Value} {W' : Nat → Prop}
variable {y9 : MethodName} {b9 : ByteArray} {nL9 : Nat} {ret9 : Option FieldType} {hh9 : List (Nat × Nat × Nat × Nat)} {f9 lo9 mc ms index : Nat} {As : List Value} {Post : Option Value → AH → Nat → Prop} {PX : String → AH → Nat → Prop} {st0 : List Value}
theorem rep_sub (hle : HLE h0 h) (hin : ∀ q c, h0 q = some c → W' q) {H : Heap} (h2 : Rep γ h H) : Rep (gsub γ W') h0 H := fun a c e => ⟨hin a c e, (h2 a c (hle a c e)).2⟩
theorem rep_mrg (hW : ∀ q, W' q → γ.W q) {h' : AH} {H H1 : Heap} (h2 : Rep γ h H) (h3 : Rep (gsub γ W') h' H1) (hk : ∀ q, q < H.size → ¬ W' q → H1[q]? = H[q]?) : Rep γ (mrg W' h' h) H1 := fun a c e => by
  by_cases z : W' a
  · rw [mrg_y z] at e
    exact ⟨hW a z, (h3 a c e).2⟩
  · rw [mrg_n z] at e
    exact ⟨(h2 a c e).1, (h2 a c e).2.kept (hk a (h2.lt e) z)⟩
theorem ax_goesS (hW : ∀ q, W' q → γ.W q) (kr : ∀ (H : Heap) (locs : List Loc) (ls : Array Slot), H.size = sz → Rep γ h H → va_S γ.W x.s.heap H locs → LH ls nL L → vx_Run x.p l x.e x.R x.s x.m x.args x.below x.meth x.c H locs k n mc ms (F0 x.m pc ls st0) st (QcA (gsub γ W') Post As.toArray) (XcA (gsub γ W') PX) W')
    (kx : ∀ (E : String) (h' : AH) (sz' : Nat), PX E h' sz' → sz ≤ sz' → (∀ q c, h' q = some c → W' q) → AX γ l x Q nL (mrg W' h' h) sz' (k + mc) (n + ms) pc L E)
    (kk : ∀ (v : Option Value) (h' : AH) (sz' : Nat), Post v h' sz' → sz ≤ sz' → (∀ q c, h' q = some c → W' q) → AW γ l x Q nL (mrg W' h' h) sz' (k + mc) (n + ms) (pc + 3) L (v.toList ++ st)) : AW γ l x Q nL h sz k n pc L st0 := by
  intro H locs ls h1 h2 h3 h4 T hT X
  rcases kr H locs ls h1 h2 h3 h4 T hT X with ⟨v, st₀, t, T', Lc, e0, X', hL, e1, e2, ⟨⟨v', h', sz', hv, hp, hz, hRep⟩, hF⟩, sg⟩ | ⟨q, st₀, t, T', Lc, E, ce, e0, X', hL, e1, e2, ⟨⟨h', sz', hp, hz, hRep⟩, hF⟩, hce, hcv, hcl, sg⟩
  · cases hv
    obtain ⟨k1, k2, k3⟩ := vx_keep e0 e1 h3 (fun q _ z => hW q z) (fun q z => hW q z) hL hF
    have hRep' : Rep (gsub γ W') h' T'.heap := by rw [e1]; exact hRep
    obtain ⟨t2, a1, b1⟩ := kk v h' sz' hp (by rw [← h1, ← hz, ← e1]; exact k1) (fun q c e => (hRep q c e).1) T'.heap (locs ++ Lc) ls (by rw [e1]; exact hz) (rep_mrg hW h2 hRep' k2) k3 h4 T' rfl X'
    exact ⟨t2, sg t2 a1, b1⟩
  · obtain ⟨k1, k2, k3⟩ := vx_keep e0 e1 h3 (fun q _ z => hW q z) (fun q z => hW q z) hL hF
    have hRep' : Rep (gsub γ W') h' T'.heap := by rw [e1]; exact hRep
    obtain ⟨t2, a1, b1⟩ := kx E h' sz' hp (by rw [← h1, ← hz, ← e1]; exact k1) (fun q c e => (hRep q c e).1) T'.heap (locs ++ Lc) ls st q ce (by rw [e1]; exact hz) (rep_mrg hW h2 hRep' k2) k3 h4 (by rw [e1]; exact hce) hcv hcl T' rfl X'
    exact ⟨t2, sg.trans a1, b1⟩
theorem pc_atS (C : Cx γ l x y cc nL ret rm et) (hle : HLE h0 h) (hin : ∀ q c, h0 q = some c → W' q) (hn : ∀ q, sz ≤ q → W' q) {H : Heap} {locs : List Loc} (h1 : H.size = sz) (h2 : Rep γ h H) (h3 : va_S γ.W x.s.heap H locs) {U : State} (hU : U.heap = H) (hW : x.s.WarmedH U.vm) : PcA (gsub γ W') As h0 sz As.toArray U :=
  ⟨rfl, by rw [hU]; exact h1, hn, by rw [hU]; exact rep_sub hle hin h2, va_K.moved hW.alike C.hK, C.later h3 hU hW⟩
/-- invokevirtual under W' -/
theorem aw_subV (C : Cx γ l x y cc nL ret rm et) (hW : ∀ q, W' q → γ.W q) (hle : HLE h0 h) (hin : ∀ q c, h0 q = some c → W' q) (hnw : ∀ q, sz ≤ q → W' q) {ci N a n9 : Nat} {Cn : String} {T : u_T} {ty : Nat → FieldType} (K : CKF ci Cn T N ty) {fs : List Value} (hM : MX (gsub γ W') l y9 b9 nL9 ret9 f9 lo9 mc ms (.ref a :: As) h0 sz Post PX)
    (q1 : Cond.methodLink y.cls index y9 ∈ lw_all) (q2 : Cond.instanceMethod y9 ∈ lw_all) (q3 : Cond.selects Cn y9 y9 ∈ lw_all) (q4 : Cond.initialized Cn ∈ lw_all) (q5 : Cond.code y9 b9 nL9 ret9 ∈ lw_all)
    (he : h0 a = some (.inr (ci, fs))) (hd : y9.cls = Cn ∧ y9.cls ≠ "java/lang/invoke/MethodHandle" ∧ y9.cls ≠ "java/lang/invoke/VarHandle" ∧ (parseMethodDescriptor y9.desc).map (fun d => d.parameters.length) = some n9) (hn : As.length = n9)
    (hf : f9 + 1 ≤ rm.frames) (hl : 8 + (nL9 + 11) + lo9 ≤ rm.locals) (hc : k + mc ≤ rm.cells) (hs : n + ms ≤ rm.slots) (hst : st0 = As.reverse ++ .ref a :: st) (hw : (st.map fun v => v.category).sum ≤ 8) (d : decode cc pc = .ok (.invokevirtual index, 3))
    (kx : ∀ (E : String) (h' : AH) (sz' : Nat), PX E h' sz' → sz ≤ sz' → (∀ q c, h' q = some c → W' q) → AX γ l x Q nL (mrg W' h' h) sz' (k + mc) (n + ms) pc L E)
    (kk : ∀ (v : Option Value) (h' : AH) (sz' : Nat), Post v h' sz' → sz ≤ sz' → (∀ q c, h' q = some c → W' q) → AW γ l x Q nL (mrg W' h' h) sz' (k + mc) (n + ms) (pc + 3) L (v.toList ++ st)) : AW γ l x Q nL h sz k n pc L st0 :=
  ax_goesS (As := .ref a :: As) hW (fun H locs ls h1 h2 h3 h4 => vx_runV (C := Cn) (b := a) (As := As) (rest := st) C.fix hM
    (cwV n9 C.hts (lw_V q1 q2 q3 q4 q5) rfl rfl rfl hd (by rw [C.hR]; exact ⟨hf, hl⟩)) ⟨pc_blind (gsub_ok hW C.hG), rep_recv C h2 K (hle _ _ he), fun U hU hW => pc_atS C hle hin hnw h1 h2 h3 hU hW⟩ rfl hn h4.1 hst (lv_room hw) d (by rw [C.hR]; exact ⟨hc, hs⟩)) kx kk
/-- of a method with handlers -/
theorem aw_subVH (C : Cx γ l x y cc nL ret rm et) (hW : ∀ q, W' q → γ.W q) (hle : HLE h0 h) (hin : ∀ q c, h0 q = some c → W' q) (hnw : ∀ q, sz ≤ q → W' q) {ci N a n9 : Nat} {Cn : String} {T : u_T} {ty : Nat → FieldType} (K : CKF ci Cn T N ty) {fs : List Value} (hM : MH (gsub γ W') l y9 b9 nL9 ret9 hh9 f9 lo9 mc ms (.ref a :: As) h0 sz Post PX)
    (q1 : Cond.methodLink y.cls index y9 ∈ lw_all) (q2 : Cond.instanceMethod y9 ∈ lw_all) (q3 : Cond.selects Cn y9 y9 ∈ lw_all) (q4 : Cond.initialized Cn ∈ lw_all) (q5 : Cond.codeWith y9 b9 nL9 ret9 hh9 ∈ lw_all)
    (he : h0 a = some (.inr (ci, fs))) (hd : y9.cls = Cn ∧ y9.cls ≠ "java/lang/invoke/MethodHandle" ∧ y9.cls ≠ "java/lang/invoke/VarHandle" ∧ (parseMethodDescriptor y9.desc).map (fun d => d.parameters.length) = some n9) (hn : As.length = n9)
    (hf : f9 + 1 ≤ rm.frames) (hl : 8 + (nL9 + 11) + lo9 ≤ rm.locals) (hc : k + mc ≤ rm.cells) (hs : n + ms ≤ rm.slots) (hst : st0 = As.reverse ++ .ref a :: st) (hw : (st.map fun v => v.category).sum ≤ 8) (d : decode cc pc = .ok (.invokevirtual index, 3))
    (kx : ∀ (E : String) (h' : AH) (sz' : Nat), PX E h' sz' → sz ≤ sz' → (∀ q c, h' q = some c → W' q) → AX γ l x Q nL (mrg W' h' h) sz' (k + mc) (n + ms) pc L E)
    (kk : ∀ (v : Option Value) (h' : AH) (sz' : Nat), Post v h' sz' → sz ≤ sz' → (∀ q c, h' q = some c → W' q) → AW γ l x Q nL (mrg W' h' h) sz' (k + mc) (n + ms) (pc + 3) L (v.toList ++ st)) : AW γ l x Q nL h sz k n pc L st0 :=
  ax_goesS (As := .ref a :: As) hW (fun H locs ls h1 h2 h3 h4 => vx_runVX (C := Cn) (b := a) (As := As) (rest := st) C.fix hM
    (vx_cwVW n9 C.hts (lw_VW q1 q2 q3 q4 q5) rfl rfl rfl hd (by rw [C.hR]; exact ⟨hf, hl⟩)) ⟨pc_blind (gsub_ok hW C.hG), rep_recv C h2 K (hle _ _ he), fun U hU hW => pc_atS C hle hin hnw h1 h2 h3 hU hW⟩ rfl hn h4.1 hst (lv_room hw) d (by rw [C.hR]; exact ⟨hc, hs⟩)) kx kk
end SUB
/-- what a wrapper of the law leaves -/
def WPost (W' : Nat → Prop) (h : AH) (sz w o K : Nat) (x : AS) : Option Value → AH → Nat → Prop := fun v h' sz' => v = some (.int (nI x.1.1)) ∧ sz ≤ sz' ∧ (∀ q, ¬ W' q → q ≠ w → h' q = h q) ∧ (∃ u' g', HLE (ch o u' g') h' ∧ (∀ q c, ch o u' g' q = some c → W' q) ∧ CS o sz' u' g' K x.2) ∧ ∃ f' : Nat → Int64, h' w = some (.inl (2, 1, .inr (.inl f'))) ∧ (x.1.1 = 0 → f' 0 = x.1.2.toInt64)
