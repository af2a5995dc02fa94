/-! rows for what is carried: constants, statics -/
/-- a cell that can be read: one of the heap's, or one that is carried -/
def RB (γ : Gm) (h : AH) (a : Nat) (c : va_E) : Prop := h a = some c ∨ ∀ U : State, γ.X U → va_at γ.1 ucl (a, cv γ c) U.heap
section RR
variable {γ : Gm} {l : Launch} {x : WX} {y : MethodName} {cc : ByteArray} {nL : Nat} {ret : Option FieldType} {rm : Room} {et : List ExceptionTableEntry} {Q : State → Prop} {h : AH} {sz k n pc : Nat} {L : LV} {st : List Value}
theorem RB.at (C : Cx γ l x y cc nL ret rm et) {a : Nat} {c : va_E} (hq : RB γ h a c) {H : Heap} {locs : List Loc} (h2 : Rep γ h H) (h3 : va_S γ.W x.s.heap H locs) : va_P γ.1 ucl [(a, cv γ c)] H := by
  intro j q hk
  cases j with
  | zero =>
    cases hk
    rcases hq with e | e
    · exact (h2 a c e).2
    · exact e { x.s with heap := H } (C.later h3 rfl (State.WarmedH.refl x.s))
  | succ j => simp at hk
theorem aw_getfR (C : Cx γ l x y cc nL ret rm et) {ci N : Nat} {Cn ref : String} {T : u_T} {ty : Nat → FieldType} (K : CKF ci Cn T N ty) (i : Nat) (hi : i < N) {index a : Nat} {fs : List Value} {v : Value} (q : Cond.fieldLink y.cls index ref (T i).2.1 (T i).2.2.1 ∈ lw_all) (hsame : ∀ z, x.s.fieldFound? (T i).1 (T i).2.1 (T i).2.2.1 = some z → x.s.fieldFound? ref (T i).2.1 (T i).2.2.1 = some z) (he : RB γ h a (.inr (ci, fs))) (hv : fs[i]? = some v) (d : decode cc pc = .ok (.getfield index, 3)) (kk : AW γ l x Q nL h sz k n (pc + 3) L (v :: st)) : AW γ l x Q nL h sz k n pc L (.ref a :: st) := fun H locs ls h1 h2 h3 h4 =>
  va_get (D := γ.1) (ci := ci) (v := v) (C := Cn) (T := T) (N := N) C.hx C.hb C.hts K.2.1 C.hown C.hK (he.at C h2 h3) 0 rfl K.1 i hi (C.hts _ q) hsame hv d (kk H locs ls h1 h2 h3 h4)
theorem aw_baldR (C : Cx γ l x y cc nL ret rm et) {a m j : Nat} {f : Nat → Int32} (he : RB γ h a (.inl (1, m, .inl f))) (hi : j < m) (hm : m < 2 ^ 31) (d : decode cc pc = .ok (.baload, 1)) (kk : AW γ l x Q nL h sz k n (pc + 1) L (.int (f j) :: st)) : AW γ l x Q nL h sz k n pc L (.int (nI j) :: .ref a :: st) := fun H locs ls h1 h2 h3 h4 =>
  va_bald C.hx C.hb C.hK (he.at C h2 h3) 0 1 rfl rfl (vp_in_nI hi hm) d (by rw [nI_clamp (by omega)]; exact kk H locs ls h1 h2 h3 h4)
theorem aw_alenR (C : Cx γ l x y cc nL ret rm et) {a : Nat} {t : Nat} {v : vp_A} (ht : t < 8) (he : RB γ h a (.inl (t, v))) (d : decode cc pc = .ok (.arraylength, 1)) (kk : AW γ l x Q nL h sz k n (pc + 1) L (.int (nI v.1) :: st)) : AW γ l x Q nL h sz k n pc L (.ref a :: st) := fun H locs ls h1 h2 h3 h4 =>
  va_alen C.hx C.hb C.hK (he.at C h2 h3) 0 t rfl (tysL_at γ ht) rfl d (kk H locs ls h1 h2 h3 h4)
/-- a static's value is carried -/
def ZZ (γ : Gm) (Cn nm dd : String) (v : Value) : Prop := ∀ U : State, γ.X U → va_Z Cn nm dd v γ.W U U.heap
theorem aw_gets (C : Cx γ l x y cc nL ret rm et) {Cn nm dd ref : String} {v : Value} {index : Nat} (hZ : ZZ γ Cn nm dd v) (q : Cond.fieldLink y.cls index ref nm dd ∈ lw_all) (hsame : ∀ z, x.s.fieldFound? Cn nm dd = some z → x.s.fieldFound? ref nm dd = some z) (d : decode cc pc = .ok (.getstatic index, 3)) (kk : AW γ l x Q nL h sz k n (pc + 3) L (v :: st)) : AW γ l x Q nL h sz k n pc L st := fun H locs ls h1 h2 h3 h4 =>
  va_gets C.hx C.hb (hZ x.s C.hX) h3 C.hown (C.hts _ q) hsame d (kk H locs ls h1 h2 h3 h4)
theorem aw_ldcS (C : Cx γ l x y cc nL ret rm et) {tx : String} {index a : Nat} (hR : ∀ U : State, γ.X U → vk_R y.cls index tx a U) (d : decode cc pc = .ok (.ldc index, 2)) (kk : AW γ l x Q nL h sz k n (pc + 2) L (.ref a :: st)) : AW γ l x Q nL h sz k n pc L st := fun H locs ls h1 h2 h3 h4 =>
  va_ldcS C.hx C.hb C.hown (hR x.s C.hX) d (kk H locs ls h1 h2 h3 h4)
theorem rep_recvR (C : Cx γ l x y cc nL ret rm et) {H : Heap} {locs : List Loc} (h2 : Rep γ h H) (h3 : va_S γ.W x.s.heap H locs) {ci N a : Nat} {Cn : String} {T : u_T} {ty : Nat → FieldType} (K : CKF ci Cn T N ty) {fs : List Value} (he : RB γ h a (.inr (ci, fs))) : ∃ cellB : Cell, H[a]? = some cellB ∧ cellB.vm.isStatics = false ∧ x.s.vm.findClass Cn = some cellB.cls :=
  va_recv (q0 := 0) C.hK (he.at C h2 h3) K.1 rfl
variable {y9 : MethodName} {b9 : ByteArray} {nL9 : Nat} {ret9 : Option FieldType} {f9 lo9 mc ms index : Nat} {As : List Value} {Post : Option Value → AH → Nat → Prop} {PX : String → AH → Nat → Prop} {st0 : List Value}
theorem aw_callVR (C : Cx γ l x y cc nL ret rm et) {ci N a n9 : Nat} {Cn : String} {T : u_T} {ty : Nat → FieldType} (K : CKF ci Cn T N ty) {fs : List Value} (hM : MX γ l y9 b9 nL9 ret9 f9 lo9 mc ms (.ref a :: As) h sz Post PX)
    (q1 : Cond.methodLink y.cls index y9 ∈ lw_all) (q2 : Cond.instanceMethod y9 ∈ lw_all) (q3 : Cond.selects Cn y9 y9 ∈ lw_all) (q4 : Cond.initialized Cn ∈ lw_all) (q5 : Cond.code y9 b9 nL9 ret9 ∈ lw_all)
    (he : RB γ h a (.inr (ci, fs))) (hd : y9.cls = Cn ∧ y9.cls ≠ "java/lang/invoke/MethodHandle" ∧ y9.cls ≠ "java/lang/invoke/VarHandle" ∧ (parseMethodDescriptor y9.desc).map (fun d => d.parameters.length) = some n9) (hn : As.length = n9)
    (hf : f9 + 1 ≤ rm.frames) (hl : 8 + (nL9 + 11) + lo9 ≤ rm.locals) (hc : k + mc ≤ rm.cells) (hs : n + ms ≤ rm.slots) (hst : st0 = As.reverse ++ .ref a :: st) (hw : (st.map fun v => v.category).sum ≤ 8) (d : decode cc pc = .ok (.invokevirtual index, 3))
    (kx : ∀ (E : String) (h' : AH) (sz' : Nat), PX E h' sz' → AX γ l x Q nL h' sz' (k + mc) (n + ms) pc L E)
    (kk : ∀ (v : Option Value) (h' : AH) (sz' : Nat), Post v h' sz' → AW γ l x Q nL h' sz' (k + mc) (n + ms) (pc + 3) L (v.toList ++ st)) : AW γ l x Q nL h sz k n pc L st0 :=
  ax_goes (As := .ref a :: As) (fun H locs ls h1 h2 h3 h4 => vx_runV (C := Cn) (b := a) (As := As) (rest := st) C.fix hM
    (cwV n9 C.hts (lw_V q1 q2 q3 q4 q5) rfl rfl rfl hd (by rw [C.hR]; exact ⟨hf, hl⟩)) ⟨pc_blind C.hG, rep_recvR C h2 h3 K he, fun U hU hW => pc_at C h1 h2 h3 hU hW⟩ rfl hn h4.1 hst (lv_room hw) d (by rw [C.hR]; exact ⟨hc, hs⟩)) kx kk
/-- the callee only answers -/
theorem aw_callVRR (C : Cx γ l x y cc nL ret rm et) {ci N a n9 : Nat} {Cn : String} {T : u_T} {ty : Nat → FieldType} (K : CKF ci Cn T N ty) {fs : List Value} {r : Int32} (hM : MX γ l y9 b9 nL9 ret9 f9 lo9 0 0 (.ref a :: As) h sz (RI h sz r) NX)
    (q1 : Cond.methodLink y.cls index y9 ∈ lw_all) (q2 : Cond.instanceMethod y9 ∈ lw_all) (q3 : Cond.selects Cn y9 y9 ∈ lw_all) (q4 : Cond.initialized Cn ∈ lw_all) (q5 : Cond.code y9 b9 nL9 ret9 ∈ lw_all)
    (he : RB γ h a (.inr (ci, fs))) (hd : y9.cls = Cn ∧ y9.cls ≠ "java/lang/invoke/MethodHandle" ∧ y9.cls ≠ "java/lang/invoke/VarHandle" ∧ (parseMethodDescriptor y9.desc).map (fun d => d.parameters.length) = some n9) (hn : As.length = n9)
    (hf : f9 + 1 ≤ rm.frames) (hl : 8 + (nL9 + 11) + lo9 ≤ rm.locals) (hc : k ≤ rm.cells) (hs : n ≤ rm.slots) (hst : st0 = As.reverse ++ .ref a :: st) (hw : (st.map fun v => v.category).sum ≤ 8) (d : decode cc pc = .ok (.invokevirtual index, 3))
    (kk : AW γ l x Q nL h sz k n (pc + 3) L (.int r :: st)) : AW γ l x Q nL h sz k n pc L st0 :=
  aw_callVR C K hM q1 q2 q3 q4 q5 he hd hn hf hl hc hs hst hw d (fun _ _ _ z => z.elim) (fun v h' sz' hp => by
    obtain ⟨rfl, rfl, rfl⟩ := hp
    exact kk)
theorem aw_callSRR (C : Cx γ l x y cc nL ret rm et) {n9 : Nat} {r : Int32} (hM : MX γ l y9 b9 nL9 ret9 f9 lo9 0 0 As h sz (RI h sz r) NX)
    (q1 : Cond.methodLink y.cls index y9 ∈ lw_all) (q2 : Cond.static y9 ∈ lw_all) (q3 : Cond.initialized y9.cls ∈ lw_all) (q4 : Cond.code y9 b9 nL9 ret9 ∈ lw_all)
    (hd : y9.cls ≠ "java/lang/invoke/MethodHandle" ∧ y9.cls ≠ "java/lang/invoke/VarHandle" ∧ (parseMethodDescriptor y9.desc).map (fun d => d.parameters.length) = some n9) (hn : As.length = n9)
    (hf : f9 + 1 ≤ rm.frames) (hl : 8 + (nL9 + 11) + lo9 ≤ rm.locals) (hc : k ≤ rm.cells) (hs : n ≤ rm.slots) (hst : st0 = As.reverse ++ st) (hw : (st.map fun v => v.category).sum ≤ 8) (d : decode cc pc = .ok (.invokestatic index, 3))
    (kk : AW γ l x Q nL h sz k n (pc + 3) L (.int r :: st)) : AW γ l x Q nL h sz k n pc L st0 :=
  aw_callS C hM q1 q2 q3 q4 hd hn hf hl hc hs hst hw d (fun _ _ _ z => z.elim) (fun v h' sz' hp => by
    obtain ⟨rfl, rfl, rfl⟩ := hp
    exact kk)
/-- the callee answers nothing and changes nothing -/
def RN (h : AH) (sz : Nat) : Option Value → AH → Nat → Prop := fun v h' sz' => v = none ∧ h' = h ∧ sz' = sz
theorem aw_callSRN (C : Cx γ l x y cc nL ret rm et) {n9 : Nat} (hM : MX γ l y9 b9 nL9 ret9 f9 lo9 0 0 As h sz (RN h sz) NX)
    (q1 : Cond.methodLink y.cls index y9 ∈ lw_all) (q2 : Cond.static y9 ∈ lw_all) (q3 : Cond.initialized y9.cls ∈ lw_all) (q4 : Cond.code y9 b9 nL9 ret9 ∈ lw_all)
    (hd : y9.cls ≠ "java/lang/invoke/MethodHandle" ∧ y9.cls ≠ "java/lang/invoke/VarHandle" ∧ (parseMethodDescriptor y9.desc).map (fun d => d.parameters.length) = some n9) (hn : As.length = n9)
    (hf : f9 + 1 ≤ rm.frames) (hl : 8 + (nL9 + 11) + lo9 ≤ rm.locals) (hc : k ≤ rm.cells) (hs : n ≤ rm.slots) (hst : st0 = As.reverse ++ st) (hw : (st.map fun v => v.category).sum ≤ 8) (d : decode cc pc = .ok (.invokestatic index, 3))
    (kk : AW γ l x Q nL h sz k n (pc + 3) L st) : AW γ l x Q nL h sz k n pc L st0 :=
  aw_callS C hM q1 q2 q3 q4 hd hn hf hl hc hs hst hw d (fun _ _ _ z => z.elim) (fun v h' sz' hp => by
    obtain ⟨rfl, rfl, rfl⟩ := hp
    exact kk)
end RR
/-- a text of signs below 128 -/
def STR (γ : Gm) (h : AH) (a : Nat) (tx : List Nat) : Prop := ∃ (v : Nat) (w1 w2 : Value) (f : Nat → Int32), RB γ h a (.inr (14, [.ref v, .int 0, w1, w2])) ∧ RB γ h v (.inl (1, tx.length, .inl f)) ∧ tx.length < 2 ^ 30 ∧ ∀ i, i < tx.length → f i = nI (tx.getD i 0) ∧ tx.getD i 0 < 128
/-- what is carried of String and its helpers -/
def GT (γ : Gm) : Prop := ZZ γ "java/lang/String" "COMPACT_STRINGS" "Z" (.int 1) ∧ ∃ v, ZZ γ "jdk/internal/util/Preconditions" "SIOOBE_FORMATTER" "Ljava/util/function/BiFunction;" v ∧ (v = .null ∨ ∃ a, v = .ref a)
