/-! the twin's calls with plain answers -/
/-- answers nothing; the twin's value is then one with P -/
def RUv (o sz : Nat) (P : TU → Prop) : Option Value → AH → Nat → Prop := fun v h' sz' => v = none ∧ sz' = sz ∧ ∃ u', h' = th o u' ∧ P u'
def RUi (o sz : Nat) (P : Int32 → TU → Prop) : Option Value → AH → Nat → Prop := fun v h' sz' => sz' = sz ∧ ∃ r u', v = some (.int r) ∧ h' = th o u' ∧ P r u'
section TC
variable {γ : Gm} {l : Launch} {x : WX} {y : MethodName} {cc : ByteArray} {nL : Nat} {ret : Option FieldType} {rm : Room} {et : List ExceptionTableEntry} {Q : State → Prop} {o sz k n pc : Nat} {u : TU} {L : LV} {st : List Value}
theorem tw_callR (C : Cx γ l x y cc nL ret rm et) {y9 : MethodName} {b9 : ByteArray} {nL9 : Nat} {ret9 : Option FieldType} {f9 lo9 index n9 : Nat} {As : List Value} {st0 : List Value} {r : Int32} (hM : MX γ l y9 b9 nL9 ret9 f9 lo9 0 0 (.ref o :: As) (th o u) sz (RI (th o u) sz r) NX)
    (q1 : Cond.methodLink y.cls index y9 ∈ lw_all) (q2 : Cond.instanceMethod y9 ∈ lw_all) (q3 : Cond.selects RX6 y9 y9 ∈ lw_all) (q4 : Cond.initialized RX6 ∈ lw_all) (q5 : Cond.code y9 b9 nL9 ret9 ∈ lw_all)
    (hd : y9.cls = RX6 ∧ y9.cls ≠ "java/lang/invoke/MethodHandle" ∧ y9.cls ≠ "java/lang/invoke/VarHandle" ∧ (parseMethodDescriptor y9.desc).map (fun d => d.parameters.length) = some n9) (hn : As.length = n9)
    (hf : f9 + 1 ≤ rm.frames) (hl : 8 + (nL9 + 11) + lo9 ≤ rm.locals) (hc : k ≤ rm.cells) (hs : n ≤ rm.slots) (hst : st0 = As.reverse ++ .ref o :: st) (hw : (st.map fun v => v.category).sum ≤ 8) (d : decode cc pc = .ok (.invokevirtual index, 3))
    (kk : AW γ l x Q nL (th o u) sz k n (pc + 3) L (.int r :: st)) : AW γ l x Q nL (th o u) sz k n pc L st0 :=
  tw_call C hM q1 q2 q3 q4 q5 hd hn hf hl hc hs hst hw d (fun v h' sz' hp => by
    obtain ⟨rfl, rfl, rfl⟩ := hp
    exact kk)
theorem tw_callV (C : Cx γ l x y cc nL ret rm et) {y9 : MethodName} {b9 : ByteArray} {nL9 : Nat} {ret9 : Option FieldType} {f9 lo9 index n9 : Nat} {As : List Value} {st0 : List Value} {P : TU → Prop} (hM : MX γ l y9 b9 nL9 ret9 f9 lo9 0 0 (.ref o :: As) (th o u) sz (RUv o sz P) NX)
    (q1 : Cond.methodLink y.cls index y9 ∈ lw_all) (q2 : Cond.instanceMethod y9 ∈ lw_all) (q3 : Cond.selects RX6 y9 y9 ∈ lw_all) (q4 : Cond.initialized RX6 ∈ lw_all) (q5 : Cond.code y9 b9 nL9 ret9 ∈ lw_all)
    (hd : y9.cls = RX6 ∧ y9.cls ≠ "java/lang/invoke/MethodHandle" ∧ y9.cls ≠ "java/lang/invoke/VarHandle" ∧ (parseMethodDescriptor y9.desc).map (fun d => d.parameters.length) = some n9) (hn : As.length = n9)
    (hf : f9 + 1 ≤ rm.frames) (hl : 8 + (nL9 + 11) + lo9 ≤ rm.locals) (hc : k ≤ rm.cells) (hs : n ≤ rm.slots) (hst : st0 = As.reverse ++ .ref o :: st) (hw : (st.map fun v => v.category).sum ≤ 8) (d : decode cc pc = .ok (.invokevirtual index, 3))
    (kk : ∀ u', P u' → AW γ l x Q nL (th o u') sz k n (pc + 3) L st) : AW γ l x Q nL (th o u) sz k n pc L st0 :=
  tw_call C hM q1 q2 q3 q4 q5 hd hn hf hl hc hs hst hw d (fun v h' sz' hp => by
    obtain ⟨rfl, rfl, u', rfl, hp⟩ := hp
    exact kk u' hp)
theorem tw_callI (C : Cx γ l x y cc nL ret rm et) {y9 : MethodName} {b9 : ByteArray} {nL9 : Nat} {ret9 : Option FieldType} {f9 lo9 index n9 : Nat} {As : List Value} {st0 : List Value} {P : Int32 → TU → Prop} (hM : MX γ l y9 b9 nL9 ret9 f9 lo9 0 0 (.ref o :: As) (th o u) sz (RUi o sz P) NX)
    (q1 : Cond.methodLink y.cls index y9 ∈ lw_all) (q2 : Cond.instanceMethod y9 ∈ lw_all) (q3 : Cond.selects RX6 y9 y9 ∈ lw_all) (q4 : Cond.initialized RX6 ∈ lw_all) (q5 : Cond.code y9 b9 nL9 ret9 ∈ lw_all)
    (hd : y9.cls = RX6 ∧ y9.cls ≠ "java/lang/invoke/MethodHandle" ∧ y9.cls ≠ "java/lang/invoke/VarHandle" ∧ (parseMethodDescriptor y9.desc).map (fun d => d.parameters.length) = some n9) (hn : As.length = n9)
    (hf : f9 + 1 ≤ rm.frames) (hl : 8 + (nL9 + 11) + lo9 ≤ rm.locals) (hc : k ≤ rm.cells) (hs : n ≤ rm.slots) (hst : st0 = As.reverse ++ .ref o :: st) (hw : (st.map fun v => v.category).sum ≤ 8) (d : decode cc pc = .ok (.invokevirtual index, 3))
    (kk : ∀ r u', P r u' → AW γ l x Q nL (th o u') sz k n (pc + 3) L (.int r :: st)) : AW γ l x Q nL (th o u) sz k n pc L st0 :=
  tw_call C hM q1 q2 q3 q4 q5 hd hn hf hl hc hs hst hw d (fun v h' sz' hp => by
    obtain ⟨rfl, r, u', rfl, rfl, hp⟩ := hp
    exact kk r u' hp)
theorem tw_callSR (C : Cx γ l x y cc nL ret rm et) {y9 : MethodName} {b9 : ByteArray} {nL9 : Nat} {ret9 : Option FieldType} {f9 lo9 index n9 : Nat} {As : List Value} {st0 : List Value} {r : Int32} (hM : MX γ l y9 b9 nL9 ret9 f9 lo9 0 0 As (th o u) sz (RI (th o u) sz r) NX)
    (q1 : Cond.methodLink y.cls index y9 ∈ lw_all) (q2 : Cond.static y9 ∈ lw_all) (q3 : Cond.initialized y9.cls ∈ lw_all) (q4 : Cond.code y9 b9 nL9 ret9 ∈ lw_all)
    (hd : y9.cls ≠ "java/lang/invoke/MethodHandle" ∧ y9.cls ≠ "java/lang/invoke/VarHandle" ∧ (parseMethodDescriptor y9.desc).map (fun d => d.parameters.length) = some n9) (hn : As.length = n9)
    (hf : f9 + 1 ≤ rm.frames) (hl : 8 + (nL9 + 11) + lo9 ≤ rm.locals) (hc : k ≤ rm.cells) (hs : n ≤ rm.slots) (hst : st0 = As.reverse ++ st) (hw : (st.map fun v => v.category).sum ≤ 8) (d : decode cc pc = .ok (.invokestatic index, 3))
    (kk : AW γ l x Q nL (th o u) sz k n (pc + 3) L (.int r :: st)) : AW γ l x Q nL (th o u) sz k n pc L st0 :=
  tw_callS C hM q1 q2 q3 q4 hd hn hf hl hc hs hst hw d (fun v h' sz' hp => by
    obtain ⟨rfl, rfl, rfl⟩ := hp
    exact kk)
theorem tw_callSV (C : Cx γ l x y cc nL ret rm et) {y9 : MethodName} {b9 : ByteArray} {nL9 : Nat} {ret9 : Option FieldType} {f9 lo9 index n9 : Nat} {As : List Value} {st0 : List Value} {P : TU → Prop} (hM : MX γ l y9 b9 nL9 ret9 f9 lo9 0 0 As (th o u) sz (RUv o sz P) NX)
    (q1 : Cond.methodLink y.cls index y9 ∈ lw_all) (q2 : Cond.static y9 ∈ lw_all) (q3 : Cond.initialized y9.cls ∈ lw_all) (q4 : Cond.code y9 b9 nL9 ret9 ∈ lw_all)
    (hd : y9.cls ≠ "java/lang/invoke/MethodHandle" ∧ y9.cls ≠ "java/lang/invoke/VarHandle" ∧ (parseMethodDescriptor y9.desc).map (fun d => d.parameters.length) = some n9) (hn : As.length = n9)
    (hf : f9 + 1 ≤ rm.frames) (hl : 8 + (nL9 + 11) + lo9 ≤ rm.locals) (hc : k ≤ rm.cells) (hs : n ≤ rm.slots) (hst : st0 = As.reverse ++ st) (hw : (st.map fun v => v.category).sum ≤ 8) (d : decode cc pc = .ok (.invokestatic index, 3))
    (kk : ∀ u', P u' → AW γ l x Q nL (th o u') sz k n (pc + 3) L st) : AW γ l x Q nL (th o u) sz k n pc L st0 :=
  tw_callS C hM q1 q2 q3 q4 hd hn hf hl hc hs hst hw d (fun v h' sz' hp => by
    obtain ⟨rfl, rfl, u', rfl, hp⟩ := hp
    exact kk u' hp)
theorem tw_callSI (C : Cx γ l x y cc nL ret rm et) {y9 : MethodName} {b9 : ByteArray} {nL9 : Nat} {ret9 : Option FieldType} {f9 lo9 index n9 : Nat} {As : List Value} {st0 : List Value} {P : Int32 → TU → Prop} (hM : MX γ l y9 b9 nL9 ret9 f9 lo9 0 0 As (th o u) sz (RUi o sz P) NX)
    (q1 : Cond.methodLink y.cls index y9 ∈ lw_all) (q2 : Cond.static y9 ∈ lw_all) (q3 : Cond.initialized y9.cls ∈ lw_all) (q4 : Cond.code y9 b9 nL9 ret9 ∈ lw_all)
    (hd : y9.cls ≠ "java/lang/invoke/MethodHandle" ∧ y9.cls ≠ "java/lang/invoke/VarHandle" ∧ (parseMethodDescriptor y9.desc).map (fun d => d.parameters.length) = some n9) (hn : As.length = n9)
    (hf : f9 + 1 ≤ rm.frames) (hl : 8 + (nL9 + 11) + lo9 ≤ rm.locals) (hc : k ≤ rm.cells) (hs : n ≤ rm.slots) (hst : st0 = As.reverse ++ st) (hw : (st.map fun v => v.category).sum ≤ 8) (d : decode cc pc = .ok (.invokestatic index, 3))
    (kk : ∀ r u', P r u' → AW γ l x Q nL (th o u') sz k n (pc + 3) L (.int r :: st)) : AW γ l x Q nL (th o u) sz k n pc L st0 :=
  tw_callS C hM q1 q2 q3 q4 hd hn hf hl hc hs hst hw d (fun v h' sz' hp => by
    obtain ⟨rfl, r, u', rfl, rfl, hp⟩ := hp
    exact kk r u' hp)
theorem aw_lo {γ : Gm} {l : Launch} {x : WX} {Q : State → Prop} {nL sz k n pc : Nat} {h : AH} {L M : LV} {st : List Value} (kk : AW γ l x Q nL h sz k n pc M st) (hM : lok L M) : AW γ l x Q nL h sz k n pc L st := aw_loc hM kk
/-- one less: of a number that may be 0 -/
theorem aw_iincD {γ : Gm} {l : Launch} {x : WX} {y : MethodName} {cc : ByteArray} {nL : Nat} {ret : Option FieldType} {rm : Room} {et : List ExceptionTableEntry} {Q : State → Prop} {h : AH} {sz k n pc : Nat} {L : LV} {st : List Value} (C : Cx γ l x y cc nL ret rm et) {i j : Nat} (hl : lup L i = some (.int (nI j))) (hn : i < nL) (hc : lcat L i = true) (d : decode cc pc = .ok (.iinc i (-1), 3)) (kk : AW γ l x Q nL h sz k n (pc + 3) ((i, Value.int (nI j - nI 1)) :: L) st) : AW γ l x Q nL h sz k n pc L st :=
  aw_iinc C hl (w := nI j - nI 1) (by rw [show Int32.ofInt (-1) = -(nI 1) from by decide, Int32.sub_eq_add_neg]) hn hc d kk
end TC
