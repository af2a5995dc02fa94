/-! rows: a private method of a superclass -/
theorem sel_pv {args : Array Value} {s : State} {C : String} {x z y : MethodName} (hz : (Cond.selects C x z).before args s = true) (hs : (Cond.sameMethod y.cls y.cls y.name y.desc).before args s = true) (hp : (Cond.privateMethod y).before args s = true) (hi : (Cond.instanceMethod y).before args s = true) : (Cond.selects C y y).before args s = true := by
  obtain ⟨c, -, -, hc, -⟩ := Cond.selects_spec hz
  obtain ⟨m, meth, hm, hme, -, -⟩ := Cond.instanceMethod_spec hi
  have hpr := Cond.privateMethod_at hp m meth hm hme
  have hcls := findClass_of_methodNamed hm
  cases hr : s.methodFound? y.cls y.name y.desc with
  | none =>
    have hs' := hs
    simp only [Cond.before, Cond.holds, Cond.value, hr, hcls] at hs'
    simp at hs'
  | some r =>
    obtain ⟨e, k, hk, hki⟩ := Cond.sameMethod_spec hcls hr hs
    have e2 : s.methodNamed? y = some r := e
    cases hm.symm.trans e2
    simp only [Cond.before, Cond.holds, Cond.value, hc, hr, hm, selectMethod_private hme hpr, hk]
    simp [hki]
/-- that a method is private is carried -/
def PVW (γ : Gm) (y9 : MethodName) : Prop := ∀ U : State, γ.X U → va_Nw (.privateMethod y9) U
/-- what is carried of StringBuilder -/
def GSB (γ : Gm) : Prop := GT γ ∧ PVW γ yJ7_ensureCapacityInternal ∧ PVW γ yJ7_newCapacity
section PVR
variable {p : Program} {l : Launch} {e : Env} {R : Room} {s : State} {m : MethodId} {args : Array Value} {below : List Frame} {meth : Method} {c : Code}
theorem va_cwPV {own C : String} {index maxL mc ms : Nat} {y : MethodName} {bytes : ByteArray} {ret : Option FieldType} {Ts ws ws' : List Cond} {rm : Room} (n : Nat) (ht : ∀ w ∈ Ts, w.before args s = true) (hG : GoodIn Ts ws) (hw : ws = Cond.code y bytes maxL ret :: ws') (hrc : rm.cells = mc) (hrs : rm.slots = ms)
    (h1 : (Cond.methodLink own index y).before args s = true) (h2 : (Cond.sameMethod y.cls y.cls y.name y.desc).before args s = true) (h3 : (Cond.selects C y y).before args s = true) (h4 : (Cond.instanceMethod y).before args s = true) (h5 : (Cond.initialized y.cls).before args s = true)
    (hd : y.cls ≠ "java/lang/invoke/MethodHandle" ∧ y.cls ≠ "java/lang/invoke/VarHandle" ∧ (parseMethodDescriptor y.desc).map (fun d => d.parameters.length) = some n) (hR : rm.frames + 1 ≤ R.frames ∧ 8 + (maxL + 11) + rm.locals ≤ R.locals) : va_CU R s args own C y.cls index y y bytes maxL ret ws rm mc ms n := by
  have hc : Cond.code y bytes maxL ret ∈ ws := by rw [hw]; exact List.mem_cons_self
  refine ⟨⟨hrc, hrs, hR.1, hR.2, pay_in ht hG, hc⟩, ht _ (hG _ hc).1, by first | exact h1 | exact h5, ⟨hd.1, hd.2.1⟩, fun sig h => ?_, by first | exact h1 | exact h5, h2, va_Decl.of h4 (ht _ (hG _ hc).1), h3, h4⟩
  have h2 := hd.2.2
  rw [h] at h2
  exact (Option.some.inj h2).symm
end PVR
section PVA
variable {γ : Gm} {l : Launch} {x : WX} {y : MethodName} {cc : ByteArray} {nL : Nat} {ret : Option FieldType} {rm : Room} {et : List ExceptionTableEntry} {Q : State → Prop} {h : AH} {sz k n pc : Nat} {L : LV} {st : List Value}
variable {y9 : MethodName} {b9 : ByteArray} {nL9 : Nat} {ret9 : Option FieldType} {f9 lo9 mc ms index : Nat} {As : List Value} {Post : Option Value → AH → Nat → Prop} {PX : String → AH → Nat → Prop} {st0 : List Value}
/-- a superclass's private method, called within that class -/
theorem aw_callPV (C : Cx γ l x y cc nL ret rm et) {ci N a n9 : Nat} {Cn : String} {T : u_T} {ty : Nat → FieldType} (K : CKF ci Cn T N ty) {fs : List Value} {x9 z9 : MethodName} (hM : MX γ l y9 b9 nL9 ret9 f9 lo9 mc ms (.ref a :: As) h sz Post PX)
    (q1 : Cond.methodLink y.cls index y9 ∈ lw_all) (q2 : Cond.sameMethod y9.cls y9.cls y9.name y9.desc ∈ lw_all) (q7 : PVW γ y9) (q3 : Cond.selects Cn x9 z9 ∈ lw_all) (q4 : Cond.instanceMethod y9 ∈ lw_all) (q5 : Cond.initialized y9.cls ∈ lw_all) (q6 : Cond.code y9 b9 nL9 ret9 ∈ lw_all)
    (he : h a = some (.inr (ci, fs))) (hd : y9.cls ≠ "java/lang/invoke/MethodHandle" ∧ y9.cls ≠ "java/lang/invoke/VarHandle" ∧ (parseMethodDescriptor y9.desc).map (fun d => d.parameters.length) = some n9) (hn : As.length = n9)
    (hf : f9 + 1 ≤ rm.frames) (hl : 8 + (nL9 + 11) + lo9 ≤ rm.locals) (hc : k + mc ≤ rm.cells) (hs : n + ms ≤ rm.slots) (hst : st0 = As.reverse ++ .ref a :: st) (hw : (st.map fun v => v.category).sum ≤ 8) (d : decode cc pc = .ok (.invokevirtual index, 3))
    (kx : ∀ (E : String) (h' : AH) (sz' : Nat), PX E h' sz' → AX γ l x Q nL h' sz' (k + mc) (n + ms) pc L E)
    (kk : ∀ (v : Option Value) (h' : AH) (sz' : Nat), Post v h' sz' → AW γ l x Q nL h' sz' (k + mc) (n + ms) (pc + 3) L (v.toList ++ st)) : AW γ l x Q nL h sz k n pc L st0 :=
  ax_goes (As := .ref a :: As) (fun H locs ls h1 h2 h3 h4 => vx_runU (C := Cn) (owner := y9.cls) (x := y9) (b := a) (As := As) (rest := st) C.fix hM
    (va_cwPV n9 C.hts (lw_meth q6) rfl rfl rfl (C.hts _ q1) (C.hts _ q2) (sel_pv (C.hts _ q3) (C.hts _ q2) (va_Nw.use rfl (q7 x.s C.hX)) (C.hts _ q4)) (C.hts _ q4) (C.hts _ q5) hd (by rw [C.hR]; exact ⟨hf, hl⟩)) ⟨pc_blind C.hG, rep_recv C h2 K he, fun U hU hW => pc_at C h1 h2 h3 hU hW⟩ rfl hn h4.1 hst (lv_room hw) d (by rw [C.hR]; exact ⟨hc, hs⟩)) kx kk
end PVA
