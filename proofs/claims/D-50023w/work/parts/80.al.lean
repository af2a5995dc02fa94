/-! java.util.ArrayList -/
/-- what a call answers, the heap behind it, its size -/
def PE (v : Option Value) (h : AH) (sz : Nat) : Option Value → AH → Nat → Prop := fun v' h' sz' => v' = v ∧ h' = h ∧ sz' = sz
section PER
variable {γ : Gm} {l : Launch} {x : WX} {y : MethodName} {cc : ByteArray} {nL : Nat} {ret : Option FieldType} {rm : Room} {et : List ExceptionTableEntry} {Q : State → Prop} {h : AH} {sz k n pc : Nat} {L : LV} {st : List Value}
variable {y9 : MethodName} {b9 : ByteArray} {nL9 : Nat} {ret9 : Option FieldType} {f9 lo9 mc ms index : Nat} {As : List Value} {st0 : List Value} {h' : AH} {sz' : Nat}
theorem aw_callVPv (C : Cx γ l x y cc nL ret rm et) {ci N a : Nat} {n9 : Nat} {w : Value} {Cn : String} {T : u_T} {ty : Nat → FieldType} (K : CKF ci Cn T N ty) {fs : List Value} (hM : MX γ l y9 b9 nL9 ret9 f9 lo9 mc ms (.ref a :: As) h sz (PE (some w) h' sz') NX)
    (q1 : Cond.methodLink y.cls index y9 ∈ lw_all) (q2 : Cond.instanceMethod y9 ∈ lw_all) (q3 : Cond.selects Cn y9 y9 ∈ lw_all) (q4 : Cond.initialized Cn ∈ lw_all) (q5 : Cond.code y9 b9 nL9 ret9 ∈ lw_all)
    (he : h a = some (.inr (ci, fs))) (hd : y9.cls = Cn ∧ y9.cls ≠ "java/lang/invoke/MethodHandle" ∧ y9.cls ≠ "java/lang/invoke/VarHandle" ∧ (parseMethodDescriptor y9.desc).map (fun d => d.parameters.length) = some n9) (hn : As.length = n9) (hf : f9 + 1 ≤ rm.frames) (hl : 8 + (nL9 + 11) + lo9 ≤ rm.locals) (hc : k + mc ≤ rm.cells) (hs : n + ms ≤ rm.slots) (hst : st0 = As.reverse ++ .ref a :: st) (hw : (st.map fun v => v.category).sum ≤ 8) (d : decode cc pc = .ok (.invokevirtual index, 3))
    (kk : AW γ l x Q nL h' sz' (k + mc) (n + ms) (pc + 3) L (w :: st)) : AW γ l x Q nL h sz k n pc L st0 :=
  aw_callV C K hM q1 q2 q3 q4 q5 he hd hn hf hl hc hs hst hw d (fun _ _ _ z => z.elim) (fun v9 h9 sz9 hp => by
    obtain ⟨rfl, rfl, rfl⟩ := hp
    exact kk)
theorem aw_callSPv (C : Cx γ l x y cc nL ret rm et) {n9 : Nat} {w : Value} (hM : MX γ l y9 b9 nL9 ret9 f9 lo9 mc ms As h sz (PE (some w) h' sz') NX)
    (q1 : Cond.methodLink y.cls index y9 ∈ lw_all) (q2 : Cond.static y9 ∈ lw_all) (q3 : Cond.initialized y9.cls ∈ lw_all) (q4 : Cond.code y9 b9 nL9 ret9 ∈ lw_all)
    (hd : y9.cls ≠ "java/lang/invoke/MethodHandle" ∧ y9.cls ≠ "java/lang/invoke/VarHandle" ∧ (parseMethodDescriptor y9.desc).map (fun d => d.parameters.length) = some n9) (hn : As.length = n9) (hf : f9 + 1 ≤ rm.frames) (hl : 8 + (nL9 + 11) + lo9 ≤ rm.locals) (hc : k + mc ≤ rm.cells) (hs : n + ms ≤ rm.slots) (hst : st0 = As.reverse ++ st) (hw : (st.map fun v => v.category).sum ≤ 8) (d : decode cc pc = .ok (.invokestatic index, 3))
    (kk : AW γ l x Q nL h' sz' (k + mc) (n + ms) (pc + 3) L (w :: st)) : AW γ l x Q nL h sz k n pc L st0 :=
  aw_callS C hM q1 q2 q3 q4 hd hn hf hl hc hs hst hw d (fun _ _ _ z => z.elim) (fun v9 h9 sz9 hp => by
    obtain ⟨rfl, rfl, rfl⟩ := hp
    exact kk)
theorem aw_callFPv (C : Cx γ l x y cc nL ret rm et) {ci N a count : Nat} {n9 : Nat} {w : Value} {Cn : String} {T : u_T} {ty : Nat → FieldType} (K : CKF ci Cn T N ty) {fs : List Value} {xm : MethodName} (hM : MX γ l y9 b9 nL9 ret9 f9 lo9 mc ms (.ref a :: As) h sz (PE (some w) h' sz') NX)
    (q1 : Cond.methodLink y.cls index xm ∈ lw_all) (q2 : Cond.selects Cn xm y9 ∈ lw_all) (q3 : Cond.instanceMethod y9 ∈ lw_all) (q4 : Cond.initialized y9.cls ∈ lw_all) (q5 : Cond.code y9 b9 nL9 ret9 ∈ lw_all) (hF : FWK γ Cn xm y9)
    (he : h a = some (.inr (ci, fs))) (hd : xm.cls ≠ "java/lang/invoke/MethodHandle" ∧ xm.cls ≠ "java/lang/invoke/VarHandle" ∧ (parseMethodDescriptor xm.desc).map (fun d => d.parameters.length) = some n9) (hn : As.length = n9) (hf : f9 + 1 ≤ rm.frames) (hl : 8 + (nL9 + 11) + lo9 ≤ rm.locals) (hc : k + mc ≤ rm.cells) (hs : n + ms ≤ rm.slots) (hst : st0 = As.reverse ++ .ref a :: st) (hw : (st.map fun v => v.category).sum ≤ 8) (d : decode cc pc = .ok (.invokeinterface index count, 5))
    (kk : AW γ l x Q nL h' sz' (k + mc) (n + ms) (pc + 5) L (w :: st)) : AW γ l x Q nL h sz k n pc L st0 :=
  aw_callF C K hM q1 q2 q3 q4 q5 hF he hd hn hf hl hc hs hst hw d (fun _ _ _ z => z.elim) (fun v9 h9 sz9 hp => by
    obtain ⟨rfl, rfl, rfl⟩ := hp
    exact kk)
theorem aw_callVP (C : Cx γ l x y cc nL ret rm et) {ci N a : Nat} {n9 : Nat} {Cn : String} {T : u_T} {ty : Nat → FieldType} (K : CKF ci Cn T N ty) {fs : List Value} (hM : MX γ l y9 b9 nL9 ret9 f9 lo9 mc ms (.ref a :: As) h sz (PE none h' sz') NX)
    (q1 : Cond.methodLink y.cls index y9 ∈ lw_all) (q2 : Cond.instanceMethod y9 ∈ lw_all) (q3 : Cond.selects Cn y9 y9 ∈ lw_all) (q4 : Cond.initialized Cn ∈ lw_all) (q5 : Cond.code y9 b9 nL9 ret9 ∈ lw_all)
    (he : h a = some (.inr (ci, fs))) (hd : y9.cls = Cn ∧ y9.cls ≠ "java/lang/invoke/MethodHandle" ∧ y9.cls ≠ "java/lang/invoke/VarHandle" ∧ (parseMethodDescriptor y9.desc).map (fun d => d.parameters.length) = some n9) (hn : As.length = n9) (hf : f9 + 1 ≤ rm.frames) (hl : 8 + (nL9 + 11) + lo9 ≤ rm.locals) (hc : k + mc ≤ rm.cells) (hs : n + ms ≤ rm.slots) (hst : st0 = As.reverse ++ .ref a :: st) (hw : (st.map fun v => v.category).sum ≤ 8) (d : decode cc pc = .ok (.invokevirtual index, 3))
    (kk : AW γ l x Q nL h' sz' (k + mc) (n + ms) (pc + 3) L st) : AW γ l x Q nL h sz k n pc L st0 :=
  aw_callV C K hM q1 q2 q3 q4 q5 he hd hn hf hl hc hs hst hw d (fun _ _ _ z => z.elim) (fun v9 h9 sz9 hp => by
    obtain ⟨rfl, rfl, rfl⟩ := hp
    exact kk)
theorem aw_callSP (C : Cx γ l x y cc nL ret rm et) {n9 : Nat} (hM : MX γ l y9 b9 nL9 ret9 f9 lo9 mc ms As h sz (PE none h' sz') NX)
    (q1 : Cond.methodLink y.cls index y9 ∈ lw_all) (q2 : Cond.static y9 ∈ lw_all) (q3 : Cond.initialized y9.cls ∈ lw_all) (q4 : Cond.code y9 b9 nL9 ret9 ∈ lw_all)
    (hd : y9.cls ≠ "java/lang/invoke/MethodHandle" ∧ y9.cls ≠ "java/lang/invoke/VarHandle" ∧ (parseMethodDescriptor y9.desc).map (fun d => d.parameters.length) = some n9) (hn : As.length = n9) (hf : f9 + 1 ≤ rm.frames) (hl : 8 + (nL9 + 11) + lo9 ≤ rm.locals) (hc : k + mc ≤ rm.cells) (hs : n + ms ≤ rm.slots) (hst : st0 = As.reverse ++ st) (hw : (st.map fun v => v.category).sum ≤ 8) (d : decode cc pc = .ok (.invokestatic index, 3))
    (kk : AW γ l x Q nL h' sz' (k + mc) (n + ms) (pc + 3) L st) : AW γ l x Q nL h sz k n pc L st0 :=
  aw_callS C hM q1 q2 q3 q4 hd hn hf hl hc hs hst hw d (fun _ _ _ z => z.elim) (fun v9 h9 sz9 hp => by
    obtain ⟨rfl, rfl, rfl⟩ := hp
    exact kk)
theorem aw_callFP (C : Cx γ l x y cc nL ret rm et) {ci N a count : Nat} {n9 : Nat} {Cn : String} {T : u_T} {ty : Nat → FieldType} (K : CKF ci Cn T N ty) {fs : List Value} {xm : MethodName} (hM : MX γ l y9 b9 nL9 ret9 f9 lo9 mc ms (.ref a :: As) h sz (PE none h' sz') NX)
    (q1 : Cond.methodLink y.cls index xm ∈ lw_all) (q2 : Cond.selects Cn xm y9 ∈ lw_all) (q3 : Cond.instanceMethod y9 ∈ lw_all) (q4 : Cond.initialized y9.cls ∈ lw_all) (q5 : Cond.code y9 b9 nL9 ret9 ∈ lw_all) (hF : FWK γ Cn xm y9)
    (he : h a = some (.inr (ci, fs))) (hd : xm.cls ≠ "java/lang/invoke/MethodHandle" ∧ xm.cls ≠ "java/lang/invoke/VarHandle" ∧ (parseMethodDescriptor xm.desc).map (fun d => d.parameters.length) = some n9) (hn : As.length = n9) (hf : f9 + 1 ≤ rm.frames) (hl : 8 + (nL9 + 11) + lo9 ≤ rm.locals) (hc : k + mc ≤ rm.cells) (hs : n + ms ≤ rm.slots) (hst : st0 = As.reverse ++ .ref a :: st) (hw : (st.map fun v => v.category).sum ≤ 8) (d : decode cc pc = .ok (.invokeinterface index count, 5))
    (kk : AW γ l x Q nL h' sz' (k + mc) (n + ms) (pc + 5) L st) : AW γ l x Q nL h sz k n pc L st0 :=
  aw_callF C K hM q1 q2 q3 q4 q5 hF he hd hn hf hl hc hs hst hw d (fun _ _ _ z => z.elim) (fun v9 h9 sz9 hp => by
    obtain ⟨rfl, rfl, rfl⟩ := hp
    exact kk)
theorem aw_callIP (C : Cx γ l x y cc nL ret rm et) {a n9 : Nat} (hM : MX γ l y9 b9 nL9 none f9 lo9 mc ms (.ref a :: As) h sz (PE none h' sz') NX)
    (q1 : Cond.methodLink y.cls index y9 ∈ lw_all) (q2 : Cond.instanceMethod y9 ∈ lw_all) (q3 : Cond.initialized y9.cls ∈ lw_all) (q4 : Cond.code y9 b9 nL9 none ∈ lw_all) (hy1 : y9.name = "<init>")
    (hd : y9.cls ≠ "java/lang/invoke/MethodHandle" ∧ y9.cls ≠ "java/lang/invoke/VarHandle" ∧ (parseMethodDescriptor y9.desc).map (fun d => d.parameters.length) = some n9) (hn : As.length = n9) (hf : f9 + 1 ≤ rm.frames) (hl : 8 + (nL9 + 11) + lo9 ≤ rm.locals) (hc : k + mc ≤ rm.cells) (hs : n + ms ≤ rm.slots) (hst : st0 = As.reverse ++ .ref a :: st) (hw : (st.map fun v => v.category).sum ≤ 8) (d : decode cc pc = .ok (.invokespecial index, 3))
    (kk : AW γ l x Q nL h' sz' (k + mc) (n + ms) (pc + 3) L st) : AW γ l x Q nL h sz k n pc L st0 :=
  aw_callI C hM q1 q2 q3 q4 hy1 hd hn hf hl hc hs hst hw d (fun _ _ _ z => z.elim) (fun v9 h9 sz9 hp => by
    obtain ⟨rfl, rfl, rfl⟩ := hp
    exact kk)
end PER
/-- a list's object, its array -/
def LSL (h : AH) (li el M cap : Nat) (mo : Int32) (f : Nat → Option Nat) : Prop := h li = some (.inr (12, [.int mo, .ref el, .int (nI M)])) ∧ h el = some (rfs 4 cap f)
/-- what it holds: objects of the class ci -/
def EL (h : AH) (ci n : Nat) (f : Nat → Option Nat) : Prop := ∀ i, i < n → ∀ z, f i = some z → ∃ fs, h z = some (.inr (ci, fs))
/-- what is carried for lists -/
def GLI (γ : Gm) (mi : Nat) : Prop := AOK γ "java/lang/Object" ∧ ∀ U, γ.X U → va_Mi "[Ljava/lang/Object;" mi U
theorem rfs_obj {h : AH} {a b t m ci : Nat} {f : Nat → Option Nat} {fs : List Value} (h1 : h a = some (.inr (ci, fs))) (h2 : h b = some (rfs t m f)) : a ≠ b := fun e => by
  rw [e, h2] at h1
  cases h1
theorem EL.push {h : AH} {ci n sz : Nat} {f : Nat → Option Nat} (hD : Dm h sz) (hE : EL h ci n f) (c : va_E) : EL (hset h sz c) ci n f := fun i hi z hz => by
  obtain ⟨fs, e⟩ := hE i hi z hz
  exact ⟨fs, (hset_n _ _ (by have := hD.lt e; omega)).trans e⟩
/-- the new length -/
def nwL (c g p : Nat) : Nat := c + if g < p then p else g
set_option maxRecDepth 100000 in
theorem al_c0 {γ : Gm} (hG : GF γ) (l : Launch) {h : AH} {sz : Nat} {a : Nat} : MX γ l yJ0_init cJ0_init 1 none 1 12 0 0 [.ref a] h sz (PE none h sz) NX := by
  refine mx_start hG (by decide) (Nat.le_of_ble_eq_true rfl) (fun x C => ?_)
  refine aw_aload_n C rfl rfl dJ0_init_0 ?_
  refine aw_objInit C q274 q142 q143 (Nat.le_of_ble_eq_true rfl) (Nat.le_of_ble_eq_true rfl) dJ0_init_1 ?_
  exact aw_vret C rfl dJ0_init_4 (Nat.le_refl _) (Nat.le_refl _) ⟨rfl, rfl, rfl⟩
set_option maxRecDepth 100000 in
theorem al_c1 {γ : Gm} (hG : GF γ) (l : Launch) {h : AH} {sz : Nat} {a : Nat} {v1 v2 : Value} (ea : h a = some (.inr (12, [.int 0, v1, v2]))) : MX γ l yJ1_init cJ1_init 1 none 2 32 0 0 [.ref a] h sz (PE none h sz) NX := by
  refine mx_start hG (by decide) (Nat.le_of_ble_eq_true rfl) (fun x C => ?_)
  refine aw_aload_n C rfl rfl dJ1_init_0 ?_
  refine aw_callIP C (al_c0 hG l) q271 q272 q100 q273 rfl (n9 := 0) (by decide +kernel) rfl (Nat.le_of_ble_eq_true rfl) (Nat.le_of_ble_eq_true rfl) (Nat.zero_le _) (Nat.zero_le _) rfl (Nat.le_of_ble_eq_true rfl) dJ1_init_1 ?_
  refine aw_aload_n C rfl rfl dJ1_init_4 ?_
  refine aw_iconst C (v := nI 0) (by decide) dJ1_init_5 ?_
  refine aw_putf C ck12 0 (by decide) q598 (fun _ z => z) rfl rfl (ty := .int) rfl rfl ea (show 0 < 3 by decide) dJ1_init_6 ?_
  exact aw_vret C rfl dJ1_init_9 (Nat.le_refl _) (Nat.le_refl _) ⟨rfl, hset_self ea, rfl⟩
set_option maxRecDepth 100000 in
theorem al_init {γ : Gm} (hG : GF γ) (l : Launch) {h : AH} {sz : Nat} {a m : Nat} (hO : AOK γ "java/lang/Object") (hm : 0 < m) (hm2 : m < 2 ^ 20) (ha : a < sz) (ea : h a = some (.inr (12, [.int 0, .null, .int 0]))) : MX γ l yJ2_init cJ2_init 2 none 17 380 1 m [.ref a, .int (nI m)] h sz (PE none (hset (hset h sz (rfs 4 m (fun _ => none))) a (.inr (12, [.int 0, .ref sz, .int 0]))) (sz + 1)) NX := by
  refine mx_start hG (by decide) (Nat.le_of_ble_eq_true rfl) (fun x C => ?_)
  refine aw_aload_n C rfl rfl dJ2_init_0 ?_
  refine aw_callIP C (al_c1 hG l ea) q268 q269 q101 q270 rfl (n9 := 0) (by decide +kernel) rfl (Nat.le_of_ble_eq_true rfl) (Nat.le_of_ble_eq_true rfl) (Nat.zero_le _) (Nat.zero_le _) rfl (Nat.le_of_ble_eq_true rfl) dJ2_init_1 ?_
  refine aw_iload_n C rfl rfl dJ2_init_4 ?_
  refine aw_ifN_le C (tgt := 19) (by omega) dJ2_init_5 (by decide) (fun g5 => ?_) (fun g5 => ?_)
  · exact absurd g5 (by omega)
  · refine aw_aload_n C rfl rfl dJ2_init_8 ?_
    refine aw_iload_n C rfl rfl dJ2_init_9 ?_
    refine aw_newq C (t := 4) (by decide) rfl hO q275 (by omega) (Nat.le_of_ble_eq_true rfl) (Nat.le_of_eq (Nat.zero_add _)) dJ2_init_10 ?_
    refine aw_putf C ck12 1 (by decide) q596 (fun _ z => z) rfl rfl (ty := .array (.object "java/lang/Object")) rfl rfl ((hset_n _ _ (Nat.ne_of_lt ha)).trans ea) (show 1 < 3 by decide) dJ2_init_13 ?_
    refine aw_goto C (tgt := 60) dJ2_init_16 (by decide) ?_
    exact aw_vret C rfl dJ2_init_60 (by omega) (by omega) ⟨rfl, rfl, rfl⟩
set_option maxRecDepth 100000 in
theorem al_newLength {γ : Gm} (hG : GF γ) (l : Launch) {h : AH} {sz : Nat} {c g p : Nat} (hc : c < 2 ^ 20) (hg : g < 2 ^ 20) (hp : p < 2 ^ 20) (h0 : 0 < g) : MX γ l yJ11_newLength cJ11_newLength 4 (some .int) 1 22 0 0 [.int (nI c), .int (nI g), .int (nI p)] h sz (RI h sz (nI (nwL c g p))) NX := by
  refine mx_start hG (by decide) (Nat.le_of_ble_eq_true rfl) (fun x C => ?_)
  have hm : (if g < p then p else g) < 2 ^ 20 ∧ 0 < (if g < p then p else g) := by split <;> omega
  refine aw_iload_n C rfl rfl dJ11_newLength_0 ?_
  refine aw_iload_n C rfl rfl dJ11_newLength_1 ?_
  refine aw_iload_n C rfl rfl dJ11_newLength_2 ?_
  refine aw_mmax C (by omega) (by omega) q380 qmax1 q112 qmax2 (by dsimp only; omega) (show 1 + 13 ≤ _ by dsimp only; omega) (Nat.zero_le _) (Nat.zero_le _) dJ11_newLength_3 ?_
  refine aw_iaddN C dJ11_newLength_6 ?_
  refine aw_istore_n C rfl (by decide) rfl dJ11_newLength_7 ?_
  refine aw_iconst C (v := nI 0) (by decide) dJ11_newLength_8 ?_
  refine aw_iload_n C rfl rfl dJ11_newLength_9 ?_
  refine aw_icmpN_ge C (tgt := 21) (by omega) (by omega) dJ11_newLength_10 (by decide) (fun g1 => ?_) (fun g1 => ?_)
  · exact absurd g1 (by omega)
  · refine aw_iload_n C rfl rfl dJ11_newLength_13 ?_
    refine aw_ldc C q383 dJ11_newLength_14 ?_
    refine aw_top ((show (2147483639 : Int32) = nI 2147483639 from rfl)) ?_
    refine aw_icmpN_gt C (tgt := 21) (by omega) (by omega) dJ11_newLength_16 (by decide) (fun g2 => ?_) (fun g2 => ?_)
    · exact absurd g2 (by omega)
    · refine aw_iload_n C rfl rfl dJ11_newLength_19 ?_
      exact aw_iret C rfl dJ11_newLength_20 (Nat.le_refl _) (Nat.le_refl _) ⟨rfl, rfl, rfl⟩
set_option maxRecDepth 100000 in
theorem al_copyOf3 {γ : Gm} (hG : GF γ) (l : Launch) {h : AH} {sz : Nat} {mi : Nat} (hL : GLI γ mi) {ci N : Nat} {Cn : String} {T0 : u_T} {ty : Nat → FieldType} (K : CKF ci Cn T0 N ty) (hca : Cond.castable Cn "java/lang/Object" ∈ lw_tbl) {e c m : Nat} {f : Nat → Option Nat} (he : e < sz) (ee : h e = some (rfs 4 c f)) (hE : EL h ci (if m < c then m else c) f) (hD : Dm h sz) (hm : m < 2 ^ 20) (hc : c < 2 ^ 20) : MX γ l yJ13_copyOf_3 cJ13_copyOf_3 4 (some (.array (.object "java/lang/Object"))) 1 40 1 m [.ref e, .int (nI m), .ref mi] h sz (PE (some (.ref sz)) (hset h sz (rfs 4 m (va_cpy f (fun _ => none) 0 0 (if m < c then m else c)))) (sz + 1)) NX := by
  refine mx_start hG (by decide) (Nat.le_of_ble_eq_true rfl) (fun x C => ?_)
  have hE' := hE.push hD (rfs 4 m (fun _ => none))
  refine aw_aload_n C rfl rfl dJ13_copyOf_3_0 ?_
  refine aw_ldcM C q928 hL.2 dJ13_copyOf_3_1 ?_
  refine aw_acmp_ne C (rx := some mi) (ry := some mi) (tgt := 13) dJ13_copyOf_3_3 (by decide) (fun g3 => ?_) (fun g3 => ?_)
  · exact absurd rfl g3
  · refine aw_iload_n C rfl rfl dJ13_copyOf_3_6 ?_
    refine aw_newq C (t := 4) (by decide) rfl hL.1 q929 (by omega) (Nat.le_of_ble_eq_true rfl) (Nat.le_of_eq (Nat.zero_add _)) dJ13_copyOf_3_7 ?_
    refine aw_goto C (tgt := 24) dJ13_copyOf_3_10 (by decide) ?_
    refine aw_astore_n C rfl (by decide) rfl dJ13_copyOf_3_24 ?_
    refine aw_aload_n C rfl rfl dJ13_copyOf_3_25 ?_
    refine aw_iconst C (v := nI 0) (by decide) dJ13_copyOf_3_26 ?_
    refine aw_aload_n C rfl rfl dJ13_copyOf_3_27 ?_
    refine aw_iconst C (v := nI 0) (by decide) dJ13_copyOf_3_28 ?_
    refine aw_aload_n C rfl rfl dJ13_copyOf_3_29 ?_
    refine aw_alen C (t := 4) (by decide) ((hset_n _ _ (Nat.ne_of_lt he)).trans ee) dJ13_copyOf_3_30 ?_
    refine aw_iload_n C rfl rfl dJ13_copyOf_3_31 ?_
    refine aw_mmin C (by omega) (by omega) q398 qmin1 q112 qmin2 (by dsimp only; omega) (show 4 + 13 ≤ _ by dsimp only; omega) (by dsimp only; omega) (by dsimp only; omega) dJ13_copyOf_3_32 ?_
    refine aw_copyR C q401 q403 q402 q114 ((hset_n _ _ (Nat.ne_of_lt he)).trans ee) (hset_s _ _ _) (show 0 + (if m < c then m else c) ≤ c by split <;> omega) (show 0 + (if m < c then m else c) ≤ m by split <;> omega) (by omega) (by omega) K hca (fun i hi z hz => hE' i hi z (by rw [Nat.zero_add] at hz; exact hz)) (Nat.le_of_ble_eq_true rfl) (Nat.le_of_ble_eq_true rfl) dJ13_copyOf_3_35 ?_
    rw [hset_hset]
    refine aw_aload_n C rfl rfl dJ13_copyOf_3_38 ?_
    exact aw_aret C rfl (Or.inr ⟨_, rfl⟩) (Or.inr ⟨_, rfl⟩) dJ13_copyOf_3_39 (by omega) (by omega) ⟨rfl, rfl, rfl⟩
set_option maxRecDepth 100000 in
theorem al_copyOf2 {γ : Gm} (hG : GF γ) (l : Launch) {h : AH} {sz : Nat} {mi : Nat} (hL : GLI γ mi) {ci N : Nat} {Cn : String} {T0 : u_T} {ty : Nat → FieldType} (K : CKF ci Cn T0 N ty) (hca : Cond.castable Cn "java/lang/Object" ∈ lw_tbl) {e c m : Nat} {f : Nat → Option Nat} (he : e < sz) (ee : h e = some (rfs 4 c f)) (hE : EL h ci (if m < c then m else c) f) (hD : Dm h sz) (hm : m < 2 ^ 20) (hc : c < 2 ^ 20) : MX γ l yJ13_copyOf_2 cJ13_copyOf_2 2 (some (.array (.object "java/lang/Object"))) 2 63 1 m [.ref e, .int (nI m)] h sz (PE (some (.ref sz)) (hset h sz (rfs 4 m (va_cpy f (fun _ => none) 0 0 (if m < c then m else c)))) (sz + 1)) NX := by
  refine mx_start hG (by decide) (Nat.le_of_ble_eq_true rfl) (fun x C => ?_)
  refine aw_aload_n C rfl rfl dJ13_copyOf_2_0 ?_
  refine aw_iload_n C rfl rfl dJ13_copyOf_2_1 ?_
  refine aw_aload_n C rfl rfl dJ13_copyOf_2_2 ?_
  refine aw_getC C q940 q2278 q2277 q941 q967 hL.2 ee (Nat.le_of_ble_eq_true rfl) (Nat.le_of_ble_eq_true rfl) dJ13_copyOf_2_3 ?_
  refine aw_callSPv C (al_copyOf3 hG l hL K hca he ee hE hD hm hc) q968 q969 q113 q970 (n9 := 3) (by decide +kernel) rfl (Nat.le_of_ble_eq_true rfl) (Nat.le_of_ble_eq_true rfl) (Nat.le_of_ble_eq_true rfl) (Nat.le_of_eq (Nat.zero_add _)) rfl (Nat.le_of_ble_eq_true rfl) dJ13_copyOf_2_6 ?_
  exact aw_aret C rfl (Or.inr ⟨_, rfl⟩) (Or.inr ⟨_, rfl⟩) dJ13_copyOf_2_9 (by omega) (by omega) ⟨rfl, rfl, rfl⟩
