/-! X.super.m(..): invokespecial of an interface's own default method -/
theorem sd_ready {Q : Unit → Pre} {E : CtlPost} {e : Env} {d : Bool} {acts : List Action} {s : State} {f : JFrame} {index ci a : Nat} {nt : Nat} {r0 : MethodId} {ck nk : Class} {cf : ClassFile} {r : Method} {args rest : List Value} {cell : Cell} {kcell : Class}
    (hs : s.topJava?.isSome) (hr : s.vm.methodReady f.method.cls index r0) (hrm : s.vm.method? r0 = some r)
    (hck : s.vm.classes[f.method.cls]? = some ck) (hcf : ck.cf = some cf) (hc : cf.constantPool[index]? = some (.interfaceMethodref ci nt))
    (hnamed : s.vm.classReady f.method.cls ci r0.cls) (hnk : s.vm.classes[r0.cls]? = some nk)
    (hinit : (r.name == "<init>" && r0.cls != r0.cls) = false) (hstatic : r.isStatic = false)
    (hfound : lookupSpecial s.vm (if r.name != "<init>" && !nk.isInterface && (r0.cls != f.method.cls && s.vm.isSubclass f.method.cls r0.cls) then ck.super.getD r0.cls else r0.cls) r.name r.desc = .method r0)
    (hiface : ck.isInterface = false) (habs : r.isAbstract = false)
    (hlen : args.length = r.sig.parameters.length) (hstack : f.stack = args.reverse ++ .ref a :: rest)
    (hcell : s.heap[a]? = some cell) (hobj : ∀ c, cell.vm ≠ .statics c) (hkcell : s.vm.classes[cell.cls]? = some kcell) :
    wp (Jvm.Op.invokespecial.sem index) Q E e d acts (s.setTop f) ↔
      E (.invoke r0 (.ref a :: args).toArray) acts (s.setTop { f with stack := rest }) := by
  simp only [Jvm.Op.invokespecial.sem, wp_bind', Jvm.W.resolveMethodAt_ready (State.method?_setTop f hs) hr]
  simp only [Jvm.W.theMethod, State.vm_setTop, hrm, Option.some.injEq, exists_eq_left', Jvm.refClassAt, Jvm.constantAt, wp_bind', Jvm.W.currentClass, Jvm.W.theClass,
    State.method?_setTop f hs, hck, hcf, Option.bind_some, hc, wp_pure', Jvm.W.resolveClassAt_ready (State.method?_setTop f hs) hnamed]
  simp only [Jvm.W.ite, hinit, hstatic, Bool.false_eq_true, if_false, wp_bind', Jvm.W.theClass, State.vm_setTop, hck, hnk, Option.some.injEq, exists_eq_left', Jvm.W.look, hfound,
    bne_self_eq_false, wp_pure', Jvm.popArgs, ← hlen, popN_top hs hstack]
  simp [hiface] at hfound
  simp [hs, hcell, hobj, hkcell, hck, hiface, hrm, habs, hnk, hfound, popN_top hs hstack]
section SD
variable {p : Program} {l : Launch} {e : Env} {R : Room} {s : State} {m : MethodId} {args : Array Value} {below : List Frame} {meth : Method} {c : Code} {H : Heap} {locs : List Loc} {cells slots : Nat}
theorem sd_step {T : State} (X : Stand p l e R s m args below meth c T locs cells slots) (hexec : p.tables.exec = Jvm.exec)
    {own : String} {index : Nat} {x : MethodName} (hown : s.vm.findClass own = some m.cls) (hlink : (Cond.methodLink own index x).before args s = true)
    (hx : x.cls ≠ "java/lang/invoke/MethodHandle" ∧ x.cls ≠ "java/lang/invoke/VarHandle") (hface : (Cond.interfaceMethod x.cls x.cls x.name x.desc).before args s = true)
    {r0 : MethodId} {r : Method} (hn : s.methodNamed? x = some r0) (hrm : s.vm.method? r0 = some r) (hstatic : r.isStatic = false) (habs : r.isAbstract = false)
    {dk : Class} (hd : s.vm.classes[m.cls]? = some dk) (hnid : dk.isInterface = false)
    {a : Addr} {cell : Cell} {kcell : Class} (hcell : T.heap[a]? = some cell) (hobj : ∀ c, cell.vm ≠ .statics c) (hkcell : s.vm.classes[cell.cls]? = some kcell)
    {g : JFrame} (hg : g.method = m) {argsL rest : List Value} (hlen : argsL.length = r.sig.parameters.length) (hstack : g.stack = argsL.reverse ++ .ref a :: rest)
    (hdg : decode c.code g.pc = .ok (.invokespecial index, 3)) :
    ∃ vm', Stand p l e R s m args below meth c (T.setVm vm') locs cells slots ∧
      ∀ target, Steps p.tables e below (doInvoke e ((T.setVm vm').setTop { g with stack := rest }) [] r0 (.ref a :: argsL).toArray).1 target → Steps p.tables e below (T.setTop g) target := by
  have hpl : e.platform.magicAccessors = ({} : Platform).magicAccessors := by rw [X.admits.platform]
  obtain ⟨ci, hl, hright⟩ := Cond.methodLink_spec hown hn hlink e.platform hpl
  obtain ⟨kx, hkx, hnx⟩ := className_of_methodNamed hn
  obtain ⟨cL, kL, r1, hcL, hkL, hiL, hfoundL, hn1⟩ := Cond.interfaceMethod_spec hface
  have hr0cls : r0.cls = cL := Option.some.inj ((findClass_of_methodNamed hn).symm.trans hcL)
  subst hr0cls
  have hE : s.MethodEntry e T.vm m.cls index r0 ci := State.methodEntry X.warmed hl hright fun k hk => by
    cases hkx.symm.trans hk
    rw [hnx]; exact hx
  obtain ⟨dk0, cfile, nt, _, _, via, ck, _, hd0, hcf, hcp, -, -, -, hck, hvia, -⟩ := hl.here
  cases hd.symm.trans hd0
  cases hck.symm.trans hkL
  have hv : via = true := hvia.symm.trans hiL
  subst hv
  have hcp' : cfile.constantPool[index]? = some (.interfaceMethodref ci nt) := by simpa using hcp
  have alike := hE.warmed.alike
  obtain ⟨dk₂, hdk₂, hres⟩ := id hE.classReady
  obtain ⟨dk₃, hdk₃, hed⟩ := alike.2.2 _ _ hd
  cases hdk₂.symm.trans hdk₃
  obtain ⟨ck₂, hck₂, hec⟩ := alike.2.2 _ _ hck
  obtain ⟨kcell₂, hkcell₂, -⟩ := alike.2.2 _ _ hkcell
  obtain ⟨hrn, hrd⟩ := name_of_methodNamed hn hrm
  have hdecl : kL.findMethod x.name x.desc = some r0.idx := by
    have hc := findClass_of_methodNamed hn
    have h' := hn
    simp only [State.methodNamed?, hc, hck, Option.bind_eq_bind, Option.bind_some, Option.bind_eq_some_iff, Option.pure_def, Option.some.injEq] at h'
    obtain ⟨i, hi, hmi⟩ := h'
    rw [← hmi]; exact hi
  have hfound : lookupSpecial s.vm r0.cls x.name x.desc = .method r0 := by
    have e1 : ((s.vm.classes[r0.cls]?.bind (·.findMethod x.name x.desc)).map fun i => (⟨r0.cls, i⟩ : MethodId)) = some r0 := by
      rw [hck]
      show (kL.findMethod x.name x.desc).map _ = _
      rw [hdecl]
      rfl
    unfold lookupSpecial
    simp only [e1, Option.toList_some, List.cons_append, List.find?_cons, hrm, Option.any_some, hstatic, Bool.not_false]
  subst hg
  refine ⟨T.vm.called g.method.cls ci index r0, X.noted hE.warmed, fun target hrest => ?_⟩
  jvm_step X.here [hexec, hdg, Jvm.Op.invokespecial.wp_cold (e := e) (s := T) (s₀ := s) (f := g) X.here.top hE hd hcf (Or.inr hcp') hrm,
    sd_ready (e := e) (s := T.setVm (T.vm.called g.method.cls ci index r0)) (index := index) (ci := ci) (nt := nt) (a := a) (r0 := r0)
      (ck := dk₂) (nk := ck₂) (cf := cfile) (r := r) (args := argsL) (rest := rest) (cell := cell) (kcell := kcell₂) (f := g)
      X.here.top hE.ready (by show (T.vm.called g.method.cls ci index r0).method? r0 = some r; rw [alike.method?]; exact hrm) hdk₂ (by rw [hed]; exact hcf) hcp' hE.classReady hck₂ (by simp) hstatic
      (by
        have hi2 : ck₂.isInterface = true := by rw [hec]; exact hiL
        rw [show lookupSpecial (T.setVm (T.vm.called g.method.cls ci index r0)).vm = lookupSpecial s.vm from funext fun _ => funext fun _ => funext fun _ => hE.warmed.alike.lookupSpecial _ _ _, hrn, hrd]
        simp [hi2, hfound])
      (by rw [hed]; exact hnid) habs hlen hstack hcell hobj hkcell₂]
  intro acts1
  rw [doInvoke_state]
  exact hrest
end SD
/-! such a method's class isn't known to be initialised: its contract asks no such thing -/
def sd_ap (S : Spec) (y : MethodName) (pl : Platform) (s : State) (m : MethodId) (args : Array Value) (below : List Frame) : Prop :=
  s.status = .running ∧ s.curStatus? = some .runnable ∧ s.alone = true ∧ s.methodNamed? y = some m ∧ s.hears m below = true ∧ s.hasRoom pl S.room = true ∧ S.pre.before args s = true
def sd_Met (l : Launch) (y : MethodName) (ws : List Cond) (rm : Room) (Pc : Array Value → State → Prop) (Qc : Array Value → State → Outcome → State → Prop) (mc ms : Nat) (free : Addr → Prop) : Prop :=
  ∀ (p : Program) e, l.admits e → FairCas e.choices → FairClock e.choices → ∀ s m args below, s.frames = .invoking m args :: below → sd_ap (headSpec ws rm) y e.platform s m args below → Pc args s →
    ∃ n o, (∀ k, k < n → Within (stepsAlone p.tables e k s) below) ∧ (stepsAlone p.tables e n s).status = .running ∧ Ended (stepsAlone p.tables e n s) below o ∧ vx_Q Qc (fun _ _ _ => False) mc ms free args s o (stepsAlone p.tables e n s)
theorem sd_start {γ : Gm} {l : Launch} {y : MethodName} {cc : ByteArray} {nL : Nat} {ret : Option FieldType} {f lo : Nat} {As : List Value} {h : AH} {sz : Nat} {Post : Option Value → AH → Nat → Prop}
    (hG : GF γ) (hy : plainName y.cls = true) (hsl : (lg_sl As).length ≤ nL)
    (body : ∀ x : WX, Cx γ l x y cc nL ret { frames := f, cells := 0, slots := 0, locals := lo } [] → AW γ l x (QX γ x 0 0 Post NX) nL h sz 0 0 0 (lv_args 0 As) []) : sd_Met l y (ws_ y cc nL ret) { frames := f, cells := 0, slots := 0, locals := lo } (PcA γ As h sz) (QcA γ Post) 0 0 γ.W := by
  intro p e ha hc hk s m args below hf happ hP
  obtain ⟨hrun, hable, halone, hname, hhears, hroom, hpre⟩ := happ
  have hts := atoms_spec (ws := ws_ y cc nL ret) hpre
  obtain ⟨meth, c, hmeth, hcode, hbytes, hlocals, hret, hlocks, htab, -⟩ := Cond.code_spec hname (hts _ List.mem_cons_self)
  have hcur := State.cur_lt_of_frames hf
  have hf1 : (s.setFrames (.java (entryFrame m args nL) :: below)).frames = .java (entryFrame m args nL) :: below := State.frames_setFrames _ hcur
  have ht1 := State.topJava?_of_frames hf1
  have hplain : (s.setFrames (.java (entryFrame m args nL) :: below)).plainMethod m := State.plainMethod.of_named (s := s) (plainFor_of_name hy) hname hmeth
  have hAt : At (s.setFrames (.java (entryFrame m args nL) :: below)) m c below :=
    ⟨by rw [ht1]; rfl, ⟨[], by rw [hf1]; rfl⟩, hrun, by simpa using hable, by simpa using halone, by rw [State.code?_eq]; simp [State.setFrames, hmeth, hcode], hplain⟩
  have hstep : (stepThread p.tables e s).1 = (s.setFrames (.java (entryFrame m args nL) :: below)).setTop (entryFrame m args nL) := by
    have hfull : e.platform.stackFull (s.setFrames below).me (s.setFrames below).frames c.maxLocals = false := by
      obtain ⟨-, h1, -, h2⟩ := State.hasRoom_stack hroom
      rw [hf, List.length_cons] at h1
      rw [State.localsInUse_invoking hf hmeth hcode] at h2
      have hw := stackUse_le_stackWeight below
      rw [State.frames_setFrames _ hcur]
      exact Platform.stackFull_eq_false (by rw [State.stackLimits_setFrames]; omega) (by rw [State.stackLimits_setFrames]; omega)
    rw [stepThread_invoking hf, (doInvoke_java (s := s.setFrames below) (e := e) (meth := meth) (code := c) hmeth hcode hlocks hfull).1, State.setTop_self ht1]
    simp only [State.pushFrame, State.frames_setFrames _ hcur, State.setFrames_setFrames, hlocals, entryFrame]
  obtain ⟨t0, ht0, -⟩ := State.frames_cons hf
  have hsame : s.sameButNew ((s.setFrames (.java (entryFrame m args nL) :: below)).setVm s.vm) [] 0 0 := (State.sameButNew.refl s ht0).setFrames (.java (entryFrame m args nL) :: below) hcur
  have X : Stand p l e (headSpec (ws_ y cc nL ret) { frames := f, cells := 0, slots := 0, locals := lo }).room s m args below meth c (s.setFrames (.java (entryFrame m args nL) :: below)) [] 0 0 :=
    ⟨ha, hc, hk, hf, hroom, hhears, hmeth, hcode, hAt, by rw [hf1]; rfl, State.WarmedH.refl s, by rw [State.stackLimits_setFrames], by rw [State.stackBytes_setFrames], hsame⟩
  obtain ⟨rfl, hsz, hz, hR, hK, hX⟩ := hP
  have het : c.exceptionTable.toList = [] := by rw [Array.isEmpty_iff.mp htab]
  have hW := body (p, e, _, s, m, _, below, meth, c) ⟨by cases p <;> rfl, hbytes, hlocals, findClass_of_methodNamed hname, fun w hw => hts w (List.mem_cons_of_mem _ hw), hret, hlocks, rfl, hK, by rw [hsz]; exact hz, hX, hG, het, (name_of_methodNamed hname hmeth).1⟩ s.heap [] _ hsz hR va_S.rf (lh_of (lv_entry As hsl))
  obtain ⟨t, a1, o, b1, b2, b3⟩ := hW (s.setFrames (.java (entryFrame m As.toArray nL) :: below)) rfl X
  have a1' : Steps p.tables e below ((s.setFrames (.java (entryFrame m As.toArray nL) :: below)).setTop (entryFrame m As.toArray nL)) t := by
    have e9 : entryFrame m As.toArray nL = F0 m 0 (lg_sl As ++ List.replicate (nL - (lg_sl As).length) Slot.unset).toArray [] := lg_entry_eq ..
    conv => arg 4; arg 2; rw [e9]
    exact a1
  obtain ⟨n, hn, hw⟩ := Steps.head (tb := p.tables) (e := e) ⟨hrun, hable, halone⟩ ⟨[.invoking m As.toArray], hf, by simp, by simp⟩ (hstep ▸ a1')
  have b3' : vx_Q (QcA γ Post) (fun _ _ _ => False) 0 0 γ.W As.toArray s o t := by
    rcases b3 with z | ⟨q, e0, E, ce, Lx, ⟨⟨h', sz', hp, -⟩, -⟩, -⟩
    · exact Or.inl z
    · exact hp.elim
  exact ⟨n, o, hw, hn ▸ b1, hn ▸ b2, hn ▸ b3'⟩
theorem sd_free {l : Launch} {y : MethodName} {ws : List Cond} {rm : Room} {Pc : Array Value → State → Prop} {Qc : Array Value → State → Outcome → State → Prop} {mc ms : Nat} {free : Addr → Prop} {e : Env}
    (hM : sd_Met l y ws rm Pc Qc mc ms free) (p : Program) (ha : l.admits e) (hc : FairCas e.choices) (hk : FairClock e.choices)
    {s : State} {m : MethodId} {args : Array Value} {mid below : List Frame} (hlt : s.cur < s.threads.size)
    (hfr : s.frames = mid ++ below) (happ : sd_ap (headSpec ws rm) y e.platform (s.pushFrame (.invoking m args)) m args s.frames) (hP : Pc args (s.pushFrame (.invoking m args))) :
    ∃ o s₂, Steps p.tables e below (doInvoke e s [] m args).1 s₂ ∧ s₂.status = .running ∧ Ended s₂ s.frames o ∧ vx_Q Qc (fun _ _ _ => False) mc ms free args (s.pushFrame (.invoking m args)) o s₂ := by
  obtain ⟨t, ht⟩ : ∃ t, s.threads[s.cur]? = some t := ⟨_, Array.getElem?_eq_getElem hlt⟩
  have hf' : (s.pushFrame (.invoking m args)).frames = .invoking m args :: s.frames := State.frames_setFrames _ hlt
  have hgo : (s.pushFrame (.invoking m args)).goesOn := ⟨happ.1, happ.2.1, happ.2.2.1⟩
  obtain ⟨n, o, hw, hr, he, hp⟩ := hM p e ha hc hk (s.pushFrame (.invoking m args)) m args s.frames hf' happ hP
  have hstep : (stepThread p.tables e (s.pushFrame (.invoking m args))).1 = (doInvoke e s [] m args).1 := by
    rw [stepThread_invoking hf', State.pushFrame, State.setFrames_setFrames, State.setFrames_self ht]
  cases n with
  | zero => exact absurd ⟨[.invoking m args], hf', by simp, by simp⟩ he.not_within
  | succ k =>
    rw [stepsAlone_succ _ hgo, hstep] at hr he hp
    refine ⟨o, _, ⟨k, rfl, fun j hj => ?_⟩, hr, he, hp⟩
    have := hw (j + 1) (by omega)
    rw [stepsAlone_succ _ hgo, hstep, hfr] at this
    exact this.weaken
section SDR
variable {γ : Gm} {l : Launch} {x : WX} {y : MethodName} {cc : ByteArray} {nL : Nat} {ret : Option FieldType} {rm : Room} {et : List ExceptionTableEntry} {Q : State → Prop} {h : AH} {sz k n pc : Nat} {L : LV} {st : List Value}
variable {y9 : MethodName} {b9 : ByteArray} {nL9 : Nat} {ret9 : Option FieldType} {f9 lo9 index : Nat} {As : List Value} {Post : Option Value → AH → Nat → Prop} {st0 : List Value}
/-- I.super.m(..): the interface's word is carried -/
theorem aw_callSD (C : Cx γ l x y cc nL ret rm et) {a n9 : Nat} {Cn sup : String} (hM : sd_Met l y9 (ws_ y9 b9 nL9 ret9) { frames := f9, cells := 0, slots := 0, locals := lo9 } (PcA γ (.ref a :: As) h sz) (QcA γ Post) 0 0 γ.W)
    (q1 : Cond.methodLink y.cls index y9 ∈ lw_all) (hI : ∀ U, γ.X U → (Cond.interfaceMethod y9.cls y9.cls y9.name y9.desc).before #[] U = true) (q3 : Cond.superclass y.cls sup ∈ lw_all) (q4 : Cond.instanceMethod y9 ∈ lw_all) (q6 : Cond.code y9 b9 nL9 ret9 ∈ lw_all)
    (he : OBJ γ Cn a) (hd : y9.cls ≠ "java/lang/invoke/MethodHandle" ∧ y9.cls ≠ "java/lang/invoke/VarHandle" ∧ (parseMethodDescriptor y9.desc).map (fun d => d.parameters.length) = some n9) (hn : As.length = n9)
    (hf : f9 + 1 ≤ rm.frames) (hl : 8 + (nL9 + 11) + lo9 ≤ rm.locals) (hc : k ≤ rm.cells) (hs : n ≤ rm.slots) (hst : st0 = As.reverse ++ .ref a :: st) (hw : (st.map fun v => v.category).sum ≤ 8) (d : decode cc pc = .ok (.invokespecial index, 3))
    (kk : ∀ (v : Option Value) (h' : AH) (sz' : Nat), Post v h' sz' → AW γ l x Q nL h' sz' k n (pc + 3) L (v.toList ++ st)) : AW γ l x Q nL h sz k n pc L st0 := by
  refine ax_goes (As := .ref a :: As) (mc := 0) (ms := 0) (PX := NX) (fun H locs ls h1 h2 h3 h4 => ?_) (fun _ _ _ z => z.elim) kk
  obtain ⟨cellB, hcB, hoB, hclB⟩ := he { x.s with heap := H } (C.later h3 rfl (State.WarmedH.refl x.s))
  have hclB' : x.s.vm.findClass Cn = some cellB.cls := hclB
  have hcB' : H[a]? = some cellB := hcB
  obtain ⟨kB, hkB, -⟩ := Vm.findClass_spec hclB'
  have hinst := C.hts _ q4
  have hcode := C.hts _ q6
  obtain ⟨mk, methM, hnamed, hmethM, hstM, habM⟩ := Cond.instanceMethod_spec hinst
  obtain ⟨methM', cM, hmethM', hcM, hbM, hlM, -, hkM, -, hsigM⟩ := Cond.code_spec hnamed hcode
  cases hmethM.symm.trans hmethM'
  obtain ⟨ps, dk, kp, hps, hdk, hkp, hsuper, -, -, hnid⟩ := Cond.superclass_spec C.hown (C.hts _ q3)
  have hlen : ∀ sig, parseMethodDescriptor y9.desc = some sig → n9 = sig.parameters.length := fun sig z => by
    have z2 := hd.2.2
    rw [z] at z2
    exact (Option.some.inj z2).symm
  have hG : GoodIn lw_all (ws_ y9 b9 nL9 ret9) := lw_meth q6
  intro T hT X
  obtain ⟨vm₁, X₁, hstep₁⟩ := sd_step X C.hx C.hown (C.hts _ q1) ⟨hd.1, hd.2.1⟩ (va_any rfl (hI x.s C.hX)) hnamed hmethM hstM habM hdk hnid (a := a) (cell := cellB) (by rw [hT]; exact hcB') (fun z w => by rw [w] at hoB; cases hoB) hkB (g := F0 x.m pc ls st0) rfl (argsL := As) (rest := st) (hn.trans (hlen _ hsigM)) hst (by rw [C.hb]; exact d)
  generalize hU : T.setVm vm₁ = U at X₁ hstep₁
  generalize hg : ({ (F0 x.m pc ls st0) with stack := st } : JFrame) = g at hstep₁
  have hgm : g.method = x.m := by rw [← hg]
  have hgpc : decode x.c.code g.pc = .ok (.invokespecial index, 3) := by rw [← hg, C.hb]; exact d
  have hgs : g.locals.size = x.c.maxLocals := by rw [← hg]; show ls.size = _; rw [h4.1, C.hml]
  have hgw : 2 * g.monitorRoom + (g.stack.map fun v => v.category).sum ≤ 8 := by rw [← hg]; exact lv_room hw
  have hAt : At U g.method x.c x.below := by rw [hgm]; exact X₁.here
  obtain ⟨mid, hmid⟩ := hAt.above
  have hfr : (U.setTop g).frames = (.java g :: mid) ++ x.below := by rw [State.frames_setTop' g hAt.top, hmid]; rfl
  have hws : ∀ w ∈ ws_ y9 b9 nL9 ret9, ∀ a' V, x.s.WarmedH V.vm → w.before a' V = true := pay_in C.hts hG
  have hpre : (headSpec (ws_ y9 b9 nL9 ret9) { frames := f9, cells := 0, slots := 0, locals := lo9 }).pre.before (Value.ref a :: As).toArray U = true := atoms_intro fun w hw => hws w hw _ _ X₁.warmed
  have hUh : U.heap = H := by rw [← hU]; exact hT
  have hmM : U.vm.method? mk = some methM := X₁.warmed.methodAt hmethM
  have hrm : (U.calling g mk (Value.ref a :: As).toArray).hasRoom x.e.platform (headSpec (ws_ y9 b9 nL9 ret9) { frames := f9, cells := 0, slots := 0, locals := lo9 }).room = true :=
    X₁.room_calling (g := g) hgs hmM hcM (by rw [C.hR]; exact hf) (by rw [hlM, C.hR]; show _ + (nL9 + 11) + lo9 ≤ _; omega) (by rw [C.hR]; exact hc) (by rw [C.hR]; exact hs)
  have hcode2 : (U.calling g mk (Value.ref a :: As).toArray).code? g.method = some x.c := by
    have := hAt.code
    rw [State.code?_eq] at this ⊢
    simpa [State.calling, State.pushFrame, State.setFrames] using this
  have hPc : PcA γ (.ref a :: As) h sz (Value.ref a :: As).toArray (U.calling g mk (Value.ref a :: As).toArray) := pc_blind C.hG _ _ _ _ (pc_at C h1 h2 h3 (U := U) hUh X₁.warmed)
  have hap : sd_ap (headSpec (ws_ y9 b9 nL9 ret9) { frames := f9, cells := 0, slots := 0, locals := lo9 }) y9 x.e.platform (U.calling g mk (Value.ref a :: As).toArray) mk (Value.ref a :: As).toArray (U.setTop g).frames := by
    refine ⟨hAt.running, ?_, ?_, X₁.named hnamed, ?_, hrm, ?_⟩
    · simpa [State.calling] using hAt.runnable
    · simpa [State.calling] using hAt.alone
    · rw [State.frames_setTop' g hAt.top]
      simp [State.hears, hcode2, hgpc, Except.toOption]
    · rw [State.calling_eq hAt.top, Cond.before_setFrames]
      exact hpre
  have hlt : (U.setTop g).cur < (U.setTop g).threads.size := State.cur_lt_of_frames (State.frames_setTop' g hAt.top)
  obtain ⟨o, s₂, hsteps, -, hend, hq'⟩ := sd_free hM x.p X₁.admits X₁.cas X₁.clock (s := U.setTop g) (mid := .java g :: mid) hlt hfr hap hPc
  rw [State.frames_setTop' g hAt.top] at hend
  obtain ⟨g₀, hg0⟩ := Option.isSome_iff_exists.mp hAt.top
  obtain ⟨r, hr⟩ := State.topJava?_eq_some.mp hg0
  have hr' : (({ U with heap := s₂.heap, slotsUsed := s₂.slotsUsed } : State).setVm s₂.vm).frames = .java g₀ :: r := hr
  have hq2 : vx_Q (QcA γ Post) (fun _ _ _ => False) 0 0 γ.W (Value.ref a :: As).toArray (U.calling g mk (Value.ref a :: As).toArray) o s₂ := hq'
  rcases hq2 with ⟨hqc, Ls, hfe, hLs⟩ | ⟨q, -, E, ce, Lx, hF, -⟩
  · obtain ⟨⟨v, rfl⟩, hW₂, e2, q2, q3, q4, q5, q6⟩ := id hfe
    have e3 : s₂ = ({ (U.calling g mk (Value.ref a :: As).toArray).setFrames s₂.frames with heap := s₂.heap, slotsUsed := s₂.slotsUsed } : State).setVm s₂.vm := by
      have : s₂ = ({ s₂ with vm := (U.calling g mk (Value.ref a :: As).toArray).vm } : State).setVm s₂.vm := rfl
      rw [e2] at this
      exact this
    obtain ⟨c₂, i₂, len₂, hc₂, hd₂, hf₂⟩ := hend
    have hW' : U.WarmedH s₂.vm := hW₂
    have hcc : c₂ = x.c := by
      have z1 : s₂.code? g.method = U.code? g.method := by
        rw [State.code?_eq, State.code?_eq, hW'.alike.method?]
      exact Option.some.inj (hc₂.symm.trans (z1.trans hAt.code))
    subst hcc
    have hlen2 : len₂ = 3 := by rw [hgpc] at hd₂; cases hd₂; rfl
    subst hlen2
    have hs₂ : s₂ = (({ U with heap := s₂.heap, slotsUsed := s₂.slotsUsed } : State).setVm s₂.vm).setTop { g with pc := g.pc + 3, stack := v.toList ++ g.stack } := by
      refine e3.trans ?_
      rw [hf₂, State.calling_eq hAt.top, State.setFrames_setFrames, State.setTop_of_frames _ hr', hr]
      rfl
    have hsame : U.sameButNew ({ U with heap := s₂.heap, slotsUsed := s₂.slotsUsed } : State) Ls 0 0 := by
      refine ⟨?_, q2, q3, q4, q5, q6⟩
      obtain ⟨t, ht, -⟩ := State.frames_cons hr
      show ({ U with heap := s₂.heap, slotsUsed := s₂.slotsUsed } : State) = { U.setFrames U.frames with heap := s₂.heap, slotsUsed := s₂.slotsUsed }
      rw [State.setFrames_self ht]
    refine Or.inl ⟨v, U.calling g mk (Value.ref a :: As).toArray, s₂, (({ U with heap := s₂.heap, slotsUsed := s₂.slotsUsed } : State).setVm s₂.vm), Ls, hUh,
      ⟨X₁.admits, X₁.cas, X₁.clock, X₁.frames, X₁.room, X₁.hears, X₁.method, X₁.code, (X₁.here.setHeapUsed s₂.heap s₂.slotsUsed).setVm hW'.alike, X₁.tail, State.WarmedH.trans X₁.warmed hW', X₁.limits, X₁.bytes, X₁.same.trans (hsame.setVm x.s.vm)⟩, hLs, rfl, rfl, hqc, fun target z => hstep₁ _ (hsteps.trans ?_)⟩
    rw [hs₂]
    have eg : ({ g with pc := g.pc + 3, stack := v.toList ++ g.stack } : JFrame) = { (F0 x.m pc ls st0) with pc := (F0 x.m pc ls st0).pc + 3, stack := v.toList ++ st } := by rw [← hg]
    rw [eg]
    exact z
  · exact hF.elim
end SDR
