/-! more rows: references in arrays, new arrays of references, casts, copies, calls of other kinds, throws, handlers -/
abbrev rfs (t m : Nat) (f : Nat → Option Nat) : va_E := .inl (t, m, .inr (.inr (.inr (.inr f))))
theorem Rep.two {γ : Gm} {h : AH} {H : Heap} (hR : Rep γ h H) {a b : Nat} {c d : va_E} (e : h a = some c) (f : h b = some d) : va_P γ.1 ucl [(a, cv γ c), (b, cv γ d)] H := by
  intro k q hk
  match k with
  | 0 =>
    cases hk
    exact (hR a c e).2
  | 1 =>
    cases hk
    exact (hR b d f).2
  | k + 2 => simp at hk
/-- the abstract heap's cells are below its size -/
def Dm (h : AH) (sz : Nat) : Prop := ∀ a, h a ≠ none → a < sz
theorem Dm.lt {h : AH} {sz : Nat} (hD : Dm h sz) {a : Nat} {c : va_E} (e : h a = some c) : a < sz := hD a (by rw [e]; simp)
theorem Dm.none {h : AH} {sz : Nat} (hD : Dm h sz) {a : Nat} (e : sz ≤ a) : h a = none := by
  cases q : h a with
  | none => rfl
  | some c => exact absurd (hD.lt q) (by omega)
theorem Dm.push {h : AH} {sz : Nat} (hD : Dm h sz) (c : va_E) : Dm (hset h sz c) (sz + 1) := by
  intro a ha
  by_cases e : a = sz
  · omega
  · rw [hset_n _ _ e] at ha
    have := hD a ha
    omega
theorem Dm.set {h : AH} {sz : Nat} (hD : Dm h sz) {b : Nat} (c : va_E) (hb : b < sz) : Dm (hset h b c) sz := by
  intro a ha
  by_cases e : a = b
  · omega
  · rw [hset_n _ _ e] at ha
    exact hD a ha
/-- all cells of the one are cells of the other -/
def HLE (h h' : AH) : Prop := ∀ a c, h a = some c → h' a = some c
theorem HLE.rf (h : AH) : HLE h h := fun _ _ e => e
theorem HLE.tr {h h1 h2 : AH} (g : HLE h h1) (g1 : HLE h1 h2) : HLE h h2 := fun a c e => g1 a c (g a c e)
theorem HLE.push {h : AH} {sz : Nat} (hD : Dm h sz) (c : va_E) : HLE h (hset h sz c) := fun a d e => by
  rw [hset_n _ _ (by have := hD.lt e; omega)]
  exact e
theorem hset_hset (h : AH) (a : Nat) (c d : va_E) : hset (hset h a c) a d = hset h a d := by
  funext b
  unfold hset
  split
  · rfl
  · rfl
theorem hset_comm (h : AH) {a b : Nat} (c d : va_E) (e : a ≠ b) : hset (hset h a c) b d = hset (hset h b d) a c := by
  funext x
  unfold hset
  by_cases h1 : x = b
  · rw [if_pos h1, if_neg (by omega), if_pos h1]
  · rw [if_neg h1]
    by_cases h2 : x = a
    · rw [if_pos h2, if_pos h2]
    · rw [if_neg h2, if_neg h2, if_neg h1]
theorem hset_self {h : AH} {a : Nat} {c : va_E} (e : h a = some c) : hset h a c = h := by
  funext x
  unfold hset
  split
  · rename_i q
    rw [q, e]
  · rfl
def AOK (γ : Gm) (C : String) : Prop := ∀ U, γ.X U → va_AO C U
def FWK (γ : Gm) (C : String) (x y : MethodName) : Prop := ∀ U, γ.X U → va_Fw C x y U
/-- an object that is carried: its class -/
def OBJ (γ : Gm) (C : String) (a : Nat) : Prop := ∀ U : State, γ.X U → ∃ cell : Cell, U.heap[a]? = some cell ∧ cell.vm.isStatics = false ∧ U.vm.findClass C = some cell.cls
section R2
variable {γ : Gm} {l : Launch} {x : WX} {y : MethodName} {cc : ByteArray} {nL : Nat} {ret : Option FieldType} {rm : Room} {et : List ExceptionTableEntry} {Q : State → Prop} {h : AH} {sz k n pc : Nat} {L : LV} {st : List Value}
theorem aw_dom (kk : Dm h sz → AW γ l x Q nL h sz k n pc L st) : AW γ l x Q nL h sz k n pc L st := fun H locs ls h1 h2 h3 h4 =>
  kk (fun a ha => by
    cases e : h a with
    | none => exact absurd e ha
    | some c => rw [← h1]; exact h2.lt e) H locs ls h1 h2 h3 h4
theorem aw_topl {a b : Int64} (e : a = b) (kk : AW γ l x Q nL h sz k n pc L (.long b :: st)) : AW γ l x Q nL h sz k n pc L (.long a :: st) := by rw [e]; exact kk
theorem aw_aald (C : Cx γ l x y cc nL ret rm et) {a t m j : Nat} {f : Nat → Option Nat} (ht : t < 8) (hr : (uty t).isReference = true) (he : h a = some (rfs t m f)) (hi : j < m) (hm : m < 2 ^ 31) (d : decode cc pc = .ok (.aaload, 1)) (kk : AW γ l x Q nL h sz k n (pc + 1) L (va_rf (f j) :: st)) : AW γ l x Q nL h sz k n pc L (.int (nI j) :: .ref a :: st) := fun H locs ls h1 h2 h3 h4 =>
  W.aald (v := va_rf (f j)) (ty := uty t) C.hx C.hb (h2 a _ he).2 ((C.hK.2 t _ (tysL_at γ ht)).1 m (fun j => va_rf (f j))) hr (fun q => by cases q) (by show ¬ (_ < 0 ∨ (arrV _ _ _).slots.size ≤ _); rw [arrV_size]; exact vp_in_nI hi hm) (by show (arrV _ _ _).slots[_]? = _; rw [nI_clamp (by omega), arrV_read _ _ hi]) rfl rfl d (kk H locs ls h1 h2 h3 h4)
theorem aw_aaldS (C : Cx γ l x y cc nL ret rm et) {a t m j b : Nat} {f : Nat → Option Nat} (ht : t < 8) (hr : (uty t).isReference = true) (he : h a = some (rfs t m f)) (hi : j < m) (hm : m < 2 ^ 31) (hf : f j = some b) (d : decode cc pc = .ok (.aaload, 1)) (kk : AW γ l x Q nL h sz k n (pc + 1) L (.ref b :: st)) : AW γ l x Q nL h sz k n pc L (.int (nI j) :: .ref a :: st) := aw_aald C ht hr he hi hm d (by rw [hf]; exact kk)
theorem up_cell (cA : ClassId) (m j : Nat) (f : Nat → Option Nat) (r : Option Nat) : (vp_cell cA (m, .inr (.inr (.inr (.inr f))))).setSlot j (va_rf r) = vp_cell cA (m, .inr (.inr (.inr (.inr (va_up f j r))))) := by
  rw [vp_cell_q, vp_cell_q, arrV_store]
  congr 2
  funext q
  by_cases hq : q = j
  · subst hq
    simp [updV, va_up]
  · simp [updV, va_up, hq]
/-- a reference stored: of a class of ours that fits -/
theorem aw_aast (C : Cx γ l x y cc nL ret rm et) {a t m j b ci N : Nat} {Cn E : String} {T : u_T} {ty : Nat → FieldType} (K : CKF ci Cn T N ty) {f : Nat → Option Nat} {fs : List Value} (ht : t < 8) (hty : uty t = .object E) (hca : E = Cn ∨ Cond.castable Cn E ∈ lw_tbl) (he : h a = some (rfs t m f)) (hi : j < m) (hm : m < 2 ^ 31) (hb : h b = some (.inr (ci, fs))) (d : decode cc pc = .ok (.aastore, 1)) (kk : AW γ l x Q nL (hset h a (rfs t m (va_up f j (some b)))) sz k n (pc + 1) L st) : AW γ l x Q nL h sz k n pc L (.ref b :: .int (nI j) :: .ref a :: st) := by
  intro H locs ls h1 h2 h3 h4
  have hin := vp_in_nI hi hm
  have ec : (nI j).toNatClampNeg = j := nI_clamp (by omega)
  obtain ⟨cellV, g1, g3, g2⟩ := rep_recv C h2 K hb
  obtain ⟨-, hra⟩ := C.hK.2 t _ (tysL_at γ ht)
  rw [hty] at hra
  obtain ⟨kA, comp, k1, k2, k3, -⟩ := hra
  obtain ⟨kE, hkE, -⟩ := Vm.findClass_spec k3
  obtain ⟨kC, hkC, -⟩ := Vm.findClass_spec g2
  have hasg : x.s.vm.assignable cellV.cls comp = true := by
    rcases hca with e | e
    · subst e
      exact vb_asgS comp cellV.cls k3 g2
    · exact vb_asgC (C.nest e rfl) comp cellV.cls k3 g2
  refine W.aast C.hx C.hb (h2 a _ he).2 (fun q z => by cases z) (fun z => by cases z) k1 k2 rfl hkE ⟨fun z => hin (Or.inl z), by show _ < (arrV _ _ _).slots.size; rw [arrV_size, ec]; exact hi⟩ g1 (fun q z => by rw [z] at g3; cases g3) hkC hasg rfl rfl d fun H1 e z oq => ?_
  refine kk H1 _ ls (z.trans h1) (h2.set (h2 a _ he).1 ?_ oq) (h3.put z oq (h2 a _ he).1) h4
  show H1[a]? = some (vp_cell _ _)
  rw [e, ec]
  exact congrArg some (up_cell _ _ _ _ (some b))
theorem aw_aastN (C : Cx γ l x y cc nL ret rm et) {a t m j : Nat} {E : String} {f : Nat → Option Nat} (ht : t < 8) (hty : uty t = .object E) (he : h a = some (rfs t m f)) (hi : j < m) (hm : m < 2 ^ 31) (d : decode cc pc = .ok (.aastore, 1)) (kk : AW γ l x Q nL (hset h a (rfs t m (va_up f j none))) sz k n (pc + 1) L st) : AW γ l x Q nL h sz k n pc L (.null :: .int (nI j) :: .ref a :: st) := by
  intro H locs ls h1 h2 h3 h4
  have hin := vp_in_nI hi hm
  have ec : (nI j).toNatClampNeg = j := nI_clamp (by omega)
  have hA := (C.hK.2 t _ (tysL_at γ ht)).1 m (fun j => va_rf (f j))
  rw [hty] at hA
  refine va_WaastN (C := E) C.hx C.hb (h2 a _ he).2 hA (fun z => by cases z) (by show ¬ (_ < 0 ∨ (arrV _ _ _).slots.size ≤ _); rw [arrV_size]; exact hin) rfl rfl d fun H1 e z oq => ?_
  refine kk H1 _ ls (z.trans h1) (h2.set (h2 a _ he).1 ?_ oq) (h3.put z oq (h2 a _ he).1) h4
  show H1[a]? = some (vp_cell _ _)
  rw [e, ec]
  exact congrArg some (up_cell _ _ _ _ none)
/-- a new array of references -/
theorem aw_newq (C : Cx γ l x y cc nL ret rm et) {index t m : Nat} {E : String} (ht : t < 8) (hty : uty t = .object E) (hO : AOK γ E) (q : Cond.classLink y.cls index E ∈ lw_all) (hm : m < 2 ^ 27) (hc : k + 1 ≤ rm.cells) (hs : n + m ≤ rm.slots) (d : decode cc pc = .ok (.anewarray index, 3)) (kk : AW γ l x Q nL (hset h sz (rfs t m (fun _ => none))) (sz + 1) (k + 1) (n + m) (pc + 3) L (.ref sz :: st)) : AW γ l x Q nL h sz k n pc L (.int (nI m) :: st) := by
  intro H locs ls h1 h2 h3 h4
  have em : (nI m).toNatClampNeg = m := nI_clamp (by omega)
  refine W.anew C.hx C.hb C.hown (C.hts _ q) (va_AO.use (hO x.s C.hX)) rfl d rfl (nI_pos (by omega)) (by rw [em]; omega) (by rw [C.hR]; exact hc) (by rw [C.hR, em]; exact hs) fun cA kA comp f1 f2 f3 f4 => ?_
  rw [em]
  generalize hH1 : H.push ({ cls := cA, slots := Array.replicate m .null, vm := .none } : Cell) = H1
  have z1 : H1.size = H.size + 1 := by rw [← hH1, Array.size_push]
  have e1 : H1[H.size]? = some (arrV cA m (fun _ => .null)) := by rw [← hH1, Array.getElem?_push_size, ← arrV_new]
  have o1 : ∀ q : Nat, q < H.size → H1[q]? = H[q]? := fun q hq => by rw [← hH1, Array.getElem?_push, if_neg (Nat.ne_of_lt hq)]
  obtain ⟨-, hra⟩ := C.hK.2 t _ (tysL_at γ ht)
  rw [hty] at hra
  have ecA : cA = γ.2.1 t := Option.some.inj (f1.symm.trans (va_nmO hra rfl))
  have hz : γ.W H.size := C.hZ _ h3.1
  subst h1
  refine kk H1 locs ls z1 (h2.push hz ?_ o1) ⟨Nat.le_trans h3.1 (by omega), fun q g1 g2 => (o1 q (Nat.lt_of_lt_of_le g1 h3.1)).trans (h3.2.1 q g1 g2), h3.2.2⟩ h4
  show H1[H.size]? = some (vp_cell (γ.2.1 t) _)
  rw [vp_cell_q, e1, ecA]
  rfl
/-- ten rows of nine -/
def hgrid (h : AH) (sz : Nat) : AH := fun a => if a = sz then some (rfs 5 10 (fun j => if j < 10 then some (sz + 1 + j) else none)) else if sz < a ∧ a ≤ sz + 10 then some (.inl (0, 9, .inl (fun _ => 0))) else h a
theorem outer_arr (c : ClassId) (N h0 : Nat) : ∀ i, Jvm.Free.Multi.outerC c N h0 i = arrV c N (fun j => if j < i then .ref (h0 + 1 + j) else .null) := by
  intro i
  induction i with
  | zero =>
    show ({ cls := c, slots := Array.replicate N .null, vm := .none } : Cell) = _
    rw [arrV_new]
    congr 1
    try (funext j; rw [if_neg (Nat.not_lt_zero j)])
  | succ i ih =>
    show (Jvm.Free.Multi.outerC c N h0 i).setSlot i (.ref (h0 + 1 + i)) = _
    rw [ih, arrV_store]
    congr 1
    funext j
    by_cases e : j = i
    · subst e
      simp [updV]
    · have : (j < i + 1) ↔ (j < i) := by omega
      simp [updV, e, this]
theorem aw_mnew (C : Cx γ l x y cc nL ret rm et) {index : Nat} (hO : ∀ U, γ.X U → (Cond.arrayOver (.array .int)).before #[] U = true) (q1 : Cond.classLink y.cls index "[[I" ∈ lw_all) (q2 : Cond.arrayClass .int ∈ lw_all) (hc : k + 11 ≤ rm.cells) (hs : n + 100 ≤ rm.slots) (d : decode cc pc = .ok (.multianewarray index 2, 4)) (kk : AW γ l x Q nL (hgrid h sz) (sz + 11) (k + 11) (n + 100) (pc + 4) L (.ref sz :: st)) : AW γ l x Q nL h sz k n pc L (.int (nI 9) :: .int (nI 10) :: st) := by
  intro H locs ls h1 h2 h3 h4 T hT X
  have e10 : (nI 10).toNatClampNeg = 10 := by decide
  have e9 : (nI 9).toNatClampNeg = 9 := by decide
  obtain ⟨vm₁, cA, comp, hW1, hfA, hfC, -, -, X1, step⟩ := X.multianewarray2F C.hx (own := y.cls) (index := index) (ty := .int) C.hown (C.hts _ q1) (hO x.s C.hX) (C.hts _ q2) (g := F0 x.m pc ls (.int (nI 9) :: .int (nI 10) :: st)) rfl (by rw [C.hb]; exact d) (n := nI 10) (k := nI 9) (rest := st) rfl (by decide) (by decide) (by decide) (by decide) (by decide) rfl rfl (by rw [C.hR, e10]; omega) (by rw [C.hR, e10, e9]; omega)
  rw [e10, e9] at X1 step
  obtain ⟨f1, f2, -⟩ := Jvm.Free.Multi.fill_facts (T.setVm vm₁) cA comp 10 9 (defaultValue .int) 10
  have hsz : (T.setVm vm₁).heap.size = sz := by show T.heap.size = _; rw [hT, h1]
  have hold : ∀ q, q < sz → (Jvm.Free.Multi.fill (T.setVm vm₁) cA comp 10 9 (defaultValue .int) 10).heap[q]? = H[q]? := fun q hq => by
    rw [Jvm.Free.Multi.fill_old (T.setVm vm₁) cA comp 10 9 (defaultValue .int) (a := q) (by rw [hsz]; exact hq)]
    show T.heap[q]? = _
    rw [hT]
  have ecA : cA = γ.2.1 5 := Option.some.inj (hfA.symm.trans (C.hK.2 5 _ (tysL_at γ (by decide))).2)
  have eco : comp = γ.2.1 0 := Option.some.inj (hfC.symm.trans (kk_nm0 C.hK))
  rw [hsz] at f1 f2
  have key := kk (Jvm.Free.Multi.fill (T.setVm vm₁) cA comp 10 9 (defaultValue .int) 10).heap locs ls (by rw [f1]) ?_ ⟨Nat.le_trans h3.1 (by rw [f1, h1]; omega), fun q g1 g2 => (hold q (by have := h3.1; omega)).trans (h3.2.1 q g1 g2), h3.2.2⟩ h4 _ rfl (by simpa [Nat.add_assoc] using X1)
  · obtain ⟨t, a1, b1⟩ := key
    refine ⟨t, step t ?_, b1⟩
    rw [hT, h1]
    exact a1
  · intro a c hac
    unfold hgrid at hac
    by_cases ea : a = sz
    · rw [if_pos ea] at hac
      cases hac
      subst ea
      refine ⟨C.hZ _ (by have := h3.1; omega), ?_⟩
      show _ = some (vp_cell (γ.2.1 5) _)
      rw [f2, outer_arr, vp_cell_q, ecA]
      refine congrArg (fun z => some (arrV (γ.2.1 5) 10 z)) (funext fun j => ?_)
      by_cases hj : j < 10
      · show (if j < 10 then Value.ref (a + 1 + j) else .null) = va_rf (if j < 10 then some (a + 1 + j) else none)
        rw [if_pos hj, if_pos hj]
        rfl
      · show (if j < 10 then Value.ref (a + 1 + j) else .null) = va_rf (if j < 10 then some (a + 1 + j) else none)
        rw [if_neg hj, if_neg hj]
        rfl
    · rw [if_neg ea] at hac
      by_cases eb : sz < a ∧ a ≤ sz + 10
      · rw [if_pos eb] at hac
        cases hac
        refine ⟨C.hZ _ (by have := h3.1; omega), ?_⟩
        show _ = some (vp_cell (γ.2.1 0) _)
        have hi := Jvm.Free.Multi.fill_inner (T.setVm vm₁) cA comp 10 9 (defaultValue .int) 10 (a - sz - 1) (by omega)
        rw [hsz, show sz + 1 + (a - sz - 1) = a by omega] at hi
        rw [hi, vp_cell_i, ← eco]
        exact congrArg some (arrV_new comp 9 (.int 0))
      · rw [if_neg eb] at hac
        obtain ⟨g1, g2⟩ := h2 a c hac
        refine ⟨g1, g2.kept (hold a ?_)⟩
        rw [← h1]
        exact h2.lt hac
/-! casts -/
theorem aw_castS (C : Cx γ l x y cc nL ret rm et) {index a ci N : Nat} {Cn : String} {T : u_T} {ty : Nat → FieldType} (K : CKF ci Cn T N ty) {fs : List Value} (q : Cond.classLink y.cls index Cn ∈ lw_all) (he : h a = some (.inr (ci, fs))) (d : decode cc pc = .ok (.checkcast index, 3)) (kk : AW γ l x Q nL h sz k n (pc + 3) L (.ref a :: st)) : AW γ l x Q nL h sz k n pc L (.ref a :: st) := fun H locs ls h1 h2 h3 h4 =>
  va_castS C.hx C.hb C.hown (C.hts _ q) (C.hK.1 ci _ K.1).2 (rep_recv C h2 K he) d (kk H locs ls h1 h2 h3 h4)
theorem aw_castSR (C : Cx γ l x y cc nL ret rm et) {index a ci N : Nat} {Cn : String} {T : u_T} {ty : Nat → FieldType} (K : CKF ci Cn T N ty) {fs : List Value} (q : Cond.classLink y.cls index Cn ∈ lw_all) (he : RB γ h a (.inr (ci, fs))) (d : decode cc pc = .ok (.checkcast index, 3)) (kk : AW γ l x Q nL h sz k n (pc + 3) L (.ref a :: st)) : AW γ l x Q nL h sz k n pc L (.ref a :: st) := fun H locs ls h1 h2 h3 h4 =>
  va_castS C.hx C.hb C.hown (C.hts _ q) (C.hK.1 ci _ K.1).2 (rep_recvR C h2 h3 K he) d (kk H locs ls h1 h2 h3 h4)
theorem aw_instSR (C : Cx γ l x y cc nL ret rm et) {index a ci N : Nat} {Cn : String} {T : u_T} {ty : Nat → FieldType} (K : CKF ci Cn T N ty) {fs : List Value} (q : Cond.classLink y.cls index Cn ∈ lw_all) (he : RB γ h a (.inr (ci, fs))) (d : decode cc pc = .ok (.instanceof index, 3)) (kk : AW γ l x Q nL h sz k n (pc + 3) L (.int 1 :: st)) : AW γ l x Q nL h sz k n pc L (.ref a :: st) := fun H locs ls h1 h2 h3 h4 =>
  va_instS C.hx C.hb C.hown (C.hts _ q) (C.hK.1 ci _ K.1).2 (rep_recvR C h2 h3 K he) d (kk H locs ls h1 h2 h3 h4)
theorem aw_castB (C : Cx γ l x y cc nL ret rm et) {index a m : Nat} {f : Nat → Int32} (q : Cond.classLink y.cls index "[B" ∈ lw_all) (he : h a = some (.inl (1, m, .inl f))) (d : decode cc pc = .ok (.checkcast index, 3)) (kk : AW γ l x Q nL h sz k n (pc + 3) L (.ref a :: st)) : AW γ l x Q nL h sz k n pc L (.ref a :: st) := fun H locs ls h1 h2 h3 h4 =>
  va_castA C.hx C.hb C.hown (C.hts _ q) (h2.one he) 0 rfl (kk_nm1 C.hK) d (kk H locs ls h1 h2 h3 h4)
theorem aw_ldcw (C : Cx γ l x y cc nL ret rm et) {index : Nat} {v : Int32} (q : Jvm.Cond.constant y.cls index v ∈ lw_all) (d : decode cc pc = .ok (.ldc_w index, 3)) (kk : AW γ l x Q nL h sz k n (pc + 3) L (.int v :: st)) : AW γ l x Q nL h sz k n pc L st := fun H locs ls h1 h2 h3 h4 => lv_ldcw C.hx C.hb C.hown (C.hts _ q) d (kk H locs ls h1 h2 h3 h4)
end R2
