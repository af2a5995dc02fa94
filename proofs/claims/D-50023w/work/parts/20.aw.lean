/-! THE LAYER aw: a method's walk over an abstract heap (a function from addresses to cells), one context, locals by number. γ: the classes' numbers, the array classes' numbers, the cells W that may be written (all our cells, and all that are yet to come), what is carried of the state besides -/
abbrev Gm : Type := va_G × (Nat → ClassId) × (Nat → Prop) × (State → Prop)
abbrev AH : Type := Nat → Option va_E
abbrev LV : Type := List (Nat × Value)
abbrev WX : Type := Program × Env × Room × State × MethodId × Array Value × List Frame × Method × Code
abbrev WX.p (x : WX) : Program := x.1
abbrev WX.e (x : WX) : Env := x.2.1
abbrev WX.R (x : WX) : Room := x.2.2.1
abbrev WX.s (x : WX) : State := x.2.2.2.1
abbrev WX.m (x : WX) : MethodId := x.2.2.2.2.1
abbrev WX.args (x : WX) : Array Value := x.2.2.2.2.2.1
abbrev WX.below (x : WX) : List Frame := x.2.2.2.2.2.2.1
abbrev WX.meth (x : WX) : Method := x.2.2.2.2.2.2.2.1
abbrev WX.c (x : WX) : Code := x.2.2.2.2.2.2.2.2
abbrev Gm.W (γ : Gm) : Nat → Prop := γ.2.2.1
abbrev Gm.X (γ : Gm) : State → Prop := γ.2.2.2
/-- the classes of our objects -/
def ucl : List vw_C := [(RX1, TX1, 8), (RX2, TX2, 9), (RX3, TX3, 7), (RX4, TX4, 5), (RX5, TX5, 5), (RX6, TX6, 22), (RX7, TX7, 5), (RX8, TX8, 8), (RX9, TX9, 4), (RX10, TX10, 2), (RX11, TX11, 2), (RX13, TX13, 4), (RJ2, TJ2, 3), (RJ8, TJ8, 4), (RJ9, TJ9, 4), (RJ18, TJ18, 3)]
/-- what is known of the class number ci: its row, its words, its field types, its names -/
def CKF (ci : Nat) (C : String) (T : u_T) (N : Nat) (ty : Nat → FieldType) : Prop := ucl[ci]? = some (C, T, N) ∧ (∀ w ∈ u_ws C T N, w ∈ lw_all) ∧ (∀ k, k < N → parseFieldDescriptor (T k).2.2.1 = some (ty k)) ∧ (∀ a, a < N → ∀ b, b < N → a ≠ b → (T a).2.1 ≠ (T b).2.1)
theorem ck0 : CKF 0 RX1 TX1 8 tyX1 := ⟨rfl, in_X1, tyX1_ok, nmX1⟩
theorem ck1 : CKF 1 RX2 TX2 9 tyX2 := ⟨rfl, in_X2, tyX2_ok, nmX2⟩
theorem ck2 : CKF 2 RX3 TX3 7 tyX3 := ⟨rfl, in_X3, tyX3_ok, nmX3⟩
theorem ck3 : CKF 3 RX4 TX4 5 tyX4 := ⟨rfl, in_X4, tyX4_ok, nmX4⟩
theorem ck4 : CKF 4 RX5 TX5 5 tyX5 := ⟨rfl, in_X5, tyX5_ok, nmX5⟩
theorem ck5 : CKF 5 RX6 TX6 22 tyX6 := ⟨rfl, in_X6, tyX6_ok, nmX6⟩
theorem ck6 : CKF 6 RX7 TX7 5 tyX7 := ⟨rfl, in_X7, tyX7_ok, nmX7⟩
theorem ck7 : CKF 7 RX8 TX8 8 tyX8 := ⟨rfl, in_X8, tyX8_ok, nmX8⟩
theorem ck8 : CKF 8 RX9 TX9 4 tyX9 := ⟨rfl, in_X9, tyX9_ok, nmX9⟩
theorem ck9 : CKF 9 RX10 TX10 2 tyX10 := ⟨rfl, in_X10, tyX10_ok, nmX10⟩
theorem ck10 : CKF 10 RX11 TX11 2 tyX11 := ⟨rfl, in_X11, tyX11_ok, nmX11⟩
theorem ck11 : CKF 11 RX13 TX13 4 tyX13 := ⟨rfl, in_X13, tyX13_ok, nmX13⟩
theorem ck12 : CKF 12 RJ2 TJ2 3 tyJ2 := ⟨rfl, in_J2, tyJ2_ok, nmJ2⟩
theorem ck13 : CKF 13 RJ8 TJ8 4 tyJ8 := ⟨rfl, in_J8, tyJ8_ok, nmJ8⟩
theorem ck14 : CKF 14 RJ9 TJ9 4 tyJ9 := ⟨rfl, in_J9, tyJ9_ok, nmJ9⟩
theorem ck15 : CKF 15 RJ18 TJ18 3 tyJ18 := ⟨rfl, in_J18, tyJ18_ok, nmJ18⟩
/-- the kinds of our arrays -/
def uty : Nat → FieldType
  | 0 => .int
  | 1 => .byte
  | 2 => .long
  | 3 => .boolean
  | 4 => .object "java/lang/Object"
  | 5 => .array .int
  | 6 => .object "ColourDuel$Account"
  | _ => .object "ColourDuel$Board"
def tysL (γ : Gm) : List (ClassId × FieldType) := [(γ.2.1 0, uty 0), (γ.2.1 1, uty 1), (γ.2.1 2, uty 2), (γ.2.1 3, uty 3), (γ.2.1 4, uty 4), (γ.2.1 5, uty 5), (γ.2.1 6, uty 6), (γ.2.1 7, uty 7)]
theorem tysL_at (γ : Gm) {t : Nat} (h : t < 8) : (tysL γ)[t]? = some (γ.2.1 t, uty t) := by
  match t, h with
  | 0, _ => rfl
  | 1, _ => rfl
  | 2, _ => rfl
  | 3, _ => rfl
  | 4, _ => rfl
  | 5, _ => rfl
  | 6, _ => rfl
  | 7, _ => rfl
  | n + 8, h => exact absurd h (by omega)
def cv (γ : Gm) : va_E → va_E
  | .inl q => .inl (γ.2.1 q.1, q.2)
  | .inr o => .inr o
/-- the abstract heap h holds of H -/
def Rep (γ : Gm) (h : AH) (H : Heap) : Prop := ∀ (a : Nat) (c : va_E), h a = some c → γ.W a ∧ va_at γ.1 ucl (a, cv γ c) H
def hset (h : AH) (a : Nat) (c : va_E) : AH := fun b => if b = a then some c else h b
theorem hset_s (h : AH) (a : Nat) (c : va_E) : hset h a c a = some c := if_pos rfl
theorem hset_n (h : AH) {a b : Nat} (c : va_E) (hb : b ≠ a) : hset h a c b = h b := if_neg hb
theorem Rep.lt {γ : Gm} {h : AH} {H : Heap} (hR : Rep γ h H) {a : Nat} {c : va_E} (e : h a = some c) : a < H.size := (hR a c e).2.lt
theorem Rep.one {γ : Gm} {h : AH} {H : Heap} (hR : Rep γ h H) {a : Nat} {c : va_E} (e : h a = some c) : va_P γ.1 ucl [(a, cv γ c)] H := by
  intro k q hk
  cases k with
  | zero =>
    cases hk
    exact (hR a c e).2
  | succ k => simp at hk
theorem Rep.set {γ : Gm} {h : AH} {H H1 : Heap} (hR : Rep γ h H) {a : Nat} {c : va_E} (hz : γ.W a) (hc : va_at γ.1 ucl (a, cv γ c) H1) (oq : ∀ q, q ≠ a → H1[q]? = H[q]?) : Rep γ (hset h a c) H1 := by
  intro b d hb
  by_cases e : b = a
  · subst e
    rw [hset_s] at hb
    cases hb
    exact ⟨hz, hc⟩
  · rw [hset_n h c e] at hb
    obtain ⟨h1, h2⟩ := hR b d hb
    exact ⟨h1, h2.kept (oq b e)⟩
theorem Rep.push {γ : Gm} {h : AH} {H H1 : Heap} (hR : Rep γ h H) {c : va_E} (hz : γ.W H.size) (hc : va_at γ.1 ucl (H.size, cv γ c) H1) (oq : ∀ q, q < H.size → H1[q]? = H[q]?) : Rep γ (hset h H.size c) H1 := by
  intro b d hb
  by_cases e : b = H.size
  · subst e
    rw [hset_s] at hb
    cases hb
    exact ⟨hz, hc⟩
  · rw [hset_n h c e] at hb
    obtain ⟨h1, h2⟩ := hR b d hb
    exact ⟨h1, h2.kept (oq b h2.lt)⟩
theorem Rep.sub {γ : Gm} {h h' : AH} {H : Heap} (hR : Rep γ h H) (hs : ∀ a c, h' a = some c → h a = some c) : Rep γ h' H := fun a c e => hR a c (hs a c e)
theorem Rep.kept {γ : Gm} {h : AH} {H H1 : Heap} (hR : Rep γ h H) (hq : ∀ q, q < H.size → H1[q]? = H[q]?) : Rep γ h H1 := fun a c e => ⟨(hR a c e).1, (hR a c e).2.kept (hq a (hR.lt e))⟩
/-- what the state carries, moved along -/
def GOK (γ : Gm) : Prop := ∀ U V : State, U.WarmedH V.vm → (∀ q, ¬ γ.W q → V.heap[q]? = U.heap[q]?) → γ.X U → γ.X V
def KK (γ : Gm) (U : State) : Prop := va_K γ.1 ucl (tysL γ) U
/-! locals -/
def lup : LV → Nat → Option Value
  | [], _ => none
  | q :: r, k => bif Nat.beq q.1 k then some q.2 else lup r k
def ded (L : LV) : LV := (L.map (fun q => q.1)).filterMap (fun k => (lup L k).map (fun v => (k, v)))
theorem lup_mem {L : LV} {k : Nat} {v : Value} (h : lup L k = some v) : k ∈ L.map (fun q => q.1) := by
  induction L with
  | nil => cases h
  | cons q r ih =>
    unfold lup at h
    cases hb : Nat.beq q.1 k with
    | true =>
      have : q.1 = k := Nat.eq_of_beq_eq_true hb
      simp [this]
    | false =>
      rw [hb] at h
      exact List.mem_cons_of_mem _ (ih h)
theorem ded_mem {L : LV} {k : Nat} {v : Value} : (k, v) ∈ ded L ↔ lup L k = some v := by
  unfold ded
  rw [List.mem_filterMap]
  constructor
  · rintro ⟨a, -, h⟩
    rw [Option.map_eq_some_iff] at h
    obtain ⟨w, h1, h2⟩ := h
    cases h2
    exact h1
  · intro h
    exact ⟨k, lup_mem h, by rw [h]; rfl⟩
theorem lup_s (L : LV) (k : Nat) (v : Value) : lup ((k, v) :: L) k = some v := by
  unfold lup
  rw [show Nat.beq k k = true from Nat.beq_refl k]
  rfl
theorem lup_n (L : LV) {k j : Nat} (v : Value) (h : k ≠ j) : lup ((k, v) :: L) j = lup L j := by
  show (bif Nat.beq k j then some v else lup L j) = lup L j
  cases hb : Nat.beq k j with
  | true => exact absurd (Nat.eq_of_beq_eq_true hb) h
  | false => rfl
def LH (ls : Array Slot) (nL : Nat) (L : LV) : Prop := lv_has ls nL (ded L)
theorem LH.at {ls : Array Slot} {nL : Nat} {L : LV} (h : LH ls nL L) {k : Nat} {v : Value} (e : lup L k = some v) : ls[k]? = some (.val v) := h.2.2 (k, v) (ded_mem.mpr e)
def lcat (L : LV) : Nat → Bool
  | 0 => true
  | j + 1 => match lup L j with
    | some v => v.category == 1
    | none => true
theorem lcat_ne {L : LV} {i k : Nat} {v : Value} (h : lcat L i = true) (e : lup L k = some v) (hk : k + 1 = i) : ¬ v.category = 2 := by
  subst hk
  simp only [lcat, e] at h
  have : v.category = 1 := by simpa using h
  omega
theorem LH.st1 {ls : Array Slot} {nL : Nat} {L : LV} {i : Nat} {v : Value} (hcat : lcat L i = true) (h' : lv_has ls nL ((i, v) :: (ded L).filter (fun q => !(q.1 == i) && !(q.1 + 1 == i && q.2.category == 2)))) : LH ls nL ((i, v) :: L) := by
  refine ⟨h'.1, h'.2.1, fun q hq => ?_⟩
  obtain ⟨k, w⟩ := q
  have hq2 := ded_mem.mp hq
  refine h'.2.2 (k, w) ?_
  by_cases e : i = k
  · subst e
    rw [lup_s] at hq2
    cases hq2
    exact List.mem_cons_self
  · rw [lup_n L v e] at hq2
    refine List.mem_cons_of_mem _ (List.mem_filter.mpr ⟨ded_mem.mpr hq2, ?_⟩)
    have h1 : (k == i) = false := by simp; exact fun z => e z.symm
    have h2 : (k + 1 == i && w.category == 2) = false := by
      cases hb : (k + 1 == i && w.category == 2) with
      | false => rfl
      | true =>
        simp at hb
        exact absurd hb.2 (lcat_ne hcat hq2 hb.1)
    simp [h1, h2]
theorem LH.st2 {ls : Array Slot} {nL : Nat} {L : LV} {i : Nat} {v : Value} (hcat : lcat L i = true) (h' : lv_has ls nL ((i, v) :: (ded L).filter (fun q => !(q.1 == i) && (!(q.1 == i + 1) && !(q.1 + 1 == i && q.2.category == 2))))) : LH ls nL ((i, v) :: L.filter (fun q => !(q.1 == i + 1))) := by
  refine ⟨h'.1, h'.2.1, fun q hq => ?_⟩
  obtain ⟨k, w⟩ := q
  have hq2 := ded_mem.mp hq
  refine h'.2.2 (k, w) ?_
  have key : ∀ (M : LV) (j : Nat) (u : Value), lup (M.filter (fun q => !(q.1 == i + 1))) j = some u → lup M j = some u ∧ j ≠ i + 1 := by
    intro M
    induction M with
    | nil => intro j u h; cases h
    | cons q r ih =>
      intro j u h
      by_cases hq1 : q.1 = i + 1
      · rw [List.filter_cons_of_neg (by simp [hq1])] at h
        obtain ⟨h1, h2⟩ := ih j u h
        refine ⟨?_, h2⟩
        have : q = (i + 1, q.2) := by rw [← hq1]
        rw [this, lup_n r q.2 (Ne.symm h2)]
        exact h1
      · rw [List.filter_cons_of_pos (by simp [hq1])] at h
        by_cases hj : q.1 = j
        · have e2 : q = (j, q.2) := by rw [← hj]
          rw [e2, lup_s] at h
          cases h
          rw [e2, lup_s]
          exact ⟨rfl, by rw [← hj]; exact hq1⟩
        · have e2 : q = (q.1, q.2) := rfl
          rw [e2, lup_n _ q.2 hj] at h
          rw [e2, lup_n _ q.2 hj]
          exact ih j u h
  by_cases e : i = k
  · subst e
    rw [lup_s] at hq2
    cases hq2
    exact List.mem_cons_self
  · rw [lup_n _ v e] at hq2
    obtain ⟨g1, g2⟩ := key L k w hq2
    refine List.mem_cons_of_mem _ (List.mem_filter.mpr ⟨ded_mem.mpr g1, ?_⟩)
    have h1 : (k == i) = false := by simp; exact fun z => e z.symm
    have h3 : (k == i + 1) = false := by simp; exact g2
    have h2 : (k + 1 == i && w.category == 2) = false := by
      cases hb : (k + 1 == i && w.category == 2) with
      | false => rfl
      | true =>
        simp at hb
        exact absurd hb.2 (lcat_ne hcat g1 hb.1)
    simp [h1, h2, h3]
/-- fewer locals, in any order -/
def lok (L : LV) : LV → Prop
  | [] => True
  | q :: r => lup L q.1 = some q.2 ∧ lok L r
theorem lok_of {L : LV} : ∀ {M : LV}, lok L M → ∀ k v, lup M k = some v → lup L k = some v := by
  intro M
  induction M with
  | nil => intro _ k v h; cases h
  | cons q r ih =>
    intro hM k v h
    obtain ⟨h1, h2⟩ := hM
    by_cases e : q.1 = k
    · have e2 : q = (k, q.2) := by rw [← e]
      rw [e2, lup_s] at h
      cases h
      rw [← e]
      exact h1
    · have e2 : q = (q.1, q.2) := rfl
      rw [e2, lup_n _ q.2 e] at h
      exact ih h2 k v h
theorem LH.sub {ls : Array Slot} {nL : Nat} {L M : LV} (h : LH ls nL L) (hM : lok L M) : LH ls nL M :=
  ⟨h.1, h.2.1, fun q hq => h.2.2 q (ded_mem.mpr (lok_of hM q.1 q.2 (ded_mem.mp hq)))⟩
/-! words that ride with the state: of nest mates, casts and the like -/
def nk : Cond → Bool
  | .fieldLinkNest _ _ _ _ _ _ => true
  | .methodLinkNest _ _ _ _ => true
  | .castable _ _ => true
  | .declares _ => true
  | _ => false
def NW (γ : Gm) : Prop := ∀ U : State, γ.X U → ∀ w ∈ lw_tbl, nk w = true → va_Nw w U
def GF (γ : Gm) : Prop := GOK γ ∧ NW γ
/-! the context of a body -/
def Cx (γ : Gm) (l : Launch) (x : WX) (y : MethodName) (cc : ByteArray) (nL : Nat) (ret : Option FieldType) (rm : Room) (et : List ExceptionTableEntry) : Prop :=
  x.p.tables.exec = Jvm.exec ∧ x.c.code = cc ∧ x.c.maxLocals = nL ∧ x.s.vm.findClass y.cls = some x.m.cls ∧ (∀ w ∈ lw_all, w.before x.args x.s = true) ∧ x.meth.sig.returnType = ret ∧ x.meth.locks = false ∧ x.R = rm ∧ KK γ x.s ∧ (∀ q, x.s.heap.size ≤ q → γ.W q) ∧ γ.X x.s ∧ GF γ ∧ x.c.exceptionTable.toList = et ∧ x.meth.name = y.name
section CX
variable {γ : Gm} {l : Launch} {x : WX} {y : MethodName} {cc : ByteArray} {nL : Nat} {ret : Option FieldType} {rm : Room} {et : List ExceptionTableEntry}
theorem Cx.hx (C : Cx γ l x y cc nL ret rm et) : x.p.tables.exec = Jvm.exec := C.1
theorem Cx.hb (C : Cx γ l x y cc nL ret rm et) : x.c.code = cc := C.2.1
theorem Cx.hml (C : Cx γ l x y cc nL ret rm et) : x.c.maxLocals = nL := C.2.2.1
theorem Cx.hown (C : Cx γ l x y cc nL ret rm et) : x.s.vm.findClass y.cls = some x.m.cls := C.2.2.2.1
theorem Cx.hts (C : Cx γ l x y cc nL ret rm et) : ∀ w ∈ lw_all, w.before x.args x.s = true := C.2.2.2.2.1
theorem Cx.hr (C : Cx γ l x y cc nL ret rm et) : x.meth.sig.returnType = ret := C.2.2.2.2.2.1
theorem Cx.hlk (C : Cx γ l x y cc nL ret rm et) : x.meth.locks = false := C.2.2.2.2.2.2.1
theorem Cx.hR (C : Cx γ l x y cc nL ret rm et) : x.R = rm := C.2.2.2.2.2.2.2.1
theorem Cx.hK (C : Cx γ l x y cc nL ret rm et) : KK γ x.s := C.2.2.2.2.2.2.2.2.1
theorem Cx.hZ (C : Cx γ l x y cc nL ret rm et) : ∀ q, x.s.heap.size ≤ q → γ.W q := C.2.2.2.2.2.2.2.2.2.1
theorem Cx.hX (C : Cx γ l x y cc nL ret rm et) : γ.X x.s := C.2.2.2.2.2.2.2.2.2.2.1
theorem Cx.hG (C : Cx γ l x y cc nL ret rm et) : GF γ := C.2.2.2.2.2.2.2.2.2.2.2.1
theorem Cx.het (C : Cx γ l x y cc nL ret rm et) : x.c.exceptionTable.toList = et := C.2.2.2.2.2.2.2.2.2.2.2.2.1
theorem Cx.hnm (C : Cx γ l x y cc nL ret rm et) : x.meth.name = y.name := C.2.2.2.2.2.2.2.2.2.2.2.2.2
theorem Cx.fix (C : Cx γ l x y cc nL ret rm et) : CallFix x.p x.m x.c cc nL x.s x.args lw_all y.cls := ⟨C.hx, C.hb, C.hml, C.hown, C.hts⟩
/-- what is carried holds of any later state -/
theorem Cx.later (C : Cx γ l x y cc nL ret rm et) {U : State} {H : Heap} {locs : List Loc} (hS : va_S γ.W x.s.heap H locs) (hH : U.heap = H) (hW : x.s.WarmedH U.vm) : γ.X U :=
  C.hG.1 x.s U hW (fun q hq => by rw [hH]; exact hS.2.1 q (Nat.not_le.mp (fun z => hq (C.hZ q z))) hq) C.hX
theorem Cx.nest (C : Cx γ l x y cc nL ret rm et) {w : Cond} (hw : w ∈ lw_tbl) (hk : nk w = true) : va_Nw w x.s := C.hG.2 x.s C.hX w hw hk
end CX
/-- the walk: from pc with the locals L, the stack st, the abstract heap h of size sz -/
def AW (γ : Gm) (l : Launch) (x : WX) (Q : State → Prop) (nL : Nat) (h : AH) (sz k n pc : Nat) (L : LV) (st : List Value) : Prop :=
  ∀ (H : Heap) (locs : List Loc) (ls : Array Slot), H.size = sz → Rep γ h H → va_S γ.W x.s.heap H locs → LH ls nL L → W x.p l x.e x.R x.s x.m x.args x.below x.meth x.c H locs k n Q (F0 x.m pc ls st)
/-- the same with an exception of the class E thrown over the frame -/
def AX (γ : Gm) (l : Launch) (x : WX) (Q : State → Prop) (nL : Nat) (h : AH) (sz k n pc : Nat) (L : LV) (E : String) : Prop :=
  ∀ (H : Heap) (locs : List Loc) (ls : Array Slot) (rest : List Value) (q : Addr) (ce : Cell), H.size = sz → Rep γ h H → va_S γ.W x.s.heap H locs → LH ls nL L → H[q]? = some ce → ce.vm = .none → x.s.vm.findClass E = some ce.cls →
    vx_W x.p l x.e x.R x.s x.m x.args x.below x.meth x.c H locs k n Q (F0 x.m pc ls rest) q
/-! contracts: what a method asks, answers, throws -/
def PcA (γ : Gm) (As : List Value) (h : AH) (sz : Nat) : Array Value → State → Prop := fun v U => v = As.toArray ∧ U.heap.size = sz ∧ (∀ q, sz ≤ q → γ.W q) ∧ Rep γ h U.heap ∧ KK γ U ∧ γ.X U
def QcA (γ : Gm) (Post : Option Value → AH → Nat → Prop) : Array Value → State → Outcome → State → Prop := fun _ st o t => (∃ (v : Option Value) (h' : AH) (sz' : Nat), o = .returned v ∧ Post v h' sz' ∧ t.heap.size = sz' ∧ Rep γ h' t.heap) ∧ va_F γ.W st t
def XcA (γ : Gm) (PX : String → AH → Nat → Prop) : String → State → State → Prop := fun E st t => (∃ (h' : AH) (sz' : Nat), PX E h' sz' ∧ t.heap.size = sz' ∧ Rep γ h' t.heap) ∧ va_F γ.W st t
abbrev QX (γ : Gm) (x : WX) (mc ms : Nat) (Post : Option Value → AH → Nat → Prop) (PX : String → AH → Nat → Prop) : State → Prop := vx_MQ x.below (QcA γ Post) (XcA γ PX) x.args x.s mc ms γ.W
def MX (γ : Gm) (l : Launch) (y : MethodName) (b : ByteArray) (nL : Nat) (ret : Option FieldType) (f lo mc ms : Nat) (As : List Value) (h : AH) (sz : Nat) (Post : Option Value → AH → Nat → Prop) (PX : String → AH → Nat → Prop) : Prop :=
  vx_Met l y (ws_ y b nL ret) { frames := f, cells := mc, slots := ms, locals := lo } (PcA γ As h sz) (QcA γ Post) (XcA γ PX) mc ms γ.W
def NX : String → AH → Nat → Prop := fun _ _ _ => False
theorem lup_in {L : LV} {k : Nat} {v : Value} (h : lup L k = some v) : (k, v) ∈ L := by
  induction L with
  | nil => cases h
  | cons q r ih =>
    by_cases e : q.1 = k
    · have e2 : q = (k, q.2) := by rw [← e]
      rw [e2, lup_s] at h
      cases h
      rw [← e2]
      exact List.mem_cons_self
    · have e2 : q = (q.1, q.2) := rfl
      rw [e2, lup_n _ q.2 e] at h
      exact List.mem_cons_of_mem _ (ih h)
theorem lh_of {ls : Array Slot} {nL : Nat} {L : LV} (h : lv_has ls nL L) : LH ls nL L := ⟨h.1, h.2.1, fun q hq => h.2.2 q (lup_in (ded_mem.mp hq))⟩
/-- a contract out of the walk of the body -/
theorem mx_start {γ : Gm} {l : Launch} {y : MethodName} {cc : ByteArray} {nL : Nat} {ret : Option FieldType} {f lo mc ms : Nat} {As : List Value} {h : AH} {sz : Nat} {Post : Option Value → AH → Nat → Prop} {PX : String → AH → Nat → Prop}
    (hG : GF γ) (hy : plainName y.cls = true) (hsl : (lg_sl As).length ≤ nL)
    (body : ∀ x : WX, Cx γ l x y cc nL ret { frames := f, cells := mc, slots := ms, locals := lo } [] → AW γ l x (QX γ x mc ms Post PX) nL h sz 0 0 0 (lv_args 0 As) []) : MX γ l y cc nL ret f lo mc ms As h sz Post PX := by
  refine vx_ofW (cc := cc) (maxL := nL) (ret := ret) hy rfl ?_
  intro p e s m args below meth c s₁ B hml htab hv
  obtain ⟨rfl, hsz, hz, hR, hK, hX⟩ := hv
  have hts := atoms_spec (ws := ws_ y cc nL ret) B.pre
  have het : c.exceptionTable.toList = [] := List.eq_nil_iff_forall_not_mem.mpr htab
  rw [lg_entry_eq]
  exact body (p, e, _, s, m, _, below, meth, c) ⟨B.exec, B.bytes, hml, findClass_of_methodNamed B.named, fun w hw => hts w (List.mem_cons_of_mem _ hw), B.returns, B.notSynchronized, rfl, hK, by rw [hsz]; exact hz, hX, hG, het, (name_of_methodNamed B.named B.method).1⟩ s.heap [] _ hsz hR va_S.rf (lh_of (lv_entry As hsl))
theorem mx_mono {γ : Gm} {l : Launch} {y : MethodName} {cc : ByteArray} {nL : Nat} {ret : Option FieldType} {f lo mc ms : Nat} {As : List Value} {h : AH} {sz : Nat} {Post Post' : Option Value → AH → Nat → Prop} {PX PX' : String → AH → Nat → Prop} (hM : MX γ l y cc nL ret f lo mc ms As h sz Post PX) (h1 : ∀ v h' sz', Post v h' sz' → Post' v h' sz') (h2 : ∀ E h' sz', PX E h' sz' → PX' E h' sz') : MX γ l y cc nL ret f lo mc ms As h sz Post' PX' := by
  refine MetFree.mono hM (fun _ _ z => z) (fun _ _ _ _ _ z => z) ?_
  intro a st o t _ hq
  rcases hq with ⟨⟨⟨v, h', sz', e1, e2, e3⟩, e4⟩, e5⟩ | ⟨q, e0, E, ce, Lx, ⟨⟨h', sz', e1, e2⟩, e3⟩, e4⟩
  · exact Or.inl ⟨⟨⟨v, h', sz', e1, h1 _ _ _ e2, e3⟩, e4⟩, e5⟩
  · exact Or.inr ⟨q, e0, E, ce, Lx, ⟨⟨h', sz', h2 _ _ _ e1, e2⟩, e3⟩, e4⟩
section AWR
variable {γ : Gm} {l : Launch} {x : WX} {y : MethodName} {cc : ByteArray} {nL : Nat} {ret : Option FieldType} {rm : Room} {et : List ExceptionTableEntry} {Q : State → Prop} {h : AH} {sz k n pc : Nat} {L : LV} {st : List Value}
theorem aw_iconst (C : Cx γ l x y cc nL ret rm et) {c : Int} {v : Int32} (hv : Int32.ofInt c = v) (d : decode cc pc = .ok (.iconst c, 1)) (kk : AW γ l x Q nL h sz k n (pc + 1) L (.int v :: st)) : AW γ l x Q nL h sz k n pc L st := fun H locs ls h1 h2 h3 h4 => lv_iconst C.hx C.hb d hv (kk H locs ls h1 h2 h3 h4)
theorem aw_bipush (C : Cx γ l x y cc nL ret rm et) {c : Int} {v : Int32} (hv : (Int8.ofInt c).toInt32 = v) (d : decode cc pc = .ok (.bipush c, 2)) (kk : AW γ l x Q nL h sz k n (pc + 2) L (.int v :: st)) : AW γ l x Q nL h sz k n pc L st := fun H locs ls h1 h2 h3 h4 => lv_bipush C.hx C.hb d hv (kk H locs ls h1 h2 h3 h4)
theorem aw_sipush (C : Cx γ l x y cc nL ret rm et) {c : Int} {v : Int32} (hv : (Int16.ofInt c).toInt32 = v) (d : decode cc pc = .ok (.sipush c, 3)) (kk : AW γ l x Q nL h sz k n (pc + 3) L (.int v :: st)) : AW γ l x Q nL h sz k n pc L st := fun H locs ls h1 h2 h3 h4 => lv_sipush C.hx C.hb d hv (kk H locs ls h1 h2 h3 h4)
theorem aw_lconst (C : Cx γ l x y cc nL ret rm et) {c : Fin 2} {v : Int64} (hv : Int64.ofNat (c : Nat) = v) (d : decode cc pc = .ok (.lconst c, 1)) (kk : AW γ l x Q nL h sz k n (pc + 1) L (.long v :: st)) : AW γ l x Q nL h sz k n pc L st := fun H locs ls h1 h2 h3 h4 => lv_lconst C.hx C.hb d hv (kk H locs ls h1 h2 h3 h4)
theorem aw_fconst0 (C : Cx γ l x y cc nL ret rm et)  (d : decode cc pc = .ok (.fconst 0, 1)) (kk : AW γ l x Q nL h sz k n (pc + 1) L (.float FP.fconst0 :: st)) : AW γ l x Q nL h sz k n pc L st := fun H locs ls h1 h2 h3 h4 => lv_fconst0 C.hx C.hb d  (kk H locs ls h1 h2 h3 h4)
theorem aw_null (C : Cx γ l x y cc nL ret rm et)  (d : decode cc pc = .ok (.aconst_null, 1)) (kk : AW γ l x Q nL h sz k n (pc + 1) L (.null :: st)) : AW γ l x Q nL h sz k n pc L st := fun H locs ls h1 h2 h3 h4 => lv_null C.hx C.hb d  (kk H locs ls h1 h2 h3 h4)
theorem aw_iload_n (C : Cx γ l x y cc nL ret rm et) {c : Fin 4} {i : Nat} {v : Int32} (hi : (c : Nat) = i) (hl : lup L i = some (.int v)) (d : decode cc pc = .ok (.iload_n c, 1)) (kk : AW γ l x Q nL h sz k n (pc + 1) L (.int v :: st)) : AW γ l x Q nL h sz k n pc L st := fun H locs ls h1 h2 h3 h4 => lv_iload_n C.hx C.hb d hi (h4.at hl) (kk H locs ls h1 h2 h3 h4)
theorem aw_iload (C : Cx γ l x y cc nL ret rm et) {i : Nat} {v : Int32} (hl : lup L i = some (.int v)) (d : decode cc pc = .ok (.iload i, 2)) (kk : AW γ l x Q nL h sz k n (pc + 2) L (.int v :: st)) : AW γ l x Q nL h sz k n pc L st := fun H locs ls h1 h2 h3 h4 => lv_iload C.hx C.hb d (h4.at hl) (kk H locs ls h1 h2 h3 h4)
theorem aw_lload_n (C : Cx γ l x y cc nL ret rm et) {c : Fin 4} {i : Nat} {v : Int64} (hi : (c : Nat) = i) (hl : lup L i = some (.long v)) (d : decode cc pc = .ok (.lload_n c, 1)) (kk : AW γ l x Q nL h sz k n (pc + 1) L (.long v :: st)) : AW γ l x Q nL h sz k n pc L st := fun H locs ls h1 h2 h3 h4 => lv_lload_n C.hx C.hb d hi (h4.at hl) (kk H locs ls h1 h2 h3 h4)
theorem aw_lload (C : Cx γ l x y cc nL ret rm et) {i : Nat} {v : Int64} (hl : lup L i = some (.long v)) (d : decode cc pc = .ok (.lload i, 2)) (kk : AW γ l x Q nL h sz k n (pc + 2) L (.long v :: st)) : AW γ l x Q nL h sz k n pc L st := fun H locs ls h1 h2 h3 h4 => lv_lload C.hx C.hb d (h4.at hl) (kk H locs ls h1 h2 h3 h4)
theorem aw_dload_n (C : Cx γ l x y cc nL ret rm et) {c : Fin 4} {i : Nat} {v : UInt64} (hi : (c : Nat) = i) (hl : lup L i = some (.double v)) (d : decode cc pc = .ok (.dload_n c, 1)) (kk : AW γ l x Q nL h sz k n (pc + 1) L (.double v :: st)) : AW γ l x Q nL h sz k n pc L st := fun H locs ls h1 h2 h3 h4 => lv_dload_n C.hx C.hb d hi (h4.at hl) (kk H locs ls h1 h2 h3 h4)
theorem aw_dload (C : Cx γ l x y cc nL ret rm et) {i : Nat} {v : UInt64} (hl : lup L i = some (.double v)) (d : decode cc pc = .ok (.dload i, 2)) (kk : AW γ l x Q nL h sz k n (pc + 2) L (.double v :: st)) : AW γ l x Q nL h sz k n pc L st := fun H locs ls h1 h2 h3 h4 => lv_dload C.hx C.hb d (h4.at hl) (kk H locs ls h1 h2 h3 h4)
theorem aw_aload_n (C : Cx γ l x y cc nL ret rm et) {c : Fin 4} {i : Nat} {v : Nat} (hi : (c : Nat) = i) (hl : lup L i = some (.ref v)) (d : decode cc pc = .ok (.aload_n c, 1)) (kk : AW γ l x Q nL h sz k n (pc + 1) L (.ref v :: st)) : AW γ l x Q nL h sz k n pc L st := fun H locs ls h1 h2 h3 h4 => lv_aload_n C.hx C.hb d hi (h4.at hl) (kk H locs ls h1 h2 h3 h4)
theorem aw_aload (C : Cx γ l x y cc nL ret rm et) {i : Nat} {v : Nat} (hl : lup L i = some (.ref v)) (d : decode cc pc = .ok (.aload i, 2)) (kk : AW γ l x Q nL h sz k n (pc + 2) L (.ref v :: st)) : AW γ l x Q nL h sz k n pc L st := fun H locs ls h1 h2 h3 h4 => lv_aload C.hx C.hb d (h4.at hl) (kk H locs ls h1 h2 h3 h4)
theorem aw_aload_nN (C : Cx γ l x y cc nL ret rm et) {c : Fin 4} {i : Nat} (hi : (c : Nat) = i) (hl : lup L i = some .null) (d : decode cc pc = .ok (.aload_n c, 1)) (kk : AW γ l x Q nL h sz k n (pc + 1) L (.null :: st)) : AW γ l x Q nL h sz k n pc L st := fun H locs ls h1 h2 h3 h4 => lv_aload_nN C.hx C.hb d hi (h4.at hl) (kk H locs ls h1 h2 h3 h4)
theorem aw_aloadN (C : Cx γ l x y cc nL ret rm et) {i : Nat} (hl : lup L i = some .null) (d : decode cc pc = .ok (.aload i, 2)) (kk : AW γ l x Q nL h sz k n (pc + 2) L (.null :: st)) : AW γ l x Q nL h sz k n pc L st := fun H locs ls h1 h2 h3 h4 => lv_aloadN C.hx C.hb d (h4.at hl) (kk H locs ls h1 h2 h3 h4)
theorem aw_istore_n (C : Cx γ l x y cc nL ret rm et) {c : Fin 4} {i : Nat} {v : Int32} (hi : (c : Nat) = i) (hn : i < nL) (hc : lcat L i = true) (d : decode cc pc = .ok (.istore_n c, 1)) (kk : AW γ l x Q nL h sz k n (pc + 1) ((i, Value.int v) :: L) st) : AW γ l x Q nL h sz k n pc L ((.int v) :: st) := fun H locs ls h1 h2 h3 h4 => lv_istore_n C.hx C.hb d hi h4 hn rfl (fun ls9 h9 => kk H locs ls9 h1 h2 h3 (LH.st1 hc h9))
theorem aw_istore (C : Cx γ l x y cc nL ret rm et) {i : Nat} {v : Int32} (hn : i < nL) (hc : lcat L i = true) (d : decode cc pc = .ok (.istore i, 2)) (kk : AW γ l x Q nL h sz k n (pc + 2) ((i, Value.int v) :: L) st) : AW γ l x Q nL h sz k n pc L ((.int v) :: st) := fun H locs ls h1 h2 h3 h4 => lv_istore C.hx C.hb d h4 hn rfl (fun ls9 h9 => kk H locs ls9 h1 h2 h3 (LH.st1 hc h9))
theorem aw_astore_n (C : Cx γ l x y cc nL ret rm et) {c : Fin 4} {i : Nat} {v : Nat} (hi : (c : Nat) = i) (hn : i < nL) (hc : lcat L i = true) (d : decode cc pc = .ok (.astore_n c, 1)) (kk : AW γ l x Q nL h sz k n (pc + 1) ((i, Value.ref v) :: L) st) : AW γ l x Q nL h sz k n pc L ((.ref v) :: st) := fun H locs ls h1 h2 h3 h4 => lv_astore_n C.hx C.hb d hi h4 hn rfl (fun ls9 h9 => kk H locs ls9 h1 h2 h3 (LH.st1 hc h9))
theorem aw_astore (C : Cx γ l x y cc nL ret rm et) {i : Nat} {v : Nat} (hn : i < nL) (hc : lcat L i = true) (d : decode cc pc = .ok (.astore i, 2)) (kk : AW γ l x Q nL h sz k n (pc + 2) ((i, Value.ref v) :: L) st) : AW γ l x Q nL h sz k n pc L ((.ref v) :: st) := fun H locs ls h1 h2 h3 h4 => lv_astore C.hx C.hb d h4 hn rfl (fun ls9 h9 => kk H locs ls9 h1 h2 h3 (LH.st1 hc h9))
theorem aw_astoreN_n (C : Cx γ l x y cc nL ret rm et) {c : Fin 4} {i : Nat} (hi : (c : Nat) = i) (hn : i < nL) (hc : lcat L i = true) (d : decode cc pc = .ok (.astore_n c, 1)) (kk : AW γ l x Q nL h sz k n (pc + 1) ((i, Value.null) :: L) st) : AW γ l x Q nL h sz k n pc L (.null :: st) := fun H locs ls h1 h2 h3 h4 => lv_astore_nN C.hx C.hb d hi h4 hn rfl (fun ls9 h9 => kk H locs ls9 h1 h2 h3 (LH.st1 hc h9))
theorem aw_astoreN (C : Cx γ l x y cc nL ret rm et) {i : Nat} (hn : i < nL) (hc : lcat L i = true) (d : decode cc pc = .ok (.astore i, 2)) (kk : AW γ l x Q nL h sz k n (pc + 2) ((i, Value.null) :: L) st) : AW γ l x Q nL h sz k n pc L (.null :: st) := fun H locs ls h1 h2 h3 h4 => lv_astoreN C.hx C.hb d h4 hn rfl (fun ls9 h9 => kk H locs ls9 h1 h2 h3 (LH.st1 hc h9))
theorem aw_lstore_n (C : Cx γ l x y cc nL ret rm et) {c : Fin 4} {i : Nat} {v : Int64} (hi : (c : Nat) = i) (hn : i + 1 < nL) (hc : lcat L i = true) (d : decode cc pc = .ok (.lstore_n c, 1)) (kk : AW γ l x Q nL h sz k n (pc + 1) ((i, Value.long v) :: L.filter (fun q => !(q.1 == i + 1))) st) : AW γ l x Q nL h sz k n pc L ((.long v) :: st) := fun H locs ls h1 h2 h3 h4 => lv_lstore_n C.hx C.hb d hi h4 hn rfl (fun ls9 h9 => kk H locs ls9 h1 h2 h3 (LH.st2 hc h9))
theorem aw_lstore (C : Cx γ l x y cc nL ret rm et) {i : Nat} {v : Int64} (hn : i + 1 < nL) (hc : lcat L i = true) (d : decode cc pc = .ok (.lstore i, 2)) (kk : AW γ l x Q nL h sz k n (pc + 2) ((i, Value.long v) :: L.filter (fun q => !(q.1 == i + 1))) st) : AW γ l x Q nL h sz k n pc L ((.long v) :: st) := fun H locs ls h1 h2 h3 h4 => lv_lstore C.hx C.hb d h4 hn rfl (fun ls9 h9 => kk H locs ls9 h1 h2 h3 (LH.st2 hc h9))
theorem aw_dstore_n (C : Cx γ l x y cc nL ret rm et) {c : Fin 4} {i : Nat} {v : UInt64} (hi : (c : Nat) = i) (hn : i + 1 < nL) (hc : lcat L i = true) (d : decode cc pc = .ok (.dstore_n c, 1)) (kk : AW γ l x Q nL h sz k n (pc + 1) ((i, Value.double v) :: L.filter (fun q => !(q.1 == i + 1))) st) : AW γ l x Q nL h sz k n pc L ((.double v) :: st) := fun H locs ls h1 h2 h3 h4 => lv_dstore_n C.hx C.hb d hi h4 hn rfl (fun ls9 h9 => kk H locs ls9 h1 h2 h3 (LH.st2 hc h9))
theorem aw_dstore (C : Cx γ l x y cc nL ret rm et) {i : Nat} {v : UInt64} (hn : i + 1 < nL) (hc : lcat L i = true) (d : decode cc pc = .ok (.dstore i, 2)) (kk : AW γ l x Q nL h sz k n (pc + 2) ((i, Value.double v) :: L.filter (fun q => !(q.1 == i + 1))) st) : AW γ l x Q nL h sz k n pc L ((.double v) :: st) := fun H locs ls h1 h2 h3 h4 => lv_dstore C.hx C.hb d h4 hn rfl (fun ls9 h9 => kk H locs ls9 h1 h2 h3 (LH.st2 hc h9))
theorem aw_iinc (C : Cx γ l x y cc nL ret rm et) {i : Nat} {c : Int} {v w : Int32} (hl : lup L i = some (.int v)) (hv : v + Int32.ofInt c = w) (hn : i < nL) (hc : lcat L i = true) (d : decode cc pc = .ok (.iinc i c, 3)) (kk : AW γ l x Q nL h sz k n (pc + 3) ((i, Value.int w) :: L) st) : AW γ l x Q nL h sz k n pc L st := by
  intro H locs ls h1 h2 h3 h4
  obtain ⟨j, hj⟩ := List.getElem?_of_mem (ded_mem.mpr hl)
  exact lv_iinc C.hx C.hb d h4 hj hv hn rfl (fun ls9 h9 => kk H locs ls9 h1 h2 h3 (LH.st1 hc h9))
/-- one more: on a number -/
theorem aw_iinc1 (C : Cx γ l x y cc nL ret rm et) {i j : Nat} (hl : lup L i = some (.int (nI j))) (hn : i < nL) (hc : lcat L i = true) (d : decode cc pc = .ok (.iinc i 1, 3)) (kk : AW γ l x Q nL h sz k n (pc + 3) ((i, Value.int (nI (j + 1))) :: L) st) : AW γ l x Q nL h sz k n pc L st := aw_iinc C hl (by rw [show Int32.ofInt 1 = (1 : Int32) from by decide]; exact nI_1 j) hn hc d kk
theorem aw_iincM (C : Cx γ l x y cc nL ret rm et) {i j : Nat} (hl : lup L i = some (.int (nI j))) (hj : 1 ≤ j) (hn : i < nL) (hc : lcat L i = true) (d : decode cc pc = .ok (.iinc i (-1), 3)) (kk : AW γ l x Q nL h sz k n (pc + 3) ((i, Value.int (nI (j - 1))) :: L) st) : AW γ l x Q nL h sz k n pc L st := by
  obtain ⟨m, rfl⟩ : ∃ m, j = m + 1 := ⟨j - 1, by omega⟩
  exact aw_iinc C hl (w := nI m) (by rw [show Int32.ofInt (-1) = (-1 : Int32) from by decide]; exact pk_m1 m) hn hc d kk
theorem aw_iincC (C : Cx γ l x y cc nL ret rm et) {i j c9 : Nat} {c : Int} (hl : lup L i = some (.int (nI j))) (hc9 : Int32.ofInt c = nI c9) (hn : i < nL) (hc : lcat L i = true) (d : decode cc pc = .ok (.iinc i c, 3)) (kk : AW γ l x Q nL h sz k n (pc + 3) ((i, Value.int (nI (j + c9))) :: L) st) : AW γ l x Q nL h sz k n pc L st := aw_iinc C hl (by rw [hc9]; exact nI_add j c9) hn hc d kk
theorem aw_iadd (C : Cx γ l x y cc nL ret rm et) {a b : Int32} (d : decode cc pc = .ok (.iadd, 1)) (kk : AW γ l x Q nL h sz k n (pc + 1) L (.int (a + b) :: st)) : AW γ l x Q nL h sz k n pc L (.int b :: .int a :: st) := fun H locs ls h1 h2 h3 h4 => lv_iadd C.hx C.hb d  (kk H locs ls h1 h2 h3 h4)
theorem aw_isub (C : Cx γ l x y cc nL ret rm et) {a b : Int32} (d : decode cc pc = .ok (.isub, 1)) (kk : AW γ l x Q nL h sz k n (pc + 1) L (.int (a - b) :: st)) : AW γ l x Q nL h sz k n pc L (.int b :: .int a :: st) := fun H locs ls h1 h2 h3 h4 => lv_isub C.hx C.hb d  (kk H locs ls h1 h2 h3 h4)
theorem aw_imul (C : Cx γ l x y cc nL ret rm et) {a b : Int32} (d : decode cc pc = .ok (.imul, 1)) (kk : AW γ l x Q nL h sz k n (pc + 1) L (.int (a * b) :: st)) : AW γ l x Q nL h sz k n pc L (.int b :: .int a :: st) := fun H locs ls h1 h2 h3 h4 => lv_imul C.hx C.hb d  (kk H locs ls h1 h2 h3 h4)
theorem aw_iand (C : Cx γ l x y cc nL ret rm et) {a b : Int32} (d : decode cc pc = .ok (.iand, 1)) (kk : AW γ l x Q nL h sz k n (pc + 1) L (.int (a &&& b) :: st)) : AW γ l x Q nL h sz k n pc L (.int b :: .int a :: st) := fun H locs ls h1 h2 h3 h4 => lv_iand C.hx C.hb d  (kk H locs ls h1 h2 h3 h4)
theorem aw_ior (C : Cx γ l x y cc nL ret rm et) {a b : Int32} (d : decode cc pc = .ok (.ior, 1)) (kk : AW γ l x Q nL h sz k n (pc + 1) L (.int (a ||| b) :: st)) : AW γ l x Q nL h sz k n pc L (.int b :: .int a :: st) := fun H locs ls h1 h2 h3 h4 => lv_ior C.hx C.hb d  (kk H locs ls h1 h2 h3 h4)
theorem aw_ixor (C : Cx γ l x y cc nL ret rm et) {a b : Int32} (d : decode cc pc = .ok (.ixor, 1)) (kk : AW γ l x Q nL h sz k n (pc + 1) L (.int (a ^^^ b) :: st)) : AW γ l x Q nL h sz k n pc L (.int b :: .int a :: st) := fun H locs ls h1 h2 h3 h4 => lv_ixor C.hx C.hb d  (kk H locs ls h1 h2 h3 h4)
theorem aw_ishl (C : Cx γ l x y cc nL ret rm et) {a b : Int32} (d : decode cc pc = .ok (.ishl, 1)) (kk : AW γ l x Q nL h sz k n (pc + 1) L (.int (a <<< (b &&& 31)) :: st)) : AW γ l x Q nL h sz k n pc L (.int b :: .int a :: st) := fun H locs ls h1 h2 h3 h4 => lv_ishl C.hx C.hb d  (kk H locs ls h1 h2 h3 h4)
theorem aw_ishr (C : Cx γ l x y cc nL ret rm et) {a b : Int32} (d : decode cc pc = .ok (.ishr, 1)) (kk : AW γ l x Q nL h sz k n (pc + 1) L (.int (a >>> (b &&& 31)) :: st)) : AW γ l x Q nL h sz k n pc L (.int b :: .int a :: st) := fun H locs ls h1 h2 h3 h4 => lv_ishr C.hx C.hb d  (kk H locs ls h1 h2 h3 h4)
theorem aw_iushr (C : Cx γ l x y cc nL ret rm et) {a b v : Int32} (hv : (a.toUInt32 >>> (b.toUInt32 &&& Int32.toUInt32 31)).toInt32 = v) (d : decode cc pc = .ok (.iushr, 1)) (kk : AW γ l x Q nL h sz k n (pc + 1) L (.int v :: st)) : AW γ l x Q nL h sz k n pc L (.int b :: .int a :: st) := fun H locs ls h1 h2 h3 h4 => lv_iushr C.hx C.hb d hv (kk H locs ls h1 h2 h3 h4)
theorem aw_ineg (C : Cx γ l x y cc nL ret rm et) {a : Int32} (d : decode cc pc = .ok (.ineg, 1)) (kk : AW γ l x Q nL h sz k n (pc + 1) L (.int (-a) :: st)) : AW γ l x Q nL h sz k n pc L (.int a :: st) := fun H locs ls h1 h2 h3 h4 => lv_ineg C.hx C.hb d  (kk H locs ls h1 h2 h3 h4)
theorem aw_idiv (C : Cx γ l x y cc nL ret rm et) {a b : Int32} (hne : ¬ b = 0) (d : decode cc pc = .ok (.idiv, 1)) (kk : AW γ l x Q nL h sz k n (pc + 1) L (.int (a / b) :: st)) : AW γ l x Q nL h sz k n pc L (.int b :: .int a :: st) := fun H locs ls h1 h2 h3 h4 => lv_idiv C.hx C.hb d hne (kk H locs ls h1 h2 h3 h4)
theorem aw_irem (C : Cx γ l x y cc nL ret rm et) {a b : Int32} (hne : ¬ b = 0) (d : decode cc pc = .ok (.irem, 1)) (kk : AW γ l x Q nL h sz k n (pc + 1) L (.int (a - a / b * b) :: st)) : AW γ l x Q nL h sz k n pc L (.int b :: .int a :: st) := fun H locs ls h1 h2 h3 h4 => lv_irem C.hx C.hb d hne (kk H locs ls h1 h2 h3 h4)
theorem aw_ladd (C : Cx γ l x y cc nL ret rm et) {a b : Int64} (d : decode cc pc = .ok (.ladd, 1)) (kk : AW γ l x Q nL h sz k n (pc + 1) L (.long (a + b) :: st)) : AW γ l x Q nL h sz k n pc L (.long b :: .long a :: st) := fun H locs ls h1 h2 h3 h4 => lv_ladd C.hx C.hb d  (kk H locs ls h1 h2 h3 h4)
theorem aw_lsub (C : Cx γ l x y cc nL ret rm et) {a b : Int64} (d : decode cc pc = .ok (.lsub, 1)) (kk : AW γ l x Q nL h sz k n (pc + 1) L (.long (a - b) :: st)) : AW γ l x Q nL h sz k n pc L (.long b :: .long a :: st) := fun H locs ls h1 h2 h3 h4 => lv_lsub C.hx C.hb d  (kk H locs ls h1 h2 h3 h4)
theorem aw_lmul (C : Cx γ l x y cc nL ret rm et) {a b : Int64} (d : decode cc pc = .ok (.lmul, 1)) (kk : AW γ l x Q nL h sz k n (pc + 1) L (.long (a * b) :: st)) : AW γ l x Q nL h sz k n pc L (.long b :: .long a :: st) := fun H locs ls h1 h2 h3 h4 => lv_lmul C.hx C.hb d  (kk H locs ls h1 h2 h3 h4)
theorem aw_land (C : Cx γ l x y cc nL ret rm et) {a b : Int64} (d : decode cc pc = .ok (.land, 1)) (kk : AW γ l x Q nL h sz k n (pc + 1) L (.long (a &&& b) :: st)) : AW γ l x Q nL h sz k n pc L (.long b :: .long a :: st) := fun H locs ls h1 h2 h3 h4 => lv_land C.hx C.hb d  (kk H locs ls h1 h2 h3 h4)
theorem aw_lor (C : Cx γ l x y cc nL ret rm et) {a b : Int64} (d : decode cc pc = .ok (.lor, 1)) (kk : AW γ l x Q nL h sz k n (pc + 1) L (.long (a ||| b) :: st)) : AW γ l x Q nL h sz k n pc L (.long b :: .long a :: st) := fun H locs ls h1 h2 h3 h4 => lv_lor C.hx C.hb d  (kk H locs ls h1 h2 h3 h4)
theorem aw_lxor (C : Cx γ l x y cc nL ret rm et) {a b : Int64} (d : decode cc pc = .ok (.lxor, 1)) (kk : AW γ l x Q nL h sz k n (pc + 1) L (.long (a ^^^ b) :: st)) : AW γ l x Q nL h sz k n pc L (.long b :: .long a :: st) := fun H locs ls h1 h2 h3 h4 => lv_lxor C.hx C.hb d  (kk H locs ls h1 h2 h3 h4)
theorem aw_lshl (C : Cx γ l x y cc nL ret rm et) {a v : Int64} {b : Int32} (hv : a <<< (b.toInt64 &&& 63) = v) (d : decode cc pc = .ok (.lshl, 1)) (kk : AW γ l x Q nL h sz k n (pc + 1) L (.long v :: st)) : AW γ l x Q nL h sz k n pc L (.int b :: .long a :: st) := fun H locs ls h1 h2 h3 h4 => lv_lshl C.hx C.hb d hv (kk H locs ls h1 h2 h3 h4)
theorem aw_lushr (C : Cx γ l x y cc nL ret rm et) {a v : Int64} {b : Int32} (hv : (a.toUInt64 >>> (b.toInt64.toUInt64 &&& Int64.toUInt64 63)).toInt64 = v) (d : decode cc pc = .ok (.lushr, 1)) (kk : AW γ l x Q nL h sz k n (pc + 1) L (.long v :: st)) : AW γ l x Q nL h sz k n pc L (.int b :: .long a :: st) := fun H locs ls h1 h2 h3 h4 => lv_lushr C.hx C.hb d hv (kk H locs ls h1 h2 h3 h4)
theorem aw_i2l (C : Cx γ l x y cc nL ret rm et) {a : Int32} {v : Int64} (hv : a.toInt64 = v) (d : decode cc pc = .ok (.i2l, 1)) (kk : AW γ l x Q nL h sz k n (pc + 1) L (.long v :: st)) : AW γ l x Q nL h sz k n pc L (.int a :: st) := fun H locs ls h1 h2 h3 h4 => lv_i2l C.hx C.hb d hv (kk H locs ls h1 h2 h3 h4)
theorem aw_l2i (C : Cx γ l x y cc nL ret rm et) {a : Int64} {v : Int32} (hv : a.toInt32 = v) (d : decode cc pc = .ok (.l2i, 1)) (kk : AW γ l x Q nL h sz k n (pc + 1) L (.int v :: st)) : AW γ l x Q nL h sz k n pc L (.long a :: st) := fun H locs ls h1 h2 h3 h4 => lv_l2i C.hx C.hb d hv (kk H locs ls h1 h2 h3 h4)
theorem aw_i2b (C : Cx γ l x y cc nL ret rm et) {a v : Int32} (hv : a.toInt8.toInt32 = v) (d : decode cc pc = .ok (.i2b, 1)) (kk : AW γ l x Q nL h sz k n (pc + 1) L (.int v :: st)) : AW γ l x Q nL h sz k n pc L (.int a :: st) := fun H locs ls h1 h2 h3 h4 => lv_i2b C.hx C.hb d hv (kk H locs ls h1 h2 h3 h4)
theorem aw_i2c (C : Cx γ l x y cc nL ret rm et) {a v : Int32} (hv : (a.toUInt32 % 65536).toInt32 = v) (d : decode cc pc = .ok (.i2c, 1)) (kk : AW γ l x Q nL h sz k n (pc + 1) L (.int v :: st)) : AW γ l x Q nL h sz k n pc L (.int a :: st) := fun H locs ls h1 h2 h3 h4 => lv_i2c C.hx C.hb d hv (kk H locs ls h1 h2 h3 h4)
theorem aw_i2f (C : Cx γ l x y cc nL ret rm et) {a : Int32} (d : decode cc pc = .ok (.i2f, 1)) (kk : AW γ l x Q nL h sz k n (pc + 1) L (.float (FP.i2f a) :: st)) : AW γ l x Q nL h sz k n pc L (.int a :: st) := fun H locs ls h1 h2 h3 h4 => lv_i2f C.hx C.hb d  (kk H locs ls h1 h2 h3 h4)
theorem aw_fdiv (C : Cx γ l x y cc nL ret rm et) {a b : UInt32} (hne : vf_n32 (FP.fdiv a b)) (d : decode cc pc = .ok (.fdiv, 1)) (kk : AW γ l x Q nL h sz k n (pc + 1) L (.float (FP.fdiv a b) :: st)) : AW γ l x Q nL h sz k n pc L (.float b :: .float a :: st) := fun H locs ls h1 h2 h3 h4 => lv_fdiv C.hx C.hb d hne (kk H locs ls h1 h2 h3 h4)
theorem aw_f2d (C : Cx γ l x y cc nL ret rm et) {a : UInt32} (hne : vf_n64 (FP.f2d a)) (d : decode cc pc = .ok (.f2d, 1)) (kk : AW γ l x Q nL h sz k n (pc + 1) L (.double (FP.f2d a) :: st)) : AW γ l x Q nL h sz k n pc L (.float a :: st) := fun H locs ls h1 h2 h3 h4 => lv_f2d C.hx C.hb d hne (kk H locs ls h1 h2 h3 h4)
theorem aw_dcmp (C : Cx γ l x y cc nL ret rm et) {a b : UInt64} {op : CmpOp} (d : decode cc pc = .ok (.dcmp op, 1)) (kk : AW γ l x Q nL h sz k n (pc + 1) L (.int (Op.cmpValue (FP.dcmp a b) op) :: st)) : AW γ l x Q nL h sz k n pc L (.double b :: .double a :: st) := fun H locs ls h1 h2 h3 h4 => lv_dcmp C.hx C.hb d  (kk H locs ls h1 h2 h3 h4)
theorem aw_lcmp (C : Cx γ l x y cc nL ret rm et) {a b : Int64} (d : decode cc pc = .ok (.lcmp, 1)) (kk : AW γ l x Q nL h sz k n (pc + 1) L (.int (lg_cmp a b) :: st)) : AW γ l x Q nL h sz k n pc L (.long b :: .long a :: st) := fun H locs ls h1 h2 h3 h4 => W.lcmp C.hx C.hb d (kk H locs ls h1 h2 h3 h4)
theorem aw_dup (C : Cx γ l x y cc nL ret rm et) {v : Value} (hv : v.category = 1) (d : decode cc pc = .ok (.dup, 1)) (kk : AW γ l x Q nL h sz k n (pc + 1) L (v :: v :: st)) : AW γ l x Q nL h sz k n pc L (v :: st) := fun H locs ls h1 h2 h3 h4 => lv_dup C.hx C.hb d hv (kk H locs ls h1 h2 h3 h4)
theorem aw_pop (C : Cx γ l x y cc nL ret rm et) {v : Value} (hv : v.category = 1) (d : decode cc pc = .ok (.pop, 1)) (kk : AW γ l x Q nL h sz k n (pc + 1) L st) : AW γ l x Q nL h sz k n pc L (v :: st) := fun H locs ls h1 h2 h3 h4 => lv_pop C.hx C.hb d hv (kk H locs ls h1 h2 h3 h4)
theorem aw_dup_x1 (C : Cx γ l x y cc nL ret rm et) {v w : Value} (hv : v.category = 1) (hw : w.category = 1) (d : decode cc pc = .ok (.dup_x1, 1)) (kk : AW γ l x Q nL h sz k n (pc + 1) L (v :: w :: v :: st)) : AW γ l x Q nL h sz k n pc L (v :: w :: st) := fun H locs ls h1 h2 h3 h4 => lv_dup_x1 C.hx C.hb d hv hw (kk H locs ls h1 h2 h3 h4)
theorem aw_dup2 (C : Cx γ l x y cc nL ret rm et) {v w : Value} (hv : v.category = 1) (hw : w.category = 1) (d : decode cc pc = .ok (.dup2, 1)) (kk : AW γ l x Q nL h sz k n (pc + 1) L (v :: w :: v :: w :: st)) : AW γ l x Q nL h sz k n pc L (v :: w :: st) := fun H locs ls h1 h2 h3 h4 => lv_dup2_11 C.hx C.hb d hv hw (kk H locs ls h1 h2 h3 h4)
theorem aw_top {a b : Int32} (e : a = b) (kk : AW γ l x Q nL h sz k n pc L (.int b :: st)) : AW γ l x Q nL h sz k n pc L (.int a :: st) := by rw [e]; exact kk
theorem aw_topg {a : Int32} (kk : ∀ b : Int32, b = a → AW γ l x Q nL h sz k n pc L (.int b :: st)) : AW γ l x Q nL h sz k n pc L (.int a :: st) := kk a rfl
theorem aw_toplg {a : Int64} (kk : ∀ b : Int64, b = a → AW γ l x Q nL h sz k n pc L (.long b :: st)) : AW γ l x Q nL h sz k n pc L (.long a :: st) := kk a rfl
theorem aw_loc {M : LV} (hM : lok L M) (kk : AW γ l x Q nL h sz k n pc M st) : AW γ l x Q nL h sz k n pc L st := fun H locs ls h1 h2 h3 h4 => kk H locs ls h1 h2 h3 (h4.sub hM)
theorem aw_pc {pc9 : Nat} (e : pc = pc9) (kk : AW γ l x Q nL h sz k n pc9 L st) : AW γ l x Q nL h sz k n pc L st := by rw [e]; exact kk
theorem aw_heap {h9 : AH} (e : ∀ a c, h9 a = some c → h a = some c) (kk : AW γ l x Q nL h9 sz k n pc L st) : AW γ l x Q nL h sz k n pc L st := fun H locs ls h1 h2 h3 h4 => kk H locs ls h1 (h2.sub e) h3 h4
theorem aw_wide {k9 n9 : Nat} (e1 : k ≤ k9) (e2 : n ≤ n9) (kk : AW γ l x Q nL h sz k9 n9 pc L st) : AW γ l x Q nL h sz k n pc L st := fun H locs ls h1 h2 h3 h4 => W.widen e1 e2 (kk H locs ls h1 h2 h3 h4)
theorem aw_if_eq (C : Cx γ l x y cc nL ret rm et) {a : Int32} {off : Int} {tgt : Nat} (d : decode cc pc = .ok (.ifCond .eq off, 3)) (ht : (pc : Int) + off = (tgt : Int)) (kt : a = 0 → AW γ l x Q nL h sz k n tgt L st) (kf : ¬ a = 0 → AW γ l x Q nL h sz k n (pc + 3) L st) : AW γ l x Q nL h sz k n pc L (.int a :: st) := fun H locs ls h1 h2 h3 h4 => lv_if_eq C.hx C.hb d ht (fun z => kt z H locs ls h1 h2 h3 h4) (fun z => kf z H locs ls h1 h2 h3 h4)
theorem aw_icmp_eq (C : Cx γ l x y cc nL ret rm et) {a b : Int32} {off : Int} {tgt : Nat} (d : decode cc pc = .ok (.if_icmp .eq off, 3)) (ht : (pc : Int) + off = (tgt : Int)) (kt : a = b → AW γ l x Q nL h sz k n tgt L st) (kf : ¬ a = b → AW γ l x Q nL h sz k n (pc + 3) L st) : AW γ l x Q nL h sz k n pc L (.int b :: .int a :: st) := fun H locs ls h1 h2 h3 h4 => lv_icmp_eq C.hx C.hb d ht (fun z => kt z H locs ls h1 h2 h3 h4) (fun z => kf z H locs ls h1 h2 h3 h4)
theorem aw_icmpN_eq (C : Cx γ l x y cc nL ret rm et) {i j : Nat} {off : Int} {tgt : Nat} (hi : i < 2 ^ 31) (hj : j < 2 ^ 31) (d : decode cc pc = .ok (.if_icmp .eq off, 3)) (ht : (pc : Int) + off = (tgt : Int)) (kt : i = j → AW γ l x Q nL h sz k n tgt L st) (kf : ¬ i = j → AW γ l x Q nL h sz k n (pc + 3) L st) : AW γ l x Q nL h sz k n pc L (.int (nI j) :: .int (nI i) :: st) := by
  refine aw_icmp_eq C d ht (fun z => kt ?_) (fun z => kf ?_)
  · exact (nI_eq hi hj).mp z
  · exact fun w => z ((nI_eq hi hj).mpr w)
theorem aw_ifN_eq (C : Cx γ l x y cc nL ret rm et) {i : Nat} {off : Int} {tgt : Nat} (hi : i < 2 ^ 31) (d : decode cc pc = .ok (.ifCond .eq off, 3)) (ht : (pc : Int) + off = (tgt : Int)) (kt : i = 0 → AW γ l x Q nL h sz k n tgt L st) (kf : ¬ i = 0 → AW γ l x Q nL h sz k n (pc + 3) L st) : AW γ l x Q nL h sz k n pc L (.int (nI i) :: st) := by
  have h0 : (0 : Int32) = nI 0 := rfl
  refine aw_if_eq C d ht (fun z => kt ?_) (fun z => kf ?_)
  · rw [h0] at z; exact (nI_eq hi (by decide)).mp z
  · rw [h0] at z; exact fun w => z ((nI_eq hi (by decide)).mpr w)
theorem aw_if_ne (C : Cx γ l x y cc nL ret rm et) {a : Int32} {off : Int} {tgt : Nat} (d : decode cc pc = .ok (.ifCond .ne off, 3)) (ht : (pc : Int) + off = (tgt : Int)) (kt : ¬ a = 0 → AW γ l x Q nL h sz k n tgt L st) (kf : a = 0 → AW γ l x Q nL h sz k n (pc + 3) L st) : AW γ l x Q nL h sz k n pc L (.int a :: st) := fun H locs ls h1 h2 h3 h4 => lv_if_ne C.hx C.hb d ht (fun z => kt z H locs ls h1 h2 h3 h4) (fun z => kf z H locs ls h1 h2 h3 h4)
theorem aw_icmp_ne (C : Cx γ l x y cc nL ret rm et) {a b : Int32} {off : Int} {tgt : Nat} (d : decode cc pc = .ok (.if_icmp .ne off, 3)) (ht : (pc : Int) + off = (tgt : Int)) (kt : ¬ a = b → AW γ l x Q nL h sz k n tgt L st) (kf : a = b → AW γ l x Q nL h sz k n (pc + 3) L st) : AW γ l x Q nL h sz k n pc L (.int b :: .int a :: st) := fun H locs ls h1 h2 h3 h4 => lv_icmp_ne C.hx C.hb d ht (fun z => kt z H locs ls h1 h2 h3 h4) (fun z => kf z H locs ls h1 h2 h3 h4)
theorem aw_icmpN_ne (C : Cx γ l x y cc nL ret rm et) {i j : Nat} {off : Int} {tgt : Nat} (hi : i < 2 ^ 31) (hj : j < 2 ^ 31) (d : decode cc pc = .ok (.if_icmp .ne off, 3)) (ht : (pc : Int) + off = (tgt : Int)) (kt : ¬ i = j → AW γ l x Q nL h sz k n tgt L st) (kf : i = j → AW γ l x Q nL h sz k n (pc + 3) L st) : AW γ l x Q nL h sz k n pc L (.int (nI j) :: .int (nI i) :: st) := by
  refine aw_icmp_ne C d ht (fun z => kt ?_) (fun z => kf ?_)
  · exact fun w => z ((nI_eq hi hj).mpr w)
  · exact (nI_eq hi hj).mp z
theorem aw_ifN_ne (C : Cx γ l x y cc nL ret rm et) {i : Nat} {off : Int} {tgt : Nat} (hi : i < 2 ^ 31) (d : decode cc pc = .ok (.ifCond .ne off, 3)) (ht : (pc : Int) + off = (tgt : Int)) (kt : ¬ i = 0 → AW γ l x Q nL h sz k n tgt L st) (kf : i = 0 → AW γ l x Q nL h sz k n (pc + 3) L st) : AW γ l x Q nL h sz k n pc L (.int (nI i) :: st) := by
  have h0 : (0 : Int32) = nI 0 := rfl
  refine aw_if_ne C d ht (fun z => kt ?_) (fun z => kf ?_)
  · rw [h0] at z; exact fun w => z ((nI_eq hi (by decide)).mpr w)
  · rw [h0] at z; exact (nI_eq hi (by decide)).mp z
theorem aw_if_lt (C : Cx γ l x y cc nL ret rm et) {a : Int32} {off : Int} {tgt : Nat} (d : decode cc pc = .ok (.ifCond .lt off, 3)) (ht : (pc : Int) + off = (tgt : Int)) (kt : a < 0 → AW γ l x Q nL h sz k n tgt L st) (kf : ¬ a < 0 → AW γ l x Q nL h sz k n (pc + 3) L st) : AW γ l x Q nL h sz k n pc L (.int a :: st) := fun H locs ls h1 h2 h3 h4 => lv_if_lt C.hx C.hb d ht (fun z => kt z H locs ls h1 h2 h3 h4) (fun z => kf z H locs ls h1 h2 h3 h4)
theorem aw_icmp_lt (C : Cx γ l x y cc nL ret rm et) {a b : Int32} {off : Int} {tgt : Nat} (d : decode cc pc = .ok (.if_icmp .lt off, 3)) (ht : (pc : Int) + off = (tgt : Int)) (kt : a < b → AW γ l x Q nL h sz k n tgt L st) (kf : ¬ a < b → AW γ l x Q nL h sz k n (pc + 3) L st) : AW γ l x Q nL h sz k n pc L (.int b :: .int a :: st) := fun H locs ls h1 h2 h3 h4 => lv_icmp_lt C.hx C.hb d ht (fun z => kt z H locs ls h1 h2 h3 h4) (fun z => kf z H locs ls h1 h2 h3 h4)
theorem aw_icmpN_lt (C : Cx γ l x y cc nL ret rm et) {i j : Nat} {off : Int} {tgt : Nat} (hi : i < 2 ^ 31) (hj : j < 2 ^ 31) (d : decode cc pc = .ok (.if_icmp .lt off, 3)) (ht : (pc : Int) + off = (tgt : Int)) (kt : i < j → AW γ l x Q nL h sz k n tgt L st) (kf : j ≤ i → AW γ l x Q nL h sz k n (pc + 3) L st) : AW γ l x Q nL h sz k n pc L (.int (nI j) :: .int (nI i) :: st) := by
  refine aw_icmp_lt C d ht (fun z => kt ?_) (fun z => kf ?_)
  · exact (nI_ltI hi hj).mp z
  · exact Nat.not_lt.mp (fun w => z ((nI_ltI hi hj).mpr w))
theorem aw_ifN_lt (C : Cx γ l x y cc nL ret rm et) {i : Nat} {off : Int} {tgt : Nat} (hi : i < 2 ^ 31) (d : decode cc pc = .ok (.ifCond .lt off, 3)) (ht : (pc : Int) + off = (tgt : Int)) (kt : False → AW γ l x Q nL h sz k n tgt L st) (kf : True → AW γ l x Q nL h sz k n (pc + 3) L st) : AW γ l x Q nL h sz k n pc L (.int (nI i) :: st) := by
  have h0 : (0 : Int32) = nI 0 := rfl
  refine aw_if_lt C d ht (fun z => kt ?_) (fun z => kf ?_)
  · exact absurd z (nI_pos hi)
  · trivial
theorem aw_if_ge (C : Cx γ l x y cc nL ret rm et) {a : Int32} {off : Int} {tgt : Nat} (d : decode cc pc = .ok (.ifCond .ge off, 3)) (ht : (pc : Int) + off = (tgt : Int)) (kt : 0 ≤ a → AW γ l x Q nL h sz k n tgt L st) (kf : ¬ 0 ≤ a → AW γ l x Q nL h sz k n (pc + 3) L st) : AW γ l x Q nL h sz k n pc L (.int a :: st) := fun H locs ls h1 h2 h3 h4 => lv_if_ge C.hx C.hb d ht (fun z => kt z H locs ls h1 h2 h3 h4) (fun z => kf z H locs ls h1 h2 h3 h4)
theorem aw_icmp_ge (C : Cx γ l x y cc nL ret rm et) {a b : Int32} {off : Int} {tgt : Nat} (d : decode cc pc = .ok (.if_icmp .ge off, 3)) (ht : (pc : Int) + off = (tgt : Int)) (kt : b ≤ a → AW γ l x Q nL h sz k n tgt L st) (kf : ¬ b ≤ a → AW γ l x Q nL h sz k n (pc + 3) L st) : AW γ l x Q nL h sz k n pc L (.int b :: .int a :: st) := fun H locs ls h1 h2 h3 h4 => lv_icmp_ge C.hx C.hb d ht (fun z => kt z H locs ls h1 h2 h3 h4) (fun z => kf z H locs ls h1 h2 h3 h4)
theorem aw_icmpN_ge (C : Cx γ l x y cc nL ret rm et) {i j : Nat} {off : Int} {tgt : Nat} (hi : i < 2 ^ 31) (hj : j < 2 ^ 31) (d : decode cc pc = .ok (.if_icmp .ge off, 3)) (ht : (pc : Int) + off = (tgt : Int)) (kt : j ≤ i → AW γ l x Q nL h sz k n tgt L st) (kf : i < j → AW γ l x Q nL h sz k n (pc + 3) L st) : AW γ l x Q nL h sz k n pc L (.int (nI j) :: .int (nI i) :: st) := by
  refine aw_icmp_ge C d ht (fun z => kt ?_) (fun z => kf ?_)
  · exact (nI_leI hj hi).mp z
  · exact Nat.not_le.mp (fun w => z ((nI_leI hj hi).mpr w))
theorem aw_ifN_ge (C : Cx γ l x y cc nL ret rm et) {i : Nat} {off : Int} {tgt : Nat} (hi : i < 2 ^ 31) (d : decode cc pc = .ok (.ifCond .ge off, 3)) (ht : (pc : Int) + off = (tgt : Int)) (kt : True → AW γ l x Q nL h sz k n tgt L st) (kf : False → AW γ l x Q nL h sz k n (pc + 3) L st) : AW γ l x Q nL h sz k n pc L (.int (nI i) :: st) := by
  have h0 : (0 : Int32) = nI 0 := rfl
  refine aw_if_ge C d ht (fun z => kt ?_) (fun z => kf ?_)
  · trivial
  · exact absurd (nI_pos' hi) z
theorem aw_if_gt (C : Cx γ l x y cc nL ret rm et) {a : Int32} {off : Int} {tgt : Nat} (d : decode cc pc = .ok (.ifCond .gt off, 3)) (ht : (pc : Int) + off = (tgt : Int)) (kt : 0 < a → AW γ l x Q nL h sz k n tgt L st) (kf : ¬ 0 < a → AW γ l x Q nL h sz k n (pc + 3) L st) : AW γ l x Q nL h sz k n pc L (.int a :: st) := fun H locs ls h1 h2 h3 h4 => lv_if_gt C.hx C.hb d ht (fun z => kt z H locs ls h1 h2 h3 h4) (fun z => kf z H locs ls h1 h2 h3 h4)
theorem aw_icmp_gt (C : Cx γ l x y cc nL ret rm et) {a b : Int32} {off : Int} {tgt : Nat} (d : decode cc pc = .ok (.if_icmp .gt off, 3)) (ht : (pc : Int) + off = (tgt : Int)) (kt : b < a → AW γ l x Q nL h sz k n tgt L st) (kf : ¬ b < a → AW γ l x Q nL h sz k n (pc + 3) L st) : AW γ l x Q nL h sz k n pc L (.int b :: .int a :: st) := fun H locs ls h1 h2 h3 h4 => lv_icmp_gt C.hx C.hb d ht (fun z => kt z H locs ls h1 h2 h3 h4) (fun z => kf z H locs ls h1 h2 h3 h4)
theorem aw_icmpN_gt (C : Cx γ l x y cc nL ret rm et) {i j : Nat} {off : Int} {tgt : Nat} (hi : i < 2 ^ 31) (hj : j < 2 ^ 31) (d : decode cc pc = .ok (.if_icmp .gt off, 3)) (ht : (pc : Int) + off = (tgt : Int)) (kt : j < i → AW γ l x Q nL h sz k n tgt L st) (kf : i ≤ j → AW γ l x Q nL h sz k n (pc + 3) L st) : AW γ l x Q nL h sz k n pc L (.int (nI j) :: .int (nI i) :: st) := by
  refine aw_icmp_gt C d ht (fun z => kt ?_) (fun z => kf ?_)
  · exact (nI_ltI hj hi).mp z
  · exact Nat.not_lt.mp (fun w => z ((nI_ltI hj hi).mpr w))
theorem aw_ifN_gt (C : Cx γ l x y cc nL ret rm et) {i : Nat} {off : Int} {tgt : Nat} (hi : i < 2 ^ 31) (d : decode cc pc = .ok (.ifCond .gt off, 3)) (ht : (pc : Int) + off = (tgt : Int)) (kt : 0 < i → AW γ l x Q nL h sz k n tgt L st) (kf : i = 0 → AW γ l x Q nL h sz k n (pc + 3) L st) : AW γ l x Q nL h sz k n pc L (.int (nI i) :: st) := by
  have h0 : (0 : Int32) = nI 0 := rfl
  refine aw_if_gt C d ht (fun z => kt ?_) (fun z => kf ?_)
  · rw [h0] at z; exact (nI_ltI (by decide) hi).mp z
  · rw [h0] at z; have := mt (nI_ltI (by decide) hi).mpr z; omega
theorem aw_if_le (C : Cx γ l x y cc nL ret rm et) {a : Int32} {off : Int} {tgt : Nat} (d : decode cc pc = .ok (.ifCond .le off, 3)) (ht : (pc : Int) + off = (tgt : Int)) (kt : a ≤ 0 → AW γ l x Q nL h sz k n tgt L st) (kf : ¬ a ≤ 0 → AW γ l x Q nL h sz k n (pc + 3) L st) : AW γ l x Q nL h sz k n pc L (.int a :: st) := fun H locs ls h1 h2 h3 h4 => lv_if_le C.hx C.hb d ht (fun z => kt z H locs ls h1 h2 h3 h4) (fun z => kf z H locs ls h1 h2 h3 h4)
theorem aw_icmp_le (C : Cx γ l x y cc nL ret rm et) {a b : Int32} {off : Int} {tgt : Nat} (d : decode cc pc = .ok (.if_icmp .le off, 3)) (ht : (pc : Int) + off = (tgt : Int)) (kt : a ≤ b → AW γ l x Q nL h sz k n tgt L st) (kf : ¬ a ≤ b → AW γ l x Q nL h sz k n (pc + 3) L st) : AW γ l x Q nL h sz k n pc L (.int b :: .int a :: st) := fun H locs ls h1 h2 h3 h4 => lv_icmp_le C.hx C.hb d ht (fun z => kt z H locs ls h1 h2 h3 h4) (fun z => kf z H locs ls h1 h2 h3 h4)
theorem aw_icmpN_le (C : Cx γ l x y cc nL ret rm et) {i j : Nat} {off : Int} {tgt : Nat} (hi : i < 2 ^ 31) (hj : j < 2 ^ 31) (d : decode cc pc = .ok (.if_icmp .le off, 3)) (ht : (pc : Int) + off = (tgt : Int)) (kt : i ≤ j → AW γ l x Q nL h sz k n tgt L st) (kf : j < i → AW γ l x Q nL h sz k n (pc + 3) L st) : AW γ l x Q nL h sz k n pc L (.int (nI j) :: .int (nI i) :: st) := by
  refine aw_icmp_le C d ht (fun z => kt ?_) (fun z => kf ?_)
  · exact (nI_leI hi hj).mp z
  · exact Nat.not_le.mp (fun w => z ((nI_leI hi hj).mpr w))
theorem aw_ifN_le (C : Cx γ l x y cc nL ret rm et) {i : Nat} {off : Int} {tgt : Nat} (hi : i < 2 ^ 31) (d : decode cc pc = .ok (.ifCond .le off, 3)) (ht : (pc : Int) + off = (tgt : Int)) (kt : i = 0 → AW γ l x Q nL h sz k n tgt L st) (kf : 0 < i → AW γ l x Q nL h sz k n (pc + 3) L st) : AW γ l x Q nL h sz k n pc L (.int (nI i) :: st) := by
  have h0 : (0 : Int32) = nI 0 := rfl
  refine aw_if_le C d ht (fun z => kt ?_) (fun z => kf ?_)
  · rw [h0] at z; have := (nI_leI hi (by decide)).mp z; omega
  · rw [h0] at z; have := mt (nI_leI hi (by decide)).mpr z; omega
theorem aw_goto (C : Cx γ l x y cc nL ret rm et) {off : Int} {tgt : Nat} (d : decode cc pc = .ok (.goto off, 3)) (ht : (pc : Int) + off = (tgt : Int)) (kk : AW γ l x Q nL h sz k n tgt L st) : AW γ l x Q nL h sz k n pc L st := fun H locs ls h1 h2 h3 h4 => lv_goto C.hx C.hb d ht (kk H locs ls h1 h2 h3 h4)
theorem aw_ifnonnull (C : Cx γ l x y cc nL ret rm et) {a : Nat} {off : Int} {tgt : Nat} (d : decode cc pc = .ok (.ifnonnull off, 3)) (ht : (pc : Int) + off = (tgt : Int)) (kk : AW γ l x Q nL h sz k n tgt L st) : AW γ l x Q nL h sz k n pc L (.ref a :: st) := fun H locs ls h1 h2 h3 h4 => lv_ifnonnull C.hx C.hb d ht (kk H locs ls h1 h2 h3 h4)
theorem aw_ifnonnullN (C : Cx γ l x y cc nL ret rm et) {off : Int} (d : decode cc pc = .ok (.ifnonnull off, 3)) (kk : AW γ l x Q nL h sz k n (pc + 3) L st) : AW γ l x Q nL h sz k n pc L (.null :: st) := fun H locs ls h1 h2 h3 h4 => lv_ifnonnullN C.hx C.hb d (kk H locs ls h1 h2 h3 h4)
theorem aw_ifnull (C : Cx γ l x y cc nL ret rm et) {a : Nat} {off : Int} (d : decode cc pc = .ok (.ifnull off, 3)) (kk : AW γ l x Q nL h sz k n (pc + 3) L st) : AW γ l x Q nL h sz k n pc L (.ref a :: st) := fun H locs ls h1 h2 h3 h4 => lv_ifnull C.hx C.hb d (kk H locs ls h1 h2 h3 h4)
theorem aw_ifnullN (C : Cx γ l x y cc nL ret rm et) {off : Int} {tgt : Nat} (d : decode cc pc = .ok (.ifnull off, 3)) (ht : (pc : Int) + off = (tgt : Int)) (kk : AW γ l x Q nL h sz k n tgt L st) : AW γ l x Q nL h sz k n pc L (.null :: st) := fun H locs ls h1 h2 h3 h4 => lv_ifnullN C.hx C.hb d ht (kk H locs ls h1 h2 h3 h4)
theorem aw_acmp_eq (C : Cx γ l x y cc nL ret rm et) {rx ry : Option Nat} {off : Int} {tgt : Nat} (d : decode cc pc = .ok (.if_acmp .eq off, 3)) (ht : (pc : Int) + off = (tgt : Int)) (kt : rx = ry → AW γ l x Q nL h sz k n tgt L st) (kf : ¬ rx = ry → AW γ l x Q nL h sz k n (pc + 3) L st) : AW γ l x Q nL h sz k n pc L (va_rf ry :: va_rf rx :: st) := fun H locs ls h1 h2 h3 h4 => lv_acmp_eq C.hx C.hb d ht (fun z => kt z H locs ls h1 h2 h3 h4) (fun z => kf z H locs ls h1 h2 h3 h4)
theorem aw_acmp_ne (C : Cx γ l x y cc nL ret rm et) {rx ry : Option Nat} {off : Int} {tgt : Nat} (d : decode cc pc = .ok (.if_acmp .ne off, 3)) (ht : (pc : Int) + off = (tgt : Int)) (kt : ¬ rx = ry → AW γ l x Q nL h sz k n tgt L st) (kf : rx = ry → AW γ l x Q nL h sz k n (pc + 3) L st) : AW γ l x Q nL h sz k n pc L (va_rf ry :: va_rf rx :: st) := fun H locs ls h1 h2 h3 h4 => lv_acmp_ne C.hx C.hb d ht (fun z => kt z H locs ls h1 h2 h3 h4) (fun z => kf z H locs ls h1 h2 h3 h4)
theorem aw_tableOut (C : Cx γ l x y cc nL ret rm et) {dflt lo hi : Int} {offs : Array Int} {len : Nat} {a : Int32} {tgt : Nat} (d : decode cc pc = .ok (.tableswitch dflt lo hi offs, len)) (hh : a.toInt < lo ∨ hi < a.toInt) (ht : (pc : Int) + dflt = (tgt : Int)) (kk : AW γ l x Q nL h sz k n tgt L st) : AW γ l x Q nL h sz k n pc L (.int a :: st) := fun H locs ls h1 h2 h3 h4 => lv_tableOut C.hx C.hb d hh ht (kk H locs ls h1 h2 h3 h4)
theorem aw_tableIn (C : Cx γ l x y cc nL ret rm et) {dflt lo hi : Int} {offs : Array Int} {len : Nat} {a : Int32} {off : Int} {tgt : Nat} (d : decode cc pc = .ok (.tableswitch dflt lo hi offs, len)) (g1 : ¬ a.toInt < lo) (g2 : ¬ hi < a.toInt) (ho : offs[(a.toInt - lo).toNat]? = some off) (ht : (pc : Int) + off = (tgt : Int)) (kk : AW γ l x Q nL h sz k n tgt L st) : AW γ l x Q nL h sz k n pc L (.int a :: st) := fun H locs ls h1 h2 h3 h4 => lv_tableIn C.hx C.hb d g1 g2 ho ht (kk H locs ls h1 h2 h3 h4)
theorem aw_ldc (C : Cx γ l x y cc nL ret rm et) {index : Nat} {v : Int32} (q : Jvm.Cond.constant y.cls index v ∈ lw_all) (d : decode cc pc = .ok (.ldc index, 2)) (kk : AW γ l x Q nL h sz k n (pc + 2) L (.int v :: st)) : AW γ l x Q nL h sz k n pc L st := fun H locs ls h1 h2 h3 h4 => lv_ldc C.hx C.hb C.hown (C.hts _ q) d (kk H locs ls h1 h2 h3 h4)
theorem aw_ldc2 (C : Cx γ l x y cc nL ret rm et) {index : Nat} {v : Int64} (q : Jvm.Cond.constantLong y.cls index v ∈ lw_all) (d : decode cc pc = .ok (.ldc2_w index, 3)) (kk : AW γ l x Q nL h sz k n (pc + 3) L (.long v :: st)) : AW γ l x Q nL h sz k n pc L st := fun H locs ls h1 h2 h3 h4 => lv_ldc2 C.hx C.hb C.hown (C.hts _ q) d (kk H locs ls h1 h2 h3 h4)
/-! fields -/
theorem aw_getf (C : Cx γ l x y cc nL ret rm et) {ci N : Nat} {Cn ref : String} {T : u_T} {ty : Nat → FieldType} (K : CKF ci Cn T N ty) (i : Nat) (hi : i < N) {index a : Nat} {fs : List Value} {v : Value} (q : Cond.fieldLink y.cls index ref (T i).2.1 (T i).2.2.1 ∈ lw_all) (hsame : ∀ z, x.s.fieldFound? (T i).1 (T i).2.1 (T i).2.2.1 = some z → x.s.fieldFound? ref (T i).2.1 (T i).2.2.1 = some z) (he : h a = some (.inr (ci, fs))) (hv : fs[i]? = some v) (d : decode cc pc = .ok (.getfield index, 3)) (kk : AW γ l x Q nL h sz k n (pc + 3) L (v :: st)) : AW γ l x Q nL h sz k n pc L (.ref a :: st) := fun H locs ls h1 h2 h3 h4 =>
  va_get (D := γ.1) (ci := ci) (v := v) (C := Cn) (T := T) (N := N) C.hx C.hb C.hts K.2.1 C.hown C.hK (h2.one he) 0 rfl K.1 i hi (C.hts _ q) hsame hv d (kk H locs ls h1 h2 h3 h4)
theorem aw_getfN (C : Cx γ l x y cc nL ret rm et) {ci N : Nat} {Cn ref host : String} {T : u_T} {ty : Nat → FieldType} (K : CKF ci Cn T N ty) (i : Nat) (hi : i < N) {index a : Nat} {fs : List Value} {v : Value} (q : Cond.fieldLinkNest y.cls index ref (T i).2.1 (T i).2.2.1 host ∈ lw_tbl) (hsame : ∀ z, x.s.fieldFound? (T i).1 (T i).2.1 (T i).2.2.1 = some z → x.s.fieldFound? ref (T i).2.1 (T i).2.2.1 = some z) (he : h a = some (.inr (ci, fs))) (hv : fs[i]? = some v) (d : decode cc pc = .ok (.getfield index, 3)) (kk : AW γ l x Q nL h sz k n (pc + 3) L (v :: st)) : AW γ l x Q nL h sz k n pc L (.ref a :: st) := fun H locs ls h1 h2 h3 h4 =>
  va_getN (D := γ.1) (ci := ci) (v := v) (C := Cn) (T := T) (N := N) C.hx C.hb C.hts K.2.1 C.hown C.hK (h2.one he) 0 rfl K.1 i hi (va_Nw.use rfl (C.nest q rfl)) hsame hv d (kk H locs ls h1 h2 h3 h4)
theorem aw_putf (C : Cx γ l x y cc nL ret rm et) {ci N : Nat} {Cn ref : String} {T : u_T} {ty0 : Nat → FieldType} (K : CKF ci Cn T N ty0) (i : Nat) (hi : i < N) {index a : Nat} {fs : List Value} {v : Value} {ty : FieldType} (q : Cond.fieldLink y.cls index ref (T i).2.1 (T i).2.2.1 ∈ lw_all) (hsame : ∀ z, x.s.fieldFound? (T i).1 (T i).2.1 (T i).2.2.1 = some z → x.s.fieldFound? ref (T i).2.1 (T i).2.2.1 = some z) (hfin : (T i).2.2.2 = false) (hty : ty0 i = ty) (hn : narrow ty v = v) (hfit : fits ty v = true) (he : h a = some (.inr (ci, fs))) (hl : i < fs.length) (d : decode cc pc = .ok (.putfield index, 3)) (kk : AW γ l x Q nL (hset h a (.inr (ci, fs.set i v))) sz k n (pc + 3) L st) : AW γ l x Q nL h sz k n pc L (v :: .ref a :: st) := by
  intro H locs ls h1 h2 h3 h4
  have hap := va_apart (D := γ.1) (own := y.cls) C.hts K.2.1 ty0 K.2.2.1 K.2.2.2 C.hK K.1
  obtain ⟨hz, r, g1, cell, q1, q2, q3, q4⟩ := h2 a _ he
  have hr : r = (Cn, T, N) := Option.some.inj (g1.symm.trans K.1)
  subst hr
  obtain ⟨hS, hfc, kC, hkC, hkind⟩ := C.hK.1 ci _ K.1
  obtain ⟨cf, kf, fi, f, hif, hsl⟩ := hS i hi
  have hlay := C.hts _ (K.2.1 _ (u_in_lay hi))
  unfold u_lay at hlay
  rw [if_neg (by rw [hfin]; decide)] at hlay
  have hst := (u_facts hfc hkC (u_lays C.hts K.2.1 hi) hif).1
  have h6 := u_store hfc hkC hkind hlay hif (by rw [K.2.2.1 i hi, hty]) hn hfit
  refine W.putK C.hx C.hb (f := f) ⟨C.hown, C.hts _ q, ⟨_, _, _, hsame _ hif⟩, hst⟩ (by rw [q2]; exact h6) q1 q3 (by rw [hsl]; exact k2_hasslot (q4 i hi)) rfl rfl d fun H' e1 e2 e3 => ?_
  rw [hsl] at e1 ⊢
  exact kk H' _ ls (e2.trans h1) (h2.set hz ⟨_, K.1, t_OB.to (V := updV (vp_V fs) i v) ⟨_, e1, q2, q3, t_set q4 hap hi v⟩ (fun j _ => vp_updV_set hl v j)⟩ e3) (h3.put e2 e3 hz) h4
theorem aw_putfN (C : Cx γ l x y cc nL ret rm et) {ci N : Nat} {Cn ref host : String} {T : u_T} {ty0 : Nat → FieldType} (K : CKF ci Cn T N ty0) (i : Nat) (hi : i < N) {index a : Nat} {fs : List Value} {v : Value} {ty : FieldType} (q : Cond.fieldLinkNest y.cls index ref (T i).2.1 (T i).2.2.1 host ∈ lw_tbl) (hsame : ∀ z, x.s.fieldFound? (T i).1 (T i).2.1 (T i).2.2.1 = some z → x.s.fieldFound? ref (T i).2.1 (T i).2.2.1 = some z) (hfin : (T i).2.2.2 = false) (hty : ty0 i = ty) (hn : narrow ty v = v) (hfit : fits ty v = true) (he : h a = some (.inr (ci, fs))) (hl : i < fs.length) (d : decode cc pc = .ok (.putfield index, 3)) (kk : AW γ l x Q nL (hset h a (.inr (ci, fs.set i v))) sz k n (pc + 3) L st) : AW γ l x Q nL h sz k n pc L (v :: .ref a :: st) := by
  intro H locs ls h1 h2 h3 h4
  have hap := va_apart (D := γ.1) (own := y.cls) C.hts K.2.1 ty0 K.2.2.1 K.2.2.2 C.hK K.1
  obtain ⟨hz, r, g1, cell, q1, q2, q3, q4⟩ := h2 a _ he
  have hr : r = (Cn, T, N) := Option.some.inj (g1.symm.trans K.1)
  subst hr
  obtain ⟨hS, hfc, kC, hkC, hkind⟩ := C.hK.1 ci _ K.1
  obtain ⟨cf, kf, fi, f, hif, hsl⟩ := hS i hi
  have hlay := C.hts _ (K.2.1 _ (u_in_lay hi))
  unfold u_lay at hlay
  rw [if_neg (by rw [hfin]; decide)] at hlay
  have hst := (u_facts hfc hkC (u_lays C.hts K.2.1 hi) hif).1
  have h6 := u_store hfc hkC hkind hlay hif (by rw [K.2.2.1 i hi, hty]) hn hfit
  refine va_WputK C.hx C.hb (f := f) C.hown (va_Nw.use rfl (C.nest q rfl)) (hsame _ hif) hst (by rw [q2]; exact h6) q1 q3 (by rw [hsl]; exact k2_hasslot (q4 i hi)) rfl rfl d fun H' e1 e2 e3 => ?_
  rw [hsl] at e1 ⊢
  exact kk H' _ ls (e2.trans h1) (h2.set hz ⟨_, K.1, t_OB.to (V := updV (vp_V fs) i v) ⟨_, e1, q2, q3, t_set q4 hap hi v⟩ (fun j _ => vp_updV_set hl v j)⟩ e3) (h3.put e2 e3 hz) h4
theorem aw_putfF (C : Cx γ l x y cc nL ret rm et) {ci N : Nat} {Cn ref : String} {T : u_T} {ty0 : Nat → FieldType} (K : CKF ci Cn T N ty0) (i : Nat) (hi : i < N) {index a : Nat} {fs : List Value} {v : Value} {ty : FieldType} (q : Cond.fieldLink y.cls index ref (T i).2.1 (T i).2.2.1 ∈ lw_all) (hsame : ∀ z, x.s.fieldFound? (T i).1 (T i).2.1 (T i).2.2.1 = some z → x.s.fieldFound? ref (T i).2.1 (T i).2.2.1 = some z) (hfin : (T i).2.2.2 = true) (hin2 : y.name = "<init>") (hdecl : (T i).1 = y.cls) (hty : ty0 i = ty) (hn : narrow ty v = v) (hfit : fits ty v = true) (he : h a = some (.inr (ci, fs))) (hl : i < fs.length) (d : decode cc pc = .ok (.putfield index, 3)) (kk : AW γ l x Q nL (hset h a (.inr (ci, fs.set i v))) sz k n (pc + 3) L st) : AW γ l x Q nL h sz k n pc L (v :: .ref a :: st) := by
  intro H locs ls h1 h2 h3 h4
  have hap := va_apart (D := γ.1) (own := y.cls) C.hts K.2.1 ty0 K.2.2.1 K.2.2.2 C.hK K.1
  obtain ⟨hz, r, g1, cell, q1, q2, q3, q4⟩ := h2 a _ he
  have hr : r = (Cn, T, N) := Option.some.inj (g1.symm.trans K.1)
  subst hr
  obtain ⟨hS, hfc, kC, hkC, hkind⟩ := C.hK.1 ci _ K.1
  obtain ⟨cf, kf, fi, f, hif, hsl⟩ := hS i hi
  have hlay := C.hts _ (K.2.1 _ (u_in_lay hi))
  unfold u_lay at hlay
  rw [if_pos hfin] at hlay
  have hst := (u_facts hfc hkC (u_lays C.hts K.2.1 hi) hif).1
  have hcf : x.m.cls = cf := by
    obtain ⟨_, _, c', _, _, _, -, -, hf', -, -, -, hown2, -⟩ := Cond.laysFinal_spec hlay
    have e1 : c' = cf := by have := hif.symm.trans hf'; simp at this; exact this.1.symm
    rw [hdecl] at hown2
    rw [← e1]; exact Option.some.inj (C.hown.symm.trans hown2)
  have h6 := u_fits hfc hkC hkind (Or.inr hlay) hif (by rw [K.2.2.1 i hi, hty]) hn hfit
  refine W.putFinK C.hx C.hb C.hown (C.hts _ q) (hsame _ hif) hst hcf (C.hnm.trans hin2) (by rw [q2]; exact h6) q1 q3 (by rw [hsl]; exact k2_hasslot (q4 i hi)) rfl rfl d fun H' e1 e2 e3 => ?_
  rw [hsl] at e1 ⊢
  exact kk H' _ ls (e2.trans h1) (h2.set hz ⟨_, K.1, t_OB.to (V := updV (vp_V fs) i v) ⟨_, e1, q2, q3, t_set q4 hap hi v⟩ (fun j _ => vp_updV_set hl v j)⟩ e3) (h3.put e2 e3 hz) h4
/-! arrays -/
theorem aw_iald (C : Cx γ l x y cc nL ret rm et) {a m : Nat} {f : Nat → Int32} {i : Int32} (he : h a = some (.inl (0, m, .inl f))) (hi : vp_in i m) (d : decode cc pc = .ok (.iaload, 1)) (kk : AW γ l x Q nL h sz k n (pc + 1) L (.int (f i.toNatClampNeg) :: st)) : AW γ l x Q nL h sz k n pc L (.int i :: .ref a :: st) := fun H locs ls h1 h2 h3 h4 =>
  va_iald C.hx C.hb C.hK (h2.one he) 0 0 rfl rfl hi d (kk H locs ls h1 h2 h3 h4)
theorem aw_ialdN (C : Cx γ l x y cc nL ret rm et) {a m j : Nat} {f : Nat → Int32} (he : h a = some (.inl (0, m, .inl f))) (hi : j < m) (hm : m < 2 ^ 31) (d : decode cc pc = .ok (.iaload, 1)) (kk : AW γ l x Q nL h sz k n (pc + 1) L (.int (f j) :: st)) : AW γ l x Q nL h sz k n pc L (.int (nI j) :: .ref a :: st) := by
  refine aw_iald C he (vp_in_nI hi hm) d ?_
  rw [nI_clamp (by omega)]
  exact kk
theorem aw_baldN (C : Cx γ l x y cc nL ret rm et) {a m j : Nat} {f : Nat → Int32} (he : h a = some (.inl (1, m, .inl f))) (hi : j < m) (hm : m < 2 ^ 31) (d : decode cc pc = .ok (.baload, 1)) (kk : AW γ l x Q nL h sz k n (pc + 1) L (.int (f j) :: st)) : AW γ l x Q nL h sz k n pc L (.int (nI j) :: .ref a :: st) := fun H locs ls h1 h2 h3 h4 =>
  va_bald C.hx C.hb C.hK (h2.one he) 0 1 rfl rfl (vp_in_nI hi hm) d (by rw [nI_clamp (by omega)]; exact kk H locs ls h1 h2 h3 h4)
theorem aw_zaldN (C : Cx γ l x y cc nL ret rm et) {a m j : Nat} {f : Nat → Int32} (he : h a = some (.inl (3, m, .inl f))) (hi : j < m) (hm : m < 2 ^ 31) (d : decode cc pc = .ok (.baload, 1)) (kk : AW γ l x Q nL h sz k n (pc + 1) L (.int (f j) :: st)) : AW γ l x Q nL h sz k n pc L (.int (nI j) :: .ref a :: st) := fun H locs ls h1 h2 h3 h4 =>
  va_zald C.hx C.hb C.hK (h2.one he) 0 3 rfl rfl (vp_in_nI hi hm) d (by rw [nI_clamp (by omega)]; exact kk H locs ls h1 h2 h3 h4)
theorem aw_laldN (C : Cx γ l x y cc nL ret rm et) {a m j : Nat} {f : Nat → Int64} (he : h a = some (.inl (2, m, .inr (.inl f)))) (hi : j < m) (hm : m < 2 ^ 31) (d : decode cc pc = .ok (.laload, 1)) (kk : AW γ l x Q nL h sz k n (pc + 1) L (.long (f j) :: st)) : AW γ l x Q nL h sz k n pc L (.int (nI j) :: .ref a :: st) := fun H locs ls h1 h2 h3 h4 =>
  va_lald C.hx C.hb C.hK (h2.one he) 0 2 rfl rfl (vp_in_nI hi hm) d (by rw [nI_clamp (by omega)]; exact kk H locs ls h1 h2 h3 h4)
theorem aw_ast1 {a m : Nat} {f g : Nat → Int32} {t : Nat} {H H1 : Heap} {locs : List Loc} {i : Int32} {v : Value} (h2 : Rep γ h H) (h3 : va_S γ.W x.s.heap H locs) (he : h a = some (.inl (t, m, .inl f))) (hg : (fun j => Value.int (g j)) = updV (fun j => Value.int (f j)) i.toNatClampNeg v) (e : H1[a]? = some ((arrV (γ.2.1 t) m (fun j => .int (f j))).setSlot i.toNatClampNeg v)) (z : H1.size = H.size) (oq : ∀ q, q ≠ a → H1[q]? = H[q]?) :
    Rep γ (hset h a (.inl (t, m, .inl g))) H1 ∧ va_S γ.W x.s.heap H1 (locs ++ [⟨a, i.toNatClampNeg⟩]) := by
  refine ⟨h2.set (h2 a _ he).1 ?_ oq, h3.put z oq (h2 a _ he).1⟩
  show H1[a]? = some (vp_cell _ _)
  rw [e, vp_cell_i, arrV_store, hg]
theorem aw_upd (f : Nat → Int32) (i : Nat) (v : Int32) : (fun j => Value.int (upd f i v j)) = updV (fun j => Value.int (f j)) i (.int v) := by
  funext j
  by_cases hq : j = i
  · subst hq
    simp [updV, upd]
  · simp [updV, upd, hq]
theorem aw_iastN (C : Cx γ l x y cc nL ret rm et) {a m j : Nat} {f : Nat → Int32} {v : Int32} (he : h a = some (.inl (0, m, .inl f))) (hi : j < m) (hm : m < 2 ^ 31) (d : decode cc pc = .ok (.iastore, 1)) (kk : AW γ l x Q nL (hset h a (.inl (0, m, .inl (upd f j v)))) sz k n (pc + 1) L st) : AW γ l x Q nL h sz k n pc L (.int v :: .int (nI j) :: .ref a :: st) := by
  intro H locs ls h1 h2 h3 h4
  have hin := vp_in_nI hi hm
  have ec : (nI j).toNatClampNeg = j := nI_clamp (by omega)
  refine W.iast C.hx C.hb (h2 a _ he).2 ((C.hK.2 0 _ rfl).1 m (fun j => .int (f j))) (fun q => by cases q) (by show ¬ (_ < 0 ∨ (arrV _ _ _).slots.size ≤ _); rw [arrV_size]; exact hin) rfl rfl d fun H1 e z oq => ?_
  obtain ⟨r1, r2⟩ := aw_ast1 (x := x) (g := upd f j v) (v := .int v) h2 h3 he (by rw [ec]; exact aw_upd f j v) e z oq
  exact kk H1 _ ls (z.trans h1) r1 r2 h4
theorem aw_bastN (C : Cx γ l x y cc nL ret rm et) {a m j : Nat} {f : Nat → Int32} {v : Int32} (he : h a = some (.inl (1, m, .inl f))) (hi : j < m) (hm : m < 2 ^ 31) (d : decode cc pc = .ok (.bastore, 1)) (kk : AW γ l x Q nL (hset h a (.inl (1, m, .inl (upd f j (vp_nar .byte v))))) sz k n (pc + 1) L st) : AW γ l x Q nL h sz k n pc L (.int v :: .int (nI j) :: .ref a :: st) := by
  intro H locs ls h1 h2 h3 h4
  have hin := vp_in_nI hi hm
  have ec : (nI j).toNatClampNeg = j := nI_clamp (by omega)
  refine W.bast C.hx C.hb (h2 a _ he).2 ((C.hK.2 1 _ rfl).1 m (fun j => .int (f j))) (fun q => by cases q) (by show ¬ (_ < 0 ∨ (arrV _ _ _).slots.size ≤ _); rw [arrV_size]; exact hin) rfl rfl d fun H1 e z oq => ?_
  obtain ⟨r1, r2⟩ := aw_ast1 (x := x) (g := upd f j (vp_nar .byte v)) (v := .int (vp_nar .byte v)) h2 h3 he (by rw [ec]; exact aw_upd f j _) e z oq
  exact kk H1 _ ls (z.trans h1) r1 r2 h4
theorem aw_zastN (C : Cx γ l x y cc nL ret rm et) {a m j : Nat} {f : Nat → Int32} {v : Int32} (he : h a = some (.inl (3, m, .inl f))) (hi : j < m) (hm : m < 2 ^ 31) (d : decode cc pc = .ok (.bastore, 1)) (kk : AW γ l x Q nL (hset h a (.inl (3, m, .inl (upd f j (vp_nar .boolean v))))) sz k n (pc + 1) L st) : AW γ l x Q nL h sz k n pc L (.int v :: .int (nI j) :: .ref a :: st) := by
  intro H locs ls h1 h2 h3 h4
  have hin := vp_in_nI hi hm
  have ec : (nI j).toNatClampNeg = j := nI_clamp (by omega)
  refine W.zast C.hx C.hb (h2 a _ he).2 ((C.hK.2 3 _ rfl).1 m (fun j => .int (f j))) (fun q => by cases q) (by show ¬ (_ < 0 ∨ (arrV _ _ _).slots.size ≤ _); rw [arrV_size]; exact hin) rfl rfl d fun H1 e z oq => ?_
  obtain ⟨r1, r2⟩ := aw_ast1 (x := x) (g := upd f j (vp_nar .boolean v)) (v := .int (vp_nar .boolean v)) h2 h3 he (by rw [ec]; exact aw_upd f j _) e z oq
  exact kk H1 _ ls (z.trans h1) r1 r2 h4
theorem aw_lastN (C : Cx γ l x y cc nL ret rm et) {a m j : Nat} {f : Nat → Int64} {v : Int64} (he : h a = some (.inl (2, m, .inr (.inl f)))) (hi : j < m) (hm : m < 2 ^ 31) (d : decode cc pc = .ok (.lastore, 1)) (kk : AW γ l x Q nL (hset h a (.inl (2, m, .inr (.inl (vp_updL f j v))))) sz k n (pc + 1) L st) : AW γ l x Q nL h sz k n pc L (.long v :: .int (nI j) :: .ref a :: st) := by
  intro H locs ls h1 h2 h3 h4
  have hin := vp_in_nI hi hm
  have ec : (nI j).toNatClampNeg = j := nI_clamp (by omega)
  refine W.last C.hx C.hb (h2 a _ he).2 ((C.hK.2 2 _ rfl).1 m (fun j => .long (f j))) (fun q => by cases q) (by show ¬ (_ < 0 ∨ (arrV _ _ _).slots.size ≤ _); rw [arrV_size]; exact hin) rfl rfl d fun H1 e z oq => ?_
  refine kk H1 _ ls (z.trans h1) (h2.set (h2 a _ he).1 ?_ oq) (h3.put z oq (h2 a _ he).1) h4
  show H1[a]? = some (vp_cell _ _)
  rw [e]
  show some ((arrV (γ.2.1 2) m (fun q => Value.long (f q))).setSlot _ _) = some (arrV (γ.2.1 2) m (fun q => Value.long (vp_updL f j v q)))
  rw [arrV_store, ec]
  congr 2
  funext q
  by_cases hq : q = j
  · subst hq
    simp [updV, vp_updL]
  · simp [updV, vp_updL, hq]
theorem aw_alen (C : Cx γ l x y cc nL ret rm et) {a : Nat} {t : Nat} {v : vp_A} (ht : t < 8) (he : h a = some (.inl (t, v))) (d : decode cc pc = .ok (.arraylength, 1)) (kk : AW γ l x Q nL h sz k n (pc + 1) L (.int (nI v.1) :: st)) : AW γ l x Q nL h sz k n pc L (.ref a :: st) := fun H locs ls h1 h2 h3 h4 =>
  va_alen C.hx C.hb C.hK (h2.one he) 0 t rfl (tysL_at γ ht) rfl d (kk H locs ls h1 h2 h3 h4)
/-! new objects and arrays -/
theorem aw_new (C : Cx γ l x y cc nL ret rm et) {ci N index : Nat} {Cn : String} {T : u_T} {ty : Nat → FieldType} (K : CKF ci Cn T N ty) {fs : List Value} (q1 : Cond.classLink y.cls index Cn ∈ lw_all) (q2 : Cond.instantiable Cn N ∈ lw_all) (q3 : Cond.initialized Cn ∈ lw_all) (hfs : ∀ j, j < N → defaultValue (ty j) = vp_V fs j) (hc : k + 1 ≤ rm.cells) (hs : n + N ≤ rm.slots) (d : decode cc pc = .ok (.new index, 3)) (kk : AW γ l x Q nL (hset h sz (.inr (ci, fs))) (sz + 1) (k + 1) (n + N) (pc + 3) L (.ref sz :: st)) : AW γ l x Q nL h sz k n pc L st := by
  intro H locs ls h1 h2 h3 h4
  have hKn := C.hK.1 ci _ K.1
  refine W.newcK C.hx C.hb C.hown (C.hts _ q1) (C.hts _ q2) (C.hts _ q3) rfl d (by rw [C.hR]; exact hc) (by rw [C.hR]; exact hs) hKn.2.1 rfl fun H1 kC hkC e1 z1 o1 => ?_
  have hz : γ.W H.size := C.hZ _ h3.1
  subst h1
  exact kk H1 locs ls z1 (h2.push hz ⟨_, K.1, (u_born ty C.hts K.2.1 hKn hkC e1 K.2.2.1).to hfs⟩ o1) ⟨Nat.le_trans h3.1 (by omega), fun q g1 g2 => (o1 q (Nat.lt_of_lt_of_le g1 h3.1)).trans (h3.2.1 q g1 g2), h3.2.2⟩ h4
theorem aw_newa (C : Cx γ l x y cc nL ret rm et) {atype : ArrayType} {t m : Nat} {a0 : vp_A} (ht : t < 8) (hty : newarray.typeOf atype = uty t) (hnm : KK γ x.s → x.s.vm.findClass ("[" ++ (uty t).toString) = some (γ.2.1 t)) (q : Cond.arrayClass (newarray.typeOf atype) ∈ lw_all) (ha : ∀ cA : ClassId, vp_cell cA a0 = arrV cA m (fun _ => defaultValue (uty t))) (hm : m < 2 ^ 31) (hbytes : m * componentBytes (uty t) ≤ 536870912) (hc : k + 1 ≤ rm.cells) (hs : n + m ≤ rm.slots) (d : decode cc pc = .ok (.newarray atype, 2)) (kk : AW γ l x Q nL (hset h sz (.inl (t, a0))) (sz + 1) (k + 1) (n + m) (pc + 2) L (.ref sz :: st)) : AW γ l x Q nL h sz k n pc L (.int (nI m) :: st) := by
  intro H locs ls h1 h2 h3 h4
  refine va_newaK C.hx C.hb (C.hts _ q) rfl d rfl (nI_pos hm) (nI_clamp hm) (by rw [hty]; exact hbytes) (by rw [C.hR]; exact hc) (by rw [C.hR]; exact hs) rfl fun H1 cA e1 z1 o1 hAr hNm => ?_
  have hz : γ.W H.size := C.hZ _ h3.1
  rw [hty] at hNm e1
  have ecA : cA = γ.2.1 t := Option.some.inj (hNm.symm.trans (hnm C.hK))
  subst h1
  refine kk H1 locs ls z1 (h2.push hz ?_ o1) ⟨Nat.le_trans h3.1 (by omega), fun q g1 g2 => (o1 q (Nat.lt_of_lt_of_le g1 h3.1)).trans (h3.2.1 q g1 g2), h3.2.2⟩ h4
  show H1[H.size]? = some (vp_cell (γ.2.1 t) a0)
  rw [ha, ← ecA]
  exact e1
theorem kk_nm0 (hK : KK γ x.s) : x.s.vm.findClass ("[" ++ (uty 0).toString) = some (γ.2.1 0) := (hK.2 0 _ rfl).2
theorem kk_nm1 (hK : KK γ x.s) : x.s.vm.findClass ("[" ++ (uty 1).toString) = some (γ.2.1 1) := (hK.2 1 _ rfl).2
theorem kk_nm2 (hK : KK γ x.s) : x.s.vm.findClass ("[" ++ (uty 2).toString) = some (γ.2.1 2) := (hK.2 2 _ rfl).2
theorem kk_nm3 (hK : KK γ x.s) : x.s.vm.findClass ("[" ++ (uty 3).toString) = some (γ.2.1 3) := (hK.2 3 _ rfl).2
/-! Object.<init> -/
theorem aw_objInit (C : Cx γ l x y cc nL ret rm et) {index a : Nat} (q1 : Cond.methodLink y.cls index objectInit ∈ lw_all) (q2 : Cond.instanceMethod objectInit ∈ lw_all) (q3 : Cond.code objectInit ⟨#[0xb1]⟩ 1 none ∈ lw_all) (hf : 1 ≤ rm.frames) (hl : 12 ≤ rm.locals) (d : decode cc pc = .ok (.invokespecial index, 3)) (kk : AW γ l x Q nL h sz k n (pc + 3) L []) : AW γ l x Q nL h sz k n pc L [.ref a] := fun H locs ls h1 h2 h3 h4 =>
  W.objInit C.hx C.hb C.hown (C.hts _ q1) (C.hts _ q2) (C.hts _ q3) rfl (by rw [C.hml]; exact h4.1) rfl d (by rw [C.hR]; exact hf) (by rw [C.hR]; exact hl) (kk H locs ls h1 h2 h3 h4)
/-! ends -/
section ENDS
variable {mc ms : Nat} {Post : Option Value → AH → Nat → Prop} {PX : String → AH → Nat → Prop}
theorem aw_iret (C : Cx γ l x y cc nL ret rm et) {v : Int32} (hret : ret = some .int) (d : decode cc pc = .ok (.ireturn, 1)) (hk : k ≤ mc) (hn : n ≤ ms) (hp : Post (some (.int v)) h sz) : AW γ l x (QX γ x mc ms Post PX) nL h sz k n pc L [.int v] := fun H locs ls h1 h2 h3 h4 =>
  W.widen hk hn (vx_ret (W.iret C.hx C.hb (C.hr.trans hret) (fun t ht hW => ⟨⟨_, h, sz, rfl, hp, by rw [ht]; exact h1, by rw [ht]; exact h2⟩, h3.F ht⟩) h3.2.2 d C.hlk))
theorem aw_zret (C : Cx γ l x y cc nL ret rm et) {v : Int32} {ty : FieldType} (hret : ret = some ty) (hnr : narrow ty (.int v) = .int v) (d : decode cc pc = .ok (.ireturn, 1)) (hk : k ≤ mc) (hn : n ≤ ms) (hp : Post (some (.int v)) h sz) : AW γ l x (QX γ x mc ms Post PX) nL h sz k n pc L [.int v] := fun H locs ls h1 h2 h3 h4 =>
  W.widen hk hn (vx_ret (W.zret C.hx C.hb (C.hr.trans hret) hnr (fun t ht hW => ⟨⟨_, h, sz, rfl, hp, by rw [ht]; exact h1, by rw [ht]; exact h2⟩, h3.F ht⟩) h3.2.2 d C.hlk))
theorem aw_vret (C : Cx γ l x y cc nL ret rm et) (hret : ret = none) (d : decode cc pc = .ok (.return_, 1)) (hk : k ≤ mc) (hn : n ≤ ms) (hp : Post none h sz) : AW γ l x (QX γ x mc ms Post PX) nL h sz k n pc L [] := fun H locs ls h1 h2 h3 h4 =>
  W.widen hk hn (vx_ret (W.vret C.hx C.hb (C.hr.trans hret) (fun t ht hW => ⟨⟨_, h, sz, rfl, hp, by rw [ht]; exact h1, by rw [ht]; exact h2⟩, h3.F ht⟩) h3.2.2 d C.hlk))
theorem aw_fret (C : Cx γ l x y cc nL ret rm et) {v : UInt32} (hret : ret = some .float) (d : decode cc pc = .ok (.freturn, 1)) (hk : k ≤ mc) (hn : n ≤ ms) (hp : Post (some (.float v)) h sz) : AW γ l x (QX γ x mc ms Post PX) nL h sz k n pc L [.float v] := fun H locs ls h1 h2 h3 h4 =>
  W.widen hk hn (vx_ret (W.fret C.hx C.hb (C.hr.trans hret) (fun t ht hW => ⟨⟨_, h, sz, rfl, hp, by rw [ht]; exact h1, by rw [ht]; exact h2⟩, h3.F ht⟩) h3.2.2 d C.hlk))
theorem aw_aret (C : Cx γ l x y cc nL ret rm et) {v : Value} {rt : FieldType} (hret : ret = some rt) (hrt : (∃ n, rt = .object n) ∨ ∃ t, rt = .array t) (hv : v = .null ∨ ∃ a, v = .ref a) (d : decode cc pc = .ok (.areturn, 1)) (hk : k ≤ mc) (hn : n ≤ ms) (hp : Post (some v) h sz) : AW γ l x (QX γ x mc ms Post PX) nL h sz k n pc L [v] := fun H locs ls h1 h2 h3 h4 =>
  W.widen hk hn (vx_ret (W.aret C.hx C.hb (C.hr.trans hret) hrt hv (fun t ht hW => ⟨⟨_, h, sz, rfl, hp, by rw [ht]; exact h1, by rw [ht]; exact h2⟩, h3.F ht⟩) h3.2.2 d C.hlk))
/-- an exception that isn't caught here -/
theorem ax_out (C : Cx γ l x y cc nL ret rm []) {E : String} (hk : k ≤ mc) (hn : n ≤ ms) (hp : PX E h sz) : AX γ l x (QX γ x mc ms Post PX) nL h sz k n pc L E := fun H locs ls rest q ce h1 h2 h3 h4 g1 g2 g3 =>
  vx_out (by rw [C.het]; intro z hz; cases hz) C.hlk g1 g2 g3 (fun t ht hvm => ⟨⟨h, sz, hp, by rw [ht]; exact h1, by rw [ht]; exact h2⟩, h3.F ht⟩) h3.2.2 hk hn
end ENDS
/-! calls -/
section CALLS
variable {y9 : MethodName} {b9 : ByteArray} {nL9 : Nat} {ret9 : Option FieldType} {f9 lo9 mc ms index : Nat} {As : List Value} {Post : Option Value → AH → Nat → Prop} {PX : String → AH → Nat → Prop} {st0 : List Value}
theorem pc_blind (hG : GF γ) : FrameBlind (PcA γ As h sz) := fun a U g mk q => ⟨q.1, q.2.1, q.2.2.1, q.2.2.2.1, va_K.moved (u := U) (U := U.calling g mk a) (Vm.Alike.refl U.vm) q.2.2.2.2.1, hG.1 U (U.calling g mk a) (State.WarmedH.refl U) (fun _ _ => rfl) q.2.2.2.2.2⟩
theorem pc_at (C : Cx γ l x y cc nL ret rm et) {H : Heap} {locs : List Loc} (h1 : H.size = sz) (h2 : Rep γ h H) (h3 : va_S γ.W x.s.heap H locs) {U : State} (hU : U.heap = H) (hW : x.s.WarmedH U.vm) : PcA γ As h sz As.toArray U :=
  ⟨rfl, by rw [hU]; exact h1, fun q hq => C.hZ q (Nat.le_trans h3.1 (by rw [h1]; exact hq)), by rw [hU]; exact h2, va_K.moved hW.alike C.hK, C.later h3 hU hW⟩
theorem ax_goes (kr : ∀ (H : Heap) (locs : List Loc) (ls : Array Slot), H.size = sz → Rep γ h H → va_S γ.W x.s.heap H locs → LH ls nL L → vx_Run x.p l x.e x.R x.s x.m x.args x.below x.meth x.c H locs k n mc ms (F0 x.m pc ls st0) st (QcA γ Post As.toArray) (XcA γ PX) γ.W)
    (kx : ∀ (E : String) (h' : AH) (sz' : Nat), PX E h' sz' → AX γ l x Q nL h' sz' (k + mc) (n + ms) pc L E)
    (kk : ∀ (v : Option Value) (h' : AH) (sz' : Nat), Post v h' sz' → AW γ l x Q nL h' sz' (k + mc) (n + ms) (pc + 3) L (v.toList ++ st)) : AW γ l x Q nL h sz k n pc L st0 := by
  intro H locs ls h1 h2 h3 h4 T hT X
  rcases kr H locs ls h1 h2 h3 h4 T hT X with ⟨v, st₀, t, T', Lc, e0, X', hL, e1, e2, ⟨⟨v', h', sz', hv, hp, hz, hRep⟩, hF⟩, sg⟩ | ⟨q, st₀, t, T', Lc, E, ce, e0, X', hL, e1, e2, ⟨⟨h', sz', hp, hz, hRep⟩, hF⟩, hce, hcv, hcl, sg⟩
  · cases hv
    obtain ⟨k1, k2, k3⟩ := vx_keep e0 e1 h3 (fun q _ z => z) (fun q z => z) hL hF
    obtain ⟨t2, a1, b1⟩ := kk v h' sz' hp T'.heap (locs ++ Lc) ls (by rw [e1]; exact hz) (by rw [e1]; exact hRep) k3 h4 T' rfl X'
    exact ⟨t2, sg t2 a1, b1⟩
  · obtain ⟨k1, k2, k3⟩ := vx_keep e0 e1 h3 (fun q _ z => z) (fun q z => z) hL hF
    obtain ⟨t2, a1, b1⟩ := kx E h' sz' hp T'.heap (locs ++ Lc) ls st q ce (by rw [e1]; exact hz) (by rw [e1]; exact hRep) k3 h4 (by rw [e1]; exact hce) hcv hcl T' rfl X'
    exact ⟨t2, sg.trans a1, b1⟩
theorem rep_recv (C : Cx γ l x y cc nL ret rm et) {H : Heap} (h2 : Rep γ h H) {ci N a : Nat} {Cn : String} {T : u_T} {ty : Nat → FieldType} (K : CKF ci Cn T N ty) {fs : List Value} (he : h a = some (.inr (ci, fs))) : ∃ cellB : Cell, H[a]? = some cellB ∧ cellB.vm.isStatics = false ∧ x.s.vm.findClass Cn = some cellB.cls :=
  va_recv (q0 := 0) C.hK (h2.one he) K.1 rfl
/-- invokevirtual -/
theorem aw_callV (C : Cx γ l x y cc nL ret rm et) {ci N a n9 : Nat} {Cn : String} {T : u_T} {ty : Nat → FieldType} (K : CKF ci Cn T N ty) {fs : List Value} (hM : MX γ l y9 b9 nL9 ret9 f9 lo9 mc ms (.ref a :: As) h sz Post PX)
    (q1 : Cond.methodLink y.cls index y9 ∈ lw_all) (q2 : Cond.instanceMethod y9 ∈ lw_all) (q3 : Cond.selects Cn y9 y9 ∈ lw_all) (q4 : Cond.initialized Cn ∈ lw_all) (q5 : Cond.code y9 b9 nL9 ret9 ∈ lw_all)
    (he : h a = some (.inr (ci, fs))) (hd : y9.cls = Cn ∧ y9.cls ≠ "java/lang/invoke/MethodHandle" ∧ y9.cls ≠ "java/lang/invoke/VarHandle" ∧ (parseMethodDescriptor y9.desc).map (fun d => d.parameters.length) = some n9) (hn : As.length = n9)
    (hf : f9 + 1 ≤ rm.frames) (hl : 8 + (nL9 + 11) + lo9 ≤ rm.locals) (hc : k + mc ≤ rm.cells) (hs : n + ms ≤ rm.slots) (hst : st0 = As.reverse ++ .ref a :: st) (hw : (st.map fun v => v.category).sum ≤ 8) (d : decode cc pc = .ok (.invokevirtual index, 3))
    (kx : ∀ (E : String) (h' : AH) (sz' : Nat), PX E h' sz' → AX γ l x Q nL h' sz' (k + mc) (n + ms) pc L E)
    (kk : ∀ (v : Option Value) (h' : AH) (sz' : Nat), Post v h' sz' → AW γ l x Q nL h' sz' (k + mc) (n + ms) (pc + 3) L (v.toList ++ st)) : AW γ l x Q nL h sz k n pc L st0 :=
  ax_goes (As := .ref a :: As) (fun H locs ls h1 h2 h3 h4 => vx_runV (C := Cn) (b := a) (As := As) (rest := st) C.fix hM
    (cwV n9 C.hts (lw_V q1 q2 q3 q4 q5) rfl rfl rfl hd (by rw [C.hR]; exact ⟨hf, hl⟩)) ⟨pc_blind C.hG, rep_recv C h2 K he, fun U hU hW => pc_at C h1 h2 h3 hU hW⟩ rfl hn h4.1 hst (lv_room hw) d (by rw [C.hR]; exact ⟨hc, hs⟩)) kx kk
/-- invokestatic -/
theorem aw_callS (C : Cx γ l x y cc nL ret rm et) {n9 : Nat} (hM : MX γ l y9 b9 nL9 ret9 f9 lo9 mc ms As h sz Post PX)
    (q1 : Cond.methodLink y.cls index y9 ∈ lw_all) (q2 : Cond.static y9 ∈ lw_all) (q3 : Cond.initialized y9.cls ∈ lw_all) (q4 : Cond.code y9 b9 nL9 ret9 ∈ lw_all)
    (hd : y9.cls ≠ "java/lang/invoke/MethodHandle" ∧ y9.cls ≠ "java/lang/invoke/VarHandle" ∧ (parseMethodDescriptor y9.desc).map (fun d => d.parameters.length) = some n9) (hn : As.length = n9)
    (hf : f9 + 1 ≤ rm.frames) (hl : 8 + (nL9 + 11) + lo9 ≤ rm.locals) (hc : k + mc ≤ rm.cells) (hs : n + ms ≤ rm.slots) (hst : st0 = As.reverse ++ st) (hw : (st.map fun v => v.category).sum ≤ 8) (d : decode cc pc = .ok (.invokestatic index, 3))
    (kx : ∀ (E : String) (h' : AH) (sz' : Nat), PX E h' sz' → AX γ l x Q nL h' sz' (k + mc) (n + ms) pc L E)
    (kk : ∀ (v : Option Value) (h' : AH) (sz' : Nat), Post v h' sz' → AW γ l x Q nL h' sz' (k + mc) (n + ms) (pc + 3) L (v.toList ++ st)) : AW γ l x Q nL h sz k n pc L st0 :=
  ax_goes (As := As) (fun H locs ls h1 h2 h3 h4 => vx_runS (As := As) (rest := st) C.fix hM
    (va_cwS n9 C.hts (lw_S q1 q2 q3 q4) rfl rfl rfl hd (by rw [C.hR]; exact ⟨hf, hl⟩)) ⟨pc_blind C.hG, fun U hU hW => pc_at C h1 h2 h3 hU hW⟩ rfl hn h4.1 hst (lv_room hw) d (by rw [C.hR]; exact ⟨hc, hs⟩)) kx kk
/-- invokespecial of a constructor -/
theorem aw_callI (C : Cx γ l x y cc nL ret rm et) {a n9 : Nat} (hM : MX γ l y9 b9 nL9 none f9 lo9 mc ms (.ref a :: As) h sz Post PX)
    (q1 : Cond.methodLink y.cls index y9 ∈ lw_all) (q2 : Cond.instanceMethod y9 ∈ lw_all) (q3 : Cond.initialized y9.cls ∈ lw_all) (q4 : Cond.code y9 b9 nL9 none ∈ lw_all) (hy1 : y9.name = "<init>")
    (hd : y9.cls ≠ "java/lang/invoke/MethodHandle" ∧ y9.cls ≠ "java/lang/invoke/VarHandle" ∧ (parseMethodDescriptor y9.desc).map (fun d => d.parameters.length) = some n9) (hn : As.length = n9)
    (hf : f9 + 1 ≤ rm.frames) (hl : 8 + (nL9 + 11) + lo9 ≤ rm.locals) (hc : k + mc ≤ rm.cells) (hs : n + ms ≤ rm.slots) (hst : st0 = As.reverse ++ .ref a :: st) (hw : (st.map fun v => v.category).sum ≤ 8) (d : decode cc pc = .ok (.invokespecial index, 3))
    (kx : ∀ (E : String) (h' : AH) (sz' : Nat), PX E h' sz' → AX γ l x Q nL h' sz' (k + mc) (n + ms) pc L E)
    (kk : ∀ (v : Option Value) (h' : AH) (sz' : Nat), Post v h' sz' → AW γ l x Q nL h' sz' (k + mc) (n + ms) (pc + 3) L (v.toList ++ st)) : AW γ l x Q nL h sz k n pc L st0 :=
  ax_goes (As := .ref a :: As) (fun H locs ls h1 h2 h3 h4 => vx_runI (As := As) (b := a) (rest := st) C.fix hM
    (cwI n9 C.hts (lw_meth q4) rfl rfl rfl (C.hts _ q3) (C.hts _ q1) (C.hts _ q2) hy1 hd (by rw [C.hR]; exact ⟨hf, hl⟩)) ⟨pc_blind C.hG, fun U hU hW => pc_at C h1 h2 h3 hU hW⟩ rfl hn h4.1 hst (lv_room hw) d (by rw [C.hR]; exact ⟨hc, hs⟩)) kx kk
end CALLS
end AWR

