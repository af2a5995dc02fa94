/-! exceptions that a method throws, made there -/
theorem nk_ot {w : Cond} (h : nk w = true) : w.onTables = true := by
  cases w <;> first | rfl | (cases h)
section EXC
variable {γ : Gm} {l : Launch} {x : WX} {y : MethodName} {cc : ByteArray} {nL : Nat} {ret : Option FieldType} {rm : Room} {et : List ExceptionTableEntry} {Q : State → Prop} {h : AH} {sz k n pc : Nat} {L : LV} {st : List Value}
theorem Rep.ext {γ : Gm} {h : AH} {H H' : Heap} (hR : Rep γ h H) (hq : ∀ q, q < H.size → H'[q]? = H[q]?) : Rep γ h H' := fun a c e => by
  obtain ⟨h1, h2⟩ := hR a c e
  refine ⟨h1, ?_⟩
  have hl : a < H.size := hR.lt e
  cases c with
  | inl p => exact (hq a hl).trans h2
  | inr p =>
    obtain ⟨r, g1, cell, g2, g3⟩ := h2
    exact ⟨r, g1, cell, (hq a hl).trans g2, g3⟩
def XZ (γ : Gm) : Prop := ∀ U, γ.X U → vx_Zq Bundle.tN "UNASSIGNED_STACK" Bundle.steD γ.W U U.heap ∧ vx_Zq Bundle.tN "SUPPRESSED_SENTINEL" Bundle.listD γ.W U U.heap
def xw (own cls : String) (ik ic : Nat) (names : List String) : List Cond := Cond.classLink own ik cls :: Cond.initialized cls :: vx_at0 own ic cls names
theorem aw_throw0 (C : Cx γ l x y cc nL ret rm []) {cls : String} {names : List String} {ik ic mc ms : Nat} {Post : Option Value → AH → Nat → Prop} {PX : String → AH → Nat → Prop} (hl : l.stackTraces = false) (hZ : XZ γ) (hfit : Bundle.fit cls = true) (hnames : ∀ n ∈ names, Bundle.fit n = true)
    (hw1 : ∀ w ∈ xw y.cls cls ik ic names, w ∈ lw_tbl) (hw2 : ∀ w ∈ xw y.cls cls ik ic names, (goodWord w || nk w) = true) (hw3 : ∀ w ∈ xw y.cls cls ik ic names, vx_ot w = true)
    (d0 : decode cc pc = .ok (.new ik, 3)) (d3 : decode cc (pc + 3) = .ok (.dup, 1)) (d4 : decode cc (pc + 4) = .ok (.invokespecial ic, 3)) (d7 : decode cc (pc + 7) = .ok (.athrow, 1))
    (hf : names.length + 3 < rm.frames) (hlo : (st.map fun v => v.category).sum + (13 * (names.length + 1) + 42) ≤ rm.locals) (hc : k + 1 ≤ rm.cells) (hs : n + 6 ≤ rm.slots) (hk : k + 1 ≤ mc) (hn : n + 6 ≤ ms)
    (hp : ∀ sz', sz ≤ sz' → PX cls h sz') : AW γ l x (QX γ x mc ms Post PX) nL h sz k n pc L st := fun H locs ls h1 h2 h3 h4 => by
  have hb : ∀ w ∈ xw y.cls cls ik ic names, w.before x.args x.s = true := fun w hw => by
    have g2 := hw2 w hw
    cases hg : goodWord w with
    | true => exact C.hts w (lw_g (hw1 w hw) hg)
    | false =>
      rw [hg, Bool.false_or] at g2
      exact va_Nw.use (nk_ot g2) (C.nest (hw1 w hw) g2)
  exact vx_throw0 C.hx C.hb hl C.hown hfit hnames (hb _ List.mem_cons_self) (hb _ (List.mem_cons_of_mem _ List.mem_cons_self)) (fun w hw => hb w (List.mem_cons_of_mem _ (List.mem_cons_of_mem _ hw))) hw3
    (hZ x.s C.hX).1 (hZ x.s C.hX).2 h3 (by rw [C.hml]; exact h4.1) d0 d3 d4 d7 (by rw [C.het]; intro z hz; cases hz) (by rw [C.hR]; exact hf) (by rw [C.hR]; exact hlo) (by rw [C.hR]; exact hc) (by rw [C.hR]; exact hs) C.hlk
    (fun t _ g1 g2 => ⟨⟨h, t.heap.size, hp _ (by rw [← h1]; exact g1), rfl, h2.ext g2⟩, Nat.le_trans h3.1 g1, fun q q1 q2 => (g2 q (Nat.lt_of_lt_of_le q1 h3.1)).trans (h3.2.1 q q1 q2)⟩) h3.2.2 hk hn
end EXC
