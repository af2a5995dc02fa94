/-! THE COMPONENT's fixed cells as one value u over a heap g of boards: ints; int arrays; the keys; references; the board's address. Offsets from the object at o: 1 the search, 2 keys, 3 found, 4 stamps, 5 pieces, 6..15 their rows, 16 bits, 28 the history, 29 its array, 30 slots, 31 the buffer, 32 what is written, 33 its bytes -/
abbrev CU : Type := (Nat → Int32) × (Nat → Nat → Int32) × (Nat → Int64) × (Nat → Nat → Option Nat) × Nat
def cfs (o : Nat) (u : CU) : List Value := [.ref (o + 1), .ref u.2.2.2.2, .ref (o + 28), .ref (o + 30), .ref (o + 31), .int (u.1 0), .int (u.1 1), .ref (o + 32)]
def sfs (o : Nat) (u : CU) : List Value := [.ref (o + 2), .ref (o + 3), .ref (o + 4), .ref (o + 5), .ref (o + 16), va_rf (u.2.2.2.1 0 0), .int (u.1 2), .int (u.1 3), .ref o]
def hfs (o : Nat) (u : CU) : List Value := [.ref (o + 29), .int (u.1 4), .int (u.1 5)]
def wfs (o : Nat) (u : CU) : List Value := [.ref (o + 33), .int 0, .int (u.1 7), .int (u.1 6)]
def ccell (o : Nat) (u : CU) (i : Nat) : Option va_E :=
  if 6 ≤ i ∧ i < 16 then some (.inl (0, 9, .inl (u.2.1 (4 + i)))) else
  match i with
  | 0 => some (.inr (0, cfs o u))
  | 1 => some (.inr (1, sfs o u))
  | 2 => some (.inl (2, 65536, .inr (.inl u.2.2.1)))
  | 3 => some (.inl (0, 65536, .inl (u.2.1 0)))
  | 4 => some (.inl (0, 65536, .inl (u.2.1 1)))
  | 5 => some (rfs 5 10 (fun j => if j < 10 then some (o + 5 + 1 + j) else none))
  | 16 => some (.inl (0, 512, .inl (u.2.1 2)))
  | 28 => some (.inr (15, hfs o u))
  | 29 => some (rfs 4 17 (u.2.2.2.1 1))
  | 30 => some (rfs 7 2 (u.2.2.2.1 2))
  | 31 => some (.inl (1, 500, .inl (u.2.1 3)))
  | 32 => some (.inr (13, wfs o u))
  | 33 => some (.inl (1, 16, .inl (u.2.1 4)))
  | _ => none
/-- the places of the fixed cells -/
def cfx (i : Nat) : Bool := decide (i ≤ 16) || decide (28 ≤ i ∧ i ≤ 33)
def ch (o : Nat) (u : CU) (g : AH) : AH := fun a => if a < o then g a else match ccell o u (a - o) with
  | some c => some c
  | none => g a
theorem ch_at {o : Nat} {u : CU} {g : AH} {i : Nat} {c : va_E} (e : ccell o u i = some c) : ch o u g (o + i) = some c := by
  unfold ch
  rw [if_neg (by omega), Nat.add_sub_cancel_left, e]
theorem ch_o {o : Nat} {u : CU} {g : AH} : ch o u g o = some (.inr (0, cfs o u)) := ch_at (i := 0) rfl
theorem ch_row {o : Nat} {u : CU} {g : AH} {d : Nat} (hd : d < 10) : ch o u g (o + 5 + 1 + d) = some (.inl (0, 9, .inl (u.2.1 (10 + d)))) := by
  rw [show o + 5 + 1 + d = o + (6 + d) by omega]
  refine ch_at ?_
  unfold ccell
  rw [if_pos ⟨by omega, by omega⟩, show 4 + (6 + d) = 10 + d by omega]
/-- where a fixed cell stands the boards' heap has none -/
def Sep (o : Nat) (g : AH) : Prop := ∀ i, cfx i = true → g (o + i) = none
theorem ccell_fx {o : Nat} {u : CU} {i : Nat} (h : ccell o u i ≠ none) : cfx i = true := by
  unfold ccell at h
  unfold cfx
  split at h
  · simp
    omega
  · split at h
    all_goals first | rfl | (exact absurd rfl h)
theorem ch_le {o : Nat} {u : CU} {g : AH} (hS : Sep o g) : HLE g (ch o u g) := by
  intro a c e
  unfold ch
  by_cases h : a < o
  · rw [if_pos h]
    exact e
  · rw [if_neg h]
    cases q : ccell o u (a - o) with
    | none => exact e
    | some d =>
      have h1 := hS (a - o) (ccell_fx (o := o) (u := u) (by rw [q]; simp))
      rw [show o + (a - o) = a by omega, e] at h1
      cases h1
/-- a cell of the boards' heap is set -/
theorem ch_g {o : Nat} {u : CU} {g : AH} {a : Nat} (c : va_E) (h : a < o ∨ cfx (a - o) = false) : hset (ch o u g) a c = ch o u (hset g a c) := by
  funext x
  by_cases e : x = a
  · subst e
    rw [hset_s]
    unfold ch
    rw [hset_s]
    by_cases q : x < o
    · rw [if_pos q]
    · rw [if_neg q]
      cases q2 : ccell o u (x - o) with
      | none => rfl
      | some d =>
        rcases h with h | h
        · exact absurd h q
        · rw [ccell_fx (o := o) (u := u) (by rw [q2]; simp)] at h
          cases h
  · rw [hset_n _ _ e]
    unfold ch
    rw [hset_n _ _ e]
theorem ch_new {o : Nat} {u : CU} {g : AH} {a : Nat} (c : va_E) (h : o + 34 ≤ a) : hset (ch o u g) a c = ch o u (hset g a c) := ch_g c (Or.inr (by unfold cfx; simp; omega))
theorem Sep.new {o : Nat} {g : AH} (hS : Sep o g) {a : Nat} (c : va_E) (h : o + 34 ≤ a) : Sep o (hset g a c) := fun i hi => by
  unfold cfx at hi
  simp at hi
  rw [hset_n _ _ (by omega)]
  exact hS i (by unfold cfx; simp; omega)
/-- a fixed cell is set -/
theorem ch_set {o : Nat} {u u' : CU} {g : AH} (i : Nat) (c : va_E) (hc : ccell o u' i = some c) (hn : ∀ j, j ≠ i → ccell o u' j = ccell o u j) : hset (ch o u g) (o + i) c = ch o u' g := by
  funext a
  by_cases e : a = o + i
  · subst e
    rw [hset_s, ch_at hc]
  · rw [hset_n _ _ e]
    unfold ch
    by_cases h : a < o
    · rw [if_pos h, if_pos h]
    · rw [if_neg h, if_neg h, hn (a - o) (by omega)]
def cui (u : CU) (i : Nat) (v : Int32) : CU := (fun j => if j = i then v else u.1 j, u.2)
def cua (u : CU) (i : Nat) (f : Nat → Int32) : CU := (u.1, fun j => if j = i then f else u.2.1 j, u.2.2)
def cuk (u : CU) (f : Nat → Int64) : CU := (u.1, u.2.1, f, u.2.2.2)
def cur (u : CU) (i : Nat) (f : Nat → Option Nat) : CU := (u.1, u.2.1, u.2.2.1, fun j => if j = i then f else u.2.2.2.1 j, u.2.2.2.2)
def cub (u : CU) (a : Nat) : CU := (u.1, u.2.1, u.2.2.1, u.2.2.2.1, a)
theorem cc_length (o : Nat) (u : CU) (v : Int32) : ∀ j, j ≠ 0 → ccell o (cui u 0 v) j = ccell o u j := by
  intro j hj
  unfold ccell
  split
  · rfl
  · split
    all_goals first | rfl | exact absurd rfl hj
theorem ch_length (o : Nat) (u : CU) (g : AH) (v : Int32) : hset (ch o u g) (o + 0) (.inr (0, cfs o (cui u 0 v))) = ch o (cui u 0 v) g := ch_set 0 _ rfl (cc_length o u v)
theorem cc_errorAt (o : Nat) (u : CU) (v : Int32) : ∀ j, j ≠ 0 → ccell o (cui u 1 v) j = ccell o u j := by
  intro j hj
  unfold ccell
  split
  · rfl
  · split
    all_goals first | rfl | exact absurd rfl hj
theorem ch_errorAt (o : Nat) (u : CU) (g : AH) (v : Int32) : hset (ch o u g) (o + 0) (.inr (0, cfs o (cui u 1 v))) = ch o (cui u 1 v) g := ch_set 0 _ rfl (cc_errorAt o u v)
theorem cc_board (o : Nat) (u : CU) (a : Nat) : ∀ j, j ≠ 0 → ccell o (cub u a) j = ccell o u j := by
  intro j hj
  unfold ccell
  split
  · rfl
  · split
    all_goals first | rfl | exact absurd rfl hj
theorem ch_board (o : Nat) (u : CU) (g : AH) (a : Nat) : hset (ch o u g) (o + 0) (.inr (0, cfs o (cub u a))) = ch o (cub u a) g := ch_set 0 _ rfl (cc_board o u a)
theorem cc_stamp (o : Nat) (u : CU) (v : Int32) : ∀ j, j ≠ 1 → ccell o (cui u 2 v) j = ccell o u j := by
  intro j hj
  unfold ccell
  split
  · rfl
  · split
    all_goals first | rfl | exact absurd rfl hj
theorem ch_stamp (o : Nat) (u : CU) (g : AH) (v : Int32) : hset (ch o u g) (o + 1) (.inr (1, sfs o (cui u 2 v))) = ch o (cui u 2 v) g := ch_set 1 _ rfl (cc_stamp o u v)
theorem cc_known (o : Nat) (u : CU) (v : Int32) : ∀ j, j ≠ 1 → ccell o (cui u 3 v) j = ccell o u j := by
  intro j hj
  unfold ccell
  split
  · rfl
  · split
    all_goals first | rfl | exact absurd rfl hj
theorem ch_known (o : Nat) (u : CU) (g : AH) (v : Int32) : hset (ch o u g) (o + 1) (.inr (1, sfs o (cui u 3 v))) = ch o (cui u 3 v) g := ch_set 1 _ rfl (cc_known o u v)
theorem cc_graph (o : Nat) (u : CU) (f : Nat → Option Nat) : ∀ j, j ≠ 1 → ccell o (cur u 0 f) j = ccell o u j := by
  intro j hj
  unfold ccell
  split
  · rfl
  · split
    all_goals first | rfl | exact absurd rfl hj
theorem ch_graph (o : Nat) (u : CU) (g : AH) (f : Nat → Option Nat) : hset (ch o u g) (o + 1) (.inr (1, sfs o (cur u 0 f))) = ch o (cur u 0 f) g := ch_set 1 _ rfl (cc_graph o u f)
theorem cc_head (o : Nat) (u : CU) (v : Int32) : ∀ j, j ≠ 28 → ccell o (cui u 4 v) j = ccell o u j := by
  intro j hj
  unfold ccell
  split
  · rfl
  · split
    all_goals first | rfl | exact absurd rfl hj
theorem ch_head (o : Nat) (u : CU) (g : AH) (v : Int32) : hset (ch o u g) (o + 28) (.inr (15, hfs o (cui u 4 v))) = ch o (cui u 4 v) g := ch_set 28 _ rfl (cc_head o u v)
theorem cc_tail (o : Nat) (u : CU) (v : Int32) : ∀ j, j ≠ 28 → ccell o (cui u 5 v) j = ccell o u j := by
  intro j hj
  unfold ccell
  split
  · rfl
  · split
    all_goals first | rfl | exact absurd rfl hj
theorem ch_tail (o : Nat) (u : CU) (g : AH) (v : Int32) : hset (ch o u g) (o + 28) (.inr (15, hfs o (cui u 5 v))) = ch o (cui u 5 v) g := ch_set 28 _ rfl (cc_tail o u v)
theorem cc_count (o : Nat) (u : CU) (v : Int32) : ∀ j, j ≠ 32 → ccell o (cui u 6 v) j = ccell o u j := by
  intro j hj
  unfold ccell
  split
  · rfl
  · split
    all_goals first | rfl | exact absurd rfl hj
theorem ch_count (o : Nat) (u : CU) (g : AH) (v : Int32) : hset (ch o u g) (o + 32) (.inr (13, wfs o (cui u 6 v))) = ch o (cui u 6 v) g := ch_set 32 _ rfl (cc_count o u v)
theorem cc_mayb (o : Nat) (u : CU) (v : Int32) : ∀ j, j ≠ 32 → ccell o (cui u 7 v) j = ccell o u j := by
  intro j hj
  unfold ccell
  split
  · rfl
  · split
    all_goals first | rfl | exact absurd rfl hj
theorem ch_mayb (o : Nat) (u : CU) (g : AH) (v : Int32) : hset (ch o u g) (o + 32) (.inr (13, wfs o (cui u 7 v))) = ch o (cui u 7 v) g := ch_set 32 _ rfl (cc_mayb o u v)
theorem cc_keys (o : Nat) (u : CU) (f : Nat → Int64) : ∀ j, j ≠ 2 → ccell o (cuk u f) j = ccell o u j := by
  intro j hj
  unfold ccell
  split
  · rfl
  · split
    all_goals first | rfl | exact absurd rfl hj
theorem ch_keys (o : Nat) (u : CU) (g : AH) (f : Nat → Int64) : hset (ch o u g) (o + 2) (.inl (2, 65536, .inr (.inl f))) = ch o (cuk u f) g := ch_set 2 _ rfl (cc_keys o u f)
theorem cc_found (o : Nat) (u : CU) (f : Nat → Int32) : ∀ j, j ≠ 3 → ccell o (cua u 0 f) j = ccell o u j := by
  intro j hj
  unfold ccell
  split
  · show some (Sum.inl (0, 9, Sum.inl (if 4 + j = 0 then f else u.2.1 (4 + j)))) = _
    rw [if_neg (by omega)]
  · split
    all_goals first | rfl | exact absurd rfl hj
theorem ch_found (o : Nat) (u : CU) (g : AH) (f : Nat → Int32) : hset (ch o u g) (o + 3) (.inl (0, 65536, .inl f)) = ch o (cua u 0 f) g := ch_set 3 _ rfl (cc_found o u f)
theorem cc_stamps (o : Nat) (u : CU) (f : Nat → Int32) : ∀ j, j ≠ 4 → ccell o (cua u 1 f) j = ccell o u j := by
  intro j hj
  unfold ccell
  split
  · show some (Sum.inl (0, 9, Sum.inl (if 4 + j = 1 then f else u.2.1 (4 + j)))) = _
    rw [if_neg (by omega)]
  · split
    all_goals first | rfl | exact absurd rfl hj
theorem ch_stamps (o : Nat) (u : CU) (g : AH) (f : Nat → Int32) : hset (ch o u g) (o + 4) (.inl (0, 65536, .inl f)) = ch o (cua u 1 f) g := ch_set 4 _ rfl (cc_stamps o u f)
theorem cc_bits (o : Nat) (u : CU) (f : Nat → Int32) : ∀ j, j ≠ 16 → ccell o (cua u 2 f) j = ccell o u j := by
  intro j hj
  unfold ccell
  split
  · show some (Sum.inl (0, 9, Sum.inl (if 4 + j = 2 then f else u.2.1 (4 + j)))) = _
    rw [if_neg (by omega)]
  · split
    all_goals first | rfl | exact absurd rfl hj
theorem ch_bits (o : Nat) (u : CU) (g : AH) (f : Nat → Int32) : hset (ch o u g) (o + 16) (.inl (0, 512, .inl f)) = ch o (cua u 2 f) g := ch_set 16 _ rfl (cc_bits o u f)
theorem cc_elems (o : Nat) (u : CU) (f : Nat → Option Nat) : ∀ j, j ≠ 29 → ccell o (cur u 1 f) j = ccell o u j := by
  intro j hj
  unfold ccell
  split
  · rfl
  · split
    all_goals first | rfl | exact absurd rfl hj
theorem ch_elems (o : Nat) (u : CU) (g : AH) (f : Nat → Option Nat) : hset (ch o u g) (o + 29) (rfs 4 17 f) = ch o (cur u 1 f) g := ch_set 29 _ rfl (cc_elems o u f)
theorem cc_slots (o : Nat) (u : CU) (f : Nat → Option Nat) : ∀ j, j ≠ 30 → ccell o (cur u 2 f) j = ccell o u j := by
  intro j hj
  unfold ccell
  split
  · rfl
  · split
    all_goals first | rfl | exact absurd rfl hj
theorem ch_slots (o : Nat) (u : CU) (g : AH) (f : Nat → Option Nat) : hset (ch o u g) (o + 30) (rfs 7 2 f) = ch o (cur u 2 f) g := ch_set 30 _ rfl (cc_slots o u f)
theorem cc_buffer (o : Nat) (u : CU) (f : Nat → Int32) : ∀ j, j ≠ 31 → ccell o (cua u 3 f) j = ccell o u j := by
  intro j hj
  unfold ccell
  split
  · show some (Sum.inl (0, 9, Sum.inl (if 4 + j = 3 then f else u.2.1 (4 + j)))) = _
    rw [if_neg (by omega)]
  · split
    all_goals first | rfl | exact absurd rfl hj
theorem ch_buffer (o : Nat) (u : CU) (g : AH) (f : Nat → Int32) : hset (ch o u g) (o + 31) (.inl (1, 500, .inl f)) = ch o (cua u 3 f) g := ch_set 31 _ rfl (cc_buffer o u f)
theorem cc_wval (o : Nat) (u : CU) (f : Nat → Int32) : ∀ j, j ≠ 33 → ccell o (cua u 4 f) j = ccell o u j := by
  intro j hj
  unfold ccell
  split
  · show some (Sum.inl (0, 9, Sum.inl (if 4 + j = 4 then f else u.2.1 (4 + j)))) = _
    rw [if_neg (by omega)]
  · split
    all_goals first | rfl | exact absurd rfl hj
theorem ch_wval (o : Nat) (u : CU) (g : AH) (f : Nat → Int32) : hset (ch o u g) (o + 33) (.inl (1, 16, .inl f)) = ch o (cua u 4 f) g := ch_set 33 _ rfl (cc_wval o u f)
theorem ch_rows (o : Nat) (u : CU) (g : AH) {d : Nat} (hd : d < 10) (f : Nat → Int32) : hset (ch o u g) (o + 5 + 1 + d) (.inl (0, 9, .inl f)) = ch o (cua u (10 + d) f) g := by
  rw [show o + 5 + 1 + d = o + (6 + d) by omega]
  refine ch_set (6 + d) _ ?_ (fun j hj => ?_)
  · unfold ccell
    rw [if_pos ⟨by omega, by omega⟩]
    show some (Sum.inl (0, 9, Sum.inl (if 4 + (6 + d) = 10 + d then f else _))) = _
    rw [if_pos (by omega)]
  · unfold ccell
    by_cases h : 6 ≤ j ∧ j < 16
    · rw [if_pos h, if_pos h]
      show some (Sum.inl (0, 9, Sum.inl (if 4 + j = 10 + d then f else u.2.1 (4 + j)))) = _
      rw [if_neg (by omega)]
    · rw [if_neg h, if_neg h]
      have e : ∀ k, k < 10 → (cua u (10 + d) f).2.1 k = u.2.1 k := fun k hk => if_neg (by omega)
      split
      all_goals first | rfl | (rw [e _ (by decide)]; done) | (simp only [e _ (show (0 : Nat) < 10 by decide), e _ (show (1 : Nat) < 10 by decide), e _ (show (2 : Nat) < 10 by decide), e _ (show (3 : Nat) < 10 by decide), e _ (show (4 : Nat) < 10 by decide)]; done)
section CUR
variable {γ : Gm} {l : Launch} {x : WX} {y : MethodName} {cc : ByteArray} {nL : Nat} {ret : Option FieldType} {rm : Room} {et : List ExceptionTableEntry} {Q : State → Prop} {o sz k n pc : Nat} {u : CU} {g : AH} {L : LV} {st : List Value}
theorem aw_topV {h : AH} {v w : Value} (e : v = w) (kk : AW γ l x Q nL h sz k n pc L (w :: st)) : AW γ l x Q nL h sz k n pc L (v :: st) := by rw [e]; exact kk
theorem cw_length (C : Cx γ l x y cc nL ret rm et) {v : Int32} {index : Nat} (q : Cond.fieldLink y.cls index (TX1 5).1 (TX1 5).2.1 (TX1 5).2.2.1 ∈ lw_all) (d : decode cc pc = .ok (.putfield index, 3)) (kk : AW γ l x Q nL (ch o (cui u 0 v) g) sz k n (pc + 3) L st) : AW γ l x Q nL (ch o u g) sz k n pc L (.int v :: .ref (o + 0) :: st) := by
  refine aw_putf C ck0 5 (by decide) q (fun _ z => z) rfl rfl (ty := .int) rfl rfl (ch_at (i := 0) rfl) (show 5 < 8 by decide) d ?_
  rw [show (((cfs o u).set 5 (.int v)) : List Value) = cfs o (cui u 0 v) from rfl, ch_length o u g v]
  exact kk
theorem cw_errorAt (C : Cx γ l x y cc nL ret rm et) {v : Int32} {index : Nat} (q : Cond.fieldLink y.cls index (TX1 6).1 (TX1 6).2.1 (TX1 6).2.2.1 ∈ lw_all) (d : decode cc pc = .ok (.putfield index, 3)) (kk : AW γ l x Q nL (ch o (cui u 1 v) g) sz k n (pc + 3) L st) : AW γ l x Q nL (ch o u g) sz k n pc L (.int v :: .ref (o + 0) :: st) := by
  refine aw_putf C ck0 6 (by decide) q (fun _ z => z) rfl rfl (ty := .int) rfl rfl (ch_at (i := 0) rfl) (show 6 < 8 by decide) d ?_
  rw [show (((cfs o u).set 6 (.int v)) : List Value) = cfs o (cui u 1 v) from rfl, ch_errorAt o u g v]
  exact kk
theorem cw_board (C : Cx γ l x y cc nL ret rm et) {a : Nat} {index : Nat} (q : Cond.fieldLink y.cls index (TX1 1).1 (TX1 1).2.1 (TX1 1).2.2.1 ∈ lw_all) (d : decode cc pc = .ok (.putfield index, 3)) (kk : AW γ l x Q nL (ch o (cub u a) g) sz k n (pc + 3) L st) : AW γ l x Q nL (ch o u g) sz k n pc L (.ref a :: .ref (o + 0) :: st) := by
  refine aw_putf C ck0 1 (by decide) q (fun _ z => z) rfl rfl (ty := (.object "ColourDuel$Board")) rfl rfl (ch_at (i := 0) rfl) (show 1 < 8 by decide) d ?_
  rw [show (((cfs o u).set 1 (.ref a)) : List Value) = cfs o (cub u a) from rfl, ch_board o u g a]
  exact kk
theorem cw_stamp (C : Cx γ l x y cc nL ret rm et) {v : Int32} {index : Nat} (q : Cond.fieldLink y.cls index (TX2 6).1 (TX2 6).2.1 (TX2 6).2.2.1 ∈ lw_all) (d : decode cc pc = .ok (.putfield index, 3)) (kk : AW γ l x Q nL (ch o (cui u 2 v) g) sz k n (pc + 3) L st) : AW γ l x Q nL (ch o u g) sz k n pc L (.int v :: .ref (o + 1) :: st) := by
  refine aw_putf C ck1 6 (by decide) q (fun _ z => z) rfl rfl (ty := .int) rfl rfl (ch_at (i := 1) rfl) (show 6 < 9 by decide) d ?_
  rw [show (((sfs o u).set 6 (.int v)) : List Value) = sfs o (cui u 2 v) from rfl, ch_stamp o u g v]
  exact kk
theorem cw_known (C : Cx γ l x y cc nL ret rm et) {v : Int32} {index : Nat} (q : Cond.fieldLink y.cls index (TX2 7).1 (TX2 7).2.1 (TX2 7).2.2.1 ∈ lw_all) (d : decode cc pc = .ok (.putfield index, 3)) (kk : AW γ l x Q nL (ch o (cui u 3 v) g) sz k n (pc + 3) L st) : AW γ l x Q nL (ch o u g) sz k n pc L (.int v :: .ref (o + 1) :: st) := by
  refine aw_putf C ck1 7 (by decide) q (fun _ z => z) rfl rfl (ty := .int) rfl rfl (ch_at (i := 1) rfl) (show 7 < 9 by decide) d ?_
  rw [show (((sfs o u).set 7 (.int v)) : List Value) = sfs o (cui u 3 v) from rfl, ch_known o u g v]
  exact kk
theorem cw_head (C : Cx γ l x y cc nL ret rm et) {v : Int32} {index : Nat} (q : Cond.fieldLink y.cls index (TJ18 1).1 (TJ18 1).2.1 (TJ18 1).2.2.1 ∈ lw_all) (d : decode cc pc = .ok (.putfield index, 3)) (kk : AW γ l x Q nL (ch o (cui u 4 v) g) sz k n (pc + 3) L st) : AW γ l x Q nL (ch o u g) sz k n pc L (.int v :: .ref (o + 28) :: st) := by
  refine aw_putf C ck15 1 (by decide) q (fun _ z => z) rfl rfl (ty := .int) rfl rfl (ch_at (i := 28) rfl) (show 1 < 3 by decide) d ?_
  rw [show (((hfs o u).set 1 (.int v)) : List Value) = hfs o (cui u 4 v) from rfl, ch_head o u g v]
  exact kk
theorem cw_tail (C : Cx γ l x y cc nL ret rm et) {v : Int32} {index : Nat} (q : Cond.fieldLink y.cls index (TJ18 2).1 (TJ18 2).2.1 (TJ18 2).2.2.1 ∈ lw_all) (d : decode cc pc = .ok (.putfield index, 3)) (kk : AW γ l x Q nL (ch o (cui u 5 v) g) sz k n (pc + 3) L st) : AW γ l x Q nL (ch o u g) sz k n pc L (.int v :: .ref (o + 28) :: st) := by
  refine aw_putf C ck15 2 (by decide) q (fun _ z => z) rfl rfl (ty := .int) rfl rfl (ch_at (i := 28) rfl) (show 2 < 3 by decide) d ?_
  rw [show (((hfs o u).set 2 (.int v)) : List Value) = hfs o (cui u 5 v) from rfl, ch_tail o u g v]
  exact kk
theorem cw_found (C : Cx γ l x y cc nL ret rm et) {j : Nat} {v : Int32} (hj : j < 65536) (d : decode cc pc = .ok (.iastore, 1)) (kk : AW γ l x Q nL (ch o (cua u 0 (upd (u.2.1 0) j v)) g) sz k n (pc + 1) L st) : AW γ l x Q nL (ch o u g) sz k n pc L (.int v :: .int (nI j) :: .ref (o + 3) :: st) := aw_iastN C (ch_at (i := 3) rfl) hj (by decide) d (by rw [ch_found]; exact kk)
theorem cw_stamps (C : Cx γ l x y cc nL ret rm et) {j : Nat} {v : Int32} (hj : j < 65536) (d : decode cc pc = .ok (.iastore, 1)) (kk : AW γ l x Q nL (ch o (cua u 1 (upd (u.2.1 1) j v)) g) sz k n (pc + 1) L st) : AW γ l x Q nL (ch o u g) sz k n pc L (.int v :: .int (nI j) :: .ref (o + 4) :: st) := aw_iastN C (ch_at (i := 4) rfl) hj (by decide) d (by rw [ch_stamps]; exact kk)
theorem cw_bits (C : Cx γ l x y cc nL ret rm et) {j : Nat} {v : Int32} (hj : j < 512) (d : decode cc pc = .ok (.iastore, 1)) (kk : AW γ l x Q nL (ch o (cua u 2 (upd (u.2.1 2) j v)) g) sz k n (pc + 1) L st) : AW γ l x Q nL (ch o u g) sz k n pc L (.int v :: .int (nI j) :: .ref (o + 16) :: st) := aw_iastN C (ch_at (i := 16) rfl) hj (by decide) d (by rw [ch_bits]; exact kk)
theorem cw_keys (C : Cx γ l x y cc nL ret rm et) {j : Nat} {v : Int64} (hj : j < 65536) (d : decode cc pc = .ok (.lastore, 1)) (kk : AW γ l x Q nL (ch o (cuk u (vp_updL u.2.2.1 j v)) g) sz k n (pc + 1) L st) : AW γ l x Q nL (ch o u g) sz k n pc L (.long v :: .int (nI j) :: .ref (o + 2) :: st) := aw_lastN C (ch_at (i := 2) rfl) hj (by decide) d (by rw [ch_keys]; exact kk)
theorem cw_row (C : Cx γ l x y cc nL ret rm et) {e j : Nat} {v : Int32} (he : e < 10) (hj : j < 9) (d : decode cc pc = .ok (.iastore, 1)) (kk : AW γ l x Q nL (ch o (cua u (10 + e) (upd (u.2.1 (10 + e)) j v)) g) sz k n (pc + 1) L st) : AW γ l x Q nL (ch o u g) sz k n pc L (.int v :: .int (nI j) :: .ref (o + 5 + 1 + e) :: st) := aw_iastN C (ch_row he) hj (by decide) d (by rw [ch_rows o u g he]; exact kk)
theorem cw_buffer (C : Cx γ l x y cc nL ret rm et) {j : Nat} {v : Int32} (hj : j < 500) (d : decode cc pc = .ok (.bastore, 1)) (kk : AW γ l x Q nL (ch o (cua u 3 (upd (u.2.1 3) j (vp_nar .byte v))) g) sz k n (pc + 1) L st) : AW γ l x Q nL (ch o u g) sz k n pc L (.int v :: .int (nI j) :: .ref (o + 31) :: st) := aw_bastN C (ch_at (i := 31) rfl) hj (by decide) d (by rw [ch_buffer]; exact kk)
theorem cw_wval (C : Cx γ l x y cc nL ret rm et) {j : Nat} {v : Int32} (hj : j < 16) (d : decode cc pc = .ok (.bastore, 1)) (kk : AW γ l x Q nL (ch o (cua u 4 (upd (u.2.1 4) j (vp_nar .byte v))) g) sz k n (pc + 1) L st) : AW γ l x Q nL (ch o u g) sz k n pc L (.int v :: .int (nI j) :: .ref (o + 33) :: st) := aw_bastN C (ch_at (i := 33) rfl) hj (by decide) d (by rw [ch_wval]; exact kk)
theorem cw_elems (C : Cx γ l x y cc nL ret rm et) {j b : Nat} {fs : List Value} (hj : j < 17) (hb : ch o u g b = some (.inr (2, fs))) (hca : Cond.castable "ColourDuel$Board" "java/lang/Object" ∈ lw_tbl) (d : decode cc pc = .ok (.aastore, 1)) (kk : AW γ l x Q nL (ch o (cur u 1 (va_up (u.2.2.2.1 1) j (some b))) g) sz k n (pc + 1) L st) : AW γ l x Q nL (ch o u g) sz k n pc L (.ref b :: .int (nI j) :: .ref (o + 29) :: st) := aw_aast C ck2 (t := 4) (by decide) rfl (Or.inr hca) (ch_at (i := 29) rfl) hj (by decide) hb d (by rw [ch_elems]; exact kk)
theorem cw_elemsN (C : Cx γ l x y cc nL ret rm et) {j : Nat} (hj : j < 17) (d : decode cc pc = .ok (.aastore, 1)) (kk : AW γ l x Q nL (ch o (cur u 1 (va_up (u.2.2.2.1 1) j none)) g) sz k n (pc + 1) L st) : AW γ l x Q nL (ch o u g) sz k n pc L (.null :: .int (nI j) :: .ref (o + 29) :: st) := aw_aastN C (t := 4) (by decide) rfl (ch_at (i := 29) rfl) hj (by decide) d (by rw [ch_elems]; exact kk)
theorem cw_slots (C : Cx γ l x y cc nL ret rm et) {j b : Nat} {fs : List Value} (hj : j < 2) (hb : ch o u g b = some (.inr (2, fs))) (d : decode cc pc = .ok (.aastore, 1)) (kk : AW γ l x Q nL (ch o (cur u 2 (va_up (u.2.2.2.1 2) j (some b))) g) sz k n (pc + 1) L st) : AW γ l x Q nL (ch o u g) sz k n pc L (.ref b :: .int (nI j) :: .ref (o + 30) :: st) := aw_aast C ck2 (t := 7) (by decide) rfl (Or.inl rfl) (ch_at (i := 30) rfl) hj (by decide) hb d (by rw [ch_slots]; exact kk)
theorem cw_graph (C : Cx γ l x y cc nL ret rm et) {a : Nat} {index : Nat} (q : Cond.fieldLink y.cls index (TX2 5).1 (TX2 5).2.1 (TX2 5).2.2.1 ∈ lw_all) (d : decode cc pc = .ok (.putfield index, 3)) (kk : AW γ l x Q nL (ch o (cur u 0 (va_up (u.2.2.2.1 0) 0 (some a))) g) sz k n (pc + 3) L st) : AW γ l x Q nL (ch o u g) sz k n pc L (.ref a :: .ref (o + 1) :: st) := by
  refine aw_putf C ck1 5 (by decide) q (fun _ z => z) rfl rfl (ty := .object "ColourDuel$Graph") rfl rfl (ch_at (i := 1) rfl) (show 5 < 9 by decide) d ?_
  rw [show ((sfs o u).set 5 (.ref a) : List Value) = sfs o (cur u 0 (va_up (u.2.2.2.1 0) 0 (some a))) from rfl, ch_graph o u g]
  exact kk
end CUR
/-- answers nothing; then u' with P, and the boards' heap is the same -/
def RCv (o sz : Nat) (g : AH) (P : CU → Prop) : Option Value → AH → Nat → Prop := fun v h' sz' => v = none ∧ sz' = sz ∧ ∃ u', h' = ch o u' g ∧ P u'
def RCi (o sz : Nat) (g : AH) (P : Int32 → CU → Prop) : Option Value → AH → Nat → Prop := fun v h' sz' => sz' = sz ∧ ∃ r u', v = some (.int r) ∧ h' = ch o u' g ∧ P r u'
