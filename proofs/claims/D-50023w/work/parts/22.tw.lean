/-! THE TWIN (ColourDuelModel) as one value u: its int fields by number, its arrays by the number of their field; the object at o, its arrays behind it -/
abbrev TU : Type := (Nat → Int32) × (Nat → Nat → Int32)
def tfs (o : Nat) (u : TU) : List Value := [.ref (o + 1), .ref (o + 2), .ref (o + 3), .ref (o + 4), .ref (o + 5), .ref (o + 6), .int (u.1 6), .int (u.1 7), .ref (o + 7), .int (u.1 9), .int (u.1 10), .int (u.1 11), .int (u.1 12), .int (u.1 13), .int (u.1 14), .int (u.1 15), .int (u.1 16), .int (u.1 17), .ref (o + 8), .ref (o + 9), .ref (o + 10), .int (u.1 21)]
def tcell (o : Nat) (u : TU) : Nat → Option va_E
  | 0 => some (.inr (5, tfs o u))
  | 1 => some (.inl (0, 4136, .inl (u.2 0)))
  | 2 => some (.inl (0, 4136, .inl (u.2 1)))
  | 3 => some (.inl (0, 4136, .inl (u.2 2)))
  | 4 => some (.inl (0, 33088, .inl (u.2 3)))
  | 5 => some (.inl (0, 8272, .inl (u.2 4)))
  | 6 => some (.inl (3, 2, .inl (u.2 5)))
  | 7 => some (.inl (0, 500, .inl (u.2 8)))
  | 8 => some (.inl (0, 80000, .inl (u.2 18)))
  | 9 => some (.inl (0, 9, .inl (u.2 19)))
  | 10 => some (.inl (0, 14, .inl (u.2 20)))
  | _ => none
def th (o : Nat) (u : TU) : AH := fun a => if a < o then none else tcell o u (a - o)
theorem th_o (o : Nat) (u : TU) : th o u o = some (.inr (5, tfs o u)) := by
  unfold th
  rw [if_neg (Nat.lt_irrefl o), Nat.sub_self]
  rfl
theorem th_k (o : Nat) (u : TU) (i : Nat) : th o u (o + i) = tcell o u i := by
  unfold th
  rw [if_neg (by omega), Nat.add_sub_cancel_left]
def tsf (u : TU) (i : Nat) (v : Int32) : TU := (fun j => if j = i then v else u.1 j, u.2)
def tsa (u : TU) (i : Nat) (f : Nat → Int32) : TU := (u.1, fun j => if j = i then f else u.2 j)
theorem th_set (o : Nat) (u u' : TU) (i : Nat) (c : va_E) (hc : tcell o u' i = some c) (hn : ∀ j, j ≠ i → tcell o u' j = tcell o u j) : hset (th o u) (o + i) c = th o u' := by
  funext a
  by_cases e : a = o + i
  · subst e
    rw [hset_s, th_k, hc]
  · rw [hset_n _ _ e]
    unfold th
    by_cases h : a < o
    · rw [if_pos h, if_pos h]
    · rw [if_neg h, if_neg h]
      exact (hn (a - o) (by omega)).symm
theorem tcell_f (o : Nat) (u : TU) (i : Nat) (v : Int32) : ∀ j, j ≠ 0 → tcell o (tsf u i v) j = tcell o u j := by
  intro j hj
  match j with
  | 0 => exact absurd rfl hj
  | 1 => rfl
  | 2 => rfl
  | 3 => rfl
  | 4 => rfl
  | 5 => rfl
  | 6 => rfl
  | 7 => rfl
  | 8 => rfl
  | 9 => rfl
  | 10 => rfl
  | n + 11 => rfl
theorem th_setf (o : Nat) (u : TU) (i : Nat) (v : Int32) (e : (tfs o u).set i (.int v) = tfs o (tsf u i v)) : hset (th o u) o (.inr (5, (tfs o u).set i (.int v))) = th o (tsf u i v) := by
  have := th_set o u (tsf u i v) 0 (.inr (5, (tfs o u).set i (.int v))) (by rw [e]; rfl) (tcell_f o u i v)
  exact this
theorem th_a0 (o : Nat) (u : TU) : th o u (o + 1) = some (.inl (0, 4136, .inl (u.2 0))) := th_k o u 1
theorem th_seta0 (o : Nat) (u : TU) (f : Nat → Int32) : hset (th o u) (o + 1) (.inl (0, 4136, .inl f)) = th o (tsa u 0 f) := by
  refine th_set o u (tsa u 0 f) 1 _ rfl (fun j hj => ?_)
  match j, hj with
  | 0, hj => rfl
  | 1, hj => exact absurd rfl hj
  | 2, hj => rfl
  | 3, hj => rfl
  | 4, hj => rfl
  | 5, hj => rfl
  | 6, hj => rfl
  | 7, hj => rfl
  | 8, hj => rfl
  | 9, hj => rfl
  | 10, hj => rfl
  | n + 11, _ => rfl
theorem th_a1 (o : Nat) (u : TU) : th o u (o + 2) = some (.inl (0, 4136, .inl (u.2 1))) := th_k o u 2
theorem th_seta1 (o : Nat) (u : TU) (f : Nat → Int32) : hset (th o u) (o + 2) (.inl (0, 4136, .inl f)) = th o (tsa u 1 f) := by
  refine th_set o u (tsa u 1 f) 2 _ rfl (fun j hj => ?_)
  match j, hj with
  | 0, hj => rfl
  | 1, hj => rfl
  | 2, hj => exact absurd rfl hj
  | 3, hj => rfl
  | 4, hj => rfl
  | 5, hj => rfl
  | 6, hj => rfl
  | 7, hj => rfl
  | 8, hj => rfl
  | 9, hj => rfl
  | 10, hj => rfl
  | n + 11, _ => rfl
theorem th_a2 (o : Nat) (u : TU) : th o u (o + 3) = some (.inl (0, 4136, .inl (u.2 2))) := th_k o u 3
theorem th_seta2 (o : Nat) (u : TU) (f : Nat → Int32) : hset (th o u) (o + 3) (.inl (0, 4136, .inl f)) = th o (tsa u 2 f) := by
  refine th_set o u (tsa u 2 f) 3 _ rfl (fun j hj => ?_)
  match j, hj with
  | 0, hj => rfl
  | 1, hj => rfl
  | 2, hj => rfl
  | 3, hj => exact absurd rfl hj
  | 4, hj => rfl
  | 5, hj => rfl
  | 6, hj => rfl
  | 7, hj => rfl
  | 8, hj => rfl
  | 9, hj => rfl
  | 10, hj => rfl
  | n + 11, _ => rfl
theorem th_a3 (o : Nat) (u : TU) : th o u (o + 4) = some (.inl (0, 33088, .inl (u.2 3))) := th_k o u 4
theorem th_seta3 (o : Nat) (u : TU) (f : Nat → Int32) : hset (th o u) (o + 4) (.inl (0, 33088, .inl f)) = th o (tsa u 3 f) := by
  refine th_set o u (tsa u 3 f) 4 _ rfl (fun j hj => ?_)
  match j, hj with
  | 0, hj => rfl
  | 1, hj => rfl
  | 2, hj => rfl
  | 3, hj => rfl
  | 4, hj => exact absurd rfl hj
  | 5, hj => rfl
  | 6, hj => rfl
  | 7, hj => rfl
  | 8, hj => rfl
  | 9, hj => rfl
  | 10, hj => rfl
  | n + 11, _ => rfl
theorem th_a4 (o : Nat) (u : TU) : th o u (o + 5) = some (.inl (0, 8272, .inl (u.2 4))) := th_k o u 5
theorem th_seta4 (o : Nat) (u : TU) (f : Nat → Int32) : hset (th o u) (o + 5) (.inl (0, 8272, .inl f)) = th o (tsa u 4 f) := by
  refine th_set o u (tsa u 4 f) 5 _ rfl (fun j hj => ?_)
  match j, hj with
  | 0, hj => rfl
  | 1, hj => rfl
  | 2, hj => rfl
  | 3, hj => rfl
  | 4, hj => rfl
  | 5, hj => exact absurd rfl hj
  | 6, hj => rfl
  | 7, hj => rfl
  | 8, hj => rfl
  | 9, hj => rfl
  | 10, hj => rfl
  | n + 11, _ => rfl
theorem th_a5 (o : Nat) (u : TU) : th o u (o + 6) = some (.inl (3, 2, .inl (u.2 5))) := th_k o u 6
theorem th_seta5 (o : Nat) (u : TU) (f : Nat → Int32) : hset (th o u) (o + 6) (.inl (3, 2, .inl f)) = th o (tsa u 5 f) := by
  refine th_set o u (tsa u 5 f) 6 _ rfl (fun j hj => ?_)
  match j, hj with
  | 0, hj => rfl
  | 1, hj => rfl
  | 2, hj => rfl
  | 3, hj => rfl
  | 4, hj => rfl
  | 5, hj => rfl
  | 6, hj => exact absurd rfl hj
  | 7, hj => rfl
  | 8, hj => rfl
  | 9, hj => rfl
  | 10, hj => rfl
  | n + 11, _ => rfl
theorem th_a8 (o : Nat) (u : TU) : th o u (o + 7) = some (.inl (0, 500, .inl (u.2 8))) := th_k o u 7
theorem th_seta8 (o : Nat) (u : TU) (f : Nat → Int32) : hset (th o u) (o + 7) (.inl (0, 500, .inl f)) = th o (tsa u 8 f) := by
  refine th_set o u (tsa u 8 f) 7 _ rfl (fun j hj => ?_)
  match j, hj with
  | 0, hj => rfl
  | 1, hj => rfl
  | 2, hj => rfl
  | 3, hj => rfl
  | 4, hj => rfl
  | 5, hj => rfl
  | 6, hj => rfl
  | 7, hj => exact absurd rfl hj
  | 8, hj => rfl
  | 9, hj => rfl
  | 10, hj => rfl
  | n + 11, _ => rfl
theorem th_a18 (o : Nat) (u : TU) : th o u (o + 8) = some (.inl (0, 80000, .inl (u.2 18))) := th_k o u 8
theorem th_seta18 (o : Nat) (u : TU) (f : Nat → Int32) : hset (th o u) (o + 8) (.inl (0, 80000, .inl f)) = th o (tsa u 18 f) := by
  refine th_set o u (tsa u 18 f) 8 _ rfl (fun j hj => ?_)
  match j, hj with
  | 0, hj => rfl
  | 1, hj => rfl
  | 2, hj => rfl
  | 3, hj => rfl
  | 4, hj => rfl
  | 5, hj => rfl
  | 6, hj => rfl
  | 7, hj => rfl
  | 8, hj => exact absurd rfl hj
  | 9, hj => rfl
  | 10, hj => rfl
  | n + 11, _ => rfl
theorem th_a19 (o : Nat) (u : TU) : th o u (o + 9) = some (.inl (0, 9, .inl (u.2 19))) := th_k o u 9
theorem th_seta19 (o : Nat) (u : TU) (f : Nat → Int32) : hset (th o u) (o + 9) (.inl (0, 9, .inl f)) = th o (tsa u 19 f) := by
  refine th_set o u (tsa u 19 f) 9 _ rfl (fun j hj => ?_)
  match j, hj with
  | 0, hj => rfl
  | 1, hj => rfl
  | 2, hj => rfl
  | 3, hj => rfl
  | 4, hj => rfl
  | 5, hj => rfl
  | 6, hj => rfl
  | 7, hj => rfl
  | 8, hj => rfl
  | 9, hj => exact absurd rfl hj
  | 10, hj => rfl
  | n + 11, _ => rfl
theorem th_a20 (o : Nat) (u : TU) : th o u (o + 10) = some (.inl (0, 14, .inl (u.2 20))) := th_k o u 10
theorem th_seta20 (o : Nat) (u : TU) (f : Nat → Int32) : hset (th o u) (o + 10) (.inl (0, 14, .inl f)) = th o (tsa u 20 f) := by
  refine th_set o u (tsa u 20 f) 10 _ rfl (fun j hj => ?_)
  match j, hj with
  | 0, hj => rfl
  | 1, hj => rfl
  | 2, hj => rfl
  | 3, hj => rfl
  | 4, hj => rfl
  | 5, hj => rfl
  | 6, hj => rfl
  | 7, hj => rfl
  | 8, hj => rfl
  | 9, hj => rfl
  | 10, hj => exact absurd rfl hj
  | n + 11, _ => rfl
section TWR
variable {γ : Gm} {l : Launch} {x : WX} {y : MethodName} {cc : ByteArray} {nL : Nat} {ret : Option FieldType} {rm : Room} {et : List ExceptionTableEntry} {Q : State → Prop} {o sz k n pc : Nat} {u : TU} {L : LV} {st : List Value}
/-- a field of this -/
theorem tw_get (C : Cx γ l x y cc nL ret rm et) (i : Nat) (hi : i < 22) {index : Nat} {v : Value} (q : Cond.fieldLink y.cls index (TX6 i).1 (TX6 i).2.1 (TX6 i).2.2.1 ∈ lw_all) (hv : (tfs o u)[i]? = some v) (d : decode cc pc = .ok (.getfield index, 3)) (kk : AW γ l x Q nL (th o u) sz k n (pc + 3) L (v :: st)) : AW γ l x Q nL (th o u) sz k n pc L (.ref o :: st) :=
  aw_getf C ck5 i hi q (fun _ z => z) (th_o o u) hv d kk
theorem tw_put (C : Cx γ l x y cc nL ret rm et) (i : Nat) (hi : i < 22) {index : Nat} {v : Int32} (q : Cond.fieldLink y.cls index (TX6 i).1 (TX6 i).2.1 (TX6 i).2.2.1 ∈ lw_all) (hfin : (TX6 i).2.2.2 = false) (hty : tyX6 i = .int) (e : (tfs o u).set i (.int v) = tfs o (tsf u i v)) (d : decode cc pc = .ok (.putfield index, 3)) (kk : AW γ l x Q nL (th o (tsf u i v)) sz k n (pc + 3) L st) : AW γ l x Q nL (th o u) sz k n pc L (.int v :: .ref o :: st) := by
  refine aw_putf C ck5 i hi q (fun _ z => z) hfin hty rfl rfl (th_o o u) hi d ?_
  rw [th_setf o u i v e]
  exact kk
theorem tw_ld0 (C : Cx γ l x y cc nL ret rm et) {j : Nat} (hj : j < 4136) (d : decode cc pc = .ok (.iaload, 1)) (kk : AW γ l x Q nL (th o u) sz k n (pc + 1) L (.int (u.2 0 j) :: st)) : AW γ l x Q nL (th o u) sz k n pc L (.int (nI j) :: .ref (o + 1) :: st) := aw_ialdN C (th_a0 o u) hj (by decide) d kk
theorem tw_st0 (C : Cx γ l x y cc nL ret rm et) {j : Nat} {v : Int32} (hj : j < 4136) (d : decode cc pc = .ok (.iastore, 1)) (kk : AW γ l x Q nL (th o (tsa u 0 (upd (u.2 0) j v))) sz k n (pc + 1) L st) : AW γ l x Q nL (th o u) sz k n pc L (.int v :: .int (nI j) :: .ref (o + 1) :: st) := aw_iastN C (th_a0 o u) hj (by decide) d (by rw [th_seta0]; exact kk)
theorem tw_ld1 (C : Cx γ l x y cc nL ret rm et) {j : Nat} (hj : j < 4136) (d : decode cc pc = .ok (.iaload, 1)) (kk : AW γ l x Q nL (th o u) sz k n (pc + 1) L (.int (u.2 1 j) :: st)) : AW γ l x Q nL (th o u) sz k n pc L (.int (nI j) :: .ref (o + 2) :: st) := aw_ialdN C (th_a1 o u) hj (by decide) d kk
theorem tw_st1 (C : Cx γ l x y cc nL ret rm et) {j : Nat} {v : Int32} (hj : j < 4136) (d : decode cc pc = .ok (.iastore, 1)) (kk : AW γ l x Q nL (th o (tsa u 1 (upd (u.2 1) j v))) sz k n (pc + 1) L st) : AW γ l x Q nL (th o u) sz k n pc L (.int v :: .int (nI j) :: .ref (o + 2) :: st) := aw_iastN C (th_a1 o u) hj (by decide) d (by rw [th_seta1]; exact kk)
theorem tw_ld2 (C : Cx γ l x y cc nL ret rm et) {j : Nat} (hj : j < 4136) (d : decode cc pc = .ok (.iaload, 1)) (kk : AW γ l x Q nL (th o u) sz k n (pc + 1) L (.int (u.2 2 j) :: st)) : AW γ l x Q nL (th o u) sz k n pc L (.int (nI j) :: .ref (o + 3) :: st) := aw_ialdN C (th_a2 o u) hj (by decide) d kk
theorem tw_st2 (C : Cx γ l x y cc nL ret rm et) {j : Nat} {v : Int32} (hj : j < 4136) (d : decode cc pc = .ok (.iastore, 1)) (kk : AW γ l x Q nL (th o (tsa u 2 (upd (u.2 2) j v))) sz k n (pc + 1) L st) : AW γ l x Q nL (th o u) sz k n pc L (.int v :: .int (nI j) :: .ref (o + 3) :: st) := aw_iastN C (th_a2 o u) hj (by decide) d (by rw [th_seta2]; exact kk)
theorem tw_ld3 (C : Cx γ l x y cc nL ret rm et) {j : Nat} (hj : j < 33088) (d : decode cc pc = .ok (.iaload, 1)) (kk : AW γ l x Q nL (th o u) sz k n (pc + 1) L (.int (u.2 3 j) :: st)) : AW γ l x Q nL (th o u) sz k n pc L (.int (nI j) :: .ref (o + 4) :: st) := aw_ialdN C (th_a3 o u) hj (by decide) d kk
theorem tw_st3 (C : Cx γ l x y cc nL ret rm et) {j : Nat} {v : Int32} (hj : j < 33088) (d : decode cc pc = .ok (.iastore, 1)) (kk : AW γ l x Q nL (th o (tsa u 3 (upd (u.2 3) j v))) sz k n (pc + 1) L st) : AW γ l x Q nL (th o u) sz k n pc L (.int v :: .int (nI j) :: .ref (o + 4) :: st) := aw_iastN C (th_a3 o u) hj (by decide) d (by rw [th_seta3]; exact kk)
theorem tw_ld4 (C : Cx γ l x y cc nL ret rm et) {j : Nat} (hj : j < 8272) (d : decode cc pc = .ok (.iaload, 1)) (kk : AW γ l x Q nL (th o u) sz k n (pc + 1) L (.int (u.2 4 j) :: st)) : AW γ l x Q nL (th o u) sz k n pc L (.int (nI j) :: .ref (o + 5) :: st) := aw_ialdN C (th_a4 o u) hj (by decide) d kk
theorem tw_st4 (C : Cx γ l x y cc nL ret rm et) {j : Nat} {v : Int32} (hj : j < 8272) (d : decode cc pc = .ok (.iastore, 1)) (kk : AW γ l x Q nL (th o (tsa u 4 (upd (u.2 4) j v))) sz k n (pc + 1) L st) : AW γ l x Q nL (th o u) sz k n pc L (.int v :: .int (nI j) :: .ref (o + 5) :: st) := aw_iastN C (th_a4 o u) hj (by decide) d (by rw [th_seta4]; exact kk)
theorem tw_ld5 (C : Cx γ l x y cc nL ret rm et) {j : Nat} (hj : j < 2) (d : decode cc pc = .ok (.baload, 1)) (kk : AW γ l x Q nL (th o u) sz k n (pc + 1) L (.int (u.2 5 j) :: st)) : AW γ l x Q nL (th o u) sz k n pc L (.int (nI j) :: .ref (o + 6) :: st) := aw_zaldN C (th_a5 o u) hj (by decide) d kk
theorem tw_st5 (C : Cx γ l x y cc nL ret rm et) {j : Nat} {v : Int32} (hj : j < 2) (d : decode cc pc = .ok (.bastore, 1)) (kk : AW γ l x Q nL (th o (tsa u 5 (upd (u.2 5) j (vp_nar .boolean v)))) sz k n (pc + 1) L st) : AW γ l x Q nL (th o u) sz k n pc L (.int v :: .int (nI j) :: .ref (o + 6) :: st) := aw_zastN C (th_a5 o u) hj (by decide) d (by rw [th_seta5]; exact kk)
theorem tw_ld8 (C : Cx γ l x y cc nL ret rm et) {j : Nat} (hj : j < 500) (d : decode cc pc = .ok (.iaload, 1)) (kk : AW γ l x Q nL (th o u) sz k n (pc + 1) L (.int (u.2 8 j) :: st)) : AW γ l x Q nL (th o u) sz k n pc L (.int (nI j) :: .ref (o + 7) :: st) := aw_ialdN C (th_a8 o u) hj (by decide) d kk
theorem tw_st8 (C : Cx γ l x y cc nL ret rm et) {j : Nat} {v : Int32} (hj : j < 500) (d : decode cc pc = .ok (.iastore, 1)) (kk : AW γ l x Q nL (th o (tsa u 8 (upd (u.2 8) j v))) sz k n (pc + 1) L st) : AW γ l x Q nL (th o u) sz k n pc L (.int v :: .int (nI j) :: .ref (o + 7) :: st) := aw_iastN C (th_a8 o u) hj (by decide) d (by rw [th_seta8]; exact kk)
theorem tw_ld18 (C : Cx γ l x y cc nL ret rm et) {j : Nat} (hj : j < 80000) (d : decode cc pc = .ok (.iaload, 1)) (kk : AW γ l x Q nL (th o u) sz k n (pc + 1) L (.int (u.2 18 j) :: st)) : AW γ l x Q nL (th o u) sz k n pc L (.int (nI j) :: .ref (o + 8) :: st) := aw_ialdN C (th_a18 o u) hj (by decide) d kk
theorem tw_st18 (C : Cx γ l x y cc nL ret rm et) {j : Nat} {v : Int32} (hj : j < 80000) (d : decode cc pc = .ok (.iastore, 1)) (kk : AW γ l x Q nL (th o (tsa u 18 (upd (u.2 18) j v))) sz k n (pc + 1) L st) : AW γ l x Q nL (th o u) sz k n pc L (.int v :: .int (nI j) :: .ref (o + 8) :: st) := aw_iastN C (th_a18 o u) hj (by decide) d (by rw [th_seta18]; exact kk)
theorem tw_ld19 (C : Cx γ l x y cc nL ret rm et) {j : Nat} (hj : j < 9) (d : decode cc pc = .ok (.iaload, 1)) (kk : AW γ l x Q nL (th o u) sz k n (pc + 1) L (.int (u.2 19 j) :: st)) : AW γ l x Q nL (th o u) sz k n pc L (.int (nI j) :: .ref (o + 9) :: st) := aw_ialdN C (th_a19 o u) hj (by decide) d kk
theorem tw_st19 (C : Cx γ l x y cc nL ret rm et) {j : Nat} {v : Int32} (hj : j < 9) (d : decode cc pc = .ok (.iastore, 1)) (kk : AW γ l x Q nL (th o (tsa u 19 (upd (u.2 19) j v))) sz k n (pc + 1) L st) : AW γ l x Q nL (th o u) sz k n pc L (.int v :: .int (nI j) :: .ref (o + 9) :: st) := aw_iastN C (th_a19 o u) hj (by decide) d (by rw [th_seta19]; exact kk)
theorem tw_ld20 (C : Cx γ l x y cc nL ret rm et) {j : Nat} (hj : j < 14) (d : decode cc pc = .ok (.iaload, 1)) (kk : AW γ l x Q nL (th o u) sz k n (pc + 1) L (.int (u.2 20 j) :: st)) : AW γ l x Q nL (th o u) sz k n pc L (.int (nI j) :: .ref (o + 10) :: st) := aw_ialdN C (th_a20 o u) hj (by decide) d kk
theorem tw_st20 (C : Cx γ l x y cc nL ret rm et) {j : Nat} {v : Int32} (hj : j < 14) (d : decode cc pc = .ok (.iastore, 1)) (kk : AW γ l x Q nL (th o (tsa u 20 (upd (u.2 20) j v))) sz k n (pc + 1) L st) : AW γ l x Q nL (th o u) sz k n pc L (.int v :: .int (nI j) :: .ref (o + 10) :: st) := aw_iastN C (th_a20 o u) hj (by decide) d (by rw [th_seta20]; exact kk)
/-- a call of this's own method -/
theorem tw_call (C : Cx γ l x y cc nL ret rm et) {y9 : MethodName} {b9 : ByteArray} {nL9 : Nat} {ret9 : Option FieldType} {f9 lo9 index n9 : Nat} {As : List Value} {Post : Option Value → AH → Nat → Prop} {st0 : List Value} (hM : MX γ l y9 b9 nL9 ret9 f9 lo9 0 0 (.ref o :: As) (th o u) sz Post NX)
    (q1 : Cond.methodLink y.cls index y9 ∈ lw_all) (q2 : Cond.instanceMethod y9 ∈ lw_all) (q3 : Cond.selects RX6 y9 y9 ∈ lw_all) (q4 : Cond.initialized RX6 ∈ lw_all) (q5 : Cond.code y9 b9 nL9 ret9 ∈ lw_all)
    (hd : y9.cls = RX6 ∧ y9.cls ≠ "java/lang/invoke/MethodHandle" ∧ y9.cls ≠ "java/lang/invoke/VarHandle" ∧ (parseMethodDescriptor y9.desc).map (fun d => d.parameters.length) = some n9) (hn : As.length = n9)
    (hf : f9 + 1 ≤ rm.frames) (hl : 8 + (nL9 + 11) + lo9 ≤ rm.locals) (hc : k ≤ rm.cells) (hs : n ≤ rm.slots) (hst : st0 = As.reverse ++ .ref o :: st) (hw : (st.map fun v => v.category).sum ≤ 8) (d : decode cc pc = .ok (.invokevirtual index, 3))
    (kk : ∀ (v : Option Value) (h' : AH) (sz' : Nat), Post v h' sz' → AW γ l x Q nL h' sz' k n (pc + 3) L (v.toList ++ st)) : AW γ l x Q nL (th o u) sz k n pc L st0 :=
  aw_callV C ck5 hM q1 q2 q3 q4 q5 (th_o o u) hd hn hf hl hc hs hst hw d (fun _ _ _ z => z.elim) kk
/-- a call of a static method of the twin's -/
theorem tw_callS (C : Cx γ l x y cc nL ret rm et) {y9 : MethodName} {b9 : ByteArray} {nL9 : Nat} {ret9 : Option FieldType} {f9 lo9 index n9 : Nat} {As : List Value} {Post : Option Value → AH → Nat → Prop} {st0 : List Value} (hM : MX γ l y9 b9 nL9 ret9 f9 lo9 0 0 As (th o u) sz Post NX)
    (q1 : Cond.methodLink y.cls index y9 ∈ lw_all) (q2 : Cond.static y9 ∈ lw_all) (q3 : Cond.initialized y9.cls ∈ lw_all) (q4 : Cond.code y9 b9 nL9 ret9 ∈ lw_all)
    (hd : y9.cls ≠ "java/lang/invoke/MethodHandle" ∧ y9.cls ≠ "java/lang/invoke/VarHandle" ∧ (parseMethodDescriptor y9.desc).map (fun d => d.parameters.length) = some n9) (hn : As.length = n9)
    (hf : f9 + 1 ≤ rm.frames) (hl : 8 + (nL9 + 11) + lo9 ≤ rm.locals) (hc : k ≤ rm.cells) (hs : n ≤ rm.slots) (hst : st0 = As.reverse ++ st) (hw : (st.map fun v => v.category).sum ≤ 8) (d : decode cc pc = .ok (.invokestatic index, 3))
    (kk : ∀ (v : Option Value) (h' : AH) (sz' : Nat), Post v h' sz' → AW γ l x Q nL h' sz' k n (pc + 3) L (v.toList ++ st)) : AW γ l x Q nL (th o u) sz k n pc L st0 :=
  aw_callS C hM q1 q2 q3 q4 hd hn hf hl hc hs hst hw d (fun _ _ _ z => z.elim) kk
end TWR
/-- answers r, and nothing changed -/
def RI (h : AH) (sz : Nat) (r : Int32) : Option Value → AH → Nat → Prop := fun v h' sz' => v = some (.int r) ∧ h' = h ∧ sz' = sz
