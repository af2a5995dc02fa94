/-! the state: the board, what is kept, slots, the buffer, where the error was, what is written -/
abbrev BT : Type := Nat → Nat
abbrev SS : Type := BT × List BT × (Nat → Option BT) × List Nat × Int32 × List Nat
theorem aw_hp {γ : Gm} {l : Launch} {x : WX} {Q : State → Prop} {nL sz k n pc : Nat} {h h9 : AH} {L : LV} {st : List Value} (e : h = h9) (kk : AW γ l x Q nL h9 sz k n pc L st) : AW γ l x Q nL h sz k n pc L st := by rw [e]; exact kk
def cpy (f : Nat → Int32) (ta : Nat) (g : Nat → Int32) (fa n : Nat) : Nat → Int32 := fun j => if ta ≤ j ∧ j < ta + n then g (fa + (j - ta)) else f j
theorem cpy_0 (f : Nat → Int32) (ta : Nat) (g : Nat → Int32) (fa : Nat) : cpy f ta g fa 0 = f := by
  funext j
  unfold cpy
  rw [if_neg (by omega)]
theorem cpy_s (f : Nat → Int32) (ta : Nat) (g : Nat → Int32) (fa n : Nat) : upd (cpy f ta g fa n) (ta + n) (g (fa + n)) = cpy f ta g fa (n + 1) := by
  funext j
  by_cases e : j = ta + n
  · subst e
    rw [pk_us]
    unfold cpy
    rw [if_pos ⟨by omega, by omega⟩, Nat.add_sub_cancel_left]
  · rw [pk_un e]
    unfold cpy
    by_cases q : ta ≤ j ∧ j < ta + n
    · rw [if_pos q, if_pos ⟨q.1, by omega⟩]
    · rw [if_neg q, if_neg (by omega)]
theorem cpy_in {f : Nat → Int32} {ta : Nat} {g : Nat → Int32} {fa n j : Nat} (h : j < n) : cpy f ta g fa n (ta + j) = g (fa + j) := by
  unfold cpy
  rw [if_pos ⟨by omega, by omega⟩, Nat.add_sub_cancel_left]
theorem cpy_out {f : Nat → Int32} {ta : Nat} {g : Nat → Int32} {fa n j : Nat} (h : j < ta ∨ ta + n ≤ j) : cpy f ta g fa n j = f j := by
  unfold cpy
  rw [if_neg (by omega)]
def shf (f : Nat → Int32) (n : Nat) : Nat → Int32 := fun j => if j < n then f (j + 4136) else f j
theorem shf_0 (f : Nat → Int32) : shf f 0 = f := by
  funext j
  unfold shf
  rw [if_neg (Nat.not_lt_zero j)]
theorem shf_s (f : Nat → Int32) (n : Nat) : upd (shf f n) n (shf f n (n + 4136)) = shf f (n + 1) := by
  funext j
  by_cases e : j = n
  · subst e
    rw [pk_us]
    unfold shf
    rw [if_neg (by omega), if_pos (by omega)]
  · rw [pk_un e]
    unfold shf
    by_cases q : j < n
    · rw [if_pos q, if_pos (by omega)]
    · rw [if_neg q, if_neg (by omega)]
def kzero : BT := fun _ => 0
/-- what is kept -/
def K3 (f : Nat → Int32) (ks : List BT) : Prop := ∀ i j, i < ks.length → j < 4136 → f (4136 * i + j) = nI (ks.getD i kzero j)
def KW (ks : List BT) : Prop := ks.length ≤ 8 ∧ ∀ k ∈ ks, WA k
def keepS (b : BT) (ks : List BT) : List BT := if ks.length = 8 then ks.tail ++ [b] else ks ++ [b]
theorem keepS_len {b : BT} {ks : List BT} (h : ks.length ≤ 8) : (keepS b ks).length = if ks.length = 8 then 8 else ks.length + 1 := by
  unfold keepS
  split
  · rw [List.length_append, List.length_tail]
    simp [*]
  · rw [List.length_append]
    rfl
theorem kw_keep {b : BT} {ks : List BT} (h : KW ks) (hA : WA b) : KW (keepS b ks) := by
  refine ⟨?_, ?_⟩
  · rw [keepS_len h.1]
    have := h.1
    split <;> omega
  · intro k hk
    unfold keepS at hk
    split at hk
    · rcases List.mem_append.mp hk with q | q
      · exact h.2 k (List.mem_of_mem_tail q)
      · rw [List.mem_singleton.mp q]; exact hA
    · rcases List.mem_append.mp hk with q | q
      · exact h.2 k q
      · rw [List.mem_singleton.mp q]; exact hA
theorem k3_tail {f : Nat → Int32} {ks : List BT} (h : K3 f ks) (h8 : ks.length = 8) : K3 (shf f 28952) ks.tail := by
  intro i j hi hj
  rw [List.length_tail] at hi
  unfold shf
  rw [if_pos (by omega), show 4136 * i + j + 4136 = 4136 * (i + 1) + j by omega, h (i + 1) j (by omega) hj]
  cases ks with
  | nil => rfl
  | cons a t => rfl
theorem k3_add {f : Nat → Int32} {ks : List BT} {b : BT} {a : Nat → Int32} (h : K3 f ks) (ha : ∀ j, a j = nI (b j)) : K3 (cpy f (4136 * ks.length) a 0 4136) (ks ++ [b]) := by
  intro i j hi hj
  rw [List.length_append] at hi
  by_cases e : i = ks.length
  · subst e
    rw [cpy_in hj, Nat.zero_add, ha]
    congr 2
    simp
  · have hi2 : i < ks.length := by simp at hi; omega
    rw [cpy_out (Or.inl (by omega)), h i j hi2 hj]
    congr 2
    simp [List.getD, List.getElem?_append, hi2]
def SLr (u : TU) (sl : Nat → Option BT) : Prop := ∀ i, i < 2 → u.2 5 i = nI (if (sl i).isSome = true then 1 else 0) ∧ ∀ s, sl i = some s → WA s ∧ ∀ j, j < 4136 → u.2 4 (4136 * i + j) = nI (s j)
def BFr (u : TU) (bf : List Nat) : Prop := u.1 9 = nI bf.length ∧ bf.length ≤ 500 ∧ ∀ i, i < bf.length → bf.getD i 0 < 256 ∧ u.2 8 i = nI (bf.getD i 0)
def WRr (u : TU) (wr : List Nat) : Prop := u.1 21 = nI wr.length ∧ wr.length ≤ 14 ∧ ∀ i, i < wr.length → u.2 20 i = nI (wr.getD i 0)
/-- the twin stands for the state, but for its board -/
def TO (u : TU) (ks : List BT) (sl : Nat → Option BT) (bf : List Nat) (ea : Int32) (wr : List Nat) : Prop :=
  (u.1 6 = nI ks.length ∧ KW ks ∧ K3 (u.2 3) ks) ∧ SLr u sl ∧ BFr u bf ∧ u.1 17 = ea ∧ WRr u wr
def TS (u : TU) (s : SS) : Prop := BD u s.1 ∧ WA s.1 ∧ TO u s.2.1 s.2.2.1 s.2.2.2.1 s.2.2.2.2.1 s.2.2.2.2.2
/-- all but the board, the table, bans, and what it threw -/
def TZ (u u' : TU) : Prop := (∀ i, i ≠ 7 → u'.1 i = u.1 i) ∧ ∀ i, i ≠ 0 → i ≠ 18 → i ≠ 19 → u'.2 i = u.2 i
theorem TZ.rf (u : TU) : TZ u u := ⟨fun _ _ => rfl, fun _ _ _ _ => rfl⟩
theorem TZ.tr {u u1 u2 : TU} (h : TZ u u1) (g : TZ u1 u2) : TZ u u2 := ⟨fun i a => (g.1 i a).trans (h.1 i a), fun i a b c => (g.2 i a b c).trans (h.2 i a b c)⟩
theorem TJ.two {u u' : TU} (h : TJ u u') : TZ u u' := ⟨fun i _ => congrFun h.1 i, h.2⟩
theorem tj2_thrown (u : TU) (t : Int32) : TZ u (tsf u 7 t) := ⟨fun i hi => if_neg hi, fun _ _ _ _ => rfl⟩
theorem TO.j2 {u u' : TU} {ks : List BT} {sl : Nat → Option BT} {bf : List Nat} {ea : Int32} {wr : List Nat} (h : TO u ks sl bf ea wr) (j : TZ u u') : TO u' ks sl bf ea wr := by
  obtain ⟨⟨a1, a2, a3⟩, a4, ⟨a5, a6, a7⟩, a8, a9, a10, a11⟩ := h
  have e3 := j.2 3 (by decide) (by decide) (by decide)
  have e4 := j.2 4 (by decide) (by decide) (by decide)
  have e5 := j.2 5 (by decide) (by decide) (by decide)
  have e8 := j.2 8 (by decide) (by decide) (by decide)
  have e20 := j.2 20 (by decide) (by decide) (by decide)
  refine ⟨⟨(j.1 6 (by decide)).trans a1, a2, by rw [e3]; exact a3⟩, fun i hi => ?_, ⟨(j.1 9 (by decide)).trans a5, a6, by rw [e8]; exact a7⟩, (j.1 17 (by decide)).trans a8, (j.1 21 (by decide)).trans a9, a10, by rw [e20]; exact a11⟩
  rw [e4, e5]
  exact a4 i hi
theorem bd_tsf {u : TU} {b : BT} (h : BD u b) (i : Nat) (t : Int32) : BD (tsf u i t) b := h
theorem kt_tsf {u : TU} {b : BT} (h : KT u b) (i : Nat) (t : Int32) : KT (tsf u i t) b := h
theorem tsf_at (u : TU) (i : Nat) (t : Int32) : (tsf u i t).1 i = t := if_pos rfl
theorem tsf_ne {u : TU} {i j : Nat} {t : Int32} (h : ¬ j = i) : (tsf u i t).1 j = u.1 j := if_neg h
/-- thrown t, or answered r; the state then -/
def PT (o sz t : Nat) (r : Int32) (s : SS) : Option Value → AH → Nat → Prop := RUi o sz (fun z u' => u'.1 7 = nI t ∧ z = r ∧ TS u' s)
theorem TJ.th {u u' : TU} (h : TJ u u') : u'.1 7 = u.1 7 := congrFun h.1 7
