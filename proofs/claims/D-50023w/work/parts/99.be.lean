/-! a board becomes the board; a changed copy -/
def keepL (a : Nat) (hs : List Nat) : List Nat := if hs.length = 8 then hs.tail ++ [a] else hs ++ [a]
/-- but for the history and the board all is the same -/
def SB (u u' : CU) : Prop := (∀ i, i ≠ 4 → i ≠ 5 → u'.1 i = u.1 i) ∧ u'.2.1 = u.2.1 ∧ u'.2.2.1 = u.2.2.1 ∧ ∀ j, j ≠ 1 → u'.2.2.2.1 j = u.2.2.2.1 j
theorem SB.tr {u u1 u2 : CU} (h1 : SB u u1) (h2 : SB u1 u2) : SB u u2 := ⟨fun i a b => (h2.1 i a b).trans (h1.1 i a b), h2.2.1.trans h1.2.1, h2.2.2.1.trans h1.2.2.1, fun j a => (h2.2.2.2 j a).trans (h1.2.2.2 j a)⟩
theorem SB.tb {u u' : CU} {b : BT} {k : Nat} (h : SB u u') (hT : TB u b k) : TB u' b k :=
  hT.congr (h.1 2 (by decide) (by decide)) (h.1 3 (by decide) (by decide)) (congrFun h.2.1 0) (congrFun h.2.1 1) (congrFun h.2.1 2) h.2.2.1
theorem SB.si {u u' : CU} {g : AH} {K : Nat} (h : SB u u') (hI : SI g u K) : SI g u' K := by
  obtain ⟨⟨k, hk, h1, h2, h3⟩, h4⟩ := hI
  refine ⟨⟨k, hk, ?_, ?_, ?_⟩, fun gr e => ?_⟩
  · rw [h.1 2 (by decide) (by decide)]; exact h1
  · rw [h.2.1]; exact h2
  · rw [h.2.1]; exact h3
  · rw [h.2.2.2 0 (by decide)] at e
    obtain ⟨b, k2, e1, e2, e3, e4⟩ := h4 gr e
    exact ⟨b, k2, e1, e2, e3, h.tb e4⟩
theorem list_pop {hs : List Nat} (h : hs.length = 8) : ∃ b r, hs = b :: r ∧ r.length = 7 ∧ hs.tail = r := by
  cases hs with
  | nil => cases h
  | cons b r => exact ⟨b, r, rfl, by simpa using h, rfl⟩
theorem dq_board {u : CU} {hd a2 : Nat} {hs : List Nat} (h : DQ u hd hs) : DQ (cub u a2) hd hs := h
theorem ccell_dom {o : Nat} {u u' : CU} {i : Nat} (h : ccell o u i ≠ none) : ccell o u' i ≠ none := by
  unfold ccell at h ⊢
  split
  · simp
  · rename_i q
    rw [if_neg q] at h
    split at h
    all_goals first | (simp; done) | (exact absurd rfl h)
theorem ccell_2 {o : Nat} {u : CU} {i : Nat} {c : va_E} {fs : List Value} (q : ccell o u i = some c) (e : c = .inr (2, fs)) : False := by
  subst e
  unfold ccell at q
  split at q
  · cases q
  · split at q
    all_goals first | (cases q; done) | (unfold rfs at q; cases q; done)
/-- a board's object in the boards' heap, whatever the fixed cells are -/
theorem ch_u {o : Nat} {u u' : CU} {g : AH} {z : Nat} {fs : List Value} (e : ch o u g z = some (.inr (2, fs))) : ch o u' g z = some (.inr (2, fs)) := by
  have h1 := ch_ci (by decide) e
  unfold ch at e ⊢
  by_cases q : z < o
  · rw [if_pos q]; exact h1
  · rw [if_neg q] at e ⊢
    cases q2 : ccell o u (z - o) with
    | none =>
      cases q3 : ccell o u' (z - o) with
      | none => exact h1
      | some c =>
        exfalso
        have := ccell_dom (u := u') (u' := u) (o := o) (i := z - o) (by rw [q3]; simp)
        exact this q2
    | some c =>
      rw [q2] at e
      exfalso
      exact ccell_2 q2 (Option.some.inj e)
set_option maxRecDepth 100000 in
theorem co_become {γ : Gm} (hG : GF γ) (l : Launch) {o : Nat} {u : CU} {g : AH} {sz : Nat}  {hd : Nat} {hs : List Nat} {a a2 : Nat} {fs : List Value} (hcu : u.2.2.2.2 = a) (ea : ch o u g a = some (.inr (2, fs))) (hq : DQ u hd hs) (hbo : ∀ z ∈ hs, ∃ fz, ch o u g z = some (.inr (2, fz))) : MX γ l yX1_become cX1_become 3 none 8 198 0 0 [.ref o, .ref a2] (ch o u g) sz (fun v h' sz' => v = none ∧ sz' = sz ∧ ∃ u', h' = ch o u' g ∧ SB u u' ∧ u'.2.2.2.2 = a2 ∧ ∃ hd', DQ u' hd' (keepL a hs)) NX := by
  refine mx_start hG (by decide) (Nat.le_of_ble_eq_true rfl) (fun x C => ?_)
  have hlen := hq.2.1
  have h17 := hq.1
  refine aw_aload_n C rfl rfl dX1_become_0 ?_
  refine aw_getf C ck0 2 (by decide) q666 (fun _ z => z) (ch_at (i := 0) rfl) rfl dX1_become_1 ?_
  refine aw_callVRR C ck15 (dq_size hG l hq.2.2.1 hq.2.2.2.1 hq.1 hq.t) q1449 q1450 q1451 q119 q1452 (Or.inl (ch_at (i := 28) rfl)) (n9 := 0) (by decide +kernel) rfl (Nat.le_of_ble_eq_true rfl) (Nat.le_of_ble_eq_true rfl) (Nat.zero_le _) (Nat.zero_le _) rfl (Nat.le_of_ble_eq_true rfl) dX1_become_4 ?_
  refine aw_bipush C (v := nI 8) (by decide) dX1_become_7 ?_
  refine aw_icmpN_ne C (tgt := 23) (by omega) (by omega) dX1_become_9 (by decide) (fun g9 => ?_) (fun g9 => ?_)
  · have hq1 := hq
    have eba := ch_u (u' := u) ea
    have hfin := (hq.add (b := a) (by omega))
    rw [show hs ++ [a] = keepL a hs from by unfold keepL; rw [if_neg (by omega)]] at hfin
    refine aw_aload_n C rfl rfl dX1_become_23 ?_
    refine aw_getf C ck0 2 (by decide) q666 (fun _ z => z) (ch_at (i := 0) rfl) rfl dX1_become_24 ?_
    refine aw_aload_n C rfl rfl dX1_become_27 ?_
    refine aw_getf C ck0 1 (by decide) q665 (fun _ z => z) (ch_at (i := 0) rfl) rfl dX1_become_28 ?_
    refine aw_topV (congrArg Value.ref hcu) ?_
    refine aw_callVP C ck15 (dq_addLast hG l hq1.2.2.1 hq1.2.2.2.1 hq1.1 hq1.t eba (by omega)) q1485 q1486 q1487 q119 q1488 (ch_at (i := 28) rfl) (n9 := 1) (by decide +kernel) rfl (Nat.le_of_ble_eq_true rfl) (Nat.le_of_ble_eq_true rfl) (Nat.zero_le _) (Nat.zero_le _) rfl (Nat.le_of_ble_eq_true rfl) dX1_become_31 ?_
    refine aw_aload_n C rfl rfl dX1_become_34 ?_
    refine aw_aload_n C rfl rfl dX1_become_35 ?_
    refine cw_board C q665 dX1_become_36 ?_
    exact aw_vret C rfl dX1_become_39 (Nat.le_refl _) (Nat.le_refl _) ⟨rfl, rfl, _, rfl, ⟨fun i i1 i2 => if_neg i2, rfl, rfl, fun j j1 => if_neg j1⟩, rfl, _, dq_board hfin⟩
  · obtain ⟨z, r, rfl, hr7, -⟩ := list_pop (show hs.length = 8 by omega)
    have hz := hq.pop.1
    have hq1 := hq.pop.2
    have hzm : z ∈ z :: r := List.mem_cons_self
    have hfin := (hq1.add (b := a) (by omega))
    refine aw_aload_n C rfl rfl dX1_become_12 ?_
    refine aw_getf C ck0 2 (by decide) q666 (fun _ z => z) (ch_at (i := 0) rfl) rfl dX1_become_13 ?_
    refine aw_callVPv C ck15 (dq_removeFirst hG l hq.2.2.1 hq.2.2.2.1 hq.1 hq.t hz) q1456 q1457 q1458 q119 q1459 (ch_at (i := 28) rfl) (n9 := 0) (by decide +kernel) rfl (Nat.le_of_ble_eq_true rfl) (Nat.le_of_ble_eq_true rfl) (Nat.zero_le _) (Nat.zero_le _) rfl (Nat.le_of_ble_eq_true rfl) dX1_become_16 ?_
    obtain ⟨fz, hz9⟩ := hbo z hzm
    refine aw_castS C ck2 q186 (ch_u hz9) dX1_become_19 ?_
    refine aw_astore_n C rfl (by decide) rfl dX1_become_22 ?_
    have eba := ch_u (u' := cui (cur u 1 (va_up (u.2.2.2.1 1) hd none)) 4 (nI ((hd + 1) % 17))) ea
    have hkl : keepL a (z :: r) = r ++ [a] := by unfold keepL; rw [if_pos (by simp; omega)]; rfl
    rw [← hkl] at hfin
    refine aw_aload_n C rfl rfl dX1_become_23 ?_
    refine aw_getf C ck0 2 (by decide) q666 (fun _ z => z) (ch_at (i := 0) rfl) rfl dX1_become_24 ?_
    refine aw_aload_n C rfl rfl dX1_become_27 ?_
    refine aw_getf C ck0 1 (by decide) q665 (fun _ z => z) (ch_at (i := 0) rfl) rfl dX1_become_28 ?_
    refine aw_topV (congrArg Value.ref hcu) ?_
    refine aw_callVP C ck15 (dq_addLast hG l hq1.2.2.1 hq1.2.2.2.1 hq1.1 hq1.t eba (by omega)) q1485 q1486 q1487 q119 q1488 (ch_at (i := 28) rfl) (n9 := 1) (by decide +kernel) rfl (Nat.le_of_ble_eq_true rfl) (Nat.le_of_ble_eq_true rfl) (Nat.zero_le _) (Nat.zero_le _) rfl (Nat.le_of_ble_eq_true rfl) dX1_become_31 ?_
    refine aw_aload_n C rfl rfl dX1_become_34 ?_
    refine aw_aload_n C rfl rfl dX1_become_35 ?_
    refine cw_board C q665 dX1_become_36 ?_
    exact aw_vret C rfl dX1_become_39 (Nat.le_refl _) (Nat.le_refl _) ⟨rfl, rfl, _, rfl, ⟨fun i i1 i2 => (if_neg i2).trans (if_neg i1), rfl, rfl, fun j j1 => (if_neg j1).trans (if_neg j1)⟩, rfl, _, dq_board hfin⟩
