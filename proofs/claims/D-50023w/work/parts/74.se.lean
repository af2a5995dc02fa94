/-! THE SEARCH's table: keys, what is known -/
def kN (n : Nat) : Int64 := Int64.ofNat n
theorem kN_or (a b : Nat) : kN a ||| kN b = kN (a ||| b) := by
  apply Int64.toBitVec_inj.1
  show BitVec.ofNat 64 a ||| BitVec.ofNat 64 b = BitVec.ofNat 64 (a ||| b)
  apply BitVec.eq_of_getLsbD_eq
  intro i hi
  simp [hi]
theorem kN_sl : ∀ m, m < 64 → (((nI m).toInt64 &&& 63).toBitVec.smod 64).toNat = m := by decide +kernel
theorem kN_shl (a : Nat) {m : Nat} (hm : m < 64) : kN a <<< ((nI m).toInt64 &&& 63) = kN (a <<< m) := by
  apply Int64.toBitVec_inj.1
  rw [Int64.toBitVec_shiftLeft]
  show BitVec.ofNat 64 a <<< (((nI m).toInt64 &&& 63).toBitVec.smod 64).toNat = BitVec.ofNat 64 (a <<< m)
  rw [kN_sl m hm]
  apply BitVec.eq_of_getLsbD_eq
  intro i hi
  rw [BitVec.getLsbD_shiftLeft, BitVec.getLsbD_ofNat, BitVec.getLsbD_ofNat, Nat.testBit_shiftLeft]
  have h2 : i - m < 64 := by omega
  by_cases h : i < m
  · simp [h, Nat.not_le.mpr h]
  · simp [h, hi, h2, Nat.not_lt.mp h]
theorem kN_int {a : Nat} (h : a < 2 ^ 63) : (kN a).toInt = a := Int64.toInt_ofNat_of_lt h
theorem kN_i {a : Nat} (h : a < 2 ^ 31) : (nI a).toInt64 = kN a := by
  apply Int64.toInt_inj.1
  rw [Int32.toInt_toInt64, nI_int h, kN_int (by omega)]
theorem kN_inj {a b : Nat} (ha : a < 2 ^ 63) (hb : b < 2 ^ 63) (e : kN a = kN b) : a = b := by
  have := congrArg Int64.toInt e
  rw [kN_int ha, kN_int hb] at this
  omega
theorem ban_l : ∀ m, m < 4 → (nI m - nI 1 + nI 1).toInt64 = kN m := by decide +kernel
/-- the key of a part: masks, set, ban -/
def lK (mk S m : Nat) : Int64 := kN ((((mk <<< 9) ||| S) <<< 2) ||| m)
theorem lK_n {mk S m : Nat} (hS : S < 512) (hm : m < 4) : (((mk <<< 9) ||| S) <<< 2) ||| m = (mk * 512 + S) * 4 + m := by
  rw [or_shl2 (n := 9) hS, or_shl2 (n := 2) hm]
  omega
theorem lK_inj {mk S m mk' S' m' : Nat} (h : mk < 2 ^ 27) (hS : S < 512) (hm : m < 4) (h' : mk' < 2 ^ 27) (hS' : S' < 512) (hm' : m' < 4) (e : lK mk S m = lK mk' S' m') : mk = mk' ∧ S = S' ∧ m = m' := by
  unfold lK at e
  rw [lK_n hS hm, lK_n hS' hm'] at e
  have := kN_inj (by omega) (by omega) e
  omega
/-! counting what has a stamp -/
def ctF (f : Nat → Int32) (k : Int32) : Nat → Nat
  | 0 => 0
  | n + 1 => ctF f k n + if f n = k then 1 else 0
theorem ctF_free {f : Nat → Int32} {k : Int32} : ∀ n, ctF f k n < n → ∃ j, j < n ∧ ¬ f j = k := by
  intro n
  induction n with
  | zero => intro h; exact absurd h (Nat.not_lt_zero _)
  | succ n ih =>
    intro h
    rw [ctF] at h
    by_cases e : f n = k
    · rw [if_pos e] at h
      obtain ⟨j, hj, hf⟩ := ih (by omega)
      exact ⟨j, by omega, hf⟩
    · exact ⟨n, by omega, e⟩
theorem ctF_up {f : Nat → Int32} {k : Int32} {j : Nat} : ∀ n, ctF (upd f j k) k n ≤ ctF f k n + if j < n ∧ ¬ f j = k then 1 else 0 := by
  intro n
  induction n with
  | zero => simp [ctF]
  | succ n ih =>
    rw [ctF, ctF]
    by_cases e : n = j
    · subst e
      rw [pk_us, if_pos rfl]
      rw [if_neg (fun z => absurd z.1 (Nat.lt_irrefl n))] at ih
      by_cases q : f n = k
      · rw [if_pos q, if_neg (fun z => z.2 q)]
        omega
      · rw [if_neg q, if_pos ⟨Nat.lt_succ_self n, q⟩]
        omega
    · rw [pk_un e]
      have h3 : (j < n + 1 ∧ ¬ f j = k) ↔ (j < n ∧ ¬ f j = k) := by
        constructor
        · exact fun z => ⟨by omega, z.2⟩
        · exact fun z => ⟨by omega, z.2⟩
      simp only [h3]
      omega
theorem ctF_no {f : Nat → Int32} {k : Int32} : ∀ n, (∀ i, i < n → ¬ f i = k) → ctF f k n = 0 := by
  intro n
  induction n with
  | zero => intro _; rfl
  | succ n ih =>
    intro h
    rw [ctF, ih (fun i hi => h i (by omega)), if_neg (h n (by omega))]
/-- what the table of a graph knows: stamps up to k, values of parts by their keys -/
def TBe (u : CU) (b : BT) (k : Nat) : Prop := ∀ i b' S m, i < 65536 → u.2.1 1 i = nI k → ST b b' → WB b' → S < 2 ^ b' 0 → (∀ v, S.testBit v = true → fr b' v = true) → m < 4 → u.2.2.1 i = lK (mkB b' S) S m → u.2.1 0 i = nI (pq (G b' S m))
def TBs (u : CU) (k : Nat) : Prop := u.1 2 = nI k ∧ (∀ i, i < 65536 → ∃ j, j ≤ k ∧ u.2.1 1 i = nI j) ∧ ∀ S, S < 512 → u.2.1 2 S = nI (btB S)
def TB (u : CU) (b : BT) (k : Nat) : Prop := TBs u k ∧ (∃ m, m ≤ 50000 ∧ u.1 3 = nI m ∧ ctF (u.2.1 1) (nI k) 65536 ≤ m) ∧ TBe u b k
theorem TB.st {u : CU} {b b' : BT} {k : Nat} (hT : ST b b') (h : TB u b k) : TB u b' k := ⟨h.1, h.2.1, fun i b2 S m h1 h2 h3 => h.2.2 i b2 S m h1 h2 (hT.tr h3)⟩
theorem TB.congr {u u' : CU} {b : BT} {k : Nat} (h2 : u'.1 2 = u.1 2) (h3 : u'.1 3 = u.1 3) (a0 : u'.2.1 0 = u.2.1 0) (a1 : u'.2.1 1 = u.2.1 1) (a2 : u'.2.1 2 = u.2.1 2) (ak : u'.2.2.1 = u.2.2.1) (h : TB u b k) : TB u' b k := by
  unfold TB TBs TBe at *
  rw [h2, h3, a0, a1, a2, ak]
  exact h
/-- a call at depth d changes: what is known, the rows from d -/
def SK (d : Nat) (u u' : CU) : Prop := (∀ i, i ≠ 3 → u'.1 i = u.1 i) ∧ (∀ j, 2 ≤ j → j < 10 + d → u'.2.1 j = u.2.1 j) ∧ u'.2.2.2 = u.2.2.2
theorem SK.rf (d : Nat) (u : CU) : SK d u u := ⟨fun _ _ => rfl, fun _ _ _ => rfl, rfl⟩
theorem SK.tr {d : Nat} {u u1 u2 : CU} (h1 : SK d u u1) (h2 : SK d u1 u2) : SK d u u2 := ⟨fun i hi => (h2.1 i hi).trans (h1.1 i hi), fun j a b => (h2.2.1 j a b).trans (h1.2.1 j a b), h2.2.2.trans h1.2.2⟩
theorem SK.up {d e : Nat} {u u1 : CU} (h : SK e u u1) (hd : d ≤ e) : SK d u u1 := ⟨h.1, fun j a b => h.2.1 j a (by omega), h.2.2⟩
/-- a row alone has changed -/
def RW (d : Nat) (u u' : CU) : Prop := u'.1 = u.1 ∧ (∀ j, j ≠ 10 + d → u'.2.1 j = u.2.1 j) ∧ u'.2.2 = u.2.2
theorem RW.rf (d : Nat) (u : CU) : RW d u u := ⟨rfl, fun _ _ => rfl, rfl⟩
theorem RW.st {d : Nat} {u u' : CU} (h : RW d u u') (f : Nat → Int32) : RW d u (cua u' (10 + d) f) := ⟨h.1, fun j hj => (if_neg hj).trans (h.2.1 j hj), h.2.2⟩
theorem cua_at (u : CU) (i : Nat) (f : Nat → Int32) : (cua u i f).2.1 i = f := if_pos rfl
theorem RW.sk {d : Nat} {u u' : CU} (h : RW d u u') : SK d u u' := ⟨fun i _ => congrFun h.1 i, fun j _ hj => h.2.1 j (by omega), congrArg (fun z => z.2) h.2.2⟩
theorem RW.tb {d : Nat} {u u' : CU} {b : BT} {k : Nat} (h : RW d u u') (hT : TB u b k) : TB u' b k :=
  hT.congr (congrFun h.1 2) (congrFun h.1 3) (h.2.1 0 (by omega)) (h.2.1 1 (by omega)) (h.2.1 2 (by omega)) (congrArg (fun z => z.1) h.2.2)
/-- the state behind a value that is kept -/
def sto (u : CU) (j : Nat) (x : Int64) (r v : Int32) : CU := cua (cuk (cua (cui u 3 v) 1 (upd (u.2.1 1) j (u.1 2))) (vp_updL u.2.2.1 j x)) 0 (upd (u.2.1 0) j r)
theorem TB.sto {u : CU} {b : BT} {k j S m m0 : Nat} {v : Int32} (h : TB u b k) (hW : WB b) (hS : S < 2 ^ b 0) (hf : ∀ v, S.testBit v = true → fr b v = true) (hm : m < 4) (hj : j < 65536) (h0 : u.1 3 = nI m0) (h1 : m0 < 50000) (h2 : ctF (u.2.1 1) (nI k) 65536 ≤ m0) (hv : v = if u.2.1 1 j = nI k then nI m0 else nI (m0 + 1)) : TB (sto u j (lK (mkB b S) S m) (nI (pq (G b S m))) v) b k := by
  obtain ⟨⟨g1, g2, g3⟩, -, g5⟩ := h
  have hS9 : S < 512 := Nat.lt_of_lt_of_le hS (Nat.pow_le_pow_right (by omega) hW.2.1)
  refine ⟨⟨g1, fun i hi => ?_, g3⟩, ?_, ?_⟩
  · show ∃ e, e ≤ k ∧ upd (u.2.1 1) j (u.1 2) i = nI e
    by_cases e : i = j
    · rw [e, pk_us, g1]
      exact ⟨k, Nat.le_refl _, rfl⟩
    · rw [pk_un e]
      exact g2 i hi
  · show ∃ m, m ≤ 50000 ∧ v = nI m ∧ ctF (upd (u.2.1 1) j (u.1 2)) (nI k) 65536 ≤ m
    have hc := ctF_up (f := u.2.1 1) (k := nI k) (j := j) 65536
    rw [g1]
    by_cases e : u.2.1 1 j = nI k
    · rw [if_pos e] at hv
      rw [if_neg (fun z => z.2 e)] at hc
      exact ⟨m0, by omega, hv, by omega⟩
    · rw [if_neg e] at hv
      rw [if_pos ⟨hj, e⟩] at hc
      exact ⟨m0 + 1, by omega, hv, by omega⟩
  · intro i b' S' m' hi
    show upd (u.2.1 1) j (u.1 2) i = nI k → _
    intro k1 k2 k3 k4 k5 k6
    show vp_updL u.2.2.1 j (lK (mkB b S) S m) i = _ → upd (u.2.1 0) j (nI (pq (G b S m))) i = _
    intro k7
    have hS9' : S' < 512 := Nat.lt_of_lt_of_le k4 (Nat.pow_le_pow_right (by omega) k3.2.1)
    by_cases e : i = j
    · rw [e, pk_us]
      rw [e] at k7
      have k8 : lK (mkB b S) S m = lK (mkB b' S') S' m' := (if_pos rfl).symm.trans k7
      obtain ⟨e1, e2, e3⟩ := lK_inj (mkB_lt hW S) hS9 hm (mkB_lt k3 S') hS9' k6 k8
      subst e2 e3
      rw [G_mq k2 (mq_of k2 hW k3 hS hf k5 e1) hW.2.1 hS]
    · rw [pk_un e] at k1 ⊢
      exact g5 i b' S' m' hi k1 k2 k3 k4 k5 k6 ((if_neg e).symm.trans k7)
theorem sto_sk {d : Nat} (u : CU) (j : Nat) (x : Int64) (r v : Int32) : SK d u (sto u j x r v) := ⟨fun i hi => if_neg hi, fun i a b => (if_neg (show ¬ i = 0 by omega)).trans (if_neg (show ¬ i = 1 by omega)), rfl⟩
/-! graphs of boards -/
theorem edgeB_st {b b' : BT} (h : ST b b') (h9 : b 0 ≤ 9) (S : Nat) : edgeB b' S = edgeB b S := by
  unfold edgeB
  rw [h.1]
  exact sumF_congr _ (fun v hv => by rw [h.2.2.2 v (by omega)])
theorem GRP.st {h : AH} {gr : Nat} {b b' : BT} (hT : ST b b') (h9 : b 0 ≤ 9) (g : GRP h gr b) : GRP h gr b' := by
  obtain ⟨gl, gn, fl, fn, e1, e2, e3, e4, e5⟩ := g
  refine ⟨gl, gn, fl, fn, ?_, e2, e3, fun v hv => by rw [hT.2.2.1 v hv]; exact e4 v hv, fun v hv => by rw [hT.2.2.2 v hv]; exact e5 v hv⟩
  rw [e1, hT.2.1, hT.1]
  unfold edg
  rw [hT.1, edgeB_st hT h9]
theorem nI_inj {a b : Nat} (ha : a < 2 ^ 31) (hb : b < 2 ^ 31) (e : nI a = nI b) : a = b := by
  have := congrArg Int32.toInt e
  rw [nI_int ha, nI_int hb] at this
  omega
theorem GRP.same {h : AH} {gr : Nat} {b b' : BT} (g : GRP h gr b) (g' : GRP h gr b') (hW : WB b) (hW' : WB b') : ST b b' := by
  obtain ⟨gl, gn, fl, fn, e1, e2, e3, e4, e5⟩ := g
  obtain ⟨gl', gn', fl', fn', e1', e2', e3', e4', e5'⟩ := g'
  have hN := hW.2.1
  have hN' := hW'.2.1
  have hC := hW.2.2.2.1
  have hC' := hW'.2.2.2.1
  rw [e1] at e1'
  simp only [Option.some.injEq, Sum.inr.injEq, Prod.mk.injEq, List.cons.injEq, Value.int.injEq, Value.ref.injEq, true_and, and_true] at e1'
  obtain ⟨q1, q2, q3, q4, q5⟩ := e1'
  subst q2 q3
  rw [e2] at e2'
  rw [e3] at e3'
  cases e2'
  cases e3'
  refine ⟨(nI_inj (by omega) (by omega) q4).symm, (nI_inj (by omega) (by omega) q1).symm, fun v hv => ?_, fun v hv => ?_⟩
  · have z1 := hW.l8 hv
    have z2 := hW'.l8 hv
    exact nI_inj (by omega) (by omega) ((e4' v hv).symm.trans (e4 v hv))
  · have z1 := hW.n9 hv
    have z2 := hW'.n9 hv
    exact nI_inj (by omega) (by omega) ((e5' v hv).symm.trans (e5 v hv))
/-- between calls: the table belongs to the search's graph -/
def SI (g : AH) (u : CU) (K : Nat) : Prop := (∃ k, k ≤ K ∧ TBs u k) ∧ ∀ gr, u.2.2.2.1 0 0 = some gr → ∃ b k, k ≤ K ∧ GRP g gr b ∧ WB b ∧ TB u b k
/-- the search stands at a graph -/
def SQ (u : CU) (K gr : Nat) (b : BT) : Prop := u.2.2.2.1 0 0 = some gr ∧ ∃ k, k ≤ K ∧ TB u b k
/-- the stamp does not fall, and with the same stamp the graph is the same -/
def SE (u u' : CU) : Prop := nt (u.1 2) ≤ nt (u'.1 2) ∧ (nt (u'.1 2) = nt (u.1 2) → u'.2.2.2.1 0 = u.2.2.2.1 0)
/-- what a part changes, seen from without -/
def SX (u u' : CU) : Prop := (∀ i, i ≠ 2 → i ≠ 3 → u'.1 i = u.1 i) ∧ (∀ j, 2 ≤ j → j < 10 → u'.2.1 j = u.2.1 j) ∧ ((∀ j, j ≠ 0 → u'.2.2.2.1 j = u.2.2.2.1 j) ∧ SE u u') ∧ u'.2.2.2.2 = u.2.2.2.2
theorem SE.tr {u u1 u2 : CU} (h1 : SE u u1) (h2 : SE u1 u2) : SE u u2 := ⟨Nat.le_trans h1.1 h2.1, fun e => by
  have a := h1.1
  have b := h2.1
  exact (h2.2 (by omega)).trans (h1.2 (by omega))⟩
theorem SX.rf (u : CU) : SX u u := ⟨fun _ _ _ => rfl, fun _ _ _ => rfl, ⟨fun _ _ => rfl, Nat.le_refl _, fun _ => rfl⟩, rfl⟩
theorem SX.tr {u u1 u2 : CU} (h1 : SX u u1) (h2 : SX u1 u2) : SX u u2 := ⟨fun i a b => (h2.1 i a b).trans (h1.1 i a b), fun j a b => (h2.2.1 j a b).trans (h1.2.1 j a b), ⟨fun j a => (h2.2.2.1.1 j a).trans (h1.2.2.1.1 j a), h1.2.2.1.2.tr h2.2.2.1.2⟩, h2.2.2.2.trans h1.2.2.2⟩
theorem SK.sx {u u' : CU} (h : SK 0 u u') : SX u u' := ⟨fun i _ a => h.1 i a, fun j a b => h.2.1 j a b, ⟨fun j _ => congrFun (congrArg (fun z => z.1) h.2.2) j, by rw [h.1 2 (by decide)]; exact Nat.le_refl _, fun _ => congrFun (congrArg (fun z => z.1) h.2.2) 0⟩, congrArg (fun z => z.2) h.2.2⟩
theorem SQ.si {g : AH} {u : CU} {K gr : Nat} {b : BT} (h : SQ u K gr b) (hg : GRP g gr b) (hW : WB b) : SI g u K := by
  obtain ⟨h1, k, hk, hT⟩ := h
  refine ⟨⟨k, hk, hT.1⟩, fun g2 e => ?_⟩
  rw [h1] at e
  cases e
  exact ⟨b, k, hk, hg, hW, hT⟩
theorem SI.le {g : AH} {u : CU} {K K' : Nat} (h : SI g u K) (hK : K ≤ K') : SI g u K' := by
  obtain ⟨⟨k, hk, h1⟩, h2⟩ := h
  refine ⟨⟨k, by omega, h1⟩, fun gr e => ?_⟩
  obtain ⟨b, k2, hk2, h3⟩ := h2 gr e
  exact ⟨b, k2, by omega, h3⟩
theorem SQ.sk {u u' : CU} {K gr d : Nat} {b : BT} {k : Nat} (h : SQ u K gr b) (hs : SK d u u') (hk : k ≤ K) (hT : TB u' b k) : SQ u' K gr b := ⟨(congrArg (fun z => z.1 0 0) hs.2.2).trans h.1, k, hk, hT⟩
/-- either between calls or at the graph -/
def SR (g : AH) (u : CU) (K gr : Nat) (b : BT) : Prop := SI g u K ∨ SQ u (K + 1) gr b
/-- the state behind the beginning with a graph that is new -/
def beg (u : CU) (gr k : Nat) : CU := cui (cui (cur u 0 (va_up (u.2.2.2.1 0) 0 (some gr))) 2 (nI (k + 1))) 3 (nI 0)
theorem beg_sq {u : CU} {gr k K : Nat} {b : BT} (h : TBs u k) (hk : k ≤ K) (hK : K + 1 < 2 ^ 30) : SQ (beg u gr k) (K + 1) gr b := by
  obtain ⟨h1, h2, h3⟩ := h
  have hne : ∀ i, i < 65536 → ¬ u.2.1 1 i = nI (k + 1) := fun i hi e => by
    obtain ⟨j, hj, e2⟩ := h2 i hi
    rw [e2] at e
    have := nI_inj (by omega) (by omega) e
    omega
  refine ⟨rfl, k + 1, by omega, ⟨rfl, fun i hi => ?_, h3⟩, ⟨0, by decide, rfl, ?_⟩, fun i b' S m hi e => absurd e (hne i hi)⟩
  · obtain ⟨j, hj, e⟩ := h2 i hi
    exact ⟨j, by omega, e⟩
  · show ctF (u.2.1 1) (nI (k + 1)) 65536 ≤ 0
    rw [ctF_no 65536 hne]
    exact Nat.le_refl _
theorem beg_sx {u : CU} {gr k : Nat} (h : TBs u k) (hk : k + 1 < 2 ^ 30) : SX u (beg u gr k) := ⟨fun i a b => (if_neg b).trans (if_neg a), fun _ _ _ => rfl, ⟨fun j a => if_neg a, by
  have e1 : nt (u.1 2) = k := by rw [h.1, nt_n (by omega)]
  have e2 : nt ((beg u gr k).1 2) = k + 1 := by show nt (nI (k + 1)) = k + 1; rw [nt_n (by omega)]
  exact ⟨by omega, fun e => by omega⟩⟩, rfl⟩
/-! the parts of a set: at most nine -/
theorem pts_pop {b : BT} {S : Nat} (hN : b 0 ≤ 9) (hS : S < 2 ^ b 0) (hY : SY b) : ∀ left, left < 512 → Rcl b S left → (pts b S left).length ≤ pop left := by
  intro left
  induction left using Nat.strongRecOn with
  | ind left ih =>
    intro h hR
    by_cases h0 : left = 0
    · subst h0
      exact Nat.zero_le _
    · rw [pts_s b S (by omega) h]
      obtain ⟨hl1, hl2, hl3⟩ := low_bit left h (by omega)
      have hd := nd_lt_of hl1 (rch_self b (low left) S)
      have hsub : ∀ i, (rch b (low left) S).testBit i = true → left.testBit i = true := fun i hi => rcl_rch hR hl1 hi
      have hp := pop_nd hsub
      have hp9 : rch b (low left) S < 512 := lt_of_sub (n := 9) h hsub
      have h1 : 0 < rch b (low left) S := by
        rcases Nat.eq_zero_or_pos (rch b (low left) S) with e | e
        · have := rch_self b (low left) S
          rw [e] at this
          simp at this
        · exact e
      have h2 := pop_pos _ hp9 h1
      have h3 := ih _ hd (by omega) (rcl_nd hR hY hS hN hl1)
      rw [List.length_cons]
      omega
