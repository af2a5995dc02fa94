/-! what is written, what is appended -/
def WRp (u : TU) (wr : List Nat) : Prop := u.1 21 = nI wr.length ∧ ∀ i, i < wr.length → u.2 20 i = nI (wr.getD i 0)
theorem wrp_add {u : TU} {wr : List Nat} (h : WRp u wr) (c : Nat) : WRp (tsf (tsa u 20 (upd (u.2 20) wr.length (nI c))) 21 (nI (wr.length + 1))) (wr ++ [c]) := by
  refine ⟨?_, fun i hi => ?_⟩
  · rw [tsf_at, List.length_append]
    rfl
  · show upd (u.2 20) wr.length (nI c) i = _
    rw [List.length_append] at hi
    by_cases e : i = wr.length
    · rw [e, pk_us]
      congr 1
      simp
    · rw [pk_un e, h.2 i (by simp at hi; omega)]
      congr 1
      have hi2 : i < wr.length := by simp at hi; omega
      simp [List.getD, List.getElem?_append, hi2]
def BFp (u : TU) (bf : List Nat) : Prop := u.1 9 = nI bf.length ∧ ∀ i, i < bf.length → bf.getD i 0 < 256 ∧ u.2 8 i = nI (bf.getD i 0)
theorem bfp_add {u : TU} {bf : List Nat} (h : BFp u bf) {c : Nat} (hc : c < 256) : BFp (tsf (tsa u 8 (upd (u.2 8) bf.length (nI c))) 9 (nI (bf.length + 1))) (bf ++ [c]) := by
  refine ⟨?_, fun i hi => ?_⟩
  · rw [tsf_at, List.length_append]
    rfl
  · show _ ∧ upd (u.2 8) bf.length (nI c) i = _
    rw [List.length_append] at hi
    by_cases e : i = bf.length
    · have e2 : (bf ++ [c]).getD bf.length 0 = c := by simp
      rw [e, pk_us, e2]
      exact ⟨hc, rfl⟩
    · have hi2 : i < bf.length := by simp at hi; omega
      have e2 : (bf ++ [c]).getD i 0 = bf.getD i 0 := by simp [List.getD, List.getElem?_append, hi2]
      rw [pk_un e, e2]
      exact h.2 i hi2
/-- what is written, but for which all else stays -/
theorem to_wr {u u' : TU} {ks : List BT} {sl : Nat → Option BT} {bf : List Nat} {ea : Int32} {wr wr' : List Nat} (h : TO u ks sl bf ea wr) (h1 : ∀ i, i ≠ 21 → u'.1 i = u.1 i) (h2 : ∀ i, i ≠ 20 → u'.2 i = u.2 i) (hw : WRp u' wr') (hl : wr'.length ≤ 14) : TO u' ks sl bf ea wr' := by
  obtain ⟨⟨a1, a2, a3⟩, a4, ⟨a5, a6, a7⟩, a8, a9, a10, a11⟩ := h
  refine ⟨⟨(h1 6 (by decide)).trans a1, a2, by rw [h2 3 (by decide)]; exact a3⟩, fun i hi => ?_, ⟨(h1 9 (by decide)).trans a5, a6, by rw [h2 8 (by decide)]; exact a7⟩, (h1 17 (by decide)).trans a8, hw.1, hl, hw.2⟩
  rw [h2 4 (by decide), h2 5 (by decide)]
  exact a4 i hi
theorem to_bf {u u' : TU} {ks : List BT} {sl : Nat → Option BT} {bf bf' : List Nat} {ea : Int32} {wr : List Nat} (h : TO u ks sl bf ea wr) (h1 : ∀ i, i ≠ 9 → u'.1 i = u.1 i) (h2 : ∀ i, i ≠ 8 → u'.2 i = u.2 i) (hw : BFp u' bf') (hl : bf'.length ≤ 500) : TO u' ks sl bf' ea wr := by
  obtain ⟨⟨a1, a2, a3⟩, a4, ⟨a5, a6, a7⟩, a8, a9, a10, a11⟩ := h
  refine ⟨⟨(h1 6 (by decide)).trans a1, a2, by rw [h2 3 (by decide)]; exact a3⟩, fun i hi => ?_, ⟨hw.1, hl, hw.2⟩, (h1 17 (by decide)).trans a8, (h1 21 (by decide)).trans a9, a10, by rw [h2 20 (by decide)]; exact a11⟩
  rw [h2 4 (by decide), h2 5 (by decide)]
  exact a4 i hi
theorem and255 (x : Int32) : x &&& nI 255 = nI (x &&& nI 255).toBitVec.toNat ∧ (x &&& nI 255).toBitVec.toNat < 256 := by
  refine ⟨?_, ?_⟩
  · apply Int32.toBitVec_inj.1
    show _ = BitVec.ofNat 32 _
    rw [BitVec.ofNat_toNat, BitVec.setWidth_eq]
  · show (x.toBitVec &&& BitVec.ofNat 32 255).toNat < 256
    rw [BitVec.toNat_and]
    exact Nat.lt_of_le_of_lt Nat.and_le_right (by decide)
def byN (v : Int32) (k : Nat) : Nat := (by4 v k).toBitVec.toNat
theorem byN_eq (v : Int32) (k : Nat) : by4 v k = nI (byN v k) ∧ byN v k < 256 := and255 _
def sel5 (v0 v1 v2 v3 v4 : Int32) (k : Nat) : Int32 := if k < 4 then v0 else if k < 8 then v1 else if k < 12 then v2 else if k < 16 then v3 else v4
def apB (v0 v1 v2 v3 v4 : Int32) (n : Nat) : List Nat := (List.range n).map (fun k => byN (sel5 v0 v1 v2 v3 v4 k) (k % 4))
theorem apB_s (v0 v1 v2 v3 v4 : Int32) (n : Nat) : apB v0 v1 v2 v3 v4 (n + 1) = apB v0 v1 v2 v3 v4 n ++ [byN (sel5 v0 v1 v2 v3 v4 n) (n % 4)] := by
  unfold apB
  rw [List.range_succ, List.map_append]
  rfl
theorem apB_len (v0 v1 v2 v3 v4 : Int32) (n : Nat) : (apB v0 v1 v2 v3 v4 n).length = n := by
  unfold apB
  rw [List.length_map, List.length_range]
def spApp (s : SS) (v0 v1 v2 v3 v4 : Int32) : AS := if 500 < s.2.2.2.1.length + 20 then ((1, nI 0), s) else
  ((0, nI (s.2.2.2.1.length + 20)), (s.1, s.2.1, s.2.2.1, s.2.2.2.1 ++ apB v0 v1 v2 v3 v4 20, s.2.2.2.2))
def spErr (s : SS) : AS := ((0, s.2.2.2.2.1), s)
theorem wrV_s (b : BT) (n : Nat) : wrV b (n + 1) = wrV b n ++ [if fr b n = true then 46 else 96 + b (22 + n)] := by
  unfold wrV
  rw [List.range_succ, List.map_append]
  rfl
theorem wrV_len (b : BT) (n : Nat) : (wrV b n).length = n := by
  unfold wrV
  rw [List.length_map, List.length_range]
theorem wrB_len (b : BT) : (wrB b).length = b 0 + 4 := by
  unfold wrB
  rw [List.length_append, wrV_len]
  rfl
