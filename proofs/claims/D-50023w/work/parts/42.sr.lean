/-! what each reading call answers -/
def cntN (b : BT) : Nat → Int32
  | 0 => nI (b 0)
  | 1 => nI (edgeB b ((1 <<< b 0) - 1) / 2)
  | 2 => nI (b 1)
  | 3 => nI (b 2)
  | 4 => nI (pop (freeS b))
  | 5 => nI (npts b (freeS b))
  | 6 => nI (b 3 % 2)
  | 7 => nI (b 3)
  | 8 => nI (if over b = true then 1 else 0)
  | 9 => if over b = true then nI (1 - b 3 % 2) else -1
  | 10 => nI (pairsB b)
  | 11 => nI (stuckB b)
  | _ => nI (b 2 % 2)
def spCnt (b : BT) (w : Int32) : AN := if isI w (nI 0) (nI 12) = false then (1, nI 0) else (0, cntN b (nt w))
def vtxN (b : BT) (v : Nat) : Nat → Int32
  | 0 => nI (b (22 + v)) - nI 1
  | 1 => nI (b (4 + v))
  | 2 => nI (cols b v)
  | 3 => nI (pop (b (13 + v)))
  | 4 => if fr b v = true then nI (partN b v) else -1
  | _ => nI (pop (b (13 + v) &&& freeS b))
def spVtx (b : BT) (v w : Int32) : AN := if isV b v = false then (1, nI 0) else if isI w (nI 0) (nI 5) = false then (2, nI 0) else (0, vtxN b (nt v) (nt w))
def spWhy (b : BT) (v c : Int32) : AN := if (isV b v && isC b c) = false then (1, nI 0) else (0, nI (why b (nt v) (nt c)))
def prtN (b : BT) (S : Nat) : Nat → Int32
  | 0 => nI (pop S)
  | 1 => nI (low S)
  | 2 => nI (b (31 + low S)) - nI 1
  | 3 => nI (edgeB b S / 2)
  | 4 => nI (pairsI b S)
  | 5 => nI (G b S (b (31 + low S))).1
  | 6 => nI (G b S (b (31 + low S))).2.1
  | _ => nI (G b S (b (31 + low S))).2.2
def prtS (b : BT) (p : Int32) : Nat := if p < 0 then 0 else partS b (nt p)
def spPrt (b : BT) (p w : Int32) : AN := if prtS b p = 0 then (1, nI 0) else if isI w (nI 0) (nI 7) = false then (2, nI 0) else (0, prtN b (prtS b p) (nt w))
def spVal (b : BT) : AN := (0, nI ((BB b).1 ^^^ b 2 % 2))
def spVif (b : BT) (v c : Int32) : AN := if (isV b v && isC b c) = false then (1, nI 0) else if 0 < why b (nt v) (nt c) then (2, nI 0) else (0, nI ((BB (layB b (nt v) (nt c))).1 ^^^ b 2 % 2))
def spWin (b : BT) : AN := (0, nI ((if passW b = true then 1 else 0) + sumF (fun v => pop (winS b v)) (b 0)))
def spBest (b : BT) : AN := if over b = true then (1, nI 0) else (0, nI (bestN b) - nI 1)
def spLong (b : BT) : AN := (0, nI ((BB b).2.1 + b 2))
def spShort (b : BT) : AN := (0, nI ((BB b).2.2 + b 2))
def spWc (b : BT) (v : Int32) : AN := if isV b v = false then (1, nI 0) else (0, nI (winS b (nt v)))
def spFall (b : BT) (v : Int32) : AN := if isV b v = false then (1, nI 0) else if fr b (nt v) = false then (2, nI 0) else (0, nI (npts b (nd (rch b (nt v) (freeS b)) (1 <<< nt v))))
/-- the board without v's edges -/
def remB (b : BT) (v n : Nat) : BT := fun j => if 13 ≤ j ∧ j < 13 + n then nd (b j) (1 <<< v) else b j
def remW (b : BT) (v : Nat) : BT := updN (remB b v (b 0)) (13 + v) 0
def valW (b : BT) (v : Nat) : Nat := (((BB b).1 ^^^ b 2 % 2) ^^^ (G b (rch b v (freeS b)) (b (31 + v))).1) ^^^ (tog 9 (remW b v) (nd (rch b v (freeS b)) (1 <<< v)) (b (31 + v))).1
def spVw (b : BT) (v : Int32) : AN := if isV b v = false then (1, nI 0) else if fr b (nt v) = false then (2, nI 0) else (0, nI (valW b (nt v)))
/-- of a move's number: the player, the vertex, the colour, parts behind it, pieces -/
def mvd (x : Nat) : Nat → Int32
  | 0 => nI (x &&& 1)
  | 1 => nI (x >>> 1 &&& 15) - nI 1
  | 2 => nI (x >>> 5 &&& 3) - nI 1
  | 3 => nI (x >>> 7 &&& 15)
  | _ => nI (x >>> 11)
def spMove (b : BT) (m w : Int32) : AN := if isI m (nI 0) (nI (b 3) - nI 1) = false then (1, nI 0) else if isI w (nI 0) (nI 3) = false then (2, nI 0) else (0, mvd (b (40 + nt m)) (nt w))
def cts (x w : Nat) : Bool := if w = 1 then decide (x >>> 1 &&& 15 = 0) else !decide (x >>> 1 &&& 15 = 0) && (decide (w = 0) || (decide (w = 2) && decide (1 < x >>> 11)) || (decide (w = 3) && decide (x >>> 11 = 0)))
def accS (b : BT) (pl w n : Nat) : Nat := sumF (fun k => if b (40 + k) &&& 1 = pl ∧ cts (b (40 + k)) w = true then 1 else 0) n
def accC (b : BT) (pl : Nat) : Nat → Nat
  | 0 => 0
  | k + 1 => accC b pl k ||| (if b (40 + k) &&& 1 = pl ∧ ¬ b (40 + k) >>> 1 &&& 15 = 0 then 1 <<< ((b (40 + k) >>> 5 &&& 3) - 1) else 0)
def spAcc (b : BT) (pl w : Int32) : AN := if isI pl (nI 0) (nI 1) = false then (1, nI 0) else if isI w (nI 0) (nI 4) = false then (2, nI 0) else
  (0, if nt w = 4 then nI (pop (accC b (nt pl) (b 3))) else nI (accS b (nt pl) (nt w) (b 3)))
def wrV (b : BT) (n : Nat) : List Nat := (List.range n).map (fun v => if fr b v = true then 46 else 96 + b (22 + v))
def wrB (b : BT) : List Nat := wrV b (b 0) ++ [47, 48 + b 3 % 2, 47, 48 + b 2]
def spWb (s : SS) : AS := ((0, nI (wrB s.1).length), (s.1, s.2.1, s.2.2.1, s.2.2.2.1, s.2.2.2.2.1, wrB s.1))
def spWby (wr : List Nat) (i : Int32) : AN := if isI i (nI 0) (nI wr.length - nI 1) = false then (1, nI 0) else (0, nI (wr.getD (nt i) 0))
/-- the sum of the values of parts; the mean -/
def meanS (b : BT) (n : Nat) : Nat := sumF (fun k => (G b (partS b k) (b (31 + low (partS b k)))).1) n
def meanF (b : BT) : UInt32 := if npts b (freeS b) = 0 then FP.fconst0 else FP.fdiv (FP.i2f (nI (meanS b (npts b (freeS b))))) (FP.i2f (nI (npts b (freeS b))))
/-- the bytes of a number -/
def by4 (v : Int32) (k : Nat) : Int32 := (v >>> (nI (24 - 8 * k) &&& 31)) &&& nI 255
/-! laws -/
theorem pts_form {b : Nat → Nat} {set : Nat} : ∀ left, left < 512 → ∀ p ∈ pts b set left, ∃ v, left.testBit v = true ∧ v < 9 ∧ p = rch b v set := by
  intro left
  induction left using Nat.strongRecOn with
  | ind left ih =>
    intro h p hp
    by_cases h0 : left = 0
    · subst h0
      cases hp
    · rw [pts_s b set (by omega) h] at hp
      obtain ⟨hl, hl2, _⟩ := low_bit left h (by omega)
      have hd := nd_lt_of hl (rch_self b (low left) set)
      rcases List.mem_cons.mp hp with e | hp
      · exact ⟨_, hl, hl2, e⟩
      · obtain ⟨v, h1, h2, h3⟩ := ih _ hd (by omega) p hp
        rw [nd_bit] at h1
        simp at h1
        exact ⟨v, h1.1, h2, h3⟩
theorem partS_form {b : BT} (h9 : b 0 ≤ 9) {k : Nat} (h : ¬ partS b k = 0) : Vd b (partS b k) ∧ partS b k < 512 ∧ partS b k ∈ pts b (freeS b) (freeS b) := by
  have hm : partS b k ∈ pts b (freeS b) (freeS b) := by
    unfold partS at h ⊢
    by_cases e : k < (pts b (freeS b) (freeS b)).length
    · rw [List.getD, List.getElem?_eq_getElem e]
      exact List.getElem_mem e
    · exact absurd (by rw [List.getD, List.getElem?_eq_none (by omega)]; rfl) h
  obtain ⟨v, h1, h2, h3⟩ := pts_form _ (freeS_lt h9) _ hm
  rw [h3]
  exact ⟨vd_rch (vd_free b) h9 h1, rch_lt h2 (freeS_lt h9), by rw [← h3]; exact hm⟩
theorem partS_lt {b : BT} (h9 : b 0 ≤ 9) (k : Nat) : partS b k < 512 := by
  by_cases e : partS b k = 0
  · rw [e]; decide
  · exact (partS_form h9 e).2.1
theorem partS_pos {b : BT} (h9 : b 0 ≤ 9) {k : Nat} (h : k < npts b (freeS b)) : 0 < partS b k := by
  unfold npts at h
  unfold partS
  rw [List.getD, List.getElem?_eq_getElem h]
  exact (pts_mem (freeS_lt h9) _ (freeS_lt h9) (fun _ q => q) _ (List.getElem_mem h)).2.2
theorem remB_n (b : BT) (v n : Nat) {k : Nat} (h : k < 13 ∨ 13 + n ≤ k) : remB b v n k = b k := if_neg (by omega)
theorem remB_0 (b : BT) (v : Nat) : remB b v 0 = b := by
  funext j
  exact if_neg (by omega)
theorem remB_s (b : BT) (v n : Nat) : updN (remB b v n) (13 + n) (nd (b (13 + n)) (1 <<< v)) = remB b v (n + 1) := by
  funext j
  unfold updN remB
  by_cases e : j = 13 + n
  · subst e
    rw [if_pos rfl, if_pos ⟨by omega, by omega⟩]
  · rw [if_neg e]
    by_cases q : 13 ≤ j ∧ j < 13 + n
    · rw [if_pos q, if_pos ⟨q.1, by omega⟩]
    · rw [if_neg q, if_neg (by omega)]
theorem remW_n (b : BT) {v k : Nat} (h9 : b 0 ≤ 9) (hv : v < b 0) (h : k < 13 ∨ 22 ≤ k) : remW b v k = b k := by
  unfold remW updN
  rw [if_neg (by omega), remB_n _ _ _ (by omega)]
theorem remW_k (b : BT) {v k : Nat} (hk : k < b 0) : remW b v (13 + k) = if k = v then 0 else nd (b (13 + k)) (1 <<< v) := by
  unfold remW updN
  by_cases e : k = v
  · subst e
    rw [if_pos rfl, if_pos rfl]
  · rw [if_neg (by omega), if_neg e]
    exact if_pos ⟨by omega, by omega⟩
theorem remW_bit (b : BT) {v k w : Nat} (hk : k < b 0) : (remW b v (13 + k)).testBit w = (!decide (k = v) && ((b (13 + k)).testBit w && !decide (w = v))) := by
  rw [remW_k b hk]
  by_cases e : k = v
  · rw [if_pos e]
    simp [e]
  · rw [if_neg e, nd_bit, sh1_bit]
    simp [e]
theorem wa_rem {b : BT} (h : WA b) {v : Nat} (hv : v < b 0) : WB (remW b v) ∧ WP (remW b v) ∧ SY (remW b v) := by
  have h9 := h.w.2.1
  have hn := fun k (q : k < 13 ∨ 22 ≤ k) => remW_n b h9 hv q
  obtain ⟨h1, h2, h3, h4, h5, h6, h7, h8⟩ := h.w
  refine ⟨⟨?_, ?_, ?_, ?_, fun k hk => ?_, fun k hk => ?_, fun k hk => ?_, fun k hk => ?_⟩, ?_, ?_⟩
  · rw [hn _ (by omega)]; exact h1
  · rw [hn _ (by omega)]; exact h2
  · rw [hn _ (by omega)]; exact h3
  · rw [hn _ (by omega)]; exact h4
  · rw [hn _ (by omega), hn _ (by omega)]; exact h5 k hk
  · rw [hn 0 (by omega)]
    unfold remW updN remB
    split
    · exact Nat.two_pow_pos _
    · split
      · exact nd_lt (h6 k hk)
      · exact h6 k hk
  · rw [hn _ (by omega), hn _ (by omega)]; exact h7 k hk
  · rw [hn _ (by omega), hn _ (by omega)]; exact h8 k hk
  · unfold WP
    rw [hn _ (by omega), hn _ (by omega)]
    exact h.p
  · intro x y hx hy
    rw [hn 0 (by omega)] at hx hy
    rw [remW_bit b hx, remW_bit b hy, h.s x y hx hy]
    cases decide (x = v) <;> cases decide (y = v) <;> simp
theorem vd_rem {b : BT} (h : WA b) {v : Nat} (hv : v < b 0) (hf : fr b v = true) : Vd (remW b v) (nd (rch b v (freeS b)) (1 <<< v)) := by
  have h9 := h.w.2.1
  have hvd : Vd b (rch b v (freeS b)) := vd_rch (vd_free b) h9 (by rw [freeS_bit]; simp [hv, hf])
  have h0 := remW_n b h9 hv (k := 0) (by omega)
  have hfr : ∀ w, fr (remW b v) w = fr b w := fun w => by unfold fr; rw [remW_n b h9 hv (by omega)]
  refine ⟨by rw [h0]; exact nd_lt hvd.1, fun w hw => ?_, fun x w hx hw hb hfw => ?_⟩
  · rw [nd_bit] at hw
    simp at hw
    rw [hfr]
    exact hvd.2.1 w hw.1
  · rw [h0] at hw
    rw [hfr] at hfw
    rw [nd_bit] at hx
    simp at hx
    have hx0 := bit_lt hvd.1 hx.1
    rw [remW_bit b hx0] at hb
    simp at hb
    rw [nd_bit, sh1_bit]
    simp [hvd.2.2 x w hx.1 hw hb.2.1 hfw, hb.2.2]
/-- edges given back -/
def bakB (b : BT) (v n : Nat) : BT := fun j => if 13 ≤ j ∧ j < 13 + n ∨ j = 13 + v then b j else remW b v j
theorem bakB_0 (b : BT) (v : Nat) : updN (remW b v) (13 + v) (b (13 + v)) = bakB b v 0 := by
  funext j
  unfold updN bakB
  by_cases e : j = 13 + v
  · rw [if_pos e, if_pos (Or.inr e), e]
  · rw [if_neg e, if_neg (by omega)]
theorem bakB_s (b : BT) (v n : Nat) : updN (bakB b v n) (13 + n) (b (13 + n)) = bakB b v (n + 1) := by
  funext j
  unfold updN bakB
  by_cases e : j = 13 + n
  · rw [if_pos e, if_pos (Or.inl ⟨by omega, by omega⟩), e]
  · rw [if_neg e]
    by_cases q : 13 ≤ j ∧ j < 13 + n ∨ j = 13 + v
    · rw [if_pos q, if_pos (by omega)]
    · rw [if_neg q, if_neg (by omega)]
theorem bakB_e (b : BT) {v : Nat} (h9 : b 0 ≤ 9) (hv : v < b 0) : bakB b v (b 0) = b := by
  funext j
  unfold bakB
  by_cases q : 13 ≤ j ∧ j < 13 + b 0 ∨ j = 13 + v
  · rw [if_pos q]
  · rw [if_neg q]
    unfold remW updN
    rw [if_neg (by omega), remB_n _ _ _ (by omega)]
theorem bak_or {b : BT} (hS : SY b) {v k : Nat} (hv : v < b 0) (hk : k < b 0) : bakB b v k (13 + k) ||| (if (b (13 + v)).testBit k = true then 1 else 0) <<< v = b (13 + k) := by
  apply Nat.eq_of_testBit_eq
  intro i
  have hsb := hS v k hv hk
  have hbit : ((if (b (13 + v)).testBit k = true then 1 else 0) <<< v).testBit i = (decide (i = v) && (b (13 + v)).testBit k) := by
    cases z : (b (13 + v)).testBit k
    · simp
    · rw [if_pos rfl, sh1_bit]
      simp
  rw [Nat.testBit_or, hbit]
  unfold bakB
  by_cases e : k = v
  · subst e
    rw [if_pos (Or.inr rfl)]
    by_cases q : i = k
    · subst q
      simp
    · simp [q]
  · rw [if_neg (by omega), remW_bit b hk, hsb]
    by_cases q : i = v
    · subst q
      simp
    · simp [q, e]
