/-! the twin's table: places, what it holds -/
def Vd (b : Nat → Nat) (S : Nat) : Prop := S < 2 ^ b 0 ∧ (∀ v, S.testBit v = true → fr b v = true) ∧ ∀ u w, S.testBit u = true → w < b 0 → (b (13 + u)).testBit w = true → fr b w = true → S.testBit w = true
/-- the same graph -/
def ST (b b' : Nat → Nat) : Prop := b' 0 = b 0 ∧ b' 1 = b 1 ∧ (∀ k, k < 9 → b' (4 + k) = b (4 + k)) ∧ ∀ k, k < 9 → b' (13 + k) = b (13 + k)
theorem ST.rf (b : Nat → Nat) : ST b b := ⟨rfl, rfl, fun _ _ => rfl, fun _ _ => rfl⟩
theorem ST.tr {a b c : Nat → Nat} (h1 : ST a b) (h2 : ST b c) : ST a c := ⟨h2.1.trans h1.1, h2.2.1.trans h1.2.1, fun k hk => (h2.2.2.1 k hk).trans (h1.2.2.1 k hk), fun k hk => (h2.2.2.2 k hk).trans (h1.2.2.2 k hk)⟩
theorem ST.sy {a b : Nat → Nat} (h : ST a b) : ST b a := ⟨h.1.symm, h.2.1.symm, fun k hk => (h.2.2.1 k hk).symm, fun k hk => (h.2.2.2 k hk).symm⟩
theorem ST.sg {a b : Nat → Nat} (h : ST a b) (h9 : a 0 ≤ 9) : SG a b := ⟨h.1, fun k hk => h.2.2.2 k (by omega)⟩
theorem st_lay (b : Nat → Nat) (v c : Nat) : ST b (layO b v c) := ⟨layO_n b v c (by omega), layO_n b v c (by omega), fun k hk => layO_n b v c (by omega), fun k hk => layO_n b v c (by omega)⟩
/-- the neighbours of part look the same -/
def CG (b b' : Nat → Nat) (part : Nat) : Prop := ∀ u w, part.testBit u = true → w < b 0 → (b (13 + u)).testBit w = true → fr b w = fr b' w ∧ (fr b w = false → b (22 + w) = b' (22 + w))
theorem arnF_congr {b b' : Nat → Nat} {u : Nat} (hn : b' (13 + u) = b (13 + u)) : ∀ n, (∀ w, w < n → (b (13 + u)).testBit w = true → fr b w = fr b' w ∧ (fr b w = false → b (22 + w) = b' (22 + w))) → arnF b u n = arnF b' u n := by
  intro n
  induction n with
  | zero => intro _; rfl
  | succ n ih =>
    intro h
    rw [arnF, arnF, ih (fun w hw => h w (by omega)), hn]
    cases hb : (b (13 + u)).testBit n with
    | false => simp
    | true =>
      obtain ⟨h1, h2⟩ := h n (by omega) hb
      rw [← h1]
      cases hf : fr b n with
      | true => simp
      | false => rw [h2 hf]
theorem cg_arn {b b' : Nat → Nat} {part u : Nat} (hT : ST b b') (h : CG b b' part) (hu : part.testBit u = true) (hu9 : u < 9) : arn b u = arn b' u := by
  unfold arn
  rw [hT.1]
  exact arnF_congr (hT.2.2.2 u hu9) _ (fun w hw hb => h u w hu hw hb)
theorem cg_clay {b b' : Nat → Nat} {part u m : Nat} (hT : ST b b') (h : CG b b' part) (hu : part.testBit u = true) (hu9 : u < 9) : clay b u part m = clay b' u part m := by
  unfold clay
  rw [cg_arn hT h hu hu9, hT.2.2.1 u hu9]
theorem cg_lay {b b' : Nat → Nat} {part v c : Nat} (h : CG b b' part) (h9 : b 0 ≤ 9) (hp : part < 2 ^ b 0) : CG (layO b v c) (layO b' v c) (nd part (1 <<< v)) := by
  intro u w hu hw hb
  rw [nd_bit] at hu
  simp only [Bool.and_eq_true] at hu
  have hu0 := bit_lt hp hu.1
  rw [layO_n b v c (by omega)] at hw hb
  obtain ⟨h1, h2⟩ := h u w hu.1 hw hb
  unfold fr at h1 h2 ⊢
  unfold layO
  by_cases e : 22 + w = 22 + v
  · rw [if_pos e, if_pos e]
    exact ⟨rfl, fun _ => rfl⟩
  · rw [if_neg e, if_neg e]
    exact ⟨h1, h2⟩
theorem cg_sub {b b' : Nat → Nat} {part p : Nat} (h : CG b b' part) (hs : ∀ i, p.testBit i = true → part.testBit i = true) : CG b b' p := fun u w hu hw hb => h u w (hs u hu) hw hb
theorem st_lay2 {b b' : Nat → Nat} (h : ST b b') (v c : Nat) : ST (layO b v c) (layO b' v c) := (st_lay b v c).sy.tr (h.tr (st_lay b' v c))
theorem gv_cg : ∀ f b b' part m, ST b b' → CG b b' part → b 0 ≤ 9 → part < 2 ^ b 0 → gv f b part m = gv f b' part m := by
  intro f
  induction f with
  | zero => intro b b' part m _ _ _ _; rfl
  | succ f ih =>
    intro b b' part m hT hC h9 hp
    have hp9 : part < 512 := Nat.lt_of_lt_of_le hp (Nat.pow_le_pow_right (by omega) h9)
    rw [gv_s, gv_s, hT.1]
    congr 1
    have key : ∀ n, n ≤ b 0 → scV (tog f) b part m n = scV (tog f) b' part m n := by
      intro n
      induction n with
      | zero => intro _; rfl
      | succ n ihn =>
        intro hn
        have hS : scS b part m n = scS b' part m n := by
          unfold scS
          by_cases hb : part.testBit n = true
          · rw [if_pos hb, if_pos hb]
            exact cg_clay hT hC hb (by omega)
          · rw [if_neg hb, if_neg hb]
        rw [scV, scV, ihn (by omega), hS, hT.2.1]
        have k2 : ∀ c, scC (tog f) b part n (scS b' part m n) (scV (tog f) b' part m n) c = scC (tog f) b' part n (scS b' part m n) (scV (tog f) b' part m n) c := by
          intro c
          induction c with
          | zero => rfl
          | succ c ihc =>
            rw [scC, scC, ihc]
            by_cases hc : (scS b' part m n).testBit c = true
            · rw [if_pos hc, if_pos hc]
              congr 1
              have hT2 := st_lay2 hT n c
              have hC2 := cg_lay (v := n) (c := c) hC h9 hp
              have h92 : layO b n c 0 ≤ 9 := by rw [layO_n b n c (by omega)]; exact h9
              show tgA _ _ (pts (layO b n c) _ _) = tgA _ _ (pts (layO b' n c) _ _)
              rw [pts_congr (hT2.sg h92)]
              have hq : nd part (1 <<< n) < 2 ^ b 0 := nd_lt hp
              refine tgA_congr _ _ (fun p hpm => ?_)
              obtain ⟨q1, q2, q3⟩ := pts_mem (b := layO b n c) (nd_lt hp9) _ (nd_lt hp9) (fun _ h => h) p hpm
              exact ih _ _ p (c + 1) hT2 (cg_sub hC2 q1) h92 (by rw [layO_n b n c (by omega)]; exact lt_of_sub hq q1)
            · rw [if_neg hc, if_neg hc]
        exact k2 _
    exact key (b 0) (Nat.le_refl _)
def G (b : Nat → Nat) (part m : Nat) : G3 := gv 9 b part m
def dig (b : Nat → Nat) (part v : Nat) : Nat := if part.testBit v = true then 0 else if fr b v = false ∧ ¬ (b (13 + v) &&& part) = 0 then b (22 + v) else 1
def cdF (b : Nat → Nat) (part : Nat) : Nat → Nat
  | 0 => 0
  | k + 1 => cdF b part k * (b 1 + 1) + dig b part (b 0 - 1 - k)
def plc (b : Nat → Nat) (part m : Nat) : Nat := cdF b part (b 0) * (b 1 + 1) + m
theorem dig_le {b : Nat → Nat} (hW : WB b) {v : Nat} (hv : v < 9) (part : Nat) : dig b part v ≤ b 1 := by
  unfold dig
  have := hW.2.2.2.2.2.2.1 v hv
  have := hW.2.2.1
  split
  · omega
  · split <;> omega
theorem cdF_lt {b : Nat → Nat} (hW : WB b) (part : Nat) : ∀ k, k ≤ b 0 → cdF b part k < (b 1 + 1) ^ k := by
  intro k
  induction k with
  | zero => intro _; exact (by decide : 0 < 1)
  | succ k ih =>
    intro hk
    rw [cdF, Nat.pow_succ]
    have h1 := ih (by omega)
    have h2 := dig_le hW (v := b 0 - 1 - k) (by have := hW.2.1; omega) part
    have h3 : (cdF b part k + 1) * (b 1 + 1) ≤ (b 1 + 1) ^ k * (b 1 + 1) := Nat.mul_le_mul_right _ h1
    rw [Nat.succ_mul] at h3
    omega
/-- the number of colourings is small -/
def WP (b : Nat → Nat) : Prop := (b 1 + 1) ^ b 0 ≤ 20000
theorem plc_lt {b : Nat → Nat} (hW : WB b) (hP : WP b) (part : Nat) {m : Nat} (hm : m ≤ b 1) : plc b part m < 80000 := by
  unfold plc
  have h1 := cdF_lt hW part (b 0) (Nat.le_refl _)
  unfold WP at hP
  have h2 : cdF b part (b 0) + 1 ≤ 20000 := by omega
  have h3 : (cdF b part (b 0) + 1) * (b 1 + 1) ≤ 20000 * (b 1 + 1) := Nat.mul_le_mul_right _ h2
  rw [Nat.succ_mul] at h3
  have := hW.2.2.2.1
  omega
theorem base_inj {a a' d d' B : Nat} (hd : d < B) (hd' : d' < B) (e : a * B + d = a' * B + d') : a = a' ∧ d = d' := by
  have h1 : (a * B + d) / B = a := by rw [Nat.mul_comm, Nat.mul_add_div (by omega), Nat.div_eq_of_lt hd, Nat.add_zero]
  have h2 : (a' * B + d') / B = a' := by rw [Nat.mul_comm, Nat.mul_add_div (by omega), Nat.div_eq_of_lt hd', Nat.add_zero]
  have h3 : a = a' := by rw [← h1, ← h2, e]
  subst h3
  exact ⟨rfl, by omega⟩
theorem cdF_inj {b b' : Nat → Nat} (hT : ST b b') (hW : WB b) (hW' : WB b') {part part' : Nat} : ∀ k, k ≤ b 0 → cdF b part k = cdF b' part' k → ∀ v, b 0 - k ≤ v → v < b 0 → dig b part v = dig b' part' v := by
  intro k
  induction k with
  | zero => intro _ _ v h1 h2; omega
  | succ k ih =>
    intro hk e v h1 h2
    rw [cdF, cdF, hT.2.1, hT.1] at e
    have h9 := hW.2.1
    have g1 := dig_le hW (v := b 0 - 1 - k) (by omega) part
    have g2 := dig_le hW' (v := b 0 - 1 - k) (by omega) part'
    rw [hT.2.1] at g2
    obtain ⟨e1, e2⟩ := base_inj (by omega) (by omega) e
    by_cases hv : v = b 0 - 1 - k
    · rw [hv]; exact e2
    · exact ih (by omega) e1 v (by omega) h2
theorem dig_zero {b : Nat → Nat} {part v : Nat} : dig b part v = 0 ↔ part.testBit v = true := by
  unfold dig
  by_cases h : part.testBit v = true
  · rw [if_pos h]; exact ⟨fun _ => h, fun _ => rfl⟩
  · rw [if_neg h]
    by_cases h2 : fr b v = false ∧ ¬ (b (13 + v) &&& part) = 0
    · rw [if_pos h2]
      exact ⟨fun e => absurd e (fr_f.mp h2.1), fun e => absurd e h⟩
    · rw [if_neg h2]
      exact ⟨fun e => absurd e (by decide), fun e => absurd e h⟩
theorem plc_inj {b b' : Nat → Nat} (hT : ST b b') (hW : WB b) (hW' : WB b') (hS : SY b) {part part' m m' : Nat} (hV : Vd b part) (hV' : Vd b' part') (hm : m ≤ b 1) (hm' : m' ≤ b 1) (e : plc b part m = plc b' part' m') : part = part' ∧ m = m' ∧ CG b b' part := by
  unfold plc at e
  rw [hT.2.1, hT.1] at e
  obtain ⟨e1, e2⟩ := base_inj (by omega) (by omega) e
  have hd : ∀ v, v < b 0 → dig b part v = dig b' part' v := fun v hv => cdF_inj hT hW hW' (b 0) (Nat.le_refl _) e1 v (by omega) hv
  have hpp : part = part' := by
    apply Nat.eq_of_testBit_eq
    intro v
    by_cases hv : v < b 0
    · have := hd v hv
      have q1 := dig_zero (b := b) (part := part) (v := v)
      have q2 := dig_zero (b := b') (part := part') (v := v)
      rw [this] at q1
      exact Bool.eq_iff_iff.mpr (q1.symm.trans q2)
    · cases h1 : part.testBit v with
      | true => exact absurd (bit_lt hV.1 h1) hv
      | false =>
        cases h2 : part'.testBit v with
        | true => exact absurd (by have := bit_lt hV'.1 h2; rw [hT.1] at this; exact this) hv
        | false => rfl
  subst hpp
  refine ⟨rfl, e2, fun u w hu hw hb => ?_⟩
  have hu0 := bit_lt hV.1 hu
  by_cases hpw : part.testBit w = true
  · have h1 := hV.2.1 w hpw
    have h2 := hV'.2.1 w hpw
    exact ⟨by rw [h1, h2], fun z => by rw [h1] at z; cases z⟩
  · have h1 : fr b w = false := by
      cases h : fr b w with
      | false => rfl
      | true => exact absurd (hV.2.2 u w hu hw hb h) hpw
    have hb' : (b' (13 + u)).testBit w = true := by rw [hT.2.2.2 u (by have := hW.2.1; omega)]; exact hb
    have h2 : fr b' w = false := by
      cases h : fr b' w with
      | false => rfl
      | true => exact absurd (hV'.2.2 u w hu (by rw [hT.1]; exact hw) hb' h) hpw
    refine ⟨by rw [h1, h2], fun _ => ?_⟩
    have hadj : (b (13 + w)).testBit u = true := by rw [← hS u w hu0 hw]; exact hb
    have hne : ¬ (b (13 + w) &&& part) = 0 := by
      intro z
      have : (b (13 + w) &&& part).testBit u = true := by rw [Nat.testBit_and, hadj, hu]; rfl
      rw [z] at this
      simp at this
    have hne' : ¬ (b' (13 + w) &&& part) = 0 := by rw [hT.2.2.2 w (by have := hW.2.1; omega)]; exact hne
    have := hd w hw
    unfold dig at this
    rw [if_neg hpw, if_neg hpw, if_pos ⟨h1, hne⟩, if_pos ⟨h2, hne'⟩] at this
    exact this
def enc (i : G3) : Nat := (i.1 ||| i.2.1 <<< 5) ||| i.2.2 <<< 10
/-- what the twin's table holds -/
def KT (u : TU) (b : Nat → Nat) : Prop := ∀ b' part m, ST b b' → WB b' → Vd b' part → m ≤ b 1 → u.2 18 (plc b' part m) = -1 ∨ u.2 18 (plc b' part m) = nI (enc (G b' part m))
theorem kt_none {u : TU} {b : Nat → Nat} (h : ∀ i, i < 80000 → u.2 18 i = -1) (hP : WP b) : KT u b := fun b' part m hT hW _ hm => Or.inl (h _ (plc_lt hW (by unfold WP; rw [hT.1, hT.2.1]; exact hP) part (by rw [hT.2.1]; exact hm)))
theorem kt_upd {u : TU} {b b1 : Nat → Nat} {part m : Nat} (h : KT u b) (hT : ST b b1) (hW : WB b1) (hS : SY b) (hV : Vd b1 part) (hm : m ≤ b 1) : KT (tsa u 18 (upd (u.2 18) (plc b1 part m) (nI (enc (G b1 part m))))) b := by
  intro b' part' m' hT' hW' hV' hm'
  show upd (u.2 18) (plc b1 part m) _ (plc b' part' m') = -1 ∨ upd (u.2 18) (plc b1 part m) _ (plc b' part' m') = _
  by_cases e : plc b' part' m' = plc b1 part m
  · rw [e, pk_us]
    have hT2 : ST b1 b' := hT.sy.tr hT'
    have hS1 : SY b1 := sy_congr (hT.sg (by have := hW.2.1; rw [hT.1] at this; exact this)) hS
    obtain ⟨e1, e2, e3⟩ := plc_inj hT2 hW hW' hS1 hV hV' (by rw [hT.2.1]; exact hm) (by rw [hT.2.1]; exact hm') e.symm
    rw [← e1, ← e2]
    exact Or.inr (by rw [show G b' part m = G b1 part m from (gv_cg 9 b1 b' part m hT2 e3 hW.2.1 hV.1).symm])
  · rw [pk_un e]
    exact h b' part' m' hT' hW' hV' hm'
