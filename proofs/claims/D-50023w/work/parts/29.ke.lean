/-! triples in one number; the table's world -/
theorem or_shl {a x n : Nat} (h : a < 2 ^ n) : a ||| x <<< n = a + x * 2 ^ n := by
  rw [Nat.or_comm, ← Nat.shiftLeft_add_eq_or_of_lt h, Nat.shiftLeft_eq, Nat.add_comm]
theorem enc_n {i : G3} (h1 : i.1 < 32) (h2 : i.2.1 < 32) : enc i = i.1 + i.2.1 * 32 + i.2.2 * 1024 := by
  unfold enc
  rw [or_shl (n := 5) h1, or_shl (n := 10) (by omega)]
theorem and31 (x : Nat) : x &&& 31 = x % 32 := Nat.and_two_pow_sub_one_eq_mod x 5
theorem enc_v {i : G3} (h1 : i.1 < 32) (h2 : i.2.1 < 32) : enc i &&& 31 = i.1 := by
  rw [and31, enc_n h1 h2]
  omega
theorem enc_l {i : G3} (h1 : i.1 < 32) (h2 : i.2.1 < 32) : (enc i >>> 5) &&& 31 = i.2.1 := by
  rw [and31, enc_n h1 h2, Nat.shiftRight_eq_div_pow]
  omega
theorem enc_s {i : G3} (h1 : i.1 < 32) (h2 : i.2.1 < 32) : enc i >>> 10 = i.2.2 := by
  rw [enc_n h1 h2, Nat.shiftRight_eq_div_pow]
  omega
theorem enc_lt {i : G3} (h1 : i.1 < 32) (h2 : i.2.1 < 32) (h3 : i.2.2 < 1024) : enc i < 2 ^ 20 := by
  rw [enc_n h1 h2]
  omega
theorem tsa_self (u : TU) (i : Nat) : tsa u i (u.2 i) = u := by
  obtain ⟨a, c⟩ := u
  show (a, fun j => if j = i then c i else c j) = (a, c)
  congr 1
  funext j
  by_cases e : j = i
  · rw [if_pos e, e]
  · rw [if_neg e]
theorem tsa_tsa (u : TU) (i : Nat) (f g : Nat → Int32) : tsa (tsa u i f) i g = tsa u i g := by
  show (u.1, fun j => if j = i then g else if j = i then f else u.2 j) = (u.1, fun j => if j = i then g else u.2 j)
  congr 1
  funext j
  by_cases e : j = i
  · rw [if_pos e, if_pos e]
  · rw [if_neg e, if_neg e, if_neg e]
def TK (u u' : TU) : Prop := ∃ g, u' = tsa u 18 g
theorem TK.rf (u : TU) : TK u u := ⟨u.2 18, (tsa_self u 18).symm⟩
theorem TK.tr {u u1 u2 : TU} (h1 : TK u u1) (h2 : TK u1 u2) : TK u u2 := by
  obtain ⟨g1, rfl⟩ := h1
  obtain ⟨g2, rfl⟩ := h2
  exact ⟨g2, tsa_tsa u 18 g1 g2⟩
theorem TK.bd {u u' : TU} {b : Nat → Nat} (h : TK u u') (hu : BD u b) : BD u' b := by
  obtain ⟨g, rfl⟩ := h
  exact hu
theorem TK.up (u : TU) (f : Nat → Int32) : TK u (tsa u 18 f) := ⟨f, rfl⟩
def KP (u : TU) (b : Nat → Nat) (r : Nat) : Int32 → TU → Prop := fun z u' => z = nI r ∧ TK u u' ∧ KT u' b
theorem kt_st {u : TU} {b b' : Nat → Nat} (hT : ST b b') (h : KT u b) : KT u b' := fun b2 part m hT2 hW hV hm => h b2 part m (hT.tr hT2) hW hV (by rw [← hT.2.1]; exact hm)
/-- v's colour laid in the twin's array, and taken back -/
def uLay (u : TU) (v c : Nat) : TU := tsa u 0 (upd (u.2 0) (22 + v) (nI (c + 1)))
theorem bd_lay {u : TU} {b : Nat → Nat} (hu : BD u b) (v c : Nat) : BD (uLay u v c) (layO b v c) := by
  intro j
  show upd (u.2 0) (22 + v) (nI (c + 1)) j = nI (layO b v c j)
  unfold layO
  by_cases e : j = 22 + v
  · rw [e, pk_us, if_pos rfl]
  · rw [pk_un e, if_neg e]
    exact hu j
theorem kt_lay {u : TU} {b : Nat → Nat} (h : KT u b) (v c : Nat) : KT (uLay u v c) (layO b v c) := kt_st (b := b) (u := uLay u v c) (st_lay b v c) h
theorem unlay {u u' : TU} {b : Nat → Nat} {v c : Nat} (hu : BD u b) (hf : b (22 + v) = 0) (h : TK (uLay u v c) u') (hk : KT u' (layO b v c)) : TK u (tsa u' 0 (upd (u'.2 0) (22 + v) (nI 0))) ∧ KT (tsa u' 0 (upd (u'.2 0) (22 + v) (nI 0))) b := by
  obtain ⟨g, rfl⟩ := h
  have e : tsa (tsa (uLay u v c) 18 g) 0 (upd ((tsa (uLay u v c) 18 g).2 0) (22 + v) (nI 0)) = tsa u 18 g := by
    show (u.1, fun j => if j = 0 then upd (upd (u.2 0) (22 + v) (nI (c + 1))) (22 + v) (nI 0) else if j = 18 then g else if j = 0 then upd (u.2 0) (22 + v) (nI (c + 1)) else u.2 j) = (u.1, fun j => if j = 18 then g else u.2 j)
    congr 1
    funext j
    by_cases e0 : j = 0
    · subst e0
      rw [if_pos rfl, if_neg (by decide)]
      funext i
      by_cases ei : i = 22 + v
      · rw [ei, pk_us, hu, hf]
      · rw [pk_un ei, pk_un ei]
    · rw [if_neg e0, if_neg e0]
  rw [e]
  exact ⟨⟨g, rfl⟩, kt_st (st_lay b v c).sy hk⟩
theorem fr_lay {b : Nat → Nat} {v c w : Nat} (h : ¬ w = v) : fr (layO b v c) w = fr b w := by
  unfold fr layO
  rw [if_neg (by omega)]
theorem fr_layS {b : Nat → Nat} {v c : Nat} : fr (layO b v c) v = false := by
  unfold fr layO
  rw [if_pos rfl]
  simp
theorem vd_lay {b : Nat → Nat} {part v c : Nat} (h : Vd b part) (h9 : b 0 ≤ 9) : Vd (layO b v c) (nd part (1 <<< v)) := by
  refine ⟨by rw [layO_n b v c (by omega)]; exact nd_lt h.1, fun u hu => ?_, fun u w hu hw hb hf => ?_⟩
  · rw [nd_bit, sh1_bit] at hu
    simp at hu
    rw [fr_lay hu.2]
    exact h.2.1 u hu.1
  · rw [nd_bit, sh1_bit] at hu ⊢
    simp at hu ⊢
    have hwv : ¬ w = v := fun e => by rw [e, fr_layS] at hf; cases hf
    have hu0 := bit_lt h.1 hu.1
    rw [layO_n b v c (by omega)] at hw hb
    rw [fr_lay hwv] at hf
    exact ⟨h.2.2 u w hu.1 hw hb hf, hwv⟩
theorem vd_rch {b : Nat → Nat} {S v : Nat} (h : Vd b S) (h9 : b 0 ≤ 9) (hv : S.testBit v = true) : Vd b (rch b v S) := by
  have hs9 : S < 512 := Nat.lt_of_lt_of_le h.1 (Nat.pow_le_pow_right (by omega) h9)
  have hv0 := bit_lt h.1 hv
  have hsub : ∀ i, (rch b v S).testBit i = true → S.testBit i = true := fun i hi => rch_sub hv hi
  exact ⟨lt_of_sub h.1 hsub, fun u hu => h.2.1 u (hsub u hu), fun u w hu hw hb hf => rch_closed (by omega) hs9 (bit_lt h.1 (hsub u hu)) hu (h.2.2 u w (hsub u hu) hw hb hf) hb⟩
theorem freeS_bit (b : Nat → Nat) (i : Nat) : (freeS b).testBit i = (decide (i < b 0) && fr b i) := bset_bit _ _ _
theorem vd_free (b : Nat → Nat) : Vd b (freeS b) := by
  refine ⟨bset_lt _ (Nat.le_refl _), fun v hv => ?_, fun u w _ hw _ hf => ?_⟩
  · rw [freeS_bit] at hv
    simp at hv
    exact hv.2
  · rw [freeS_bit]
    simp [hw, hf]
theorem wb_lay {b : Nat → Nat} (h : WB b) {v c : Nat} (hc : c < b 1) : WB (layO b v c) := by
  obtain ⟨h1, h2, h3, h4, h5, h6, h7, h8⟩ := h
  refine ⟨?_, ?_, ?_, ?_, fun k hk => ?_, fun k hk => ?_, fun k hk => ?_, fun k hk => ?_⟩
  · rw [layO_n b v c (by omega)]; exact h1
  · rw [layO_n b v c (by omega)]; exact h2
  · rw [layO_n b v c (by omega)]; exact h3
  · rw [layO_n b v c (by omega)]; exact h4
  · rw [layO_n b v c (by omega), layO_n b v c (by omega)]; exact h5 k hk
  · rw [layO_n b v c (by omega), layO_n b v c (by omega)]; exact h6 k hk
  · rw [layO_n b v c (k := 1) (by omega)]
    unfold layO
    by_cases e : 22 + k = 22 + v
    · rw [if_pos e]; omega
    · rw [if_neg e]; exact h7 k hk
  · rw [layO_n b v c (k := 1) (by omega)]
    unfold layO
    by_cases e : 31 + k = 22 + v
    · rw [if_pos e]; omega
    · rw [if_neg e]; exact h8 k hk
theorem wp_lay {b : Nat → Nat} (h : WP b) (v c : Nat) : WP (layO b v c) := by
  unfold WP
  rw [layO_n b v c (by omega), layO_n b v c (by omega)]
  exact h
theorem sy_lay {b : Nat → Nat} (h : SY b) (h9 : b 0 ≤ 9) (v c : Nat) : SY (layO b v c) := sy_congr (sg_lay h9 v c) h
theorem tog_eq {f g : Nat} {b : Nat → Nat} {S m : Nat} (h9 : b 0 ≤ 9) (hS : S < 512) (h1 : pop S ≤ f) (h2 : pop S ≤ g) : tog f b S m = tog g b S m := by
  refine tgA_congr _ _ (fun p hp => ?_)
  obtain ⟨q1, q2, q3⟩ := pts_mem hS _ hS (fun _ h => h) p hp
  have := pop_mono q1
  exact gv_eq f g b p m h9 q2 (by omega) (by omega)
theorem G_s {b : Nat → Nat} {part m : Nat} (h9 : b 0 ≤ 9) (hp : part < 512) : G b part m = gfin (scV (tog 9) b part m (b 0)) := by
  have e : scV (tog 8) b part m (b 0) = scV (tog 9) b part m (b 0) := scV_congr _ (fun v c hv hc => by
    have hb := scS_bit hc
    have h3 := pop_less (S := part) (by omega) hb
    have h4 := pop_le part hp
    exact tog_eq (by rw [layO_n b v c (by omega)]; exact h9) (nd_lt hp) (by omega) (by omega))
  show gv (8 + 1) b part m = _
  rw [gv_s, e]
theorem G_gb {b : Nat → Nat} (hS : SY b) (hW : WB b) {part : Nat} (hp : part < 2 ^ b 0) (m : Nat) : GB 9 (G b part m) := by
  obtain ⟨h1, h2, h3⟩ := gv_gb 9 b part m hS hW.2.1 hW.2.2.2.1 hp
  have := pop_le part (Nat.lt_of_lt_of_le hp (Nat.pow_le_pow_right (by omega) hW.2.1))
  exact ⟨h1, by unfold G; omega, by unfold G; omega⟩
theorem tog_gb {b : Nat → Nat} (hS : SY b) (hW : WB b) {S : Nat} (hp : S < 2 ^ b 0) (m : Nat) : GB (pop S) (tog 9 b S m) := by
  have hp9 : S < 512 := Nat.lt_of_lt_of_le hp (Nat.pow_le_pow_right (by omega) hW.2.1)
  have h := tgA_gb (g := fun p => gv 9 b p m) hS hp hW.2.1 (fun p q1 q2 => gv_gb 9 b p m hS hW.2.1 hW.2.2.2.1 (lt_of_sub hp q1)) S hp9 (rcl_self b S) 0 (0, 0, 0) ⟨(by decide : (0 : Nat) < 32), Nat.zero_le _, Nat.zero_le _⟩
  rw [Nat.zero_add] at h
  exact h
/-- bits of a complement -/
theorem not_bit {S v : Nat} (hS : S < 2 ^ 32) (hv : v < 32) : ((nI S ^^^ (-1)) >>> (nI v &&& 31)) &&& nI 1 = nI (if (!S.testBit v) = true then 1 else 0) := by
  apply Int32.toBitVec_inj.1
  show ((nI S ^^^ (-1)) >>> (nI v &&& 31)).toBitVec &&& 1#32 = BitVec.ofNat 32 (if (!S.testBit v) = true then 1 else 0)
  rw [Int32.toBitVec_shiftRight]
  show ((BitVec.ofNat 32 S ^^^ BitVec.allOnes 32).sshiftRight' ((nI v &&& 31).toBitVec.smod 32)) &&& 1#32 = _
  rw [BitVec.sshiftRight_eq', nb_sl v hv]
  apply BitVec.eq_of_getLsbD_eq
  intro i hi
  rw [BitVec.getLsbD_and, BitVec.getLsbD_sshiftRight]
  by_cases e : i = 0
  · subst e
    have h1 : (1#32).getLsbD 0 = true := by decide
    rw [h1, Bool.and_true, Nat.add_zero, if_pos hv, BitVec.getLsbD_xor, BitVec.getLsbD_ofNat, BitVec.getLsbD_allOnes]
    cases S.testBit v
    · simp [hv]
    · simp [hv]
  · have h1 : (1#32).getLsbD i = false := by
      rw [BitVec.getLsbD_one]
      simp [e]
    rw [h1, Bool.and_false]
    cases S.testBit v
    · simp [BitVec.getLsbD_one, e]
    · simp
