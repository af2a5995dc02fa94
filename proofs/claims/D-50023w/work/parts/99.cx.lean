/-! the component and the twin as they begin -/
def k0B : BT := updN (updN (updN kzero 0 1) 1 1) 4 1
theorem k0_0 : k0B 0 = 1 := rfl
theorem k0_1 : k0B 1 = 1 := rfl
theorem k0_4 : k0B 4 = 1 := rfl
theorem k0_n {j : Nat} (h0 : j ≠ 0) (h1 : j ≠ 1) (h4 : j ≠ 4) : k0B j = 0 := by
  unfold k0B
  rw [updN_n h4, updN_n h1, updN_n h0]
  rfl
theorem k0_vb : VB k0B := by
  refine ⟨by decide, by decide, by decide, by decide, rfl, fun v hv => ?_, fun j hj => k0_n (by omega) (by omega) (by omega), by decide⟩
  by_cases e : v = 0
  · rw [e]; decide
  · rw [k0_n (by omega) (by omega) (by omega)]; exact Nat.two_pow_pos _
theorem k0_wa : WA k0B := wa_vb k0_vb (by decide)
/-- the state as it begins -/
def sB0 : SS := (k0B, [], fun _ => none, [], -1, [])
theorem BC.cp0 {h g : AH} {s0 a gr : Nat} {b : BT} {cap : Nat} (h3 : b 3 = 0) (hq : ∀ q c, s0 ≤ q → h q = some c → g q = some c) (hb : BC h s0 a gr b cap) : BC g s0 a gr b cap := by
  obtain ⟨ca, ba, ac, a0, a1, li, el, mo, fc, fb, f, g0, e1, e2, e3, e4, e5, e6, e7, e8, g1, g2, g3⟩ := hb
  exact ⟨ca, ba, ac, a0, a1, li, el, mo, fc, fb, f, g0, hq _ _ (by omega) e1, hq _ _ (by omega) e2, hq _ _ (by omega) e3, hq _ _ (by omega) e4, hq _ _ (by omega) e5, hq _ _ (by omega) e6, hq _ _ (by omega) e7, hq _ _ (by omega) e8, g1, fun k hk => by omega, g3⟩
def u0C (o : Nat) (fb : Nat → Int32) : CU := (fun i => if i = 1 then -1 else 0, fun j => if j = 2 then fb else fun _ => 0, fun _ => 0, fun _ _ => none, o + 17)
theorem cfx_16 {i : Nat} (h : cfx i = true) : i ≤ 16 ∨ 28 ≤ i ∧ i ≤ 33 := by
  unfold cfx at h
  simp at h
  exact h
theorem ch_ext {o : Nat} {u : CU} {hF : AH} (h : ∀ i, cfx i = true → ∃ c, ccell o u i = some c ∧ hF (o + i) = some c) : hF = ch o u (fun a => if o ≤ a ∧ cfx (a - o) = true then none else hF a) ∧ Sep o (fun a => if o ≤ a ∧ cfx (a - o) = true then none else hF a) := by
  refine ⟨?_, fun i hi => if_pos ⟨by omega, by rw [Nat.add_sub_cancel_left]; exact hi⟩⟩
  funext a
  unfold ch
  by_cases e : a < o
  · rw [if_pos e]
    show hF a = if o ≤ a ∧ cfx (a - o) = true then none else hF a
    rw [if_neg (fun z => by omega)]
  · rw [if_neg e]
    cases q : ccell o u (a - o) with
    | none =>
      show hF a = if o ≤ a ∧ cfx (a - o) = true then none else hF a
      rw [if_neg (fun z => ?_)]
      obtain ⟨c, hc, -⟩ := h _ z.2
      rw [q] at hc
      cases hc
    | some c =>
      obtain ⟨d, hd, hd2⟩ := h _ (ccell_fx (o := o) (u := u) (by rw [q]; simp))
      rw [q] at hd
      cases hd
      rw [show o + (a - o) = a by omega] at hd2
      exact hd2
set_option maxRecDepth 100000 in
theorem co_init {γ : Gm} (hG : GF γ) (l : Launch) {h : AH} {o : Nat} (hS : GSB γ) {mi : Nat} (hB9 : GBO γ mi) (hOB : AOK γ "ColourDuel$Board") (hAO : ∀ U, γ.X U → (Cond.arrayOver (.array .int)).before #[] U = true) (eo : h o = some (.inr (0, [.null, .null, .null, .null, .null, .int 0, .int 0, .null]))) : MX γ l yX1_init cX1_init 1 none 19 423 33 197842 [.ref o] h (o + 1) (fun v9 h' sz' => v9 = none ∧ sz' = o + 34 ∧ (∀ q, q < o → h' q = h q) ∧ ∃ u g, h' = ch o u g ∧ CS o (o + 34) u g 0 sB0) NX := by
  refine mx_start hG (by decide) (Nat.le_of_ble_eq_true rfl) (fun x C => ?_)
  have hT := hS.1
  refine aw_aload_n C rfl rfl dX1_init_0 ?_
  refine aw_objInit C q141 q142 q143 (Nat.le_of_ble_eq_true rfl) (Nat.le_of_ble_eq_true rfl) dX1_init_1 ?_
  refine aw_aload_n C rfl rfl dX1_init_4 ?_
  refine aw_new C ck1 (fs := [.null, .null, .null, .null, .null, .null, .int 0, .int 0, .null]) q144 q145 q96 (by decide) (by dsimp only; omega) (by dsimp only; omega) dX1_init_5 ?_
  refine aw_dup C rfl dX1_init_8 ?_
  refine aw_aload_n C rfl rfl dX1_init_9 ?_
  refine aw_callI C (se_init hG l hAO (o := o) (hset_s _ _ _) (Nat.lt_succ_self (o + 1))) q146 q147 q96 q148 rfl (n9 := 1) (by decide +kernel) rfl (Nat.le_of_ble_eq_true rfl) (Nat.le_of_ble_eq_true rfl) (by dsimp only; omega) (by dsimp only; omega) rfl (Nat.le_of_ble_eq_true rfl) dX1_init_10 (fun _ _ _ z => z.elim) (fun v9 h1 s1 hp7 => ?_)
  obtain ⟨rfl, rfl, f1, p1, a1, a2, a3, a4, a5, fb, a6, a7⟩ := hp7
  refine aw_putfF C ck0 0 (by decide) q664 (fun _ z => z) rfl rfl rfl (ty := (.object "ColourDuel$Search")) rfl rfl rfl ((f1 o (by omega) (by omega)).trans ((hset_n _ _ (by omega)).trans eo)) (show 0 < 8 by decide) dX1_init_13 ?_
  refine aw_aload_n C rfl rfl dX1_init_16 ?_
  refine aw_new C ck2 (fs := [.null, .null, .null, .null, .null, .int 0, .int 0]) q186 q187 q97 (by decide) (by dsimp only; omega) (by dsimp only; omega) dX1_init_17 ?_
  refine aw_dup C rfl dX1_init_20 ?_
  refine aw_callS C (co_plain hG l) q188 q189 q95 q190 (n9 := 0) (by decide +kernel) rfl (Nat.le_of_ble_eq_true rfl) (Nat.le_of_ble_eq_true rfl) (by dsimp only; omega) (by dsimp only; omega) rfl (Nat.le_of_ble_eq_true rfl) dX1_init_21 (fun _ _ _ z => z.elim) (fun v9 h2 s2 hp7 => ?_)
  obtain ⟨rfl, rfl, f2, b1, ⟨fl, b2, b3, b4⟩, b5⟩ := hp7
  refine aw_stk (show _ = [Value.ref (o + 18), .ref (o + 17), .ref (o + 17), .ref o] from rfl) ?_
  refine aw_callI C (bo_init hG l hB9.1.1 hB9.2.2 (a := o + 17) (by omega) ((f2 _ (by omega)).trans (hset_s _ _ _))) q231 q232 q97 q233 rfl (n9 := 1) (by decide +kernel) rfl (Nat.le_of_ble_eq_true rfl) (Nat.le_of_ble_eq_true rfl) (by dsimp only; omega) (by dsimp only; omega) rfl (Nat.le_of_ble_eq_true rfl) dX1_init_24 (fun _ _ _ z => z.elim) (fun v9 h3 s3 hp7 => ?_)
  obtain ⟨rfl, rfl, hBN⟩ := hp7
  obtain ⟨bn1, bn2, -⟩ := id hBN
  refine aw_dom (fun hD3 => ?_)
  refine aw_putf C ck0 1 (by decide) q665 (fun _ z => z) rfl rfl (ty := (.object "ColourDuel$Board")) rfl rfl ((bn1 o (by omega) (by omega)).trans ((f2 o (by omega)).trans ((hset_n _ _ (by omega)).trans (hset_s _ _ _)))) (show 1 < 8 by decide) dX1_init_27 ?_
  refine aw_aload_n C rfl rfl dX1_init_30 ?_
  refine aw_new C ck15 (fs := [.null, .int 0, .int 0]) q644 q645 q119 (by decide) (by dsimp only; omega) (by dsimp only; omega) dX1_init_31 ?_
  refine aw_dup C rfl dX1_init_34 ?_
  refine aw_callIP C (dq_init hG l hB9.1.1 (hset_s _ _ _) (by omega)) q646 q647 q119 q648 rfl (n9 := 0) (by decide +kernel) rfl (Nat.le_of_ble_eq_true rfl) (Nat.le_of_ble_eq_true rfl) (by dsimp only; omega) (by dsimp only; omega) rfl (Nat.le_of_ble_eq_true rfl) dX1_init_35 ?_
  refine aw_putfF C ck0 2 (by decide) q666 (fun _ z => z) rfl rfl rfl (ty := (.object "java/util/ArrayDeque")) rfl rfl rfl ((hset_n _ _ (by omega)).trans ((hset_n _ _ (by omega)).trans ((hset_n _ _ (by omega)).trans (hset_s _ _ _)))) (show 2 < 8 by decide) dX1_init_38 ?_
  refine aw_aload_n C rfl rfl dX1_init_41 ?_
  refine aw_iconst C (v := nI 2) (by decide) dX1_init_42 ?_
  refine aw_newq C (t := 7) (by decide) rfl hOB q186 (by decide) (by dsimp only; omega) (by dsimp only; omega) dX1_init_43 ?_
  refine aw_putfF C ck0 3 (by decide) q667 (fun _ z => z) rfl rfl rfl (ty := (.array (.object "ColourDuel$Board"))) rfl rfl rfl ((hset_n _ _ (by omega)).trans (hset_s _ _ _)) (show 3 < 8 by decide) dX1_init_46 ?_
  refine aw_aload_n C rfl rfl dX1_init_49 ?_
  refine aw_sipush C (v := nI 500) (by decide) dX1_init_50 ?_
  refine aw_newB C q356 (by decide) (by dsimp only; omega) (by dsimp only; omega) dX1_init_53 ?_
  refine aw_putfF C ck0 4 (by decide) q669 (fun _ z => z) rfl rfl rfl (ty := (.array .byte)) rfl rfl rfl ((hset_n _ _ (by omega)).trans (hset_s _ _ _)) (show 4 < 8 by decide) dX1_init_55 ?_
  refine aw_aload_n C rfl rfl dX1_init_58 ?_
  refine aw_iconst C (v := -1) (by decide) dX1_init_59 ?_
  refine aw_putf C ck0 6 (by decide) q671 (fun _ z => z) rfl rfl (ty := .int) rfl rfl (hset_s _ _ _) (show 6 < 8 by decide) dX1_init_60 ?_
  refine aw_aload_n C rfl rfl dX1_init_63 ?_
  refine aw_new C ck13 (fs := [.null, .int 0, .int 0, .int 0]) q662 q325 q108 (by decide) (by dsimp only; omega) (by dsimp only; omega) dX1_init_64 ?_
  refine aw_dup C rfl dX1_init_67 ?_
  refine aw_callIP C (sb_init hG l hT (by omega) (hset_s _ _ _)) q663 q327 q108 q328 rfl (n9 := 0) (by decide +kernel) rfl (Nat.le_of_ble_eq_true rfl) (Nat.le_of_ble_eq_true rfl) (by dsimp only; omega) (by dsimp only; omega) rfl (Nat.le_of_ble_eq_true rfl) dX1_init_68 ?_
  refine aw_putfF C ck0 7 (by decide) q672 (fun _ z => z) rfl rfl rfl (ty := (.object "java/lang/StringBuilder")) rfl rfl rfl ((hset_n _ _ (by omega)).trans ((hset_n _ _ (by omega)).trans ((hset_n _ _ (by omega)).trans (hset_s _ _ _)))) (show 7 < 8 by decide) dX1_init_71 ?_
  refine aw_dom (fun hDF => ?_)
  refine aw_gh (fun hF ehF => ?_)
  have lo3 : ∀ q, q < o + 28 → q ≠ o → hF q = h3 q := fun q q1 q2 => by
    rw [ehF]
    iterate 30 first
      | rw [hset_n _ _ (by omega)]
      | skip
  have e00 : hF o = some (.inr (0, cfs o (u0C o fb))) := by rw [ehF]; exact hset_s _ _ _
  have e28 : hF (o + 28) = some (.inr (15, hfs o (u0C o fb))) := by
    rw [ehF]
    iterate 30 first
      | done
      | exact hset_s _ _ _
      | rw [hset_n _ _ (by omega)]
  have e29 : hF (o + 29) = some (rfs 4 17 (fun _ => none)) := by
    rw [ehF]
    iterate 30 first
      | done
      | exact hset_s _ _ _
      | rw [hset_n _ _ (by omega)]
  have e30 : hF (o + 30) = some (rfs 7 2 (fun _ => none)) := by
    rw [ehF]
    iterate 30 first
      | done
      | exact hset_s _ _ _
      | rw [hset_n _ _ (by omega)]
  have e31 : hF (o + 31) = some (.inl (1, 500, .inl (fun _ => 0))) := by
    rw [ehF]
    iterate 30 first
      | done
      | exact hset_s _ _ _
      | rw [hset_n _ _ (by omega)]
  have e32 : hF (o + 32) = some (.inr (13, wfs o (u0C o fb))) := by
    rw [ehF]
    iterate 30 first
      | done
      | exact hset_s _ _ _
      | rw [hset_n _ _ (by omega)]
  have e33 : hF (o + 33) = some (.inl (1, 16, .inl (fun _ => 0))) := by
    rw [ehF]
    iterate 30 first
      | done
      | exact hset_s _ _ _
      | rw [hset_n _ _ (by omega)]
  clear ehF
  have lo1 : ∀ q, o < q → q < o + 17 → hF q = h1 q := fun q q1 q2 => (lo3 q (by omega) (by omega)).trans ((bn1 q (by omega) (by omega)).trans ((f2 q (by omega)).trans ((hset_n _ _ (by omega)).trans (hset_n _ _ (by omega)))))
  have hx := ch_ext (o := o) (u := u0C o fb) (hF := hF) (fun i hi => by
    rcases cfx_16 hi with h16 | ⟨h28, h33⟩
    · by_cases i0 : i = 0
      · rw [i0]; exact ⟨_, rfl, e00⟩
      · have l1 := lo1 (o + i) (by omega) (by omega)
        rw [l1]
        by_cases r : 6 ≤ i ∧ i < 16
        · obtain ⟨d, rfl⟩ : ∃ d, i = 6 + d := ⟨i - 6, by omega⟩
          have z := a5 d (by omega)
          rw [show o + (6 + d) = o + 1 + 1 + 3 + 1 + d by omega]
          refine ⟨_, ?_, z⟩
          unfold ccell
          rw [if_pos r]
          show some (Sum.inl (0, 9, Sum.inl (if 4 + (6 + d) = 2 then fb else fun _ => 0))) = _
          rw [if_neg (by omega)]
        · obtain rfl | rfl | rfl | rfl | rfl | rfl : i = 1 ∨ i = 2 ∨ i = 3 ∨ i = 4 ∨ i = 5 ∨ i = 16 := by omega
          · exact ⟨_, rfl, p1⟩
          · exact ⟨_, rfl, a1⟩
          · exact ⟨_, rfl, a2⟩
          · exact ⟨_, rfl, a3⟩
          · exact ⟨_, rfl, a4⟩
          · exact ⟨_, rfl, a6⟩
    · obtain rfl | rfl | rfl | rfl | rfl | rfl : i = 28 ∨ i = 29 ∨ i = 30 ∨ i = 31 ∨ i = 32 ∨ i = 33 := by omega
      · exact ⟨_, rfl, e28⟩
      · exact ⟨_, rfl, e29⟩
      · exact ⟨_, rfl, e30⟩
      · exact ⟨_, rfl, e31⟩
      · exact ⟨_, rfl, e32⟩
      · exact ⟨_, rfl, e33⟩)
  have gq : ∀ q, o + 17 ≤ q → q < o + 28 → (if o ≤ q ∧ cfx (q - o) = true then none else hF q) = h3 q := fun q q1 q2 => by
    rw [if_neg (fun z => by have := cfx_16 z.2; omega)]
    exact lo3 q q2 (by omega)
  refine aw_vret C rfl dX1_init_74 (by omega) (by omega) ⟨rfl, rfl, fun q hq => (lo3 q (by omega) (by omega)).trans ((bn1 q (by omega) (by omega)).trans ((f2 q (by omega)).trans ((hset_n _ _ (by omega)).trans ((hset_n _ _ (by omega)).trans ((f1 q (by omega) (by omega)).trans (hset_n _ _ (by omega))))))), u0C o fb, _, hx.1, hx.2, by omega, ⟨⟨0, Nat.le_refl _, rfl, fun i hi => ⟨0, Nat.le_refl _, rfl⟩, a7⟩, fun gr e => by cases e⟩, ⟨o + 18, 8, ?_, ?_, by decide⟩, ⟨0, [], ⟨by decide, by decide, rfl, rfl, fun i hi => absurd hi (Nat.not_lt_zero i)⟩, rfl, fun i hi => absurd hi (Nat.not_lt_zero i)⟩, fun i _ => Or.inl ⟨rfl, rfl⟩, ⟨rfl, Nat.zero_le _, fun i hi => absurd hi (Nat.not_lt_zero i)⟩, rfl, ⟨rfl, Nat.zero_le _, fun i hi => absurd hi (Nat.not_lt_zero i)⟩⟩
  · have bc := BNew.bc (b := k0B) (s1 := o + 17) hBN (by omega) (Nat.le_refl _) (by omega) rfl (fun v _ => k0_n (by omega) (by omega) (by omega)) (fun v _ => k0_n (by omega) (by omega) (by omega))
    have hh : hset h3 (o + 17) (.inr (2, [.ref (o + 18), .ref (o + 18 + 3), .ref (o + 18 + 3 + 1), .ref (o + 18 + 3 + 2), .ref (o + 18 + 3 + 5), .int (nI (k0B 2)), .int 0])) = h3 := hset_self bn2
    have bc2 : BC h3 (o + 17) (o + 17) (o + 18) k0B 8 := by rw [← hh]; exact bc
    exact (bc2.cp0 rfl (fun q c q1 q2 => (gq q q1 (hD3.lt q2)).trans q2)).s (Nat.zero_le _)
  · have z0 : edg sB0.1 = 0 := edg_0 (fun j hj => k0_n (by omega) (by omega) (by omega))
    refine ⟨o + 18 + 1, o + 18 + 2, fl, fun _ => 0, ?_, ?_, ?_, fun v hv => ?_, fun v hv => ?_⟩
    · rw [z0]
      exact (gq (o + 18) (by omega) (by omega)).trans ((bn1 _ (by omega) (by omega)).trans b1)
    · exact (gq (o + 18 + 1) (by omega) (by omega)).trans ((bn1 _ (by omega) (by omega)).trans b2)
    · exact (gq (o + 18 + 2) (by omega) (by omega)).trans ((bn1 _ (by omega) (by omega)).trans b5)
    · by_cases e : v = 0
      · rw [e]; exact b3
      · have kn : sB0.1 (4 + v) = 0 := k0_n (by omega) (by omega) (by omega)
        rw [b4 v e, kn]; rfl
    · have kn : sB0.1 (13 + v) = 0 := k0_n (by omega) (by omega) (by omega)
      rw [kn]; rfl

set_option maxRecDepth 100000 in
theorem tw_init {γ : Gm} (hG : GF γ) (l : Launch) {h : AH} {m : Nat} (em : h m = some (.inr (5, [.null, .null, .null, .null, .null, .null, .int 0, .int 0, .null, .int 0, .int 0, .int 0, .int 0, .int 0, .int 0, .int 0, .int 0, .int 0, .null, .null, .null, .int 0]))) : MX γ l yX6_init cX6_init 1 none 1 12 10 134293 [.ref m] h (m + 1) (fun v9 h' sz' => v9 = none ∧ sz' = m + 11 ∧ (∀ q, q < m → h' q = h q) ∧ ∃ u, TS u sB0 ∧ ∀ i, i ≤ 10 → h' (m + i) = tcell m u i) NX := by
  refine mx_start hG (by decide) (Nat.le_of_ble_eq_true rfl) (fun x C => ?_)
  refine aw_aload_n C rfl rfl dX6_init_0 ?_
  refine aw_objInit C q1815 q142 q143 (Nat.le_of_ble_eq_true rfl) (Nat.le_of_ble_eq_true rfl) dX6_init_1 ?_
  refine aw_aload_n C rfl rfl dX6_init_4 ?_
  refine aw_sipush C (v := nI 4136) (by decide) dX6_init_5 ?_
  refine aw_newI C q185 (by decide) (by dsimp only; omega) (by dsimp only; omega) dX6_init_8 ?_
  refine aw_putfF C ck5 0 (by decide) q1818 (fun _ z => z) rfl rfl rfl (ty := (.array .int)) rfl rfl rfl ((hset_n _ _ (by omega)).trans em) (show 0 < 22 by decide) dX6_init_10 ?_
  refine aw_aload_n C rfl rfl dX6_init_13 ?_
  refine aw_sipush C (v := nI 4136) (by decide) dX6_init_14 ?_
  refine aw_newI C q185 (by decide) (by dsimp only; omega) (by dsimp only; omega) dX6_init_17 ?_
  refine aw_putfF C ck5 1 (by decide) q1819 (fun _ z => z) rfl rfl rfl (ty := (.array .int)) rfl rfl rfl ((hset_n _ _ (by omega)).trans (hset_s _ _ _)) (show 1 < 22 by decide) dX6_init_19 ?_
  refine aw_aload_n C rfl rfl dX6_init_22 ?_
  refine aw_sipush C (v := nI 4136) (by decide) dX6_init_23 ?_
  refine aw_newI C q185 (by decide) (by dsimp only; omega) (by dsimp only; omega) dX6_init_26 ?_
  refine aw_putfF C ck5 2 (by decide) q1820 (fun _ z => z) rfl rfl rfl (ty := (.array .int)) rfl rfl rfl ((hset_n _ _ (by omega)).trans (hset_s _ _ _)) (show 2 < 22 by decide) dX6_init_28 ?_
  refine aw_aload_n C rfl rfl dX6_init_31 ?_
  refine aw_ldc C q1816 dX6_init_32 ?_
  refine aw_top ((show (33088 : Int32) = nI 33088 from rfl)) ?_
  refine aw_newI C q185 (by decide) (by dsimp only; omega) (by dsimp only; omega) dX6_init_34 ?_
  refine aw_putfF C ck5 3 (by decide) q1821 (fun _ z => z) rfl rfl rfl (ty := (.array .int)) rfl rfl rfl ((hset_n _ _ (by omega)).trans (hset_s _ _ _)) (show 3 < 22 by decide) dX6_init_36 ?_
  refine aw_aload_n C rfl rfl dX6_init_39 ?_
  refine aw_sipush C (v := nI 8272) (by decide) dX6_init_40 ?_
  refine aw_newI C q185 (by decide) (by dsimp only; omega) (by dsimp only; omega) dX6_init_43 ?_
  refine aw_putfF C ck5 4 (by decide) q1822 (fun _ z => z) rfl rfl rfl (ty := (.array .int)) rfl rfl rfl ((hset_n _ _ (by omega)).trans (hset_s _ _ _)) (show 4 < 22 by decide) dX6_init_45 ?_
  refine aw_aload_n C rfl rfl dX6_init_48 ?_
  refine aw_iconst C (v := nI 2) (by decide) dX6_init_49 ?_
  refine aw_newZ C q1885 (by decide) (by dsimp only; omega) (by dsimp only; omega) dX6_init_50 ?_
  refine aw_putfF C ck5 5 (by decide) q1823 (fun _ z => z) rfl rfl rfl (ty := (.array .boolean)) rfl rfl rfl ((hset_n _ _ (by omega)).trans (hset_s _ _ _)) (show 5 < 22 by decide) dX6_init_52 ?_
  refine aw_aload_n C rfl rfl dX6_init_55 ?_
  refine aw_sipush C (v := nI 500) (by decide) dX6_init_56 ?_
  refine aw_newI C q185 (by decide) (by dsimp only; omega) (by dsimp only; omega) dX6_init_59 ?_
  refine aw_putfF C ck5 8 (by decide) q1826 (fun _ z => z) rfl rfl rfl (ty := (.array .int)) rfl rfl rfl ((hset_n _ _ (by omega)).trans (hset_s _ _ _)) (show 8 < 22 by decide) dX6_init_61 ?_
  refine aw_aload_n C rfl rfl dX6_init_64 ?_
  refine aw_iconst C (v := -1) (by decide) dX6_init_65 ?_
  refine aw_putf C ck5 17 (by decide) q1835 (fun _ z => z) rfl rfl (ty := .int) rfl rfl (hset_s _ _ _) (show 17 < 22 by decide) dX6_init_66 ?_
  refine aw_aload_n C rfl rfl dX6_init_69 ?_
  refine aw_ldc C q1817 dX6_init_70 ?_
  refine aw_top ((show (80000 : Int32) = nI 80000 from rfl)) ?_
  refine aw_newI C q185 (by decide) (by dsimp only; omega) (by dsimp only; omega) dX6_init_72 ?_
  refine aw_putfF C ck5 18 (by decide) q1836 (fun _ z => z) rfl rfl rfl (ty := (.array .int)) rfl rfl rfl ((hset_n _ _ (by omega)).trans (hset_s _ _ _)) (show 18 < 22 by decide) dX6_init_74 ?_
  refine aw_aload_n C rfl rfl dX6_init_77 ?_
  refine aw_bipush C (v := nI 9) (by decide) dX6_init_78 ?_
  refine aw_newI C q185 (by decide) (by dsimp only; omega) (by dsimp only; omega) dX6_init_80 ?_
  refine aw_putfF C ck5 19 (by decide) q1837 (fun _ z => z) rfl rfl rfl (ty := (.array .int)) rfl rfl rfl ((hset_n _ _ (by omega)).trans (hset_s _ _ _)) (show 19 < 22 by decide) dX6_init_82 ?_
  refine aw_aload_n C rfl rfl dX6_init_85 ?_
  refine aw_bipush C (v := nI 14) (by decide) dX6_init_86 ?_
  refine aw_newI C q185 (by decide) (by dsimp only; omega) (by dsimp only; omega) dX6_init_88 ?_
  refine aw_putfF C ck5 20 (by decide) q1838 (fun _ z => z) rfl rfl rfl (ty := (.array .int)) rfl rfl rfl ((hset_n _ _ (by omega)).trans (hset_s _ _ _)) (show 20 < 22 by decide) dX6_init_90 ?_
  refine aw_gh (fun hA ehA => ?_)
  have em9 : hA m = some (.inr (5, [.ref (m + 1), .ref (m + 2), .ref (m + 3), .ref (m + 4), .ref (m + 5), .ref (m + 6), .int 0, .int 0, .ref (m + 7), .int 0, .int 0, .int 0, .int 0, .int 0, .int 0, .int 0, .int 0, .int (-1), .ref (m + 8), .ref (m + 9), .ref (m + 10), .int 0])) := by
    rw [ehA]
    iterate 40 first
      | done
      | exact hset_s _ _ _
      | rw [hset_n _ _ (by omega)]
  have ea9 : hA (m + 1) = some (.inl (0, 4136, .inl (fun _ => 0))) := by
    rw [ehA]
    iterate 40 first
      | done
      | exact hset_s _ _ _
      | rw [hset_n _ _ (by omega)]
  have lA : ∀ q, q < m → hA q = h q := fun q hq => by
    rw [ehA]
    iterate 40 first
      | rw [hset_n _ _ (by omega)]
      | skip
  have ec2 : hA (m + 2) = some (.inl (0, 4136, .inl (fun _ => 0))) := by
    rw [ehA]
    iterate 40 first
      | done
      | exact hset_s _ _ _
      | rw [hset_n _ _ (by omega)]
  have ec3 : hA (m + 3) = some (.inl (0, 4136, .inl (fun _ => 0))) := by
    rw [ehA]
    iterate 40 first
      | done
      | exact hset_s _ _ _
      | rw [hset_n _ _ (by omega)]
  have ec4 : hA (m + 4) = some (.inl (0, 33088, .inl (fun _ => 0))) := by
    rw [ehA]
    iterate 40 first
      | done
      | exact hset_s _ _ _
      | rw [hset_n _ _ (by omega)]
  have ec5 : hA (m + 5) = some (.inl (0, 8272, .inl (fun _ => 0))) := by
    rw [ehA]
    iterate 40 first
      | done
      | exact hset_s _ _ _
      | rw [hset_n _ _ (by omega)]
  have ec6 : hA (m + 6) = some (.inl (3, 2, .inl (fun _ => 0))) := by
    rw [ehA]
    iterate 40 first
      | done
      | exact hset_s _ _ _
      | rw [hset_n _ _ (by omega)]
  have ec7 : hA (m + 7) = some (.inl (0, 500, .inl (fun _ => 0))) := by
    rw [ehA]
    iterate 40 first
      | done
      | exact hset_s _ _ _
      | rw [hset_n _ _ (by omega)]
  have ec8 : hA (m + 8) = some (.inl (0, 80000, .inl (fun _ => 0))) := by
    rw [ehA]
    iterate 40 first
      | done
      | exact hset_s _ _ _
      | rw [hset_n _ _ (by omega)]
  have ec9 : hA (m + 9) = some (.inl (0, 9, .inl (fun _ => 0))) := by
    rw [ehA]
    iterate 40 first
      | done
      | exact hset_s _ _ _
      | rw [hset_n _ _ (by omega)]
  have ec10 : hA (m + 10) = some (.inl (0, 14, .inl (fun _ => 0))) := by
    rw [ehA]
    iterate 40 first
      | done
      | exact hset_s _ _ _
      | rw [hset_n _ _ (by omega)]
  clear ehA
  have lB : ∀ q, q ≠ m + 1 → hA q = hA q := fun q _ => rfl
  refine aw_aload_n C rfl rfl dX6_init_93 ?_
  refine aw_getf C ck5 0 (by decide) q1818 (fun _ z => z) em9 rfl dX6_init_94 ?_
  refine aw_iconst C (v := nI 0) (by decide) dX6_init_97 ?_
  refine aw_iconst C (v := nI 1) (by decide) dX6_init_98 ?_
  refine aw_iastN C ea9 (by decide) (by decide) dX6_init_99 ?_
  refine aw_gh (fun hB ehB => ?_)
  have em9 := (congrFun ehB m).trans ((hset_n _ _ (by omega)).trans em9)
  have lB : ∀ q, q ≠ m + 1 → hB q = hA q := fun q q1 => (congrFun ehB q).trans ((hset_n _ _ q1).trans (lB q q1))
  have ea9 := (congrFun ehB (m + 1)).trans (hset_s _ _ _)
  clear ehB
  refine aw_aload_n C rfl rfl dX6_init_100 ?_
  refine aw_getf C ck5 0 (by decide) q1818 (fun _ z => z) em9 rfl dX6_init_101 ?_
  refine aw_iconst C (v := nI 1) (by decide) dX6_init_104 ?_
  refine aw_iconst C (v := nI 1) (by decide) dX6_init_105 ?_
  refine aw_iastN C ea9 (by decide) (by decide) dX6_init_106 ?_
  refine aw_gh (fun hB ehB => ?_)
  have em9 := (congrFun ehB m).trans ((hset_n _ _ (by omega)).trans em9)
  have lB : ∀ q, q ≠ m + 1 → hB q = hA q := fun q q1 => (congrFun ehB q).trans ((hset_n _ _ q1).trans (lB q q1))
  have ea9 := (congrFun ehB (m + 1)).trans (hset_s _ _ _)
  clear ehB
  refine aw_aload_n C rfl rfl dX6_init_107 ?_
  refine aw_getf C ck5 0 (by decide) q1818 (fun _ z => z) em9 rfl dX6_init_108 ?_
  refine aw_iconst C (v := nI 4) (by decide) dX6_init_111 ?_
  refine aw_iconst C (v := nI 1) (by decide) dX6_init_112 ?_
  refine aw_iastN C ea9 (by decide) (by decide) dX6_init_113 ?_
  refine aw_gh (fun hB ehB => ?_)
  have em9 := (congrFun ehB m).trans ((hset_n _ _ (by omega)).trans em9)
  have lB : ∀ q, q ≠ m + 1 → hB q = hA q := fun q q1 => (congrFun ehB q).trans ((hset_n _ _ q1).trans (lB q q1))
  have ea9 := (congrFun ehB (m + 1)).trans (hset_s _ _ _)
  clear ehB
  refine aw_vret C rfl dX6_init_114 (by omega) (by omega) ?_
  refine ⟨rfl, rfl, fun q hq => (lB q (by omega)).trans (lA q hq), ((fun i => if i = 17 then -1 else 0, fun j => if j = 0 then (upd (upd (upd (fun _ => 0) 0 (nI 1)) 1 (nI 1)) 4 (nI 1)) else fun _ => 0) : TU), ⟨fun j => ?_, k0_wa, ⟨rfl, ⟨Nat.zero_le _, fun k hk => by cases hk⟩, fun i j hi => absurd hi (Nat.not_lt_zero i)⟩, fun i hi => ⟨rfl, fun s hs => by cases hs⟩, ⟨rfl, Nat.zero_le _, fun i hi => absurd hi (Nat.not_lt_zero i)⟩, rfl, ⟨rfl, Nat.zero_le _, fun i hi => absurd hi (Nat.not_lt_zero i)⟩⟩, fun i hi => ?_⟩
  · show (upd (upd (upd (fun _ => 0) 0 (nI 1)) 1 (nI 1)) 4 (nI 1)) j = nI (k0B j)
    by_cases e4 : j = 4
    · rw [e4]; rfl
    · rw [pk_un e4]
      by_cases e1 : j = 1
      · rw [e1]; rfl
      · rw [pk_un e1]
        by_cases e0 : j = 0
        · rw [e0]; rfl
        · rw [pk_un e0, k0_n e0 e1 e4]; rfl
  · obtain rfl | rfl | rfl | rfl | rfl | rfl | rfl | rfl | rfl | rfl | rfl : i = 0 ∨ i = 1 ∨ i = 2 ∨ i = 3 ∨ i = 4 ∨ i = 5 ∨ i = 6 ∨ i = 7 ∨ i = 8 ∨ i = 9 ∨ i = 10 := by omega
    · exact em9
    · exact ea9
    · exact (lB _ (by omega)).trans ec2
    · exact (lB _ (by omega)).trans ec3
    · exact (lB _ (by omega)).trans ec4
    · exact (lB _ (by omega)).trans ec5
    · exact (lB _ (by omega)).trans ec6
    · exact (lB _ (by omega)).trans ec7
    · exact (lB _ (by omega)).trans ec8
    · exact (lB _ (by omega)).trans ec9
    · exact (lB _ (by omega)).trans ec10
