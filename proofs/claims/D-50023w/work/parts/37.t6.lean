/-! the twin: the best move, moves -/
theorem m1_p {m : Nat} (h : m < 2 ^ 30) : (nI m - nI 1 = -1) ↔ m = 0 := by
  rw [show (-1 : Int32) = nI 0 - nI 1 from by decide]
  constructor
  · intro e
    have e2 : nI m = nI 0 := by
      have := congrArg (fun z => z + nI 1) e
      simpa [Int32.sub_add_cancel] using this
    have e3 := congrArg (fun z : Int32 => z.toBitVec.toNat) e2
    have e4 : (nI m).toBitVec.toNat = m % 2 ^ 32 := rfl
    have e5 : (nI 0).toBitVec.toNat = 0 := rfl
    simp only [e4, e5] at e3
    omega
  · rintro rfl
    rfl
theorem m1_n {m : Nat} (h : m < 2 ^ 30) : ¬ nI m = -1 := by
  intro e
  have e3 := congrArg (fun z : Int32 => z.toBitVec.toNat) e
  have e4 : (nI m).toBitVec.toNat = m % 2 ^ 32 := rfl
  have e5 : (-1 : Int32).toBitVec.toNat = 4294967295 := rfl
  simp only [e4, e5] at e3
  omega
theorem stC_y {b : Nat → Nat} {v c : Nat} {p : Nat × Nat} (hb : (cols b v).testBit c = true) (h : p.1 = 0 ∨ p.2 < (BB (layB b v c)).2.1 + b 2) : stC b v p c = (4 * v + c + 1, (BB (layB b v c)).2.1 + b 2) := if_pos ⟨hb, h⟩
theorem stC_n {b : Nat → Nat} {v c : Nat} {p : Nat × Nat} (hb : (cols b v).testBit c = false) : stC b v p c = p := if_neg (fun z => by rw [hb] at z; exact absurd z.1 (by decide))
theorem stC_m {b : Nat → Nat} {v c : Nat} {p : Nat × Nat} (h : ¬ (p.1 = 0 ∨ p.2 < (BB (layB b v c)).2.1 + b 2)) : stC b v p c = p := if_neg (fun z => h z.2)
theorem bwG_y {b : Nat → Nat} {v : Nat} (hv : v < b 0) (h : bwG b (b 0 - v) = bwG b (b 0)) (hw : 0 < winS b v) : bestN b = 4 * v + low (winS b v) + 1 := by
  obtain ⟨d, hd⟩ : ∃ d, b 0 - v = d + 1 := ⟨b 0 - v - 1, by omega⟩
  rw [hd, bwG, show b 0 - (d + 1) = v by omega, if_pos hw] at h
  unfold bestN
  rw [← h, if_pos (by omega)]
theorem bwG_n {b : Nat → Nat} {v : Nat} (hv : v < b 0) (h : bwG b (b 0 - v) = bwG b (b 0)) (hw : winS b v ≤ 0) : bwG b (b 0 - (v + 1)) = bwG b (b 0) := by
  obtain ⟨d, hd⟩ : ∃ d, b 0 - v = d + 1 := ⟨b 0 - v - 1, by omega⟩
  rw [hd, bwG, show b 0 - (d + 1) = v by omega, if_neg (by omega)] at h
  rw [show b 0 - (v + 1) = d by omega]
  exact h
theorem best_p {b : Nat → Nat} (h : bwG b (b 0) = 0) (hp : passW b = true) : bestN b = 101 := by
  unfold bestN
  rw [if_neg (by omega), if_pos hp]
theorem best_l {b : Nat → Nat} (h : bwG b (b 0) = 0) (hp : passW b = false) : bestN b = lastN b (scnV b (b 0)) := by
  unfold bestN
  rw [if_neg (by omega), if_neg (by rw [hp]; decide)]
theorem updN_n {b : Nat → Nat} {i x k : Nat} (h : ¬ k = i) : updN b i x k = b k := if_neg h

set_option maxRecDepth 100000 in
theorem t6_best {γ : Gm} (hG : GF γ) (l : Launch) (o sz : Nat) (u : TU) {b : Nat → Nat} (hu : BD u b) (hA : WA b) (hkt : KT u b)  : MX γ l yX6_best cX6_best 7 (some .int) 26 848 0 0 [.ref o] (th o u) sz (RUi o sz (fun z u' => z = nI (bestN b) - nI 1 ∧ WJ u (b) u')) NX := by
  refine mx_start hG (by decide) (Nat.le_of_ble_eq_true rfl) (fun x C => ?_)
  have hW := hA.w
  have hN := hW.2.1
  have hC3 := hW.2.2.2.1
  have hL9 := hA.l
  have key2 : bwG b (b 0) = 0 → passW b = false → ∀ j v p u1, v ≤ b 0 → b 0 + 1 ≤ v + j → p = scnV b v → p.1 < 64 → p.2 < 64 → WJ u b u1 → AW γ l x (QX γ x 0 0 (RUi o sz (fun z u' => z = nI (bestN b) - nI 1 ∧ WJ u (b) u')) NX) 7 (th o u1) sz 0 0 55 [(0, .ref o), (1, .int (nI p.1 - nI 1)), (2, .int (nI p.2)), (3, .int (nI v))] [] := by
    intro hz hpw j
    induction j with
    | zero => intro v p u1 h1 h2; exact absurd h2 (by omega)
    | succ j ih2 =>
      intro v p u1 h1 h2 hp hp1 hp2 hw
      obtain ⟨hj, hu, hkt⟩ := hw
      have key3 : ∀ j c p u1, v < b 0 → c ≤ b 1 → b 1 + 1 ≤ c + j → p = scnC b v (scnV b v) c → p.1 < 64 → p.2 < 64 → WJ u b u1 → AW γ l x (QX γ x 0 0 (RUi o sz (fun z u' => z = nI (bestN b) - nI 1 ∧ WJ u (b) u')) NX) 7 (th o u1) sz 0 0 75 [(0, .ref o), (1, .int (nI p.1 - nI 1)), (2, .int (nI p.2)), (3, .int (nI v)), (4, .int (nI (cols b v))), (5, .int (nI c))] [] := by
        intro j
        induction j with
        | zero => intro c p u1 gV h1 h2 hp hp1 hp2 hw; exact absurd h2 (by omega)
        | succ j ih3 =>
          intro c p u1 gV h1 h2 hp hp1 hp2 hw
          obtain ⟨hj, hu, hkt⟩ := hw
          have hk9 := cols_lt hW (v := v) (by omega)
          refine aw_iload C rfl dX6_best_75 ?_
          refine aw_aload_n C rfl rfl dX6_best_77 ?_
          refine tw_get C 0 (by decide) q1818 rfl dX6_best_78 ?_
          refine aw_iconst C (v := nI 1) (by decide) dX6_best_81 ?_
          refine tw_ld0 C (by omega) dX6_best_82 ?_
          refine aw_top (hu _) ?_
          refine aw_icmpN_ge C (tgt := 158) (by omega) (by omega) dX6_best_83 (by decide) (fun gC => ?_) (fun gC => ?_)
          · refine aw_iinc1 C rfl (by decide) rfl dX6_best_158 ?_
            refine aw_goto C (tgt := 55) dX6_best_161 (by decide) ?_
            exact aw_lo (ih2 (v + 1) p u1 (by omega) (by omega) (by rw [scnV, hp, show c = b 1 by omega]) hp1 hp2 ⟨hj, hu, hkt⟩) ⟨rfl, rfl, rfl, rfl, trivial⟩
          · refine aw_iload C rfl dX6_best_86 ?_
            refine aw_iload C rfl dX6_best_88 ?_
            refine aw_ishrN C (by omega) (by omega) dX6_best_90 ?_
            refine aw_iconst C (v := nI 1) (by decide) dX6_best_91 ?_
            refine aw_iandBit C dX6_best_92 ?_
            refine aw_iconst C (v := nI 1) (by decide) dX6_best_93 ?_
            refine aw_bit_ne1 C (tgt := 119) dX6_best_94 (by decide) (fun gB => ?_) (fun gB => ?_)
            · refine aw_iconst C (v := -1) (by decide) dX6_best_119 ?_
              refine aw_istore C (by decide) rfl dX6_best_120 ?_
              refine aw_iload C rfl dX6_best_122 ?_
              refine aw_iconst C (v := -1) (by decide) dX6_best_124 ?_
              refine aw_icmp_eq C (tgt := 152) dX6_best_125 (by decide) (fun gE => ?_) (fun gE => ?_)
              · refine aw_iinc1 C rfl (by decide) rfl dX6_best_152 ?_
                refine aw_goto C (tgt := 75) dX6_best_155 (by decide) ?_
                exact aw_lo (ih3 (c + 1) p _ gV (by omega) (by omega) (by first | (rw [scnC, ← hp, stC_n gB]; done) | (have := mt (m1_p (by omega)).mpr gF; rw [scnC, ← hp, stC_m (by omega)]; done)) hp1 hp2 ⟨hj, hu, hkt⟩) ⟨rfl, rfl, rfl, rfl, rfl, rfl, trivial⟩
              · exact absurd rfl gE
            · have hfv := cols_free gB
              refine aw_aload_n C rfl rfl dX6_best_97 ?_
              refine aw_iload_n C rfl rfl dX6_best_98 ?_
              refine aw_iload C rfl dX6_best_99 ?_
              refine tw_callI C (t6_boardIf hG l o sz _ hu hA hkt (v := v) (c := c) (by omega) (by omega) hfv) q2134 q2136 qs87 q120 q2137 (n9 := 2) (by decide +kernel) rfl (Nat.le_of_ble_eq_true rfl) (Nat.le_of_ble_eq_true rfl) (Nat.zero_le _) (Nat.zero_le _) rfl (Nat.le_of_ble_eq_true rfl) dX6_best_101 (fun r u2 hp => ?_)
              obtain ⟨rfl, hj2, hu, hkt⟩ := hp
              have hj := hj.tr hj2
              have hbb := bb_gb (wa_layB hA (v := v) (c := c) (by omega) (by omega)).s (wb_layB hW (v := v) (c := c) (by omega))
              have hbb1 := hbb.1
              have hbb2 := hbb.2.1
              have hbb3 := hbb.2.2
              have hbl := enc_lt (i := BB (layB b v c)) hbb1 (by omega) (by omega)
              refine aw_iconst C (v := nI 5) (by decide) dX6_best_104 ?_
              refine aw_ishrN C (by omega) (by omega) dX6_best_105 ?_
              refine aw_bipush C (v := nI 31) (by decide) dX6_best_106 ?_
              refine aw_iandN C dX6_best_108 ?_
              refine aw_top (show _ = nI (BB (layB b v c)).2.1 from by rw [enc_l hbb1 (by omega)]) ?_
              refine aw_aload_n C rfl rfl dX6_best_109 ?_
              refine tw_get C 0 (by decide) q1818 rfl dX6_best_110 ?_
              refine aw_iconst C (v := nI 2) (by decide) dX6_best_113 ?_
              refine tw_ld0 C (by omega) dX6_best_114 ?_
              refine aw_top (hu _) ?_
              refine aw_iaddN C dX6_best_115 ?_
              refine aw_goto C (tgt := 120) dX6_best_116 (by decide) ?_
              refine aw_istore C (by decide) rfl dX6_best_120 ?_
              refine aw_iload C rfl dX6_best_122 ?_
              refine aw_iconst C (v := -1) (by decide) dX6_best_124 ?_
              refine aw_icmp_eq C (tgt := 152) dX6_best_125 (by decide) (fun gE => ?_) (fun gE => ?_)
              · exact absurd gE (m1_n (by omega))
              · refine aw_iload_n C rfl rfl dX6_best_128 ?_
                refine aw_iconst C (v := -1) (by decide) dX6_best_129 ?_
                refine aw_icmp_eq C (tgt := 142) dX6_best_130 (by decide) (fun gF => ?_) (fun gF => ?_)
                · refine aw_iconst C (v := nI 4) (by decide) dX6_best_142 ?_
                  refine aw_iload_n C rfl rfl dX6_best_143 ?_
                  refine aw_imulN C dX6_best_144 ?_
                  refine aw_iload C rfl dX6_best_145 ?_
                  refine aw_iaddN C dX6_best_147 ?_
                  refine aw_istore_n C rfl (by decide) rfl dX6_best_148 ?_
                  refine aw_iload C rfl dX6_best_149 ?_
                  refine aw_istore_n C rfl (by decide) rfl dX6_best_151 ?_
                  refine aw_iinc1 C rfl (by decide) rfl dX6_best_152 ?_
                  refine aw_goto C (tgt := 75) dX6_best_155 (by decide) ?_
                  exact aw_lo (ih3 (c + 1) _ _ gV (by omega) (by omega) (by rw [scnC, ← hp, stC_y gB (by first | exact Or.inl ((m1_p (by omega)).mp gF) | exact Or.inr (by omega))]) (by dsimp only; omega) (by dsimp only; omega) ⟨hj, hu, hkt⟩) ⟨rfl, congrArg (fun z => some (Value.int z)) (pk_s _), rfl, rfl, rfl, rfl, trivial⟩
                · refine aw_iload C rfl dX6_best_133 ?_
                  refine aw_iload_n C rfl rfl dX6_best_135 ?_
                  refine aw_icmpN_gt C (tgt := 142) (by omega) (by omega) dX6_best_136 (by decide) (fun gM => ?_) (fun gM => ?_)
                  · refine aw_iconst C (v := nI 4) (by decide) dX6_best_142 ?_
                    refine aw_iload_n C rfl rfl dX6_best_143 ?_
                    refine aw_imulN C dX6_best_144 ?_
                    refine aw_iload C rfl dX6_best_145 ?_
                    refine aw_iaddN C dX6_best_147 ?_
                    refine aw_istore_n C rfl (by decide) rfl dX6_best_148 ?_
                    refine aw_iload C rfl dX6_best_149 ?_
                    refine aw_istore_n C rfl (by decide) rfl dX6_best_151 ?_
                    refine aw_iinc1 C rfl (by decide) rfl dX6_best_152 ?_
                    refine aw_goto C (tgt := 75) dX6_best_155 (by decide) ?_
                    exact aw_lo (ih3 (c + 1) _ _ gV (by omega) (by omega) (by rw [scnC, ← hp, stC_y gB (by first | exact Or.inl ((m1_p (by omega)).mp gF) | exact Or.inr (by omega))]) (by dsimp only; omega) (by dsimp only; omega) ⟨hj, hu, hkt⟩) ⟨rfl, congrArg (fun z => some (Value.int z)) (pk_s _), rfl, rfl, rfl, rfl, trivial⟩
                  · refine aw_goto C (tgt := 152) dX6_best_139 (by decide) ?_
                    refine aw_iinc1 C rfl (by decide) rfl dX6_best_152 ?_
                    refine aw_goto C (tgt := 75) dX6_best_155 (by decide) ?_
                    exact aw_lo (ih3 (c + 1) p _ gV (by omega) (by omega) (by first | (rw [scnC, ← hp, stC_n gB]; done) | (have := mt (m1_p (by omega)).mpr gF; rw [scnC, ← hp, stC_m (by omega)]; done)) hp1 hp2 ⟨hj, hu, hkt⟩) ⟨rfl, rfl, rfl, rfl, rfl, rfl, trivial⟩
      refine aw_iload_n C rfl rfl dX6_best_55 ?_
      refine aw_aload_n C rfl rfl dX6_best_56 ?_
      refine tw_get C 0 (by decide) q1818 rfl dX6_best_57 ?_
      refine aw_iconst C (v := nI 0) (by decide) dX6_best_60 ?_
      refine tw_ld0 C (by omega) dX6_best_61 ?_
      refine aw_top (hu _) ?_
      refine aw_icmpN_ge C (tgt := 164) (by omega) (by omega) dX6_best_62 (by decide) (fun gV => ?_) (fun gV => ?_)
      · have hpe : p = scnV b (b 0) := by rw [hp, show v = b 0 by omega]
        refine aw_aload_n C rfl rfl dX6_best_164 ?_
        refine tw_get C 0 (by decide) q1818 rfl dX6_best_165 ?_
        refine aw_iconst C (v := nI 2) (by decide) dX6_best_168 ?_
        refine tw_ld0 C (by omega) dX6_best_169 ?_
        refine aw_top (hu _) ?_
        refine aw_ifN_le C (tgt := 203) (by omega) dX6_best_170 (by decide) (fun gL => ?_) (fun gL => ?_)
        · refine aw_iload_n C rfl rfl dX6_best_203 ?_
          refine aw_iret C rfl dX6_best_204 (Nat.le_refl _) (Nat.le_refl _) ?_
          refine ⟨rfl, _, _, rfl, rfl, ?_, hj, hu, hkt⟩
          rw [best_l hz hpw, ← hpe, lastN]
          first
            | (rw [if_neg (show ¬ (0 < b 2 ∧ (p.1 = 0 ∨ p.2 < (BB b).2.1 + b 2 - 1)) from fun z => by have := z.1; omega)]; done)
            | (rw [if_pos (show 0 < b 2 ∧ (p.1 = 0 ∨ p.2 < (BB b).2.1 + b 2 - 1) from ⟨by omega, Or.inl ((m1_p (by omega)).mp gF)⟩)]; rfl)
            | (rw [if_pos (show 0 < b 2 ∧ (p.1 = 0 ∨ p.2 < (BB b).2.1 + b 2 - 1) from ⟨by omega, Or.inr (by omega)⟩)]; rfl)
            | (rw [if_neg (show ¬ (0 < b 2 ∧ (p.1 = 0 ∨ p.2 < (BB b).2.1 + b 2 - 1)) from fun z => z.2.elim (mt (m1_p (by omega)).mpr gF) (fun z => by omega))]; done)
        · refine aw_iload_n C rfl rfl dX6_best_173 ?_
          refine aw_iconst C (v := -1) (by decide) dX6_best_174 ?_
          refine aw_icmp_eq C (tgt := 200) dX6_best_175 (by decide) (fun gF => ?_) (fun gF => ?_)
          · refine aw_bipush C (v := nI 100) (by decide) dX6_best_200 ?_
            refine aw_istore_n C rfl (by decide) rfl dX6_best_202 ?_
            refine aw_iload_n C rfl rfl dX6_best_203 ?_
            refine aw_iret C rfl dX6_best_204 (Nat.le_refl _) (Nat.le_refl _) ?_
            refine ⟨rfl, _, _, rfl, rfl, ?_, hj, hu, hkt⟩
            rw [best_l hz hpw, ← hpe, lastN]
            first
              | (rw [if_neg (show ¬ (0 < b 2 ∧ (p.1 = 0 ∨ p.2 < (BB b).2.1 + b 2 - 1)) from fun z => by have := z.1; omega)]; done)
              | (rw [if_pos (show 0 < b 2 ∧ (p.1 = 0 ∨ p.2 < (BB b).2.1 + b 2 - 1) from ⟨by omega, Or.inl ((m1_p (by omega)).mp gF)⟩)]; rfl)
              | (rw [if_pos (show 0 < b 2 ∧ (p.1 = 0 ∨ p.2 < (BB b).2.1 + b 2 - 1) from ⟨by omega, Or.inr (by omega)⟩)]; rfl)
              | (rw [if_neg (show ¬ (0 < b 2 ∧ (p.1 = 0 ∨ p.2 < (BB b).2.1 + b 2 - 1)) from fun z => z.2.elim (mt (m1_p (by omega)).mpr gF) (fun z => by omega))]; done)
          · refine aw_aload_n C rfl rfl dX6_best_178 ?_
            refine tw_callI C (t6_board hG l o sz _ hu hA hkt) q2126 q2128 qs86 q120 q2129 (n9 := 0) (by decide +kernel) rfl (Nat.le_of_ble_eq_true rfl) (Nat.le_of_ble_eq_true rfl) (Nat.zero_le _) (Nat.zero_le _) rfl (Nat.le_of_ble_eq_true rfl) dX6_best_179 (fun r u2 hp => ?_)
            obtain ⟨rfl, hk2, hkt⟩ := hp
            have hu := hk2.bd hu
            have hj := hj.tr hk2.tj
            have hbb := bb_gb hA.s hW
            have hbb1 := hbb.1
            have hbb2 := hbb.2.1
            have hbb3 := hbb.2.2
            have hbl := enc_lt (i := BB b) hbb1 (by omega) (by omega)
            refine aw_iconst C (v := nI 5) (by decide) dX6_best_182 ?_
            refine aw_ishrN C (by omega) (by omega) dX6_best_183 ?_
            refine aw_bipush C (v := nI 31) (by decide) dX6_best_184 ?_
            refine aw_iandN C dX6_best_186 ?_
            refine aw_top (show _ = nI (BB b).2.1 from by rw [enc_l hbb1 (by omega)]) ?_
            refine aw_aload_n C rfl rfl dX6_best_187 ?_
            refine tw_get C 0 (by decide) q1818 rfl dX6_best_188 ?_
            refine aw_iconst C (v := nI 2) (by decide) dX6_best_191 ?_
            refine tw_ld0 C (by omega) dX6_best_192 ?_
            refine aw_top (hu _) ?_
            refine aw_iaddN C dX6_best_193 ?_
            refine aw_iconst C (v := nI 1) (by decide) dX6_best_194 ?_
            refine aw_isubN C (by omega) dX6_best_195 ?_
            refine aw_iload_n C rfl rfl dX6_best_196 ?_
            refine aw_icmpN_le C (tgt := 203) (by omega) (by omega) dX6_best_197 (by decide) (fun gM => ?_) (fun gM => ?_)
            · refine aw_iload_n C rfl rfl dX6_best_203 ?_
              refine aw_iret C rfl dX6_best_204 (Nat.le_refl _) (Nat.le_refl _) ?_
              refine ⟨rfl, _, _, rfl, rfl, ?_, hj, hu, hkt⟩
              rw [best_l hz hpw, ← hpe, lastN]
              first
                | (rw [if_neg (show ¬ (0 < b 2 ∧ (p.1 = 0 ∨ p.2 < (BB b).2.1 + b 2 - 1)) from fun z => by have := z.1; omega)]; done)
                | (rw [if_pos (show 0 < b 2 ∧ (p.1 = 0 ∨ p.2 < (BB b).2.1 + b 2 - 1) from ⟨by omega, Or.inl ((m1_p (by omega)).mp gF)⟩)]; rfl)
                | (rw [if_pos (show 0 < b 2 ∧ (p.1 = 0 ∨ p.2 < (BB b).2.1 + b 2 - 1) from ⟨by omega, Or.inr (by omega)⟩)]; rfl)
                | (rw [if_neg (show ¬ (0 < b 2 ∧ (p.1 = 0 ∨ p.2 < (BB b).2.1 + b 2 - 1)) from fun z => z.2.elim (mt (m1_p (by omega)).mpr gF) (fun z => by omega))]; done)
            · refine aw_bipush C (v := nI 100) (by decide) dX6_best_200 ?_
              refine aw_istore_n C rfl (by decide) rfl dX6_best_202 ?_
              refine aw_iload_n C rfl rfl dX6_best_203 ?_
              refine aw_iret C rfl dX6_best_204 (Nat.le_refl _) (Nat.le_refl _) ?_
              refine ⟨rfl, _, _, rfl, rfl, ?_, hj, hu, hkt⟩
              rw [best_l hz hpw, ← hpe, lastN]
              first
                | (rw [if_neg (show ¬ (0 < b 2 ∧ (p.1 = 0 ∨ p.2 < (BB b).2.1 + b 2 - 1)) from fun z => by have := z.1; omega)]; done)
                | (rw [if_pos (show 0 < b 2 ∧ (p.1 = 0 ∨ p.2 < (BB b).2.1 + b 2 - 1) from ⟨by omega, Or.inl ((m1_p (by omega)).mp gF)⟩)]; rfl)
                | (rw [if_pos (show 0 < b 2 ∧ (p.1 = 0 ∨ p.2 < (BB b).2.1 + b 2 - 1) from ⟨by omega, Or.inr (by omega)⟩)]; rfl)
                | (rw [if_neg (show ¬ (0 < b 2 ∧ (p.1 = 0 ∨ p.2 < (BB b).2.1 + b 2 - 1)) from fun z => z.2.elim (mt (m1_p (by omega)).mpr gF) (fun z => by omega))]; done)
      · refine aw_aload_n C rfl rfl dX6_best_65 ?_
        refine aw_iload_n C rfl rfl dX6_best_66 ?_
        refine tw_callR C (t6_colours hG l o sz _ hu hW (by omega)) q1988 q1990 qs59 q120 q1991 (n9 := 1) (by decide +kernel) rfl (Nat.le_of_ble_eq_true rfl) (Nat.le_of_ble_eq_true rfl) (Nat.zero_le _) (Nat.zero_le _) rfl (Nat.le_of_ble_eq_true rfl) dX6_best_67 ?_
        refine aw_istore C (by decide) rfl dX6_best_70 ?_
        refine aw_iconst C (v := nI 0) (by decide) dX6_best_72 ?_
        refine aw_istore C (by decide) rfl dX6_best_73 ?_
        exact aw_lo (key3 (b 1 + 1) 0 p u1 (by omega) (Nat.zero_le _) (by omega) hp hp1 hp2 ⟨hj, hu, hkt⟩) ⟨rfl, rfl, rfl, rfl, rfl, rfl, trivial⟩
  have key1 : ∀ j v u1, v ≤ b 0 → b 0 + 1 ≤ v + j → bwG b (b 0 - v) = bwG b (b 0) → WJ u b u1 → AW γ l x (QX γ x 0 0 (RUi o sz (fun z u' => z = nI (bestN b) - nI 1 ∧ WJ u (b) u')) NX) 7 (th o u1) sz 0 0 2 [(0, .ref o), (1, .int (nI v))] [] := by
    intro j
    induction j with
    | zero => intro v u1 h1 h2 hb hw; exact absurd h2 (by omega)
    | succ j ih1 =>
      intro v u1 h1 h2 hb hw
      obtain ⟨hj, hu, hkt⟩ := hw
      refine aw_iload_n C rfl rfl dX6_best_2 ?_
      refine aw_aload_n C rfl rfl dX6_best_3 ?_
      refine tw_get C 0 (by decide) q1818 rfl dX6_best_4 ?_
      refine aw_iconst C (v := nI 0) (by decide) dX6_best_7 ?_
      refine tw_ld0 C (by omega) dX6_best_8 ?_
      refine aw_top (hu _) ?_
      refine aw_icmpN_ge C (tgt := 39) (by omega) (by omega) dX6_best_9 (by decide) (fun gV => ?_) (fun gV => ?_)
      · have hz : bwG b (b 0) = 0 := by rw [← hb, show b 0 - v = 0 by omega]; rfl
        refine aw_aload_n C rfl rfl dX6_best_39 ?_
        refine tw_callI C (t6_passWins hG l o sz _ hu hA hkt) q2142 q2144 qs88 q120 q2145 (n9 := 0) (by decide +kernel) rfl (Nat.le_of_ble_eq_true rfl) (Nat.le_of_ble_eq_true rfl) (Nat.zero_le _) (Nat.zero_le _) rfl (Nat.le_of_ble_eq_true rfl) dX6_best_40 (fun r u2 hp => ?_)
        obtain ⟨rfl, hj2, hu, hkt⟩ := hp
        have hj := hj.tr hj2
        refine aw_bit_eq0 C (tgt := 49) dX6_best_43 (by decide) (fun gP => ?_) (fun gP => ?_)
        · refine aw_iconst C (v := nI 0 - nI 1) (by decide) dX6_best_49 ?_
          refine aw_istore_n C rfl (by decide) rfl dX6_best_50 ?_
          refine aw_iconst C (v := nI 0) (by decide) dX6_best_51 ?_
          refine aw_istore_n C rfl (by decide) rfl dX6_best_52 ?_
          refine aw_iconst C (v := nI 0) (by decide) dX6_best_53 ?_
          refine aw_istore_n C rfl (by decide) rfl dX6_best_54 ?_
          exact aw_lo (key2 hz gP (b 0 + 1) 0 (0, 0) _ (Nat.zero_le _) (by omega) rfl (by decide) (by decide) ⟨hj, hu, hkt⟩) ⟨rfl, rfl, rfl, rfl, trivial⟩
        · refine aw_bipush C (v := nI 100) (by decide) dX6_best_46 ?_
          exact aw_iret C rfl dX6_best_48 (Nat.le_refl _) (Nat.le_refl _) ⟨rfl, _, _, rfl, rfl, by rw [best_p hz gP]; rfl, hj, hu, hkt⟩
      · refine aw_aload_n C rfl rfl dX6_best_12 ?_
        refine aw_iload_n C rfl rfl dX6_best_13 ?_
        refine tw_callI C (t6_winningOn hG l o sz _ hu hA hkt (v := v) (by omega)) q2146 q2148 qs89 q120 q2149 (n9 := 1) (by decide +kernel) rfl (Nat.le_of_ble_eq_true rfl) (Nat.le_of_ble_eq_true rfl) (Nat.zero_le _) (Nat.zero_le _) rfl (Nat.le_of_ble_eq_true rfl) dX6_best_14 (fun r u2 hp => ?_)
        obtain ⟨rfl, hj2, hu, hkt⟩ := hp
        have hj := hj.tr hj2
        have hws := winS_lt (b := b) hC3 v
        refine aw_ifN_le C (tgt := 33) (by omega) dX6_best_17 (by decide) (fun gW => ?_) (fun gW => ?_)
        · refine aw_iinc1 C rfl (by decide) rfl dX6_best_33 ?_
          refine aw_goto C (tgt := 2) dX6_best_36 (by decide) ?_
          exact aw_lo (ih1 (v + 1) _ (by omega) (by omega) (bwG_n (by omega) hb (by omega)) ⟨hj, hu, hkt⟩) ⟨rfl, rfl, trivial⟩
        · refine aw_iconst C (v := nI 4) (by decide) dX6_best_20 ?_
          refine aw_iload_n C rfl rfl dX6_best_21 ?_
          refine aw_imulN C dX6_best_22 ?_
          refine aw_aload_n C rfl rfl dX6_best_23 ?_
          refine aw_iload_n C rfl rfl dX6_best_24 ?_
          refine tw_callI C (t6_winningOn hG l o sz _ hu hA hkt (v := v) (by omega)) q2146 q2148 qs89 q120 q2149 (n9 := 1) (by decide +kernel) rfl (Nat.le_of_ble_eq_true rfl) (Nat.le_of_ble_eq_true rfl) (Nat.zero_le _) (Nat.zero_le _) rfl (Nat.le_of_ble_eq_true rfl) dX6_best_25 (fun r u2 hp => ?_)
          obtain ⟨rfl, hj2, hu, hkt⟩ := hp
          have hj := hj.tr hj2
          have hws := winS_lt (b := b) hC3 v
          refine tw_callSR C (t6_lowest hG l o sz _ (by omega) (by omega)) q2019 q2020 q120 q2021 (n9 := 1) (by decide +kernel) rfl (Nat.le_of_ble_eq_true rfl) (Nat.le_of_ble_eq_true rfl) (Nat.zero_le _) (Nat.zero_le _) rfl (Nat.le_of_ble_eq_true rfl) dX6_best_28 ?_
          have hlw := (low_bit (winS b v) (by omega) (by omega)).2.1
          refine aw_iaddN C dX6_best_31 ?_
          exact aw_iret C rfl dX6_best_32 (Nat.le_refl _) (Nat.le_refl _) ⟨rfl, _, _, rfl, rfl, by rw [bwG_y (by omega) hb (by omega), ← pk_s], hj, hu, hkt⟩
  refine aw_iconst C (v := nI 0) (by decide) dX6_best_0 ?_
  refine aw_istore_n C rfl (by decide) rfl dX6_best_1 ?_
  exact aw_lo (key1 (b 0 + 1) 0 u (Nat.zero_le _) (by omega) rfl ⟨TJ.rf u, hu, hkt⟩) ⟨rfl, rfl, trivial⟩
set_option maxRecDepth 100000 in
theorem t6_notes {γ : Gm} (hG : GF γ) (l : Launch) (o sz : Nat) (u : TU) {b : Nat → Nat} (hu : BD u b) (hA : WA b) {v c : Int32} {vx cx pc : Nat} (hv : v + nI 1 = nI vx) (hc : c + nI 1 = nI cx) (hm : b 3 < 4096) : MX γ l yX6_notes cX6_notes 5 none 2 48 0 0 [.ref o, .int v, .int c, .int (nI pc)] (th o u) sz (RUv o sz (fun u' => TJ u u' ∧ BD u' (noteB b vx cx pc) ∧ u'.2 18 = u.2 18 ∧ u'.2 19 = u.2 19)) NX := by
  refine mx_start hG (by decide) (Nat.le_of_ble_eq_true rfl) (fun x C => ?_)
  have hW := hA.w
  have hN := hW.2.1
  have hC3 := hW.2.2.2.1
  have hL9 := hA.l
  have hF := freeS_lt hN
  have hj := TJ.rf u
  refine aw_aload_n C rfl rfl dX6_notes_0 ?_
  refine aw_aload_n C rfl rfl dX6_notes_1 ?_
  refine tw_callR C (t6_freeSet hG l o sz _ hu hW) q1992 q1994 qs60 q120 q1995 (n9 := 0) (by decide +kernel) rfl (Nat.le_of_ble_eq_true rfl) (Nat.le_of_ble_eq_true rfl) (Nat.zero_le _) (Nat.zero_le _) rfl (Nat.le_of_ble_eq_true rfl) dX6_notes_2 ?_
  refine tw_callR C (t6_partsIn hG l o sz _ hu hW (by omega)) q2015 q2017 qs65 q120 q2018 (n9 := 1) (by decide +kernel) rfl (Nat.le_of_ble_eq_true rfl) (Nat.le_of_ble_eq_true rfl) (Nat.zero_le _) (Nat.zero_le _) rfl (Nat.le_of_ble_eq_true rfl) dX6_notes_5 ?_
  refine aw_istore C (by decide) rfl dX6_notes_8 ?_
  refine aw_aload_n C rfl rfl dX6_notes_10 ?_
  refine tw_get C 0 (by decide) q1818 rfl dX6_notes_11 ?_
  refine aw_bipush C (v := nI 40) (by decide) dX6_notes_14 ?_
  refine aw_aload_n C rfl rfl dX6_notes_16 ?_
  refine tw_get C 0 (by decide) q1818 rfl dX6_notes_17 ?_
  refine aw_iconst C (v := nI 3) (by decide) dX6_notes_20 ?_
  refine tw_ld0 C (by omega) dX6_notes_21 ?_
  refine aw_top (hu _) ?_
  refine aw_iaddN C dX6_notes_22 ?_
  refine aw_aload_n C rfl rfl dX6_notes_23 ?_
  refine tw_callR C (t6_turn hG l o sz _ hu (by have := hA.m; omega)) q2026 q2028 qs67 q120 q2029 (n9 := 0) (by decide +kernel) rfl (Nat.le_of_ble_eq_true rfl) (Nat.le_of_ble_eq_true rfl) (Nat.zero_le _) (Nat.zero_le _) rfl (Nat.le_of_ble_eq_true rfl) dX6_notes_24 ?_
  refine aw_iload_n C rfl rfl dX6_notes_27 ?_
  refine aw_iconst C (v := nI 1) (by decide) dX6_notes_28 ?_
  refine aw_iadd C dX6_notes_29 ?_
  refine aw_top hv ?_
  refine aw_iconst C (v := nI 1) (by decide) dX6_notes_30 ?_
  refine aw_ishlN C (by omega) dX6_notes_31 ?_
  refine aw_iorN C dX6_notes_32 ?_
  refine aw_iload_n C rfl rfl dX6_notes_33 ?_
  refine aw_iconst C (v := nI 1) (by decide) dX6_notes_34 ?_
  refine aw_iadd C dX6_notes_35 ?_
  refine aw_top hc ?_
  refine aw_iconst C (v := nI 5) (by decide) dX6_notes_36 ?_
  refine aw_ishlN C (by omega) dX6_notes_37 ?_
  refine aw_iorN C dX6_notes_38 ?_
  refine aw_iload C rfl dX6_notes_39 ?_
  refine aw_bipush C (v := nI 7) (by decide) dX6_notes_41 ?_
  refine aw_ishlN C (by omega) dX6_notes_43 ?_
  refine aw_iorN C dX6_notes_44 ?_
  refine aw_iload_n C rfl rfl dX6_notes_45 ?_
  refine aw_bipush C (v := nI 11) (by decide) dX6_notes_46 ?_
  refine aw_ishlN C (by omega) dX6_notes_48 ?_
  refine aw_iorN C dX6_notes_49 ?_
  refine tw_st0 C (by omega) dX6_notes_50 ?_
  have hu := bd_upd hu (40 + b 3) (mvE (b 3 % 2) vx cx (npts b (freeS b)) pc)
  have e3 : updN b (40 + b 3) (mvE (b 3 % 2) vx cx (npts b (freeS b)) pc) 3 = b 3 := updN_n (by omega)
  refine aw_aload_n C rfl rfl dX6_notes_51 ?_
  refine tw_get C 0 (by decide) q1818 rfl dX6_notes_52 ?_
  refine aw_iconst C (v := nI 3) (by decide) dX6_notes_55 ?_
  refine aw_dup2 C rfl rfl dX6_notes_56 ?_
  refine tw_ld0 C (by omega) dX6_notes_57 ?_
  refine aw_top (hu _) ?_
  refine aw_top (congrArg nI e3) ?_
  refine aw_iconst C (v := nI 1) (by decide) dX6_notes_58 ?_
  refine aw_iaddN C dX6_notes_59 ?_
  refine tw_st0 C (by omega) dX6_notes_60 ?_
  exact aw_vret C rfl dX6_notes_61 (Nat.le_refl _) (Nat.le_refl _) ⟨rfl, rfl, _, rfl, (tj_up _ (by omega)).tr (tj_up _ (by omega)), bd_upd hu 3 (b 3 + 1), rfl, rfl⟩
set_option maxRecDepth 100000 in
theorem t6_lays {γ : Gm} (hG : GF γ) (l : Launch) (o sz : Nat) (u : TU) {b : Nat → Nat} (hu : BD u b) (hA : WA b) {v c : Nat} (hv : v < b 0) (hc : c < b 1) (hm : b 3 < 4096) : MX γ l yX6_lays cX6_lays 5 none 3 72 0 0 [.ref o, .int (nI v), .int (nI c)] (th o u) sz (RUv o sz (fun u' => TJ u u' ∧ BD u' (layM b v c) ∧ u'.2 18 = u.2 18 ∧ u'.2 19 = u.2 19)) NX := by
  refine mx_start hG (by decide) (Nat.le_of_ble_eq_true rfl) (fun x C => ?_)
  have hW := hA.w
  have hN := hW.2.1
  have hC3 := hW.2.2.2.1
  have hL9 := hA.l
  have hF := freeS_lt hN
  have hr9 := rch_lt (b := b) (v := v) (by omega) hF
  have key : ∀ j k u1, k ≤ b 0 → b 0 + 1 ≤ k + j → TJ u u1 → BD u1 (banB b (rch b v (freeS b)) (c + 1) k) → u1.2 18 = u.2 18 → u1.2 19 = u.2 19 → AW γ l x (QX γ x 0 0 (RUv o sz (fun u' => TJ u u' ∧ BD u' (layM b v c) ∧ u'.2 18 = u.2 18 ∧ u'.2 19 = u.2 19)) NX) 5 (th o u1) sz 0 0 13 [(0, .ref o), (1, .int (nI v)), (2, .int (nI c)), (3, .int (nI (rch b v (freeS b)))), (4, .int (nI k))] [] := by
    intro j
    induction j with
    | zero => intro k u1 h1 h2 hj hu h18 h19; exact absurd h2 (by omega)
    | succ j ih =>
      intro k u1 h1 h2 hj hu h18 h19
      have e0 := banB_n b (rch b v (freeS b)) (c + 1) k (k := 0) (by omega)
      refine aw_iload C rfl dX6_lays_13 ?_
      refine aw_aload_n C rfl rfl dX6_lays_15 ?_
      refine tw_get C 0 (by decide) q1818 rfl dX6_lays_16 ?_
      refine aw_iconst C (v := nI 0) (by decide) dX6_lays_19 ?_
      refine tw_ld0 C (by omega) dX6_lays_20 ?_
      refine aw_top (hu _) ?_
      refine aw_top (congrArg nI e0) ?_
      refine aw_icmpN_ge C (tgt := 53) (by omega) (by omega) dX6_lays_21 (by decide) (fun gN => ?_) (fun gN => ?_)
      · refine aw_aload_n C rfl rfl dX6_lays_53 ?_
        refine tw_get C 0 (by decide) q1818 rfl dX6_lays_54 ?_
        refine aw_bipush C (v := nI 22) (by decide) dX6_lays_57 ?_
        refine aw_iload_n C rfl rfl dX6_lays_59 ?_
        refine aw_iaddN C dX6_lays_60 ?_
        refine aw_iload_n C rfl rfl dX6_lays_61 ?_
        refine aw_iconst C (v := nI 1) (by decide) dX6_lays_62 ?_
        refine aw_iaddN C dX6_lays_63 ?_
        refine tw_st0 C (by omega) dX6_lays_64 ?_
        have hu : BD (tsa u1 0 (upd (u1.2 0) (22 + v) (nI (c + 1)))) (layB b v c) := by
          have := bd_upd hu (22 + v) (c + 1)
          rw [show k = b 0 by omega] at this
          exact this
        have hA2 := wa_layB hA (v := v) (c := c) (by omega) (by omega)
        have e3 : layB b v c 3 = b 3 := layB_n b v c (by omega)
        have hnd := nd_lt (c := 1 <<< v) hr9
        refine aw_aload_n C rfl rfl dX6_lays_65 ?_
        refine aw_iload_n C rfl rfl dX6_lays_66 ?_
        refine aw_iload_n C rfl rfl dX6_lays_67 ?_
        refine aw_aload_n C rfl rfl dX6_lays_68 ?_
        refine aw_iload_n C rfl rfl dX6_lays_69 ?_
        refine aw_iconst C (v := nI 1) (by decide) dX6_lays_70 ?_
        refine aw_iload_n C rfl rfl dX6_lays_71 ?_
        refine aw_ishlN C (by omega) dX6_lays_72 ?_
        refine aw_iconst C (v := -1) (by decide) dX6_lays_73 ?_
        refine aw_ixor C dX6_lays_74 ?_
        refine aw_iandNot C dX6_lays_75 ?_
        refine tw_callR C (t6_partsIn hG l o sz _ hu hA2.w (by omega)) q2015 q2017 qs65 q120 q2018 (n9 := 1) (by decide +kernel) rfl (Nat.le_of_ble_eq_true rfl) (Nat.le_of_ble_eq_true rfl) (Nat.zero_le _) (Nat.zero_le _) rfl (Nat.le_of_ble_eq_true rfl) dX6_lays_76 ?_
        refine tw_callV C (t6_notes hG l o sz _ hu hA2 (vx := v + 1) (cx := c + 1) (nI_add v 1) (nI_add c 1) (by omega)) q2022 q2024 qs66 q120 q2025 (n9 := 3) (by decide +kernel) rfl (Nat.le_of_ble_eq_true rfl) (Nat.le_of_ble_eq_true rfl) (Nat.zero_le _) (Nat.zero_le _) rfl (Nat.le_of_ble_eq_true rfl) dX6_lays_79 (fun u2 hp => ?_)
        obtain ⟨hj2, hu, k18, k19⟩ := hp
        exact aw_vret C rfl dX6_lays_82 (Nat.le_refl _) (Nat.le_refl _) ⟨rfl, rfl, _, rfl, (hj.tr (tj_up _ (by omega))).tr hj2, hu, k18.trans h18, k19.trans h19⟩
      · refine aw_iload_n C rfl rfl dX6_lays_24 ?_
        refine aw_iload C rfl dX6_lays_25 ?_
        refine aw_ishrN C (by omega) (by omega) dX6_lays_27 ?_
        refine aw_iconst C (v := nI 1) (by decide) dX6_lays_28 ?_
        refine aw_iandBit C dX6_lays_29 ?_
        refine aw_iconst C (v := nI 1) (by decide) dX6_lays_30 ?_
        refine aw_bit_ne1 C (tgt := 47) dX6_lays_31 (by decide) (fun gB => ?_) (fun gB => ?_)
        · refine aw_iinc1 C rfl (by decide) rfl dX6_lays_47 ?_
          refine aw_goto C (tgt := 13) dX6_lays_50 (by decide) ?_
          first
            | exact aw_lo (ih (k + 1) _ (by omega) (by omega) (hj.tr (tj_up _ (by omega))) (by rw [← banB_t gB]; exact bd_upd hu _ _) h18 h19) ⟨rfl, rfl, rfl, rfl, rfl, trivial⟩
            | exact aw_lo (ih (k + 1) _ (by omega) (by omega) hj (by rw [← banB_f gB]; exact hu) h18 h19) ⟨rfl, rfl, rfl, rfl, rfl, trivial⟩
        · refine aw_aload_n C rfl rfl dX6_lays_34 ?_
          refine tw_get C 0 (by decide) q1818 rfl dX6_lays_35 ?_
          refine aw_bipush C (v := nI 31) (by decide) dX6_lays_38 ?_
          refine aw_iload C rfl dX6_lays_40 ?_
          refine aw_iaddN C dX6_lays_42 ?_
          refine aw_iload_n C rfl rfl dX6_lays_43 ?_
          refine aw_iconst C (v := nI 1) (by decide) dX6_lays_44 ?_
          refine aw_iaddN C dX6_lays_45 ?_
          refine tw_st0 C (by omega) dX6_lays_46 ?_
          refine aw_iinc1 C rfl (by decide) rfl dX6_lays_47 ?_
          refine aw_goto C (tgt := 13) dX6_lays_50 (by decide) ?_
          first
            | exact aw_lo (ih (k + 1) _ (by omega) (by omega) (hj.tr (tj_up _ (by omega))) (by rw [← banB_t gB]; exact bd_upd hu _ _) h18 h19) ⟨rfl, rfl, rfl, rfl, rfl, trivial⟩
            | exact aw_lo (ih (k + 1) _ (by omega) (by omega) hj (by rw [← banB_f gB]; exact hu) h18 h19) ⟨rfl, rfl, rfl, rfl, rfl, trivial⟩
  refine aw_aload_n C rfl rfl dX6_lays_0 ?_
  refine aw_iload_n C rfl rfl dX6_lays_1 ?_
  refine aw_aload_n C rfl rfl dX6_lays_2 ?_
  refine tw_callR C (t6_freeSet hG l o sz _ hu hW) q1992 q1994 qs60 q120 q1995 (n9 := 0) (by decide +kernel) rfl (Nat.le_of_ble_eq_true rfl) (Nat.le_of_ble_eq_true rfl) (Nat.zero_le _) (Nat.zero_le _) rfl (Nat.le_of_ble_eq_true rfl) dX6_lays_3 ?_
  refine tw_callR C (t6_reached hG l o sz _ hu hW (by omega) (by omega)) q1996 q1998 qs61 q120 q1999 (n9 := 2) (by decide +kernel) rfl (Nat.le_of_ble_eq_true rfl) (Nat.le_of_ble_eq_true rfl) (Nat.zero_le _) (Nat.zero_le _) rfl (Nat.le_of_ble_eq_true rfl) dX6_lays_6 ?_
  refine aw_istore_n C rfl (by decide) rfl dX6_lays_9 ?_
  refine aw_iconst C (v := nI 0) (by decide) dX6_lays_10 ?_
  refine aw_istore C (by decide) rfl dX6_lays_11 ?_
  exact aw_lo (key (b 0 + 1) 0 u (Nat.zero_le _) (by omega) (TJ.rf u) (by rw [banB_0]; exact hu) rfl rfl) ⟨rfl, rfl, rfl, rfl, rfl, trivial⟩
set_option maxRecDepth 100000 in
theorem t6_passes {γ : Gm} (hG : GF γ) (l : Launch) (o sz : Nat) (u : TU) {b : Nat → Nat} (hu : BD u b) (hA : WA b) (hl : 0 < b 2) (hm : b 3 < 4096) : MX γ l yX6_passes cX6_passes 1 none 3 72 0 0 [.ref o] (th o u) sz (RUv o sz (fun u' => TJ u u' ∧ BD u' (passM b) ∧ u'.2 18 = u.2 18 ∧ u'.2 19 = u.2 19)) NX := by
  refine mx_start hG (by decide) (Nat.le_of_ble_eq_true rfl) (fun x C => ?_)
  have hW := hA.w
  have hN := hW.2.1
  have hC3 := hW.2.2.2.1
  have hL9 := hA.l
  have hj := TJ.rf u
  refine aw_aload_n C rfl rfl dX6_passes_0 ?_
  refine tw_get C 0 (by decide) q1818 rfl dX6_passes_1 ?_
  refine aw_iconst C (v := nI 2) (by decide) dX6_passes_4 ?_
  refine aw_dup2 C rfl rfl dX6_passes_5 ?_
  refine tw_ld0 C (by omega) dX6_passes_6 ?_
  refine aw_top (hu _) ?_
  refine aw_iconst C (v := nI 1) (by decide) dX6_passes_7 ?_
  refine aw_isubN C (by omega) dX6_passes_8 ?_
  refine tw_st0 C (by omega) dX6_passes_9 ?_
  have hu := bd_upd hu 2 (b 2 - 1)
  have hA2 := wa_up2 hA (x := b 2 - 1) (by omega)
  have e3 : updN b 2 (b 2 - 1) 3 = b 3 := updN_n (by omega)
  refine aw_aload_n C rfl rfl dX6_passes_10 ?_
  refine aw_iconst C (v := -1) (by decide) dX6_passes_11 ?_
  refine aw_iconst C (v := -1) (by decide) dX6_passes_12 ?_
  refine aw_iconst C (v := nI 0) (by decide) dX6_passes_13 ?_
  refine tw_callV C (t6_notes hG l o sz _ hu hA2 (vx := 0) (cx := 0) rfl rfl (by omega)) q2022 q2024 qs66 q120 q2025 (n9 := 3) (by decide +kernel) rfl (Nat.le_of_ble_eq_true rfl) (Nat.le_of_ble_eq_true rfl) (Nat.zero_le _) (Nat.zero_le _) rfl (Nat.le_of_ble_eq_true rfl) dX6_passes_14 (fun u2 hp => ?_)
  obtain ⟨hj2, hu, k18, k19⟩ := hp
  exact aw_vret C rfl dX6_passes_17 (Nat.le_refl _) (Nat.le_refl _) ⟨rfl, rfl, _, rfl, (hj.tr (tj_up _ (by omega))).tr hj2, hu, k18, k19⟩
