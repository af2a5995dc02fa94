/-! the twin: the value of a part -/
theorem sh_m1 : ∀ m, m < 32 → (nI m - nI 1 = -1 ↔ m = 0) := by decide +kernel
theorem pk_s (c : Nat) : nI c = nI (c + 1) - nI 1 := by rw [pk_sub (by omega)]; rfl
theorem go5a {a i : G3} (h : a.2.1 < 1 + i.2.1) : some (Value.int (nI (1 + i.2.1))) = some (.int (nI (gopt a i).2.1)) := by
  show _ = some (Value.int (nI (if a.2.1 < 1 + i.2.1 then 1 + i.2.1 else a.2.1)))
  rw [if_pos h]
theorem go5b {a i : G3} (h : ¬ a.2.1 < 1 + i.2.1) : some (Value.int (nI a.2.1)) = some (.int (nI (gopt a i).2.1)) := by
  show _ = some (Value.int (nI (if a.2.1 < 1 + i.2.1 then 1 + i.2.1 else a.2.1)))
  rw [if_neg h]
theorem go6a {a i : G3} (h : a.2.2 = 0 ∨ 1 + i.2.2 < a.2.2 - 1) : some (Value.int (nI (1 + i.2.2))) = some (.int (nI (gopt a i).2.2 - nI 1)) := by
  show _ = some (Value.int (nI (if a.2.2 = 0 ∨ 1 + i.2.2 < a.2.2 - 1 then 1 + i.2.2 + 1 else a.2.2) - nI 1))
  rw [if_pos h, pk_s]
theorem go6b {a i : G3} (h : ¬ (a.2.2 = 0 ∨ 1 + i.2.2 < a.2.2 - 1)) : some (Value.int (nI (a.2.2 - 1))) = some (.int (nI (gopt a i).2.2 - nI 1)) := by
  show _ = some (Value.int (nI (if a.2.2 = 0 ∨ 1 + i.2.2 < a.2.2 - 1 then 1 + i.2.2 + 1 else a.2.2) - nI 1))
  rw [if_neg h, pk_sub (by omega)]
theorem scS_n {b : Nat → Nat} {part m v : Nat} (h : part.testBit v = false) : 0 = scS b part m v := by unfold scS; rw [if_neg (by rw [h]; decide)]
theorem scS_y {b : Nat → Nat} {part m v : Nat} (h : part.testBit v = true) : clay b v part m = scS b part m v := by unfold scS; rw [if_pos h]
theorem scS_lt {b : Nat → Nat} (hW : WB b) {part m v : Nat} (_hp : part < 512) (hv : v < 9) : scS b part m v < 8 := by
  unfold scS
  split
  · exact clay_lt hW hv _ _
  · decide
theorem tog_gb' {b : Nat → Nat} (hS : SY b) (h9 : b 0 ≤ 9) (h3 : b 1 ≤ 3) {S : Nat} (hp : S < 2 ^ b 0) (m : Nat) : GB (pop S) (tog 9 b S m) := by
  have hp9 : S < 512 := Nat.lt_of_lt_of_le hp (Nat.pow_le_pow_right (by omega) h9)
  have h := tgA_gb (g := fun p => gv 9 b p m) hS hp h9 (fun p q1 q2 => gv_gb 9 b p m hS h9 h3 (lt_of_sub hp q1)) S hp9 (rcl_self b S) 0 (0, 0, 0) ⟨(by decide : (0 : Nat) < 32), Nat.zero_le _, Nat.zero_le _⟩
  rw [Nat.zero_add] at h
  exact h
theorem sc_gb {b : Nat → Nat} (hS : SY b) (hW : WB b) {part m v c : Nat} (hp : part < 2 ^ b 0) (hc : (scS b part m v).testBit c = true) : GB 8 (tog 9 (layO b v c) (nd part (1 <<< v)) (c + 1)) := by
  have hb := scS_bit hc
  have hv := bit_lt hp hb
  have hp9 : part < 512 := Nat.lt_of_lt_of_le hp (Nat.pow_le_pow_right (by omega) hW.2.1)
  have h9 := hW.2.1
  have h3 := hW.2.2.2.1
  have hl := pop_less (S := part) (by omega) hb
  have h4 := pop_le part hp9
  obtain ⟨q1, q2, q3⟩ := tog_gb' (sy_lay hS h9 v c) (by rw [layO_n b v c (by omega)]; exact h9) (by rw [layO_n b v c (by omega)]; exact h3) (S := nd part (1 <<< v)) (by rw [layO_n b v c (by omega)]; exact nd_lt hp) (c + 1)
  exact ⟨q1, by omega, by omega⟩
theorem sc_ab {b : Nat → Nat} (hS : SY b) (hW : WB b) {part m v c : Nat} (hp : part < 2 ^ b 0) : AB (v * b 1 + c) 9 (scC (tog 9) b part v (scS b part m v) (scV (tog 9) b part m v) c) :=
  scC_ab (k := 8) (scV_ab (k := 8) v (fun w d _ hd => sc_gb hS hW hp hd)) (fun d hd => sc_gb hS hW hp hd) c
theorem sv_ab {b : Nat → Nat} (hS : SY b) (hW : WB b) {part m v : Nat} (hp : part < 2 ^ b 0) : AB (v * b 1) 9 (scV (tog 9) b part m v) :=
  scV_ab (k := 8) v (fun w d _ hd => sc_gb hS hW hp hd)

theorem ko_of {γ : Gm} (hG : GF γ) (l : Launch) (o sz f : Nat) (hT : TG γ l o sz f) : KO γ l o sz (f + 1) := by
  intro u b part m hu hW hP hS hV hp0 hf hm hkt0
  refine mx_start hG (by decide) (Nat.le_of_ble_eq_true rfl) (fun x C => ?_)
  have hp9 : part < 512 := Nat.lt_of_lt_of_le hV.1 (Nat.pow_le_pow_right (by omega) hW.2.1)
  have hpl := plc_lt hW hP part hm
  have hN := hW.2.1
  have hC3 := hW.2.2.2.1
  have key : ∀ j v a u1, v ≤ b 0 → b 0 + 1 ≤ v + j → a = scV (tog 9) b part m v → TK u u1 → KT u1 b → AW γ l x (QX γ x 0 0 (RUi o sz (KP u b (enc (G b part m)))) NX) 13 (th o u1) sz 0 0 36 [(0, .ref o), (1, .int (nI part)), (2, .int (nI m - nI 1)), (3, .int (nI (plc b part m))), (4, .int (nI a.1)), (5, .int (nI a.2.1)), (6, .int (nI a.2.2 - nI 1)), (7, .int (nI v))] [] := by
    intro j
    induction j with
    | zero => intro v a u1 h1 h2 ha hk hkt; exact absurd h2 (by omega)
    | succ j ih =>
      intro v a u1 h1 h2 ha hk hkt
      have hu1 := hk.bd hu
      have hA := sv_ab hS hW (m := m) (v := v) hV.1
      rw [← ha] at hA
      have hA3 := hA.2.2.1
      have hA4 := hA.2.2.2
      have hA5 := hA.2.1
      have hvb : v * b 1 ≤ 9 * 3 := Nat.mul_le_mul (by omega) hC3
      have key2 : ∀ j c a u1, v < b 0 → c ≤ b 1 → b 1 + 1 ≤ c + j → a = scC (tog 9) b part v (scS b part m v) (scV (tog 9) b part m v) c → TK u u1 → KT u1 b → AW γ l x (QX γ x 0 0 (RUi o sz (KP u b (enc (G b part m)))) NX) 13 (th o u1) sz 0 0 74 [(0, .ref o), (1, .int (nI part)), (2, .int (nI m - nI 1)), (3, .int (nI (plc b part m))), (4, .int (nI a.1)), (5, .int (nI a.2.1)), (6, .int (nI a.2.2 - nI 1)), (7, .int (nI v)), (8, .int (nI (scS b part m v))), (9, .int (nI c))] [] := by
        intro j
        induction j with
        | zero => intro c a u1 gV h1 h2 ha hk hkt; exact absurd h2 (by omega)
        | succ j ih2 =>
          intro c a u1 gV h1 h2 ha hk hkt
          have hsl := scS_lt hW (part := part) (m := m) (v := v) hp9 (by omega)
          have hu1 := hk.bd hu
          have hA := sc_ab hS hW (m := m) (v := v) (c := c) hV.1
          rw [← ha] at hA
          have hA3 := hA.2.2.1
          have hA4 := hA.2.2.2
          have hA5 := hA.2.1
          refine aw_iload C rfl dX6_knownOf_74 ?_
          refine aw_aload_n C rfl rfl dX6_knownOf_76 ?_
          refine tw_get C 0 (by decide) q1818 rfl dX6_knownOf_77 ?_
          refine aw_iconst C (v := nI 1) (by decide) dX6_knownOf_80 ?_
          refine tw_ld0 C (by omega) dX6_knownOf_81 ?_
          refine aw_top (hu1 _) ?_
          refine aw_icmpN_ge C (tgt := 215) (by omega) (by omega) dX6_knownOf_82 (by decide) (fun gC => ?_) (fun gC => ?_)
          · refine aw_iinc1 C rfl (by decide) rfl dX6_knownOf_215 ?_
            refine aw_goto C (tgt := 36) dX6_knownOf_218 (by decide) ?_
            exact aw_lo (ih (v + 1) a u1 (by omega) (by omega) (by rw [scV, ha, show c = b 1 by omega]) hk hkt) ⟨rfl, rfl, rfl, rfl, rfl, rfl, rfl, rfl, trivial⟩
          · refine aw_iload C rfl dX6_knownOf_85 ?_
            refine aw_iload C rfl dX6_knownOf_87 ?_
            refine aw_ishrN C (by omega) (by omega) dX6_knownOf_89 ?_
            refine aw_iconst C (v := nI 1) (by decide) dX6_knownOf_90 ?_
            refine aw_iandBit C dX6_knownOf_91 ?_
            refine aw_bit_ne0 C (tgt := 98) dX6_knownOf_92 (by decide) (fun gB => ?_) (fun gB => ?_)
            · have hsg := sc_gb hS hW hV.1 gB
              have hb := scS_bit gB
              have hv9 := bit_lt hV.1 hb
              have hf0 : b (22 + v) = 0 := fr_t.mp (hV.2.1 v hb)
              have hpl2 := pop_less (S := part) (by omega) hb
              refine aw_aload_n C rfl rfl dX6_knownOf_98 ?_
              refine tw_get C 0 (by decide) q1818 rfl dX6_knownOf_99 ?_
              refine aw_bipush C (v := nI 22) (by decide) dX6_knownOf_102 ?_
              refine aw_iload C rfl dX6_knownOf_104 ?_
              refine aw_iaddN C dX6_knownOf_106 ?_
              refine aw_iload C rfl dX6_knownOf_107 ?_
              refine aw_iconst C (v := nI 1) (by decide) dX6_knownOf_109 ?_
              refine aw_iaddN C dX6_knownOf_110 ?_
              refine tw_st0 C (by omega) dX6_knownOf_111 ?_
              refine aw_aload_n C rfl rfl dX6_knownOf_112 ?_
              refine aw_iload_n C rfl rfl dX6_knownOf_113 ?_
              refine aw_iconst C (v := nI 1) (by decide) dX6_knownOf_114 ?_
              refine aw_iload C rfl dX6_knownOf_115 ?_
              refine aw_ishlN C (by omega) dX6_knownOf_117 ?_
              refine aw_iconst C (v := -1) (by decide) dX6_knownOf_118 ?_
              refine aw_ixor C dX6_knownOf_119 ?_
              refine aw_iandNot C dX6_knownOf_120 ?_
              refine aw_iload C rfl dX6_knownOf_121 ?_
              refine aw_top (pk_s c) ?_
              refine tw_callI C (hT (uLay u1 v c) (layO b v c) (nd part (1 <<< v)) (c + 1) (bd_lay hu1 v c) (wb_lay hW (by omega)) (wp_lay hP v c) (sy_lay hS hW.2.1 v c) (vd_lay hV hW.2.1) (by omega) (by rw [layO_n b v c (by omega)]; omega) (kt_lay hkt v c)) q2114 q2116 qs84 q120 q2117 (n9 := 2) (by decide +kernel) rfl (by dsimp only; omega) (by dsimp only; omega) (Nat.zero_le _) (Nat.zero_le _) rfl (Nat.le_of_ble_eq_true rfl) dX6_knownOf_123 (fun r u2 hp => ?_)
              obtain ⟨rfl, hk2, hkt2⟩ := hp
              obtain ⟨hi1, hi2, hi3⟩ := hsg
              have hun := unlay hu1 hf0 hk2 hkt2
              generalize hi : tog 9 (layO b v c) (nd part (1 <<< v)) (c + 1) = i at *
              have hel := enc_lt (i := i) hi1 (by omega) (by omega)
              refine aw_istore C (by decide) rfl dX6_knownOf_126 ?_
              refine aw_aload_n C rfl rfl dX6_knownOf_128 ?_
              refine tw_get C 0 (by decide) q1818 rfl dX6_knownOf_129 ?_
              refine aw_bipush C (v := nI 22) (by decide) dX6_knownOf_132 ?_
              refine aw_iload C rfl dX6_knownOf_134 ?_
              refine aw_iaddN C dX6_knownOf_136 ?_
              refine aw_iconst C (v := nI 0) (by decide) dX6_knownOf_137 ?_
              refine tw_st0 C (by omega) dX6_knownOf_138 ?_
              refine aw_iload C rfl dX6_knownOf_139 ?_
              refine aw_iconst C (v := nI 1) (by decide) dX6_knownOf_141 ?_
              refine aw_iload C rfl dX6_knownOf_142 ?_
              refine aw_bipush C (v := nI 31) (by decide) dX6_knownOf_144 ?_
              refine aw_iandN C dX6_knownOf_146 ?_
              refine aw_top (show _ = nI i.1 from by rw [enc_v hi1 (by omega)]) ?_
              refine aw_ishlN C (by omega) dX6_knownOf_147 ?_
              refine aw_iorN C dX6_knownOf_148 ?_
              refine aw_istore C (by decide) rfl dX6_knownOf_149 ?_
              refine aw_iconst C (v := nI 1) (by decide) dX6_knownOf_151 ?_
              refine aw_iload C rfl dX6_knownOf_152 ?_
              refine aw_iconst C (v := nI 5) (by decide) dX6_knownOf_154 ?_
              refine aw_ishrN C (by omega) (by omega) dX6_knownOf_155 ?_
              refine aw_bipush C (v := nI 31) (by decide) dX6_knownOf_156 ?_
              refine aw_iandN C dX6_knownOf_158 ?_
              refine aw_top (show _ = nI i.2.1 from by rw [enc_l hi1 (by omega)]) ?_
              refine aw_iaddN C dX6_knownOf_159 ?_
              refine aw_istore C (by decide) rfl dX6_knownOf_160 ?_
              refine aw_iconst C (v := nI 1) (by decide) dX6_knownOf_162 ?_
              refine aw_iload C rfl dX6_knownOf_163 ?_
              refine aw_bipush C (v := nI 10) (by decide) dX6_knownOf_165 ?_
              refine aw_ishrN C (by omega) (by omega) dX6_knownOf_167 ?_
              refine aw_top (show _ = nI i.2.2 from by rw [enc_s hi1 (by omega)]) ?_
              refine aw_iaddN C dX6_knownOf_168 ?_
              refine aw_istore C (by decide) rfl dX6_knownOf_169 ?_
              refine aw_iload C rfl dX6_knownOf_171 ?_
              refine aw_iload C rfl dX6_knownOf_173 ?_
              refine aw_icmpN_le C (tgt := 183) (by omega) (by omega) dX6_knownOf_175 (by decide) (fun gl => ?_) (fun gl => ?_)
              · refine aw_iload C rfl dX6_knownOf_183 ?_
                refine aw_istore C (by decide) rfl dX6_knownOf_185 ?_
                refine aw_iload C rfl dX6_knownOf_187 ?_
                refine aw_iconst C (v := -1) (by decide) dX6_knownOf_189 ?_
                refine aw_icmp_eq C (tgt := 200) dX6_knownOf_190 (by decide) (fun gs => ?_) (fun gs => ?_)
                · refine aw_iload C rfl dX6_knownOf_200 ?_
                  refine aw_goto C (tgt := 207) dX6_knownOf_202 (by decide) ?_
                  refine aw_istore C (by decide) rfl dX6_knownOf_207 ?_
                  refine aw_iinc1 C rfl (by decide) rfl dX6_knownOf_209 ?_
                  refine aw_goto C (tgt := 74) dX6_knownOf_212 (by decide) ?_
                  have gz := sh_m1 a.2.2 (by omega)
                  refine aw_lo (ih2 (c + 1) (gopt a i) _ gV (by omega) (by omega) (by rw [scC, if_pos gB, ← ha, hi]) (hk.tr hun.1) hun.2) ⟨rfl, rfl, rfl, rfl, rfl, ?_, ?_, rfl, rfl, rfl, trivial⟩
                  · first | exact go5a (by omega) | exact go5b (by omega)
                  · first | exact go6a (Or.inl (gz.mp gs)) | exact go6a (by omega) | exact go6b (by omega)
                · have gs2 : ¬ a.2.2 = 0 := mt (sh_m1 a.2.2 (by omega)).mpr gs
                  rw [show nI a.2.2 - nI 1 = nI (a.2.2 - 1) from pk_sub (by omega)]
                  refine aw_iload C rfl dX6_knownOf_193 ?_
                  refine aw_iload C rfl dX6_knownOf_195 ?_
                  refine aw_icmpN_ge C (tgt := 205) (by omega) (by omega) dX6_knownOf_197 (by decide) (fun gt => ?_) (fun gt => ?_)
                  · refine aw_iload C rfl dX6_knownOf_205 ?_
                    refine aw_istore C (by decide) rfl dX6_knownOf_207 ?_
                    refine aw_iinc1 C rfl (by decide) rfl dX6_knownOf_209 ?_
                    refine aw_goto C (tgt := 74) dX6_knownOf_212 (by decide) ?_
                    have gz := sh_m1 a.2.2 (by omega)
                    refine aw_lo (ih2 (c + 1) (gopt a i) _ gV (by omega) (by omega) (by rw [scC, if_pos gB, ← ha, hi]) (hk.tr hun.1) hun.2) ⟨rfl, rfl, rfl, rfl, rfl, ?_, ?_, rfl, rfl, rfl, trivial⟩
                    · first | exact go5a (by omega) | exact go5b (by omega)
                    · first | exact go6a (Or.inl (gz.mp gs)) | exact go6a (by omega) | exact go6b (by omega)
                  · refine aw_iload C rfl dX6_knownOf_200 ?_
                    refine aw_goto C (tgt := 207) dX6_knownOf_202 (by decide) ?_
                    refine aw_istore C (by decide) rfl dX6_knownOf_207 ?_
                    refine aw_iinc1 C rfl (by decide) rfl dX6_knownOf_209 ?_
                    refine aw_goto C (tgt := 74) dX6_knownOf_212 (by decide) ?_
                    have gz := sh_m1 a.2.2 (by omega)
                    refine aw_lo (ih2 (c + 1) (gopt a i) _ gV (by omega) (by omega) (by rw [scC, if_pos gB, ← ha, hi]) (hk.tr hun.1) hun.2) ⟨rfl, rfl, rfl, rfl, rfl, ?_, ?_, rfl, rfl, rfl, trivial⟩
                    · first | exact go5a (by omega) | exact go5b (by omega)
                    · first | exact go6a (Or.inl (gz.mp gs)) | exact go6a (by omega) | exact go6b (by omega)
              · refine aw_iload C rfl dX6_knownOf_178 ?_
                refine aw_goto C (tgt := 185) dX6_knownOf_180 (by decide) ?_
                refine aw_istore C (by decide) rfl dX6_knownOf_185 ?_
                refine aw_iload C rfl dX6_knownOf_187 ?_
                refine aw_iconst C (v := -1) (by decide) dX6_knownOf_189 ?_
                refine aw_icmp_eq C (tgt := 200) dX6_knownOf_190 (by decide) (fun gs => ?_) (fun gs => ?_)
                · refine aw_iload C rfl dX6_knownOf_200 ?_
                  refine aw_goto C (tgt := 207) dX6_knownOf_202 (by decide) ?_
                  refine aw_istore C (by decide) rfl dX6_knownOf_207 ?_
                  refine aw_iinc1 C rfl (by decide) rfl dX6_knownOf_209 ?_
                  refine aw_goto C (tgt := 74) dX6_knownOf_212 (by decide) ?_
                  have gz := sh_m1 a.2.2 (by omega)
                  refine aw_lo (ih2 (c + 1) (gopt a i) _ gV (by omega) (by omega) (by rw [scC, if_pos gB, ← ha, hi]) (hk.tr hun.1) hun.2) ⟨rfl, rfl, rfl, rfl, rfl, ?_, ?_, rfl, rfl, rfl, trivial⟩
                  · first | exact go5a (by omega) | exact go5b (by omega)
                  · first | exact go6a (Or.inl (gz.mp gs)) | exact go6a (by omega) | exact go6b (by omega)
                · have gs2 : ¬ a.2.2 = 0 := mt (sh_m1 a.2.2 (by omega)).mpr gs
                  rw [show nI a.2.2 - nI 1 = nI (a.2.2 - 1) from pk_sub (by omega)]
                  refine aw_iload C rfl dX6_knownOf_193 ?_
                  refine aw_iload C rfl dX6_knownOf_195 ?_
                  refine aw_icmpN_ge C (tgt := 205) (by omega) (by omega) dX6_knownOf_197 (by decide) (fun gt => ?_) (fun gt => ?_)
                  · refine aw_iload C rfl dX6_knownOf_205 ?_
                    refine aw_istore C (by decide) rfl dX6_knownOf_207 ?_
                    refine aw_iinc1 C rfl (by decide) rfl dX6_knownOf_209 ?_
                    refine aw_goto C (tgt := 74) dX6_knownOf_212 (by decide) ?_
                    have gz := sh_m1 a.2.2 (by omega)
                    refine aw_lo (ih2 (c + 1) (gopt a i) _ gV (by omega) (by omega) (by rw [scC, if_pos gB, ← ha, hi]) (hk.tr hun.1) hun.2) ⟨rfl, rfl, rfl, rfl, rfl, ?_, ?_, rfl, rfl, rfl, trivial⟩
                    · first | exact go5a (by omega) | exact go5b (by omega)
                    · first | exact go6a (Or.inl (gz.mp gs)) | exact go6a (by omega) | exact go6b (by omega)
                  · refine aw_iload C rfl dX6_knownOf_200 ?_
                    refine aw_goto C (tgt := 207) dX6_knownOf_202 (by decide) ?_
                    refine aw_istore C (by decide) rfl dX6_knownOf_207 ?_
                    refine aw_iinc1 C rfl (by decide) rfl dX6_knownOf_209 ?_
                    refine aw_goto C (tgt := 74) dX6_knownOf_212 (by decide) ?_
                    have gz := sh_m1 a.2.2 (by omega)
                    refine aw_lo (ih2 (c + 1) (gopt a i) _ gV (by omega) (by omega) (by rw [scC, if_pos gB, ← ha, hi]) (hk.tr hun.1) hun.2) ⟨rfl, rfl, rfl, rfl, rfl, ?_, ?_, rfl, rfl, rfl, trivial⟩
                    · first | exact go5a (by omega) | exact go5b (by omega)
                    · first | exact go6a (Or.inl (gz.mp gs)) | exact go6a (by omega) | exact go6b (by omega)
            · refine aw_goto C (tgt := 209) dX6_knownOf_95 (by decide) ?_
              refine aw_iinc1 C rfl (by decide) rfl dX6_knownOf_209 ?_
              refine aw_goto C (tgt := 74) dX6_knownOf_212 (by decide) ?_
              exact aw_lo (ih2 (c + 1) a u1 gV (by omega) (by omega) (by rw [scC, if_neg (by rw [gB]; decide)]; exact ha) hk hkt) ⟨rfl, rfl, rfl, rfl, rfl, rfl, rfl, rfl, rfl, rfl, trivial⟩
      refine aw_iload C rfl dX6_knownOf_36 ?_
      refine aw_aload_n C rfl rfl dX6_knownOf_38 ?_
      refine tw_get C 0 (by decide) q1818 rfl dX6_knownOf_39 ?_
      refine aw_iconst C (v := nI 0) (by decide) dX6_knownOf_42 ?_
      refine tw_ld0 C (by omega) dX6_knownOf_43 ?_
      refine aw_top (hu1 _) ?_
      refine aw_icmpN_ge C (tgt := 221) (by omega) (by omega) dX6_knownOf_44 (by decide) (fun gV => ?_) (fun gV => ?_)
      · have hgf : gfin a = G b part m := by rw [G_s hN hp9, ha, show v = b 0 by omega]
        have hmx : mex a.1 < 32 := Nat.lt_of_le_of_lt (mex_le _) (by have := hA.1; omega)
        refine aw_aload_n C rfl rfl dX6_knownOf_221 ?_
        refine tw_get C 18 (by decide) q1836 rfl dX6_knownOf_222 ?_
        refine aw_iload_n C rfl rfl dX6_knownOf_225 ?_
        refine aw_iload C rfl dX6_knownOf_226 ?_
        refine aw_iconst C (v := -1) (by decide) dX6_knownOf_228 ?_
        refine aw_ixor C dX6_knownOf_229 ?_
        refine tw_callSR C (t6_lowestM hG l o sz u1 hA.2.1 (Nat.lt_of_le_of_lt (mex_le _) (by have := hA.1; omega))) q2019 q2020 q120 q2021 (n9 := 1) (by decide +kernel) rfl (by dsimp only; omega) (by dsimp only; omega) (Nat.zero_le _) (Nat.zero_le _) rfl (Nat.le_of_ble_eq_true rfl) dX6_knownOf_230 ?_
        refine aw_iload C rfl dX6_knownOf_233 ?_
        refine aw_iconst C (v := nI 5) (by decide) dX6_knownOf_235 ?_
        refine aw_ishlN C (by omega) dX6_knownOf_236 ?_
        refine aw_iorN C dX6_knownOf_237 ?_
        refine aw_iload C rfl dX6_knownOf_238 ?_
        refine aw_iconst C (v := -1) (by decide) dX6_knownOf_240 ?_
        refine aw_icmp_ne C (tgt := 248) dX6_knownOf_241 (by decide) (fun gs => ?_) (fun gs => ?_)
        · have gs2 : ¬ a.2.2 = 0 := mt (sh_m1 a.2.2 (by omega)).mpr gs
          rw [show nI a.2.2 - nI 1 = nI (a.2.2 - 1) from pk_sub (by omega)]
          refine aw_iload C rfl dX6_knownOf_248 ?_
          refine aw_top (show _ = nI (a.2.2 - 1) from by first | rfl | rw [(sh_m1 a.2.2 (by omega)).mp gs]) ?_
          refine aw_bipush C (v := nI 10) (by decide) dX6_knownOf_250 ?_
          refine aw_ishlN C (by omega) dX6_knownOf_252 ?_
          refine aw_iorN C dX6_knownOf_253 ?_
          refine aw_top (show _ = nI (enc (G b part m)) from by rw [← hgf]; rfl) ?_
          refine tw_st18 C (by omega) dX6_knownOf_254 ?_
          refine aw_aload_n C rfl rfl dX6_knownOf_255 ?_
          refine tw_get C 18 (by decide) q1836 rfl dX6_knownOf_256 ?_
          refine aw_iload_n C rfl rfl dX6_knownOf_259 ?_
          refine tw_ld18 C (by omega) dX6_knownOf_260 ?_
          refine aw_top (show _ = nI (enc (G b part m)) from by show upd _ _ _ _ = _; rw [pk_us]) ?_
          exact aw_iret C rfl dX6_knownOf_261 (Nat.le_refl _) (Nat.le_refl _) ⟨rfl, _, _, rfl, rfl, rfl, hk.tr (TK.up u1 _), kt_upd hkt (ST.rf b) hW hS hV hm⟩
        · refine aw_iconst C (v := nI 0) (by decide) dX6_knownOf_244 ?_
          refine aw_goto C (tgt := 250) dX6_knownOf_245 (by decide) ?_
          refine aw_top (show _ = nI (a.2.2 - 1) from by first | rfl | rw [(sh_m1 a.2.2 (by omega)).mp gs]) ?_
          refine aw_bipush C (v := nI 10) (by decide) dX6_knownOf_250 ?_
          refine aw_ishlN C (by omega) dX6_knownOf_252 ?_
          refine aw_iorN C dX6_knownOf_253 ?_
          refine aw_top (show _ = nI (enc (G b part m)) from by rw [← hgf]; rfl) ?_
          refine tw_st18 C (by omega) dX6_knownOf_254 ?_
          refine aw_aload_n C rfl rfl dX6_knownOf_255 ?_
          refine tw_get C 18 (by decide) q1836 rfl dX6_knownOf_256 ?_
          refine aw_iload_n C rfl rfl dX6_knownOf_259 ?_
          refine tw_ld18 C (by omega) dX6_knownOf_260 ?_
          refine aw_top (show _ = nI (enc (G b part m)) from by show upd _ _ _ _ = _; rw [pk_us]) ?_
          exact aw_iret C rfl dX6_knownOf_261 (Nat.le_refl _) (Nat.le_refl _) ⟨rfl, _, _, rfl, rfl, rfl, hk.tr (TK.up u1 _), kt_upd hkt (ST.rf b) hW hS hV hm⟩
      · refine aw_iload_n C rfl rfl dX6_knownOf_47 ?_
        refine aw_iload C rfl dX6_knownOf_48 ?_
        refine aw_ishrN C (by omega) (by omega) dX6_knownOf_50 ?_
        refine aw_iconst C (v := nI 1) (by decide) dX6_knownOf_51 ?_
        refine aw_iandBit C dX6_knownOf_52 ?_
        refine aw_iconst C (v := nI 1) (by decide) dX6_knownOf_53 ?_
        refine aw_bit_ne1 C (tgt := 68) dX6_knownOf_54 (by decide) (fun gB => ?_) (fun gB => ?_)
        · refine aw_iconst C (v := nI 0) (by decide) dX6_knownOf_68 ?_
          refine aw_istore C (by decide) rfl dX6_knownOf_69 ?_
          refine aw_iconst C (v := nI 0) (by decide) dX6_knownOf_71 ?_
          refine aw_istore C (by decide) rfl dX6_knownOf_72 ?_
          refine aw_lo (key2 (b 1 + 1) 0 a u1 (by omega) (Nat.zero_le _) (by omega) ha hk hkt) ⟨rfl, rfl, rfl, rfl, rfl, rfl, rfl, rfl, ?_, rfl, trivial⟩
          first | exact congrArg (fun z => some (Value.int (nI z))) (scS_n gB) | exact congrArg (fun z => some (Value.int (nI z))) (scS_y gB)
        · refine aw_aload_n C rfl rfl dX6_knownOf_57 ?_
          refine aw_iload C rfl dX6_knownOf_58 ?_
          refine aw_iload_n C rfl rfl dX6_knownOf_60 ?_
          refine aw_iload_n C rfl rfl dX6_knownOf_61 ?_
          refine tw_callR C (t6_canLay hG l o sz u1 hu1 hW (by omega) (by omega) (by omega)) q2004 q2006 qs63 q120 q2007 (n9 := 3) (by decide +kernel) rfl (by dsimp only; omega) (by dsimp only; omega) (Nat.zero_le _) (Nat.zero_le _) rfl (Nat.le_of_ble_eq_true rfl) dX6_knownOf_62 ?_
          refine aw_goto C (tgt := 69) dX6_knownOf_65 (by decide) ?_
          refine aw_istore C (by decide) rfl dX6_knownOf_69 ?_
          refine aw_iconst C (v := nI 0) (by decide) dX6_knownOf_71 ?_
          refine aw_istore C (by decide) rfl dX6_knownOf_72 ?_
          refine aw_lo (key2 (b 1 + 1) 0 a u1 (by omega) (Nat.zero_le _) (by omega) ha hk hkt) ⟨rfl, rfl, rfl, rfl, rfl, rfl, rfl, rfl, ?_, rfl, trivial⟩
          first | exact congrArg (fun z => some (Value.int (nI z))) (scS_n gB) | exact congrArg (fun z => some (Value.int (nI z))) (scS_y gB)
  refine aw_aload_n C rfl rfl dX6_knownOf_0 ?_
  refine aw_iload_n C rfl rfl dX6_knownOf_1 ?_
  refine aw_iload_n C rfl rfl dX6_knownOf_2 ?_
  refine tw_callR C (t6_placeOf hG l o sz u hu hW (by omega)) q2110 q2112 qs83 q120 q2113 (n9 := 2) (by decide +kernel) rfl (by dsimp only; omega) (by dsimp only; omega) (Nat.zero_le _) (Nat.zero_le _) rfl (Nat.le_of_ble_eq_true rfl) dX6_knownOf_3 ?_
  refine aw_istore_n C rfl (by decide) rfl dX6_knownOf_6 ?_
  refine aw_aload_n C rfl rfl dX6_knownOf_7 ?_
  refine tw_get C 18 (by decide) q1836 rfl dX6_knownOf_8 ?_
  refine aw_iload_n C rfl rfl dX6_knownOf_11 ?_
  refine tw_ld18 C (by omega) dX6_knownOf_12 ?_
  refine aw_iconst C (v := -1) (by decide) dX6_knownOf_13 ?_
  refine aw_icmp_eq C (tgt := 24) dX6_knownOf_14 (by decide) (fun gK => ?_) (fun gK => ?_)
  · refine aw_iconst C (v := nI 0) (by decide) dX6_knownOf_24 ?_
    refine aw_istore C (by decide) rfl dX6_knownOf_25 ?_
    refine aw_iconst C (v := nI 0) (by decide) dX6_knownOf_27 ?_
    refine aw_istore C (by decide) rfl dX6_knownOf_28 ?_
    refine aw_iconst C (v := nI 0 - nI 1) (by decide) dX6_knownOf_30 ?_
    refine aw_istore C (by decide) rfl dX6_knownOf_31 ?_
    refine aw_iconst C (v := nI 0) (by decide) dX6_knownOf_33 ?_
    refine aw_istore C (by decide) rfl dX6_knownOf_34 ?_
    exact aw_lo (key (b 0 + 1) 0 (0, 0, 0) u (Nat.zero_le _) (by omega) rfl (TK.rf u) hkt0) ⟨rfl, rfl, rfl, rfl, rfl, rfl, rfl, rfl, trivial⟩
  · refine aw_aload_n C rfl rfl dX6_knownOf_17 ?_
    refine tw_get C 18 (by decide) q1836 rfl dX6_knownOf_18 ?_
    refine aw_iload_n C rfl rfl dX6_knownOf_21 ?_
    refine tw_ld18 C (by omega) dX6_knownOf_22 ?_
    exact aw_iret C rfl dX6_knownOf_23 (Nat.le_refl _) (Nat.le_refl _) ⟨rfl, _, u, rfl, rfl, (hkt0 b part m (ST.rf b) hW hV hm).resolve_left gK, TK.rf u, hkt0⟩
theorem ko_all {γ : Gm} (hG : GF γ) (l : Launch) (o sz : Nat) : ∀ f, KO γ l o sz f := by
  intro f
  induction f with
  | zero =>
    intro u b part m hu hW hP hS hV hp0 hf
    have := pop_pos part (Nat.lt_of_lt_of_le hV.1 (Nat.pow_le_pow_right (by omega) hW.2.1)) hp0
    omega
  | succ f ih => exact ko_of hG l o sz f (tg_of hG l o sz f ih)
/-- knownOf, of a whole part -/
theorem t6_knownOf {γ : Gm} (hG : GF γ) (l : Launch) (o sz : Nat) (u : TU) {b : Nat → Nat} (hu : BD u b) (hW : WB b) (hP : WP b) (hS : SY b) {part m : Nat} (hV : Vd b part) (hp0 : 0 < part) (hm : m ≤ b 1) (hkt : KT u b) : MX γ l yX6_knownOf cX6_knownOf 13 (some .int) 22 740 0 0 [.ref o, .int (nI part), .int (nI m - nI 1)] (th o u) sz (RUi o sz (KP u b (enc (G b part m)))) NX :=
  ko_all hG l o sz 9 u b part m hu hW hP hS hV hp0 (pop_le part (Nat.lt_of_lt_of_le hV.1 (Nat.pow_le_pow_right (by omega) hW.2.1))) hm hkt
