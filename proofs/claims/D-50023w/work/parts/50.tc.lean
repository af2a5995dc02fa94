/-! the twin: reading signs -/
/-- the signs are there -/
def RXf (u : TU) (bf : List Nat) (n : Nat) : Prop := u.1 10 = nI n ∧ n ≤ 500 ∧ ∀ i, i < n → u.2 8 i = nI (bf.getD i 0) ∧ bf.getD i 0 < 256
def TKn (u : TU) (bf : List Nat) (n a : Nat) : Prop := u.1 11 = nI a ∧ u.1 12 = nI (en bf n a) ∧ u.1 13 = nI (kd bf n a) ∧ (kd bf n a = 1 → u.1 14 = nI (nm bf n a 0))
def PR (u : TU) (bf : List Nat) (n : Nat) (s : RS) : Prop := RXf u bf n ∧ BD u s.2.1 ∧ TKn u bf n s.1 ∧ u.1 15 = s.2.2.1 ∧ (¬ s.2.2.1 = 0 → u.1 16 = nI s.2.2.2) ∧ s.1 ≤ n
def RJ (u u' : TU) : Prop := (∀ i, i < 11 ∨ 16 < i → u'.1 i = u.1 i) ∧ ∀ i, i ≠ 0 → u'.2 i = u.2 i
theorem RJ.rf (u : TU) : RJ u u := ⟨fun _ _ => rfl, fun _ _ => rfl⟩
theorem RJ.tr {u u1 u2 : TU} (h : RJ u u1) (g : RJ u1 u2) : RJ u u2 := ⟨fun i a => (g.1 i a).trans (h.1 i a), fun i a => (g.2 i a).trans (h.2 i a)⟩
def seeV (bf : List Nat) (n k : Nat) : Int32 := if k < n then nI (bf.getD k 0) else -1
theorem see_c : ∀ c, c < 256 → ((nI 97 ≤ nI c ∧ nI c ≤ nI 122) ↔ (97 ≤ c ∧ c ≤ 122)) ∧ ((nI 48 ≤ nI c ∧ nI c ≤ nI 57) ↔ (48 ≤ c ∧ c ≤ 57)) ∧ (nI c = nI 32 ↔ c = 32) ∧ (nI c = nI 59 ↔ c = 59) := by decide +kernel
theorem see_lt {bf : List Nat} {n k : Nat} (hb : ∀ i, i < n → bf.getD i 0 < 256) : decide (nI 97 ≤ seeV bf n k ∧ seeV bf n k ≤ nI 122) = isLt bf n k := by
  unfold seeV isLt
  by_cases h : k < n
  · rw [if_pos h]
    have := (see_c _ (hb k h)).1
    simp only [h, true_and, this]
  · rw [if_neg h]
    simp only [h, false_and, decide_false]
    decide
theorem see_dg {bf : List Nat} {n k : Nat} (hb : ∀ i, i < n → bf.getD i 0 < 256) : decide (nI 48 ≤ seeV bf n k ∧ seeV bf n k ≤ nI 57) = isDg bf n k := by
  unfold seeV isDg
  by_cases h : k < n
  · rw [if_pos h]
    have := (see_c _ (hb k h)).2.1
    simp only [h, true_and, this]
  · rw [if_neg h]
    simp only [h, false_and, decide_false]
    decide
theorem see_sp {bf : List Nat} {n k : Nat} (hb : ∀ i, i < n → bf.getD i 0 < 256) : seeV bf n k = nI 32 ↔ isSp bf n k = true := by
  unfold seeV isSp
  by_cases h : k < n
  · rw [if_pos h]
    have := (see_c _ (hb k h)).2.2.1
    rw [decide_eq_true_eq, this]
    simp only [h, true_and]
  · rw [if_neg h]
    simp only [h, false_and, decide_false]
    decide
theorem see_semi {bf : List Nat} {n k : Nat} (hb : ∀ i, i < n → bf.getD i 0 < 256) (hk : kd bf n k = 2) : (seeV bf n k = nI 59) ↔ bf.getD k 0 = 59 := by
  have h : k < n := by
    apply Nat.not_le.mp
    intro z
    unfold kd at hk
    rw [if_pos z] at hk
    exact absurd hk (by decide)
  unfold seeV
  rw [if_pos h]
  exact (see_c _ (hb k h)).2.2.2
theorem kd_cases {bf : List Nat} {n a : Nat} (ha : a < n) : (isLt bf n a = true → kd bf n a = 0 ∧ en bf n a = rn (isLt bf n) n a) ∧ (isLt bf n a = false → isDg bf n a = true → kd bf n a = 1 ∧ en bf n a = rn (isDg bf n) n a) ∧ (isLt bf n a = false → isDg bf n a = false → kd bf n a = 2 ∧ en bf n a = a + 1) := by
  refine ⟨fun h => ?_, fun h g => ?_, fun h g => ?_⟩
  · unfold kd en
    rw [if_neg (by omega), if_pos h, if_neg (by omega), if_pos h]
    exact ⟨rfl, rfl⟩
  · unfold kd en
    rw [if_neg (by omega), if_neg (by rw [h]; decide), if_pos g, if_neg (by omega), if_neg (by rw [h]; decide), if_pos g]
    exact ⟨rfl, rfl⟩
  · unfold kd en
    rw [if_neg (by omega), if_neg (by rw [h]; decide), if_neg (by rw [g]; decide), if_neg (by omega), if_neg (by rw [h]; decide), if_neg (by rw [g]; decide)]
    exact ⟨rfl, rfl⟩
theorem kd_end {bf : List Nat} {n a : Nat} (ha : n ≤ a) : kd bf n a = 3 ∧ en bf n a = a := by
  unfold kd en
  rw [if_pos ha, if_pos ha]
  exact ⟨rfl, rfl⟩

set_option maxRecDepth 100000 in
theorem t6_see {γ : Gm} (hG : GF γ) (l : Launch) (o sz : Nat) (u : TU)  {bf : List Nat} {n : Nat} (hx : RXf u bf n) {k : Nat} (hk : k ≤ 1000) : MX γ l yX6_see cX6_see 2 (some .int) 0 0 0 0 [.ref o, .int (nI k)] (th o u) sz (RI (th o u) sz (seeV bf n k)) NX := by
  refine mx_start hG (by decide) (Nat.le_of_ble_eq_true rfl) (fun x C => ?_)
  have hn := hx.2.1
  refine aw_iload_n C rfl rfl dX6_see_0 ?_
  refine aw_aload_n C rfl rfl dX6_see_1 ?_
  refine tw_get C 10 (by decide) q1828 rfl dX6_see_2 ?_
  refine aw_top (hx.1) ?_
  refine aw_icmpN_ge C (tgt := 17) (by omega) (by omega) dX6_see_5 (by decide) (fun gN => ?_) (fun gN => ?_)
  · refine aw_iconst C (v := -1) (by decide) dX6_see_17 ?_
    exact aw_iret C rfl dX6_see_18 (Nat.le_refl _) (Nat.le_refl _) ⟨by unfold seeV; first | (rw [if_pos (by omega), (hx.2.2 k (by omega)).1]; done) | (rw [if_neg (by omega)]; done), rfl, rfl⟩
  · refine aw_aload_n C rfl rfl dX6_see_8 ?_
    refine tw_get C 8 (by decide) q1826 rfl dX6_see_9 ?_
    refine aw_iload_n C rfl rfl dX6_see_12 ?_
    refine tw_ld8 C (by omega) dX6_see_13 ?_
    refine aw_goto C (tgt := 18) dX6_see_14 (by decide) ?_
    exact aw_iret C rfl dX6_see_18 (Nat.le_refl _) (Nat.le_refl _) ⟨by unfold seeV; first | (rw [if_pos (by omega), (hx.2.2 k (by omega)).1]; done) | (rw [if_neg (by omega)]; done), rfl, rfl⟩
set_option maxRecDepth 100000 in
theorem t6_next {γ : Gm} (hG : GF γ) (l : Launch) (o sz : Nat) (u : TU)  {bf : List Nat} {n : Nat} (hx : RXf u bf n) {e : Nat} (he : u.1 12 = nI e) (hen : e ≤ n) : MX γ l yX6_next cX6_next 1 none 1 22 0 0 [.ref o] (th o u) sz (RUv o sz (fun u' => (∀ i, i < 11 ∨ 14 < i → u'.1 i = u.1 i) ∧ u'.2 = u.2 ∧ TKn u' bf n (rn (isSp bf n) n e))) NX := by
  refine mx_start hG (by decide) (Nat.le_of_ble_eq_true rfl) (fun x C => ?_)
  have hae := rn_le (P := isSp bf n) (fun _ => isSp_lt) hen
  generalize hga : rn (isSp bf n) n e = a at hae ⊢
  have hn := hx.2.1
  have hby : ∀ i, i < n → bf.getD i 0 < 256 := fun i hi => (hx.2.2 i hi).2
  have key2 : ∀ j p u1, p ≤ n → n + 1 ≤ p + j → rn (isLt bf n) n p = rn (isLt bf n) n a → isLt bf n a = true → a < n → u1.1 11 = nI a → u1.1 12 = nI p → (∀ i, i < 11 ∨ 14 < i → u1.1 i = u.1 i) → u1.2 = u.2 → AW γ l x (QX γ x 0 0 (RUv o sz (fun u' => (∀ i, i < 11 ∨ 14 < i → u'.1 i = u.1 i) ∧ u'.2 = u.2 ∧ TKn u' bf n a)) NX) 1 (th o u1) sz 0 0 79 [(0, .ref o)] [] := by
    intro j
    induction j with
    | zero => intro p u1 h1 h2 hr gL han h11 h12 hf ha; exact absurd h2 (by omega)
    | succ j ih_key2 =>
      intro p u1 h1 h2 hr gL han h11 h12 hf ha
      have hx1 : RXf u1 bf n := ⟨(hf 10 (by omega)).trans hx.1, hx.2.1, by rw [ha]; exact hx.2.2⟩
      refine aw_aload_n C rfl rfl dX6_next_79 ?_
      refine aw_aload_n C rfl rfl dX6_next_80 ?_
      refine tw_get C 12 (by decide) q1830 rfl dX6_next_81 ?_
      refine aw_top (h12) ?_
      refine tw_callR C (t6_see hG l o sz _ (k := p) hx1 (by omega)) q1912 q1914 qs42 q120 q1915 (n9 := 1) (by decide +kernel) rfl (Nat.le_of_ble_eq_true rfl) (Nat.le_of_ble_eq_true rfl) (Nat.zero_le _) (Nat.zero_le _) rfl (Nat.le_of_ble_eq_true rfl) dX6_next_84 ?_
      refine aw_bipush C (v := nI 97) (by decide) dX6_next_87 ?_
      refine aw_bipush C (v := nI 122) (by decide) dX6_next_89 ?_
      refine tw_callSR C (t6_isIn hG l o sz _ _ _ _) q1905 q1906 q120 q1907 (n9 := 3) (by decide +kernel) rfl (Nat.le_of_ble_eq_true rfl) (Nat.le_of_ble_eq_true rfl) (Nat.zero_le _) (Nat.zero_le _) rfl (Nat.le_of_ble_eq_true rfl) dX6_next_91 ?_
      rw [see_lt hby]
      refine aw_bit_eq0 C (tgt := 110) dX6_next_94 (by decide) (fun gB => ?_) (fun gB => ?_)
      · refine aw_aload_n C rfl rfl dX6_next_110 ?_
        refine aw_iconst C (v := nI 0) (by decide) dX6_next_111 ?_
        refine tw_put C 13 (by decide) q1831 rfl rfl rfl dX6_next_112 ?_
        refine aw_goto C (tgt := 228) dX6_next_115 (by decide) ?_
        refine aw_vret C rfl dX6_next_228 (Nat.le_refl _) (Nat.le_refl _) ?_
        obtain ⟨k0, k1⟩ := (kd_cases (bf := bf) han).1 gL
        rw [rn_f gB] at hr
        refine ⟨rfl, rfl, _, rfl, fun i hi => (tsf_ne (by omega)).trans (hf i hi), ha, (tsf_ne (by decide)).trans h11, (tsf_ne (by decide)).trans (h12.trans (by rw [k1, ← hr])), (tsf_at _ _ _).trans (by rw [k0]), fun z => by rw [k0] at z; exact absurd z (by decide)⟩
      · have hpn := isLt_lt gB
        refine aw_aload_n C rfl rfl dX6_next_97 ?_
        refine aw_dup C rfl dX6_next_98 ?_
        refine tw_get C 12 (by decide) q1830 rfl dX6_next_99 ?_
        refine aw_top (h12) ?_
        refine aw_iconst C (v := nI 1) (by decide) dX6_next_102 ?_
        refine aw_iaddN C dX6_next_103 ?_
        refine tw_put C 12 (by decide) q1830 rfl rfl rfl dX6_next_104 ?_
        refine aw_goto C (tgt := 79) dX6_next_107 (by decide) ?_
        exact aw_lo (ih_key2 (p + 1) _ (by omega) (by omega) (by rw [← rn_t gB hpn]; exact hr) gL han h11 (tsf_at _ _ _) (fun i hi => (tsf_ne (by omega)).trans (hf i hi)) ha) ⟨rfl, trivial⟩
  have key3 : ∀ j p acc u1, p ≤ n → n + 1 ≤ p + j → rn (isDg bf n) n p = rn (isDg bf n) n a → nm bf n p acc = nm bf n a 0 → acc < 100000 → isLt bf n a = false → isDg bf n a = true → a < n → u1.1 11 = nI a → u1.1 12 = nI p → u1.1 14 = nI acc → (∀ i, i < 11 ∨ 14 < i → u1.1 i = u.1 i) → u1.2 = u.2 → AW γ l x (QX γ x 0 0 (RUv o sz (fun u' => (∀ i, i < 11 ∨ 14 < i → u'.1 i = u.1 i) ∧ u'.2 = u.2 ∧ TKn u' bf n a)) NX) 1 (th o u1) sz 0 0 141 [(0, .ref o)] [] := by
    intro j
    induction j with
    | zero => intro p acc u1 h1 h2 hr hnm hac gL gD han h11 h12 h14 hf ha; exact absurd h2 (by omega)
    | succ j ih_key3 =>
      intro p acc u1 h1 h2 hr hnm hac gL gD han h11 h12 h14 hf ha
      have hx1 : RXf u1 bf n := ⟨(hf 10 (by omega)).trans hx.1, hx.2.1, by rw [ha]; exact hx.2.2⟩
      refine aw_aload_n C rfl rfl dX6_next_141 ?_
      refine aw_aload_n C rfl rfl dX6_next_142 ?_
      refine tw_get C 12 (by decide) q1830 rfl dX6_next_143 ?_
      refine aw_top (h12) ?_
      refine tw_callR C (t6_see hG l o sz _ (k := p) hx1 (by omega)) q1912 q1914 qs42 q120 q1915 (n9 := 1) (by decide +kernel) rfl (Nat.le_of_ble_eq_true rfl) (Nat.le_of_ble_eq_true rfl) (Nat.zero_le _) (Nat.zero_le _) rfl (Nat.le_of_ble_eq_true rfl) dX6_next_146 ?_
      refine aw_bipush C (v := nI 48) (by decide) dX6_next_149 ?_
      refine aw_bipush C (v := nI 57) (by decide) dX6_next_151 ?_
      refine tw_callSR C (t6_isIn hG l o sz _ _ _ _) q1905 q1906 q120 q1907 (n9 := 3) (by decide +kernel) rfl (Nat.le_of_ble_eq_true rfl) (Nat.le_of_ble_eq_true rfl) (Nat.zero_le _) (Nat.zero_le _) rfl (Nat.le_of_ble_eq_true rfl) dX6_next_153 ?_
      rw [see_dg hby]
      refine aw_bit_eq0 C (tgt := 205) dX6_next_156 (by decide) (fun gB => ?_) (fun gB => ?_)
      · refine aw_aload_n C rfl rfl dX6_next_205 ?_
        refine aw_iconst C (v := nI 1) (by decide) dX6_next_206 ?_
        refine tw_put C 13 (by decide) q1831 rfl rfl rfl dX6_next_207 ?_
        refine aw_goto C (tgt := 228) dX6_next_210 (by decide) ?_
        refine aw_vret C rfl dX6_next_228 (Nat.le_refl _) (Nat.le_refl _) ?_
        obtain ⟨k0, k1⟩ := (kd_cases (bf := bf) han).2.1 gL gD
        rw [rn_f gB] at hr
        rw [nm_f gB] at hnm
        refine ⟨rfl, rfl, _, rfl, fun i hi => (tsf_ne (by omega)).trans (hf i hi), ha, (tsf_ne (by decide)).trans h11, (tsf_ne (by decide)).trans (h12.trans (by rw [k1, ← hr])), (tsf_at _ _ _).trans (by rw [k0]), fun z => (tsf_ne (by decide)).trans (h14.trans (by rw [hnm]))⟩
      · have hpn := isDg_lt gB
        have hpd := (of_decide_eq_true gB).2
        refine aw_aload_n C rfl rfl dX6_next_159 ?_
        refine tw_get C 14 (by decide) q1832 rfl dX6_next_160 ?_
        refine aw_top (h14) ?_
        refine aw_sipush C (v := nI 10000) (by decide) dX6_next_163 ?_
        refine aw_icmpN_ge C (tgt := 192) (by omega) (by omega) dX6_next_166 (by decide) (fun gA => ?_) (fun gA => ?_)
        · refine aw_aload_n C rfl rfl dX6_next_192 ?_
          refine aw_dup C rfl dX6_next_193 ?_
          refine tw_get C 12 (by decide) q1830 rfl dX6_next_194 ?_
          refine aw_top (h12) ?_
          refine aw_iconst C (v := nI 1) (by decide) dX6_next_197 ?_
          refine aw_iaddN C dX6_next_198 ?_
          refine tw_put C 12 (by decide) q1830 rfl rfl rfl dX6_next_199 ?_
          refine aw_goto C (tgt := 141) dX6_next_202 (by decide) ?_
          first
            | exact aw_lo (ih_key3 (p + 1) acc _ (by omega) (by omega) (by rw [← rn_t gB hpn]; exact hr) (by rw [← hnm, nm_t gB, if_neg (by omega)]) hac gL gD han h11 (tsf_at _ _ _) h14 (fun i hi => (tsf_ne (by omega)).trans (hf i hi)) ha) ⟨rfl, trivial⟩
            | exact aw_lo (ih_key3 (p + 1) (10 * acc + bf.getD p 0 - 48) _ (by omega) (by omega) (by rw [← rn_t gB hpn]; exact hr) (by rw [← hnm, nm_t gB, if_pos (by omega)]; congr 1; omega) (by omega) gL gD han h11 (tsf_at _ _ _) (tsf_at u1 14 _) (fun i hi => (tsf_ne (by omega)).trans ((tsf_ne (by omega)).trans (hf i hi))) ha) ⟨rfl, trivial⟩
        · refine aw_aload_n C rfl rfl dX6_next_169 ?_
          refine aw_bipush C (v := nI 10) (by decide) dX6_next_170 ?_
          refine aw_aload_n C rfl rfl dX6_next_172 ?_
          refine tw_get C 14 (by decide) q1832 rfl dX6_next_173 ?_
          refine aw_top (h14) ?_
          refine aw_imulN C dX6_next_176 ?_
          refine aw_aload_n C rfl rfl dX6_next_177 ?_
          refine aw_aload_n C rfl rfl dX6_next_178 ?_
          refine tw_get C 12 (by decide) q1830 rfl dX6_next_179 ?_
          refine aw_top (h12) ?_
          refine tw_callR C (t6_see hG l o sz _ (k := p) hx1 (by omega)) q1912 q1914 qs42 q120 q1915 (n9 := 1) (by decide +kernel) rfl (Nat.le_of_ble_eq_true rfl) (Nat.le_of_ble_eq_true rfl) (Nat.zero_le _) (Nat.zero_le _) rfl (Nat.le_of_ble_eq_true rfl) dX6_next_182 ?_
          refine aw_top (show seeV bf n p = nI (bf.getD p 0) from if_pos hpn) ?_
          refine aw_iaddN C dX6_next_185 ?_
          refine aw_bipush C (v := nI 48) (by decide) dX6_next_186 ?_
          refine aw_isubN C (by omega) dX6_next_188 ?_
          refine tw_put C 14 (by decide) q1832 rfl rfl rfl dX6_next_189 ?_
          refine aw_aload_n C rfl rfl dX6_next_192 ?_
          refine aw_dup C rfl dX6_next_193 ?_
          refine tw_get C 12 (by decide) q1830 rfl dX6_next_194 ?_
          refine aw_top (h12) ?_
          refine aw_iconst C (v := nI 1) (by decide) dX6_next_197 ?_
          refine aw_iaddN C dX6_next_198 ?_
          refine tw_put C 12 (by decide) q1830 rfl rfl rfl dX6_next_199 ?_
          refine aw_goto C (tgt := 141) dX6_next_202 (by decide) ?_
          first
            | exact aw_lo (ih_key3 (p + 1) acc _ (by omega) (by omega) (by rw [← rn_t gB hpn]; exact hr) (by rw [← hnm, nm_t gB, if_neg (by omega)]) hac gL gD han h11 (tsf_at _ _ _) h14 (fun i hi => (tsf_ne (by omega)).trans (hf i hi)) ha) ⟨rfl, trivial⟩
            | exact aw_lo (ih_key3 (p + 1) (10 * acc + bf.getD p 0 - 48) _ (by omega) (by omega) (by rw [← rn_t gB hpn]; exact hr) (by rw [← hnm, nm_t gB, if_pos (by omega)]; congr 1; omega) (by omega) gL gD han h11 (tsf_at _ _ _) (tsf_at u1 14 _) (fun i hi => (tsf_ne (by omega)).trans ((tsf_ne (by omega)).trans (hf i hi))) ha) ⟨rfl, trivial⟩
  have key34 : ∀ u1, u1.1 11 = nI a → (∀ i, i < 11 ∨ 14 < i → u1.1 i = u.1 i) → u1.2 = u.2 → AW γ l x (QX γ x 0 0 (RUv o sz (fun u' => (∀ i, i < 11 ∨ 14 < i → u'.1 i = u.1 i) ∧ u'.2 = u.2 ∧ TKn u' bf n a)) NX) 1 (th o u1) sz 0 0 34 [(0, .ref o)] [] := by
    intro u1 h11 hf ha
    have hx1 : RXf u1 bf n := ⟨(hf 10 (by omega)).trans hx.1, hx.2.1, by rw [ha]; exact hx.2.2⟩
    refine aw_aload_n C rfl rfl dX6_next_34 ?_
    refine aw_aload_n C rfl rfl dX6_next_35 ?_
    refine tw_get C 11 (by decide) q1829 rfl dX6_next_36 ?_
    refine aw_top (h11) ?_
    refine tw_put C 12 (by decide) q1830 rfl rfl rfl dX6_next_39 ?_
    refine aw_aload_n C rfl rfl dX6_next_42 ?_
    refine tw_get C 11 (by decide) q1829 rfl dX6_next_43 ?_
    refine aw_top (h11) ?_
    refine aw_aload_n C rfl rfl dX6_next_46 ?_
    refine tw_get C 10 (by decide) q1828 rfl dX6_next_47 ?_
    refine aw_top (hx1.1) ?_
    refine aw_icmpN_lt C (tgt := 61) (by omega) (by omega) dX6_next_50 (by decide) (fun gN => ?_) (fun gN => ?_)
    · have han : a < n := by omega
      refine aw_aload_n C rfl rfl dX6_next_61 ?_
      refine aw_aload_n C rfl rfl dX6_next_62 ?_
      refine tw_get C 11 (by decide) q1829 rfl dX6_next_63 ?_
      refine aw_top (h11) ?_
      refine tw_callR C (t6_see hG l o sz (tsf u1 12 (nI a)) (k := a) hx1 (by omega)) q1912 q1914 qs42 q120 q1915 (n9 := 1) (by decide +kernel) rfl (Nat.le_of_ble_eq_true rfl) (Nat.le_of_ble_eq_true rfl) (Nat.zero_le _) (Nat.zero_le _) rfl (Nat.le_of_ble_eq_true rfl) dX6_next_66 ?_
      refine aw_bipush C (v := nI 97) (by decide) dX6_next_69 ?_
      refine aw_bipush C (v := nI 122) (by decide) dX6_next_71 ?_
      refine tw_callSR C (t6_isIn hG l o sz _ _ _ _) q1905 q1906 q120 q1907 (n9 := 3) (by decide +kernel) rfl (Nat.le_of_ble_eq_true rfl) (Nat.le_of_ble_eq_true rfl) (Nat.zero_le _) (Nat.zero_le _) rfl (Nat.le_of_ble_eq_true rfl) dX6_next_73 ?_
      rw [see_lt hby]
      refine aw_bit_eq0 C (tgt := 118) dX6_next_76 (by decide) (fun gL => ?_) (fun gL => ?_)
      · refine aw_aload_n C rfl rfl dX6_next_118 ?_
        refine aw_aload_n C rfl rfl dX6_next_119 ?_
        refine tw_get C 11 (by decide) q1829 rfl dX6_next_120 ?_
        refine aw_top (h11) ?_
        refine tw_callR C (t6_see hG l o sz (tsf u1 12 (nI a)) (k := a) hx1 (by omega)) q1912 q1914 qs42 q120 q1915 (n9 := 1) (by decide +kernel) rfl (Nat.le_of_ble_eq_true rfl) (Nat.le_of_ble_eq_true rfl) (Nat.zero_le _) (Nat.zero_le _) rfl (Nat.le_of_ble_eq_true rfl) dX6_next_123 ?_
        refine aw_bipush C (v := nI 48) (by decide) dX6_next_126 ?_
        refine aw_bipush C (v := nI 57) (by decide) dX6_next_128 ?_
        refine tw_callSR C (t6_isIn hG l o sz _ _ _ _) q1905 q1906 q120 q1907 (n9 := 3) (by decide +kernel) rfl (Nat.le_of_ble_eq_true rfl) (Nat.le_of_ble_eq_true rfl) (Nat.zero_le _) (Nat.zero_le _) rfl (Nat.le_of_ble_eq_true rfl) dX6_next_130 ?_
        rw [see_dg hby]
        refine aw_bit_eq0 C (tgt := 213) dX6_next_133 (by decide) (fun gD => ?_) (fun gD => ?_)
        · refine aw_aload_n C rfl rfl dX6_next_213 ?_
          refine aw_dup C rfl dX6_next_214 ?_
          refine tw_get C 12 (by decide) q1830 rfl dX6_next_215 ?_
          refine aw_top (tsf_at _ _ _) ?_
          refine aw_iconst C (v := nI 1) (by decide) dX6_next_218 ?_
          refine aw_iaddN C dX6_next_219 ?_
          refine tw_put C 12 (by decide) q1830 rfl rfl rfl dX6_next_220 ?_
          refine aw_aload_n C rfl rfl dX6_next_223 ?_
          refine aw_iconst C (v := nI 2) (by decide) dX6_next_224 ?_
          refine tw_put C 13 (by decide) q1831 rfl rfl rfl dX6_next_225 ?_
          refine aw_vret C rfl dX6_next_228 (Nat.le_refl _) (Nat.le_refl _) ?_
          first
            | (obtain ⟨k0, k1⟩ := kd_end (bf := bf) (show n ≤ a by omega)
               exact ⟨rfl, rfl, _, rfl, fun i hi => (tsf_ne (by omega)).trans ((tsf_ne (by omega)).trans (hf i hi)), ha, h11, (show (tsf u1 12 (nI a)).1 12 = _ from (tsf_at _ _ _).trans (by rw [k1])), (tsf_at _ _ _).trans (by rw [k0]), fun z => by rw [k0] at z; exact absurd z (by decide)⟩)
            | (obtain ⟨k0, k1⟩ := (kd_cases (bf := bf) han).2.2 gL gD
               exact ⟨rfl, rfl, _, rfl, fun i hi => (tsf_ne (by omega)).trans ((tsf_ne (by omega)).trans ((tsf_ne (by omega)).trans (hf i hi))), ha, h11, (show (tsf (tsf u1 12 (nI a)) 12 (nI (a + 1))).1 12 = _ from (tsf_at _ _ _).trans (by rw [k1])), (tsf_at _ _ _).trans (by rw [k0]), fun z => by rw [k0] at z; exact absurd z (by decide)⟩)
        · refine aw_aload_n C rfl rfl dX6_next_136 ?_
          refine aw_iconst C (v := nI 0) (by decide) dX6_next_137 ?_
          refine tw_put C 14 (by decide) q1832 rfl rfl rfl dX6_next_138 ?_
          exact aw_lo (key3 (n + 1) a 0 _ (by omega) (by omega) rfl rfl (by decide) gL gD han h11 (tsf_at u1 12 (nI a)) (tsf_at _ _ _) (fun i hi => (tsf_ne (by omega)).trans ((tsf_ne (by omega)).trans (hf i hi))) ha) ⟨rfl, trivial⟩
      · exact aw_lo (key2 (n + 1) a _ (by omega) (by omega) rfl gL han h11 (tsf_at _ _ _) (fun i hi => (tsf_ne (by omega)).trans (hf i hi)) ha) ⟨rfl, trivial⟩
    · refine aw_aload_n C rfl rfl dX6_next_53 ?_
      refine aw_iconst C (v := nI 3) (by decide) dX6_next_54 ?_
      refine tw_put C 13 (by decide) q1831 rfl rfl rfl dX6_next_55 ?_
      refine aw_goto C (tgt := 228) dX6_next_58 (by decide) ?_
      refine aw_vret C rfl dX6_next_228 (Nat.le_refl _) (Nat.le_refl _) ?_
      first
        | (obtain ⟨k0, k1⟩ := kd_end (bf := bf) (show n ≤ a by omega)
           exact ⟨rfl, rfl, _, rfl, fun i hi => (tsf_ne (by omega)).trans ((tsf_ne (by omega)).trans (hf i hi)), ha, h11, (show (tsf u1 12 (nI a)).1 12 = _ from (tsf_at _ _ _).trans (by rw [k1])), (tsf_at _ _ _).trans (by rw [k0]), fun z => by rw [k0] at z; exact absurd z (by decide)⟩)
        | (obtain ⟨k0, k1⟩ := (kd_cases (bf := bf) han).2.2 gL gD
           exact ⟨rfl, rfl, _, rfl, fun i hi => (tsf_ne (by omega)).trans ((tsf_ne (by omega)).trans ((tsf_ne (by omega)).trans (hf i hi))), ha, h11, (show (tsf (tsf u1 12 (nI a)) 12 (nI (a + 1))).1 12 = _ from (tsf_at _ _ _).trans (by rw [k1])), (tsf_at _ _ _).trans (by rw [k0]), fun z => by rw [k0] at z; exact absurd z (by decide)⟩)
  have key1 : ∀ j p u1, p ≤ n → n + 1 ≤ p + j → rn (isSp bf n) n p = a → u1.1 11 = nI p → (∀ i, i < 11 ∨ 14 < i → u1.1 i = u.1 i) → u1.2 = u.2 → AW γ l x (QX γ x 0 0 (RUv o sz (fun u' => (∀ i, i < 11 ∨ 14 < i → u'.1 i = u.1 i) ∧ u'.2 = u.2 ∧ TKn u' bf n a)) NX) 1 (th o u1) sz 0 0 8 [(0, .ref o)] [] := by
    intro j
    induction j with
    | zero => intro p u1 h1 h2 hr h11 hf ha; exact absurd h2 (by omega)
    | succ j ih_key1 =>
      intro p u1 h1 h2 hr h11 hf ha
      have hx1 : RXf u1 bf n := ⟨(hf 10 (by omega)).trans hx.1, hx.2.1, by rw [ha]; exact hx.2.2⟩
      refine aw_aload_n C rfl rfl dX6_next_8 ?_
      refine aw_aload_n C rfl rfl dX6_next_9 ?_
      refine tw_get C 11 (by decide) q1829 rfl dX6_next_10 ?_
      refine aw_top (h11) ?_
      refine tw_callR C (t6_see hG l o sz _ (k := p) hx1 (by omega)) q1912 q1914 qs42 q120 q1915 (n9 := 1) (by decide +kernel) rfl (Nat.le_of_ble_eq_true rfl) (Nat.le_of_ble_eq_true rfl) (Nat.zero_le _) (Nat.zero_le _) rfl (Nat.le_of_ble_eq_true rfl) dX6_next_13 ?_
      refine aw_bipush C (v := nI 32) (by decide) dX6_next_16 ?_
      refine aw_icmp_ne C (tgt := 34) dX6_next_18 (by decide) (fun gS => ?_) (fun gS => ?_)
      · have gS2 : isSp bf n p = false := by
          cases z : isSp bf n p
          · rfl
          · exact absurd ((see_sp hby).mpr z) gS
        rw [rn_f gS2] at hr
        subst hr
        exact aw_lo (key34 u1 h11 hf ha) ⟨rfl, trivial⟩
      · have gS2 := (see_sp hby).mp gS
        have hpn := isSp_lt gS2
        refine aw_aload_n C rfl rfl dX6_next_21 ?_
        refine aw_dup C rfl dX6_next_22 ?_
        refine tw_get C 11 (by decide) q1829 rfl dX6_next_23 ?_
        refine aw_top (h11) ?_
        refine aw_iconst C (v := nI 1) (by decide) dX6_next_26 ?_
        refine aw_iaddN C dX6_next_27 ?_
        refine tw_put C 11 (by decide) q1829 rfl rfl rfl dX6_next_28 ?_
        refine aw_goto C (tgt := 8) dX6_next_31 (by decide) ?_
        exact aw_lo (ih_key1 (p + 1) _ (by omega) (by omega) (by rw [← rn_t gS2 hpn]; exact hr) (tsf_at _ _ _) (fun i hi => (tsf_ne (by omega)).trans (hf i hi)) ha) ⟨rfl, trivial⟩
  refine aw_aload_n C rfl rfl dX6_next_0 ?_
  refine aw_aload_n C rfl rfl dX6_next_1 ?_
  refine tw_get C 12 (by decide) q1830 rfl dX6_next_2 ?_
  refine aw_top (he) ?_
  refine tw_put C 11 (by decide) q1829 rfl rfl rfl dX6_next_5 ?_
  exact aw_lo (key1 (n + 1) e _ hen (by omega) hga (tsf_at _ _ _) (fun i hi => tsf_ne (by omega)) rfl) ⟨rfl, trivial⟩
