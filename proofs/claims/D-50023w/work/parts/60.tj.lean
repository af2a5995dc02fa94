/-! the twin: load -/
def zf (f : Nat → Int32) (n : Nat) : Nat → Int32 := fun j => if j < n then 0 else f j
theorem zf_0 (f : Nat → Int32) : zf f 0 = f := by
  funext j
  exact if_neg (Nat.not_lt_zero j)
theorem zf_s (f : Nat → Int32) (n : Nat) : upd (zf f n) n (nI 0) = zf f (n + 1) := by
  funext j
  by_cases e : j = n
  · subst e
    rw [pk_us]
    unfold zf
    rw [if_pos (by omega)]
    rfl
  · rw [pk_un e]
    unfold zf
    by_cases q : j < n
    · rw [if_pos q, if_pos (by omega)]
    · rw [if_neg q, if_neg (by omega)]
theorem zf_bd {u : TU} {b : BT} (hu : BD u b) (hA : WA b) : BD (tsa u 0 (zf (u.2 0) 4136)) kzero := by
  intro j
  show zf (u.2 0) 4136 j = nI 0
  unfold zf
  by_cases e : j < 4136
  · rw [if_pos e]; rfl
  · rw [if_neg e, hu j, hA.z (by omega)]

/-- the twin's rest, the buffer emptied -/
theorem to_g {u u' : TU} {ks : List BT} {sl : Nat → Option BT} {bf : List Nat} {ea ea' : Int32} {wr : List Nat} (h : TO u ks sl bf ea wr) (h6 : u'.1 6 = u.1 6) (h21 : u'.1 21 = u.1 21) (h9 : u'.1 9 = nI 0) (h17 : u'.1 17 = ea') (ha : ∀ i, i ≠ 0 → i ≠ 1 → i ≠ 2 → u'.2 i = u.2 i) : TO u' ks sl [] ea' wr := by
  obtain ⟨⟨a1, a2, a3⟩, a4, ⟨a5, a6, a7⟩, a8, a9, a10, a11⟩ := h
  refine ⟨⟨h6.trans a1, a2, by rw [ha 3 (by decide) (by decide) (by decide)]; exact a3⟩, fun i hi => ?_, ⟨h9, by decide, fun i hi => absurd hi (Nat.not_lt_zero i)⟩, h17, h21.trans a9, a10, by rw [ha 20 (by decide) (by decide) (by decide)]; exact a11⟩
  rw [ha 4 (by decide) (by decide) (by decide), ha 5 (by decide) (by decide) (by decide)]
  exact a4 i hi
theorem bd_cpz {u : TU} {b b' : BT} {g : Nat → Int32} (hu : BD u b) (hA : Zb b) (hA' : Zb b') (hg : ∀ j, j < 4136 → g j = nI (b' j)) : BD (tsa u 0 (cpy (u.2 0) 0 g 0 4136)) b' := by
  intro j
  show cpy (u.2 0) 0 g 0 4136 j = nI (b' j)
  by_cases e : j < 4136
  · have := cpy_in (f := u.2 0) (ta := 0) (g := g) (fa := 0) e
    rw [Nat.zero_add] at this
    rw [this, hg j e]
  · rw [cpy_out (Or.inr (by omega)), hu j, hA j (by omega), hA' j (by omega)]
theorem spLoad_t {b : BT} {ks : List BT} {sl : Nat → Option BT} {bf : List Nat} {ea : Int32} {wr : List Nat} {k : Nat} {r : RS} (hI : isI (nI k) (nI 0) (nI bf.length) = true) (en : nt (nI k) = k) (hr : rS bf k (r0 bf k) = r) : spLoad (b, ks, sl, bf, ea, wr) (nI k) = spLdR (b, ks, sl, bf, ea, wr) r := by
  subst hr
  exact spLoad_n hI en
theorem cpy_00 {f g : Nat → Int32} {j : Nat} (h : j < 4136) : cpy f 0 g 0 4136 j = g j := by
  have := cpy_in (f := f) (ta := 0) (g := g) (fa := 0) h
  rw [Nat.zero_add] at this
  exact this

set_option maxRecDepth 100000 in
theorem t6_load {γ : Gm} (hG : GF γ) (l : Launch) (o sz : Nat) (u : TU) {b : BT} {ks : List BT} {sl : Nat → Option BT} {bf : List Nat} {ea : Int32} {wr : List Nat} (hu : BD u b) (hA : WA b) (hT : TO u ks sl bf ea wr) {σ : Nat → Nat} (hS : TXT γ σ) (p : Int32) : MX γ l yX6_load cX6_load 3 (some .int) 7 242 0 0 [.ref o, .int p] (th o u) sz (PS o sz (spLoad (b, ks, sl, bf, ea, wr) p)) NX := by
  refine mx_start hG (by decide) (Nat.le_of_ble_eq_true rfl) (fun x C => ?_)
  have hW := hA.w
  have hN := hW.2.1
  have hC3 := hW.2.2.2.1
  have hL9 := hA.l
  have hb5 := hT.2.2.1.2.1
  refine aw_aload_n C rfl rfl dX6_load_0 ?_
  refine aw_iload_n C rfl rfl dX6_load_1 ?_
  refine aw_iconst C (v := nI 0) (by decide) dX6_load_2 ?_
  refine aw_aload_n C rfl rfl dX6_load_3 ?_
  refine tw_get C 9 (by decide) q1827 rfl dX6_load_4 ?_
  refine aw_top (hT.2.2.1.1) ?_
  refine tw_callSR C (t6_isIn hG l o sz _ _ _ _) q1905 q1906 q120 q1907 (n9 := 3) (by decide +kernel) rfl (Nat.le_of_ble_eq_true rfl) (Nat.le_of_ble_eq_true rfl) (Nat.zero_le _) (Nat.zero_le _) rfl (Nat.le_of_ble_eq_true rfl) dX6_load_7 ?_
  refine aw_bit_eq0 C (tgt := 17) dX6_load_10 (by decide) (fun gI => ?_) (fun gI => ?_)
  · refine aw_iconst C (v := nI 1) (by decide) dX6_load_17 ?_
    refine tw_put C 7 (by decide) q1825 rfl rfl rfl dX6_load_18 ?_
    refine aw_aload_n C rfl rfl dX6_load_21 ?_
    refine tw_get C 7 (by decide) q1825 rfl dX6_load_22 ?_
    refine aw_top (tsf_at _ _ _) ?_
    refine aw_if_le C (tgt := 30) dX6_load_25 (by decide) (fun g1 => ?_) (fun g1 => ?_)
    · first | exact absurd g1 (by decide) | exact absurd (by decide) g1
    · refine aw_iconst C (v := nI 0) (by decide) dX6_load_28 ?_
      refine aw_iret C rfl dX6_load_29 (Nat.le_refl _) (Nat.le_refl _) ?_
      unfold spLoad
      first
        | (rw [if_pos (show isI p (nI 0) (nI bf.length) = false from gI)]; exact ⟨rfl, _, _, rfl, rfl, tsf_at _ _ _, rfl, hu, hA, to_put7 hT _⟩)
  · refine aw_iconst C (v := nI 0) (by decide) dX6_load_13 ?_
    refine aw_goto C (tgt := 18) dX6_load_14 (by decide) ?_
    refine tw_put C 7 (by decide) q1825 rfl rfl rfl dX6_load_18 ?_
    refine aw_aload_n C rfl rfl dX6_load_21 ?_
    refine tw_get C 7 (by decide) q1825 rfl dX6_load_22 ?_
    refine aw_top (tsf_at _ _ _) ?_
    refine aw_if_le C (tgt := 30) dX6_load_25 (by decide) (fun g2 => ?_) (fun g2 => ?_)
    · obtain ⟨k1, rfl, hk0, hk1⟩ := isI_ex (lo := 0) (hi := bf.length) (by omega) (by omega) gI
      have en1 := nt_n (k := k1) (by omega)
      have hI := isI_n (k := k1) (lo := 0) (hi := bf.length) (by omega) (by omega) (by omega)
      have hr0 : (r0 bf k1).1 ≤ k1 := (rn_le (P := isSp bf k1) (fun _ => isSp_lt) (Nat.zero_le k1)).2
      have hzz := rS_z (bf := bf) (n := k1) (by omega) (s := r0 bf k1) rfl hr0
      have hx0 : ∀ i, i < k1 → u.2 8 i = nI (bf.getD i 0) ∧ bf.getD i 0 < 256 := fun i hi => ⟨(hT.2.2.1.2.2 i (by omega)).2, (hT.2.2.1.2.2 i (by omega)).1⟩
      have key112 : ∀ r : RS, Zb r.2.1 → (r.2.2.1 = 0 → WA r.2.1) → rS bf k1 (r0 bf k1) = r → ∀ u1, u1.1 6 = u.1 6 → u1.1 21 = u.1 21 → u1.1 9 = nI 0 → u1.1 7 = nI 0 → (∀ i, i ≠ 0 → i ≠ 1 → i ≠ 2 → u1.2 i = u.2 i) → (∀ j, j < 4136 → u1.2 1 j = nI (b j)) → u1.1 15 = r.2.2.1 → (u1.1 17 = if r.2.2.1 = 0 then -1 else nI r.2.2.2) → BD u1 r.2.1 → AW γ l x (QX γ x 0 0 (PS o sz (spLoad (b, ks, sl, bf, ea, wr) (nI k1))) NX) 3 (th o u1) sz 0 0 112 [(0, .ref o)] [] := by
        intro r hz hw hr u1 f6 f21 f9 f7 fa f1 f15 f17 hu
        have e9 : spLoad (b, ks, sl, bf, ea, wr) (nI k1) = spLdR (b, ks, sl, bf, ea, wr) r := spLoad_t hI en1 hr
        clear hzz hr
        refine aw_aload_n C rfl rfl dX6_load_112 ?_
        refine tw_get C 2 (by decide) q1820 rfl dX6_load_113 ?_
        refine aw_iconst C (v := nI 0) (by decide) dX6_load_116 ?_
        refine aw_aload_n C rfl rfl dX6_load_117 ?_
        refine tw_get C 0 (by decide) q1818 rfl dX6_load_118 ?_
        refine aw_iconst C (v := nI 0) (by decide) dX6_load_121 ?_
        refine tw_callSV C (t6_sets_2_0 hG l o sz _ (ta := 0) (fa := 0) (by omega) (by omega)) q1894 q1895 q120 q1896 (n9 := 4) (by decide +kernel) rfl (Nat.le_of_ble_eq_true rfl) (Nat.le_of_ble_eq_true rfl) (Nat.zero_le _) (Nat.zero_le _) rfl (Nat.le_of_ble_eq_true rfl) dX6_load_122 (fun u2 hq => ?_)
        subst hq
        refine aw_aload_n C rfl rfl dX6_load_125 ?_
        refine tw_get C 0 (by decide) q1818 rfl dX6_load_126 ?_
        refine aw_iconst C (v := nI 0) (by decide) dX6_load_129 ?_
        refine aw_aload_n C rfl rfl dX6_load_130 ?_
        refine tw_get C 1 (by decide) q1819 rfl dX6_load_131 ?_
        refine aw_iconst C (v := nI 0) (by decide) dX6_load_134 ?_
        refine tw_callSV C (t6_sets_0_1 hG l o sz _ (ta := 0) (fa := 0) (by omega) (by omega)) q1894 q1895 q120 q1896 (n9 := 4) (by decide +kernel) rfl (Nat.le_of_ble_eq_true rfl) (Nat.le_of_ble_eq_true rfl) (Nat.zero_le _) (Nat.zero_le _) rfl (Nat.le_of_ble_eq_true rfl) dX6_load_135 (fun u3 hq2 => ?_)
        subst hq2
        have hb3 := bd_cpz (u := tsa u1 2 (cpy (u1.2 2) 0 (u1.2 0) 0 4136)) (b := r.2.1) (b' := b) hu hz (fun j hj => hA.z hj) f1
        refine aw_aload_n C rfl rfl dX6_load_138 ?_
        refine tw_get C 15 (by decide) q1833 rfl dX6_load_139 ?_
        refine aw_top (f15) ?_
        refine aw_if_eq C (tgt := 150) dX6_load_142 (by decide) (fun g0 => ?_) (fun g0 => ?_)
        · rw [if_pos g0] at f17
          have hT3 := to_g (u' := tsa (tsa u1 2 (cpy (u1.2 2) 0 (u1.2 0) 0 4136)) 0 (cpy (u1.2 0) 0 (u1.2 1) 0 4136)) hT f6 f21 f9 f17 (fun i h0 h1 h2 => (if_neg h0).trans ((if_neg h2).trans (fa i h0 h1 h2)))
          refine aw_aload_n C rfl rfl dX6_load_150 ?_
          refine tw_callV C (t6_keeps hG l o sz _ hb3 hT3.1.1 hT3.1.2.1.1 hT3.1.2.2) q2038 q2040 qs70 q120 q2041 (n9 := 0) (by decide +kernel) rfl (Nat.le_of_ble_eq_true rfl) (Nat.le_of_ble_eq_true rfl) (Nat.zero_le _) (Nat.zero_le _) rfl (Nat.le_of_ble_eq_true rfl) dX6_load_151 (fun u4 hq4 => ?_)
          obtain ⟨q1, q2, q3, q4⟩ := hq4
          have hT4 := to_keep hT3 hA q1 q2 q3 q4
          have hb4 := bd_of hb3 (q2 0 (by decide))
          refine aw_aload_n C rfl rfl dX6_load_154 ?_
          refine tw_get C 0 (by decide) q1818 rfl dX6_load_155 ?_
          refine aw_iconst C (v := nI 0) (by decide) dX6_load_158 ?_
          refine aw_aload_n C rfl rfl dX6_load_159 ?_
          refine tw_get C 2 (by decide) q1820 rfl dX6_load_160 ?_
          refine aw_iconst C (v := nI 0) (by decide) dX6_load_163 ?_
          refine tw_callSV C (t6_sets_0_2 hG l o sz _ (ta := 0) (fa := 0) (by omega) (by omega)) q1894 q1895 q120 q1896 (n9 := 4) (by decide +kernel) rfl (Nat.le_of_ble_eq_true rfl) (Nat.le_of_ble_eq_true rfl) (Nat.zero_le _) (Nat.zero_le _) rfl (Nat.le_of_ble_eq_true rfl) dX6_load_164 (fun u5 hq5 => ?_)
          subst hq5
          have hq5 := bd_cpz (b := b) (b' := r.2.1) hb4 (fun j hj => hA.z hj) hz (fun j hj => (congrFun (q2 2 (by decide)) j).trans ((cpy_00 hj).trans (hu j)))
          refine aw_aload_n C rfl rfl dX6_load_167 ?_
          refine tw_get C 0 (by decide) q1818 rfl dX6_load_168 ?_
          refine aw_iconst C (v := nI 0) (by decide) dX6_load_171 ?_
          refine tw_ld0 C (by omega) dX6_load_172 ?_
          refine aw_top ((hq5 _)) ?_
          refine aw_iret C rfl dX6_load_173 (Nat.le_refl _) (Nat.le_refl _) ?_
          rw [e9, spLdR_t g0]
          exact ⟨rfl, _, _, rfl, rfl, (q1 7 (by decide)).trans f7, rfl, hq5, hw g0, hT4.j2 (tj_up _ (by omega)).two⟩
        · refine aw_aload_n C rfl rfl dX6_load_145 ?_
          refine tw_get C 15 (by decide) q1833 rfl dX6_load_146 ?_
          refine aw_top (f15) ?_
          refine aw_iret C rfl dX6_load_149 (Nat.le_refl _) (Nat.le_refl _) ?_
          rw [if_neg g0] at f17
          rw [e9, spLdR_f g0]
          exact ⟨rfl, _, _, rfl, rfl, f7, rfl, hb3, hA, to_g hT f6 f21 f9 f17 (fun i h0 h1 h2 => (if_neg h0).trans ((if_neg h2).trans (fa i h0 h1 h2)))⟩
      have key85 : ∀ u1, u1.1 6 = u.1 6 → u1.1 21 = u.1 21 → u1.1 9 = nI 0 → u1.1 7 = nI 0 → (∀ i, i ≠ 0 → i ≠ 1 → i ≠ 2 → u1.2 i = u.2 i) → (∀ j, j < 4136 → u1.2 1 j = nI (b j)) → u1.1 10 = nI k1 → u1.1 12 = nI 0 → u1.1 15 = 0 → BD u1 kzero → AW γ l x (QX γ x 0 0 (PS o sz (spLoad (b, ks, sl, bf, ea, wr) (nI k1))) NX) 3 (th o u1) sz 0 0 85 [(0, .ref o)] [] := by
        intro u1 f6 f21 f9 f7 fa f1 f10 f12 f15 hu
        refine aw_aload_n C rfl rfl dX6_load_85 ?_
        refine tw_callV C (t6_next hG l o sz _ (bf := bf) (n := k1) (e := 0) ⟨f10, by omega, fun i hi => by rw [fa 8 (by decide) (by decide) (by decide)]; exact hx0 i hi⟩ f12 (Nat.zero_le _)) q1908 q1910 qs41 q120 q1911 (n9 := 0) (by decide +kernel) rfl (Nat.le_of_ble_eq_true rfl) (Nat.le_of_ble_eq_true rfl) (Nat.zero_le _) (Nat.zero_le _) rfl (Nat.le_of_ble_eq_true rfl) dX6_load_86 (fun u2 hq => ?_)
        obtain ⟨q1, q2, q3⟩ := hq
        have hp : PR u2 bf k1 (r0 bf k1) := ⟨⟨(q1 10 (by omega)).trans f10, by omega, fun i hi => by rw [q2, fa 8 (by decide) (by decide) (by decide)]; exact hx0 i hi⟩, bd_of hu (by rw [q2]), q3, (q1 15 (by omega)).trans f15, fun z => absurd rfl z, hr0⟩
        refine aw_aload_n C rfl rfl dX6_load_89 ?_
        refine tw_callV C (t6_reads hG l o sz _ hp rfl hS) q1916 q1918 qs43 q120 q1919 (n9 := 0) (by decide +kernel) rfl (Nat.le_of_ble_eq_true rfl) (Nat.le_of_ble_eq_true rfl) (Nat.zero_le _) (Nat.zero_le _) rfl (Nat.le_of_ble_eq_true rfl) dX6_load_90 (fun u3 hq3 => ?_)
        obtain ⟨hj, hp⟩ := hq3
        have fR : ∀ i, i < 11 ∨ 16 < i → u3.1 i = u1.1 i := fun i hi => (hj.1 i hi).trans (q1 i (by omega))
        have aR : ∀ i, i ≠ 0 → u3.2 i = u1.2 i := fun i hi => (hj.2 i hi).trans (by rw [q2])
        refine aw_aload_n C rfl rfl dX6_load_93 ?_
        refine aw_aload_n C rfl rfl dX6_load_94 ?_
        refine tw_get C 15 (by decide) q1833 rfl dX6_load_95 ?_
        refine aw_top (hp.2.2.2.1) ?_
        refine aw_if_ne C (tgt := 105) dX6_load_98 (by decide) (fun g0 => ?_) (fun g0 => ?_)
        · refine aw_aload_n C rfl rfl dX6_load_105 ?_
          refine tw_get C 16 (by decide) q1834 rfl dX6_load_106 ?_
          refine aw_top (hp.2.2.2.2.1 g0) ?_
          refine tw_put C 17 (by decide) q1835 rfl rfl rfl dX6_load_109 ?_
          exact aw_lo (key112 _ hzz.1 hzz.2 rfl _ ((tsf_ne (by decide)).trans ((fR 6 (by omega)).trans f6)) ((tsf_ne (by decide)).trans ((fR 21 (by omega)).trans f21)) ((tsf_ne (by decide)).trans ((fR 9 (by omega)).trans f9)) ((tsf_ne (by decide)).trans ((fR 7 (by omega)).trans f7)) (fun i h0 h1 h2 => (aR i h0).trans (fa i h0 h1 h2)) (fun j hj => (congrFun (aR 1 (by decide)) j).trans (f1 j hj)) ((tsf_ne (by decide)).trans hp.2.2.2.1) ((tsf_at _ _ _).trans (by first | (rw [if_pos g0]; done) | (rw [if_neg g0]; done))) hp.2.1) ⟨rfl, trivial⟩
        · refine aw_iconst C (v := -1) (by decide) dX6_load_101 ?_
          refine aw_goto C (tgt := 109) dX6_load_102 (by decide) ?_
          refine tw_put C 17 (by decide) q1835 rfl rfl rfl dX6_load_109 ?_
          exact aw_lo (key112 _ hzz.1 hzz.2 rfl _ ((tsf_ne (by decide)).trans ((fR 6 (by omega)).trans f6)) ((tsf_ne (by decide)).trans ((fR 21 (by omega)).trans f21)) ((tsf_ne (by decide)).trans ((fR 9 (by omega)).trans f9)) ((tsf_ne (by decide)).trans ((fR 7 (by omega)).trans f7)) (fun i h0 h1 h2 => (aR i h0).trans (fa i h0 h1 h2)) (fun j hj => (congrFun (aR 1 (by decide)) j).trans (f1 j hj)) ((tsf_ne (by decide)).trans hp.2.2.2.1) ((tsf_at _ _ _).trans (by first | (rw [if_pos g0]; done) | (rw [if_neg g0]; done))) hp.2.1) ⟨rfl, trivial⟩
      have key65 : ∀ u1, u1.1 6 = u.1 6 → u1.1 21 = u.1 21 → u1.1 9 = nI 0 → u1.1 7 = nI 0 → (∀ i, i ≠ 0 → i ≠ 1 → i ≠ 2 → u1.2 i = u.2 i) → (∀ j, j < 4136 → u1.2 1 j = nI (b j)) → u1.1 10 = nI k1 → u1.1 12 = nI 0 → u1.1 15 = 0 → BD u1 b → ∀ j k, k ≤ 4136 → 4137 ≤ k + j → AW γ l x (QX γ x 0 0 (PS o sz (spLoad (b, ks, sl, bf, ea, wr) (nI k1))) NX) 3 (th o (tsa u1 0 (zf (u1.2 0) k))) sz 0 0 65 [(0, .ref o), (2, .int (nI k))] [] := by
        intro u1 f6 f21 f9 f7 fa f1 f10 f12 f15 hu j
        induction j with
        | zero => intro k h1 h2; exact absurd h2 (by omega)
        | succ j ih =>
          intro k h1 h2
          refine aw_iload_n C rfl rfl dX6_load_65 ?_
          refine aw_sipush C (v := nI 4136) (by decide) dX6_load_66 ?_
          refine aw_icmpN_ge C (tgt := 85) (by omega) (by omega) dX6_load_69 (by decide) (fun gN => ?_) (fun gN => ?_)
          · have hk4 : k = 4136 := by omega
            subst hk4
            exact aw_lo (key85 _ f6 f21 f9 f7 (fun i h0 h1 h2 => (if_neg h0).trans (fa i h0 h1 h2)) f1 f10 f12 f15 (zf_bd hu hA)) ⟨rfl, trivial⟩
          · refine aw_aload_n C rfl rfl dX6_load_72 ?_
            refine tw_get C 0 (by decide) q1818 rfl dX6_load_73 ?_
            refine aw_iload_n C rfl rfl dX6_load_76 ?_
            refine aw_iconst C (v := nI 0) (by decide) dX6_load_77 ?_
            refine tw_st0 C (by omega) dX6_load_78 ?_
            refine aw_iinc1 C rfl (by decide) rfl dX6_load_79 ?_
            refine aw_goto C (tgt := 65) dX6_load_82 (by decide) ?_
            refine aw_hp (h9 := th o (tsa u1 0 (zf (u1.2 0) (k + 1)))) ?_ (aw_lo (ih (k + 1) (by omega) (by omega)) ⟨rfl, rfl, trivial⟩)
            rw [tsa_tsa]
            exact congrArg (fun z => th o (tsa u1 0 z)) (zf_s (u1.2 0) k)
      refine aw_aload_n C rfl rfl dX6_load_30 ?_
      refine aw_iload_n C rfl rfl dX6_load_31 ?_
      refine tw_put C 10 (by decide) q1828 rfl rfl rfl dX6_load_32 ?_
      refine aw_aload_n C rfl rfl dX6_load_35 ?_
      refine aw_iconst C (v := nI 0) (by decide) dX6_load_36 ?_
      refine tw_put C 9 (by decide) q1827 rfl rfl rfl dX6_load_37 ?_
      refine aw_aload_n C rfl rfl dX6_load_40 ?_
      refine aw_iconst C (v := nI 0) (by decide) dX6_load_41 ?_
      refine tw_put C 12 (by decide) q1830 rfl rfl rfl dX6_load_42 ?_
      refine aw_aload_n C rfl rfl dX6_load_45 ?_
      refine aw_iconst C (v := nI 0) (by decide) dX6_load_46 ?_
      refine tw_put C 15 (by decide) q1833 rfl rfl rfl dX6_load_47 ?_
      refine aw_aload_n C rfl rfl dX6_load_50 ?_
      refine tw_get C 1 (by decide) q1819 rfl dX6_load_51 ?_
      refine aw_iconst C (v := nI 0) (by decide) dX6_load_54 ?_
      refine aw_aload_n C rfl rfl dX6_load_55 ?_
      refine tw_get C 0 (by decide) q1818 rfl dX6_load_56 ?_
      refine aw_iconst C (v := nI 0) (by decide) dX6_load_59 ?_
      refine tw_callSV C (t6_sets_1_0 hG l o sz _ (ta := 0) (fa := 0) (by omega) (by omega)) q1894 q1895 q120 q1896 (n9 := 4) (by decide +kernel) rfl (Nat.le_of_ble_eq_true rfl) (Nat.le_of_ble_eq_true rfl) (Nat.zero_le _) (Nat.zero_le _) rfl (Nat.le_of_ble_eq_true rfl) dX6_load_60 (fun u2 hq => ?_)
      subst hq
      refine aw_iconst C (v := nI 0) (by decide) dX6_load_63 ?_
      refine aw_istore_n C rfl (by decide) rfl dX6_load_64 ?_
      refine aw_hp (h9 := th o (tsa (tsa (tsf (tsf (tsf (tsf (tsf u 7 (nI 0)) 10 (nI k1)) 9 (nI 0)) 12 (nI 0)) 15 (nI 0)) 1 (cpy ((tsf (tsf (tsf (tsf (tsf u 7 (nI 0)) 10 (nI k1)) 9 (nI 0)) 12 (nI 0)) 15 (nI 0)).2 1) 0 ((tsf (tsf (tsf (tsf (tsf u 7 (nI 0)) 10 (nI k1)) 9 (nI 0)) 12 (nI 0)) 15 (nI 0)).2 0) 0 4136)) 0 (zf ((tsa (tsf (tsf (tsf (tsf (tsf u 7 (nI 0)) 10 (nI k1)) 9 (nI 0)) 12 (nI 0)) 15 (nI 0)) 1 (cpy ((tsf (tsf (tsf (tsf (tsf u 7 (nI 0)) 10 (nI k1)) 9 (nI 0)) 12 (nI 0)) 15 (nI 0)).2 1) 0 ((tsf (tsf (tsf (tsf (tsf u 7 (nI 0)) 10 (nI k1)) 9 (nI 0)) 12 (nI 0)) 15 (nI 0)).2 0) 0 4136)).2 0) 0))) ?_ (aw_lo (nL := 3) (key65 (tsa (tsf (tsf (tsf (tsf (tsf u 7 (nI 0)) 10 (nI k1)) 9 (nI 0)) 12 (nI 0)) 15 (nI 0)) 1 (cpy ((tsf (tsf (tsf (tsf (tsf u 7 (nI 0)) 10 (nI k1)) 9 (nI 0)) 12 (nI 0)) 15 (nI 0)).2 1) 0 ((tsf (tsf (tsf (tsf (tsf u 7 (nI 0)) 10 (nI k1)) 9 (nI 0)) 12 (nI 0)) 15 (nI 0)).2 0) 0 4136)) rfl rfl rfl rfl (fun i h0 h1 h2 => if_neg h1) (fun j hj => (cpy_00 hj).trans (hu j)) rfl rfl rfl hu 4137 0 (Nat.zero_le _) (by omega)) ⟨rfl, rfl, trivial⟩)
      rw [zf_0, tsa_self]
    · first | exact absurd (by decide) g2 | exact absurd g2 (by decide)
