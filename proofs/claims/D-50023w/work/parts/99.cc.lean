/-! writeBoard, writtenByte, append -/
theorem ch_sb (o : Nat) (u : CU) (g : AH) (n : Nat) (mb : Int32) : hset (ch o u g) (o + 32) (SBF (o + 33) n mb) = ch o (cui (cui u 7 mb) 6 (nI n)) g := by
  have h1 := ch_mayb o u g mb
  have h2 := ch_count o (cui u 7 mb) g (nI n)
  rw [← h1, hset_hset] at h2
  exact h2
theorem ch_w {o : Nat} {u : CU} {g : AH} {n : Nat} (h6 : u.1 6 = nI n) : ch o u g (o + 32) = some (SBF (o + 33) n (u.1 7)) := by
  have h1 := ch_at (o := o) (u := u) (g := g) (i := 32) rfl
  unfold wfs at h1
  rw [h6] at h1
  exact h1
theorem ch_wadd (o : Nat) (u : CU) (g : AH) (n : Nat) (mb : Int32) (f : Nat → Int32) : hset (hset (ch o u g) (o + 32) (SBF (o + 33) n mb)) (o + 33) (.inl (1, 16, .inl f)) = ch o (cua (cui (cui u 7 mb) 6 (nI n)) 4 f) g := by
  rw [ch_sb, ch_wval]
theorem ch_waddI (o : Nat) (u : CU) (g : AH) (n : Nat) (mb : Int32) (f : Nat → Int32) : hset (hset (ch o u g) (o + 33) (.inl (1, 16, .inl f))) (o + 32) (SBF (o + 33) n mb) = ch o (cua (cui (cui u 7 mb) 6 (nI n)) 4 f) g := by
  rw [ch_wval, ch_sb]
  rfl
/-- what is written is w, all else is u's -/
def WT (u u' : CU) (w : List Nat) : Prop := u'.1 6 = nI w.length ∧ (∀ i, i < w.length → u'.2.1 4 i = nI (w.getD i 0)) ∧ (∀ i, i ≠ 6 → i ≠ 7 → u'.1 i = u.1 i) ∧ (∀ j, j ≠ 4 → u'.2.1 j = u.2.1 j) ∧ u'.2.2 = u.2.2
theorem WT.add {u u1 : CU} {w : List Nat} (h : WT u u1 w) (mb : Int32) (c : Nat) : WT u (cua (cui (cui u1 7 mb) 6 (nI (w.length + 1))) 4 (upd (u1.2.1 4) w.length (nI c))) (w ++ [c]) := by
  obtain ⟨h1, h2, h3, h4, h5⟩ := h
  refine ⟨by rw [List.length_append]; rfl, fun i hi => ?_, fun i a b => ?_, fun j a => ?_, h5⟩
  · show upd (u1.2.1 4) w.length (nI c) i = _
    rw [List.length_append] at hi
    simp only [List.length_cons, List.length_nil] at hi
    by_cases e : i = w.length
    · subst e
      rw [pk_us]
      simp
    · rw [pk_un e, h2 i (by omega)]
      simp [List.getElem?_append_left (show i < w.length by omega)]
  · exact ((if_neg a).trans (if_neg b)).trans (h3 i a b)
  · exact (if_neg a).trans (h4 j a)
section WAD
variable {γ : Gm} {l : Launch} {x : WX} {Q : State → Prop} {nL sz k n pc : Nat} {L : LV} {st : List Value}
theorem aw_wadd {o : Nat} {u u1 : CU} {g : AH} {w : List Nat} {mb : Int32} {c : Nat} (hw : WT u u1 w) (kk : ∀ u2, WT u u2 (w ++ [c]) → AW γ l x Q nL (ch o u2 g) sz k n pc L st) : AW γ l x Q nL (hset (hset (ch o u1 g) (o + 32) (SBF (o + 33) (w.length + 1) mb)) (o + 33) (.inl (1, 16, .inl (upd (u1.2.1 4) w.length (nI c))))) sz k n pc L st := by
  rw [ch_wadd]
  exact kk _ (hw.add mb c)
theorem aw_waddI {o : Nat} {u u1 : CU} {g : AH} {w : List Nat} {mb : Int32} {c : Nat} (hw : WT u u1 w) (kk : ∀ u2, WT u u2 (w ++ [48 + c]) → AW γ l x Q nL (ch o u2 g) sz k n pc L st) : AW γ l x Q nL (hset (hset (ch o u1 g) (o + 33) (.inl (1, 16, .inl (upd (u1.2.1 4) w.length (nI (48 + c)))))) (o + 32) (SBF (o + 33) (w.length + 1) mb)) sz k n pc L st := by
  rw [ch_waddI]
  exact kk _ (hw.add mb (48 + c))
end WAD
theorem CS.wt {o sz K : Nat} {u u' : CU} {g : AH} {s : SS} {w : List Nat} (hC : CS o sz u g K s) (h : WT u u' w) (hl : w.length ≤ 16) (hw : ∀ i, i < w.length → w.getD i 0 < 128) : CS o sz u' g K (s.1, s.2.1, s.2.2.1, s.2.2.2.1, s.2.2.2.2.1, w) := by
  obtain ⟨h1, h2, h3, h4, ⟨hd, hs, h5, h5', h5''⟩, h6, h7, h8, h9⟩ := hC
  obtain ⟨w1, w2, w3, w4, w5⟩ := h
  have e1 : u'.2.2.1 = u.2.2.1 := congrArg (fun z => z.1) w5
  have e2 : u'.2.2.2.1 = u.2.2.2.1 := congrArg (fun z => z.2.1) w5
  have e3 : u'.2.2.2.2 = u.2.2.2.2 := congrArg (fun z => z.2.2) w5
  refine ⟨h1, h2, ?_, by rw [e3]; exact h4, ⟨hd, hs, h5.same (w3 4 (by decide) (by decide)) (w3 5 (by decide) (by decide)) (congrFun e2 1), h5', h5''⟩, fun i hi => ?_, ?_, (w3 1 (by decide) (by decide)).trans h8, w1, hl, fun i hi => ⟨hw i hi, w2 i hi⟩⟩
  · obtain ⟨⟨k, hk, x1, x2, x3⟩, x4⟩ := h3
    refine ⟨⟨k, hk, ?_, ?_, ?_⟩, fun gr e => ?_⟩
    · rw [w3 2 (by decide) (by decide)]; exact x1
    · rw [w4 1 (by decide)]; exact x2
    · rw [w4 2 (by decide)]; exact x3
    · rw [e2] at e
      obtain ⟨b, k2, z1, z2, z3, z4⟩ := x4 gr e
      exact ⟨b, k2, z1, z2, z3, z4.congr (w3 2 (by decide) (by decide)) (w3 3 (by decide) (by decide)) (w4 0 (by decide)) (w4 1 (by decide)) (w4 2 (by decide)) e1⟩
  · rw [e2]
    exact h6 i hi
  · unfold CSb at *
    rw [w3 0 (by decide) (by decide), w4 3 (by decide)]
    exact h7
theorem wb_chr : ∀ k, k < 4 → ¬ k = 0 → ((nI 97 + (nI k - nI 1)).toUInt32 % 65536).toInt32 = nI (96 + k) := by decide +kernel
theorem wrB_lt {b : BT} (hW : WB b) (h2 : b 2 ≤ 9) : ∀ i, i < (wrB b).length → (wrB b).getD i 0 < 128 := by
  intro i hi
  have hm : (wrB b).getD i 0 ∈ wrB b := by
    rw [List.getD, List.getElem?_eq_getElem hi]
    exact List.getElem_mem hi
  generalize (wrB b).getD i 0 = x at hm
  unfold wrB wrV at hm
  rcases List.mem_append.mp hm with h | h
  · obtain ⟨v, hv, e⟩ := List.mem_map.mp h
    rw [List.mem_range] at hv
    have := hW.o3 (v := v) (by have := hW.2.1; omega)
    subst e
    split <;> omega
  · simp only [List.mem_cons, List.not_mem_nil, or_false] at h
    rcases h with e | e | e | e <;> subst e <;> omega
set_option maxRecDepth 100000 in
theorem pc_writeBoard {γ : Gm} (hG : GF γ) (l : Launch) {o : Nat} {u : CU} {g : AH} {sz : Nat} (hS : GSB γ) {d1 : Nat} {f1 : Nat → Int32} (hDg : GDG γ d1 f1) {K : Nat} {s : SS} (hC : CS o sz u g K s) (hA : WA s.1) : MX γ l yX1_writeBoard cX1_writeBoard 2 (some .int) 23 511 0 0 [.ref o] (ch o u g) sz (PCV o K (spWb s)) NX := by
  refine mx_start hG (by decide) (Nat.le_of_ble_eq_true rfl) (fun x C => ?_)
  obtain ⟨hSp, hsz, hI9, ⟨gr, cap, hbc, hg, hc9⟩, hrest⟩ := id hC
  obtain ⟨a, hcu⟩ : ∃ a, u.2.2.2.2 = a := ⟨_, rfl⟩
  rw [hcu] at hbc
  obtain ⟨b, hbs⟩ : ∃ b, s.1 = b := ⟨_, rfl⟩
  rw [hbs] at hbc hg hA
  have hb : BRD g a gr b := hbc.brd hg
  have hL9 := hA.2.2.2.1
  have hwl := hC.2.2.2.2.2.2.2.2.2.1
  obtain ⟨ca, ba, v3, v4, fc, fb, eb, eca, eba, hg, hfc, hfb⟩ := id hb
  obtain ⟨gl, gn, fl, fn, eg, egl, egn, hgl, hgn⟩ := id hg
  have hN := hA.1.2.1
  refine aw_aload_n C rfl rfl dX1_writeBoard_0 ?_
  refine aw_getf C ck0 7 (by decide) q672 (fun _ z => z) (ch_at (i := 0) rfl) rfl dX1_writeBoard_1 ?_
  refine aw_iconst C (v := nI 0) (by decide) dX1_writeBoard_4 ?_
  refine aw_callVP C ck13 (sb_setLength hG l hS (ch_w hC.2.2.2.2.2.2.2.2.1) (ch_at (i := 33) rfl) (by decide) (by omega)) q1134 q1135 q1136 q108 q1137 (ch_w hC.2.2.2.2.2.2.2.2.1) (n9 := 1) (by decide +kernel) rfl (Nat.le_of_ble_eq_true rfl) (Nat.le_of_ble_eq_true rfl) (Nat.zero_le _) (Nat.zero_le _) rfl (Nat.le_of_ble_eq_true rfl) dX1_writeBoard_5 ?_
  refine aw_hp (ch_sb _ _ _ _ _) ?_
  refine aw_iconst C (v := nI 0) (by decide) dX1_writeBoard_8 ?_
  refine aw_istore_n C rfl (by decide) rfl dX1_writeBoard_9 ?_
  have key : ∀ j v u1, v ≤ b 0 → b 0 + 1 ≤ v + j → WT u u1 (wrV b v) → AW γ l x (QX γ x 0 0 (PCV o K (spWb s)) NX) 2 (ch o u1 g) sz 0 0 10 [(0, .ref o), (1, .int (nI v))] [] := by
    intro j
    induction j with
    | zero => intro v u1 h1 h2 hw1; exact absurd h2 (by omega)
    | succ j ih =>
      intro v u1 h1 h2 hw1
      have hcu1 : u1.2.2.2.2 = a := (congrArg (fun z => z.2.2) hw1.2.2.2.2).trans hcu
      have hl1 : (wrV b v).length = v := wrV_len b v
      refine aw_iload_n C rfl rfl dX1_writeBoard_10 ?_
      refine aw_aload_n C rfl rfl dX1_writeBoard_11 ?_
      refine aw_getf C ck0 1 (by decide) q665 (fun _ z => z) (ch_at (i := 0) rfl) rfl dX1_writeBoard_12 ?_
      refine aw_topV (congrArg Value.ref hcu1) ?_
      refine aw_getfN C ck2 0 (by decide) q612 (fun _ z => z) (ch_le hSp _ _ eb) rfl dX1_writeBoard_15 ?_
      refine aw_getfN C ck3 3 (by decide) q217 (fun _ z => z) (ch_le hSp _ _ eg) rfl dX1_writeBoard_18 ?_
      refine aw_icmpN_ge C (tgt := 64) (by omega) (by omega) dX1_writeBoard_21 (by decide) (fun gN => ?_) (fun gN => ?_)
      · refine aw_aload_n C rfl rfl dX1_writeBoard_64 ?_
        refine aw_getf C ck0 7 (by decide) q672 (fun _ z => z) (ch_at (i := 0) rfl) rfl dX1_writeBoard_65 ?_
        refine aw_bipush C (v := nI 47) (by decide) dX1_writeBoard_68 ?_
        refine aw_callVPv C ck13 (sb_add0 hG l hS (ch_w hw1.1) (ch_at (i := 33) rfl) (by decide) (c := 47) (by have := hl1; omega) (by decide)) q1206 q1207 q1208 q108 q1209 (ch_w hw1.1) (n9 := 1) (by decide +kernel) rfl (Nat.le_of_ble_eq_true rfl) (Nat.le_of_ble_eq_true rfl) (by dsimp only; omega) (by dsimp only; omega) rfl (Nat.le_of_ble_eq_true rfl) dX1_writeBoard_70 ?_
        refine aw_wadd hw1 (fun ux2 hw2 => ?_)
        have hl2 : (wrV b v ++ [47]).length = v + 1 := by rw [List.length_append, hl1]; rfl
        refine aw_aload_n C rfl rfl dX1_writeBoard_73 ?_
        refine aw_getf C ck0 1 (by decide) q665 (fun _ z => z) (ch_at (i := 0) rfl) rfl dX1_writeBoard_74 ?_
        refine aw_topV (congrArg Value.ref ((congrArg (fun z => z.2.2) hw2.2.2.2.2).trans hcu)) ?_
        refine aw_getfN C ck2 6 (by decide) q628 (fun _ z => z) (ch_le hSp _ _ eb) rfl dX1_writeBoard_77 ?_
        refine aw_callVPv C ck13 (sb_addI hG l hS hDg (d := b 3 % 2) (by omega) (ch_w hw2.1) (ch_at (i := 33) rfl) (by decide) (by have := hl2; omega)) q1226 q479 q480 q108 q481 (ch_w hw2.1) (n9 := 1) (by decide +kernel) rfl (Nat.le_of_ble_eq_true rfl) (Nat.le_of_ble_eq_true rfl) (by dsimp only; omega) (by dsimp only; omega) rfl (Nat.le_of_ble_eq_true rfl) dX1_writeBoard_80 ?_
        refine aw_waddI hw2 (fun ux3 hw3 => ?_)
        have hl3 : (wrV b v ++ [47] ++ [48 + b 3 % 2]).length = v + 2 := by rw [List.length_append, hl2]; rfl
        refine aw_bipush C (v := nI 47) (by decide) dX1_writeBoard_83 ?_
        refine aw_callVPv C ck13 (sb_add0 hG l hS (ch_w hw3.1) (ch_at (i := 33) rfl) (by decide) (c := 47) (by have := hl3; omega) (by decide)) q1206 q1207 q1208 q108 q1209 (ch_w hw3.1) (n9 := 1) (by decide +kernel) rfl (Nat.le_of_ble_eq_true rfl) (Nat.le_of_ble_eq_true rfl) (by dsimp only; omega) (by dsimp only; omega) rfl (Nat.le_of_ble_eq_true rfl) dX1_writeBoard_85 ?_
        refine aw_wadd hw3 (fun ux4 hw4 => ?_)
        have hl4 : (wrV b v ++ [47] ++ [48 + b 3 % 2] ++ [47]).length = v + 3 := by rw [List.length_append, hl3]; rfl
        refine aw_aload_n C rfl rfl dX1_writeBoard_88 ?_
        refine aw_getf C ck0 1 (by decide) q665 (fun _ z => z) (ch_at (i := 0) rfl) rfl dX1_writeBoard_89 ?_
        refine aw_topV (congrArg Value.ref ((congrArg (fun z => z.2.2) hw4.2.2.2.2).trans hcu)) ?_
        refine aw_getfN C ck2 5 (by decide) q626 (fun _ z => z) (ch_le hSp _ _ eb) rfl dX1_writeBoard_92 ?_
        refine aw_callVPv C ck13 (sb_addI hG l hS hDg (d := b 2) (by omega) (ch_w hw4.1) (ch_at (i := 33) rfl) (by decide) (by have := hl4; omega)) q1226 q479 q480 q108 q481 (ch_w hw4.1) (n9 := 1) (by decide +kernel) rfl (Nat.le_of_ble_eq_true rfl) (Nat.le_of_ble_eq_true rfl) (by dsimp only; omega) (by dsimp only; omega) rfl (Nat.le_of_ble_eq_true rfl) dX1_writeBoard_95 ?_
        refine aw_waddI hw4 (fun ux5 hw5 => ?_)
        have hl5 : (wrV b v ++ [47] ++ [48 + b 3 % 2] ++ [47] ++ [48 + b 2]).length = v + 4 := by rw [List.length_append, hl4]; rfl
        refine aw_pop C rfl dX1_writeBoard_98 ?_
        refine aw_aload_n C rfl rfl dX1_writeBoard_99 ?_
        refine aw_getf C ck0 7 (by decide) q672 (fun _ z => z) (ch_at (i := 0) rfl) rfl dX1_writeBoard_100 ?_
        refine aw_callVRR C ck13 (sb_length hG l (ch_w hw5.1)) q1227 q525 q2245 q108 q526 (Or.inl (ch_w hw5.1)) (n9 := 0) (by decide +kernel) rfl (Nat.le_of_ble_eq_true rfl) (Nat.le_of_ble_eq_true rfl) (by dsimp only; omega) (by dsimp only; omega) rfl (Nat.le_of_ble_eq_true rfl) dX1_writeBoard_103 ?_
        refine aw_iret C rfl dX1_writeBoard_106 (Nat.le_refl _) (Nat.le_refl _) ?_
        have hwB : wrV b v ++ [47] ++ [48 + b 3 % 2] ++ [47] ++ [48 + b 2] = wrB b := by
          rw [show v = b 0 by omega]
          unfold wrB
          simp
        rw [hwB] at hw5 hl5
        have e9 : spWb s = ((0, nI (wrB b).length), (s.1, s.2.1, s.2.2.1, s.2.2.2.1, s.2.2.2.2.1, wrB b)) := by
          unfold spWb
          rw [hbs]
        rw [e9]
        exact ⟨rfl, by rw [hwB], _, g, rfl, hC.wt hw5 (by omega) (wrB_lt hA.1 hL9)⟩
      · refine aw_aload_n C rfl rfl dX1_writeBoard_24 ?_
        refine aw_getf C ck0 7 (by decide) q672 (fun _ z => z) (ch_at (i := 0) rfl) rfl dX1_writeBoard_25 ?_
        refine aw_aload_n C rfl rfl dX1_writeBoard_28 ?_
        refine aw_iload_n C rfl rfl dX1_writeBoard_29 ?_
        refine aw_callVRR C ck0 (co_isFree hG l hSp hb hA.1 hcu1 (v := v) (by omega)) q1202 q1204 qs20 q95 q1205 (Or.inl (ch_at (i := 0) rfl)) (n9 := 1) (by decide +kernel) rfl (Nat.le_of_ble_eq_true rfl) (Nat.le_of_ble_eq_true rfl) (by dsimp only; omega) (by dsimp only; omega) rfl (Nat.le_of_ble_eq_true rfl) dX1_writeBoard_30 ?_
        refine aw_bit_eq0 C (tgt := 41) dX1_writeBoard_33 (by decide) (fun gF => ?_) (fun gF => ?_)
        · refine aw_bipush C (v := nI 97) (by decide) dX1_writeBoard_41 ?_
          refine aw_aload_n C rfl rfl dX1_writeBoard_43 ?_
          refine aw_getf C ck0 1 (by decide) q665 (fun _ z => z) (ch_at (i := 0) rfl) rfl dX1_writeBoard_44 ?_
          refine aw_topV (congrArg Value.ref hcu1) ?_
          refine aw_getfN C ck2 1 (by decide) q615 (fun _ z => z) (ch_le hSp _ _ eb) rfl dX1_writeBoard_47 ?_
          refine aw_iload_n C rfl rfl dX1_writeBoard_50 ?_
          refine aw_ialdN C (ch_le hSp _ _ eca) (by omega) (by decide) dX1_writeBoard_51 ?_
          refine aw_top ((hfc _ (by omega))) ?_
          refine aw_iadd C dX1_writeBoard_52 ?_
          refine aw_i2c C (wb_chr _ (by have := hA.1.o3 (v := v) (by omega); omega) (by rw [fr_f] at gF; exact gF)) dX1_writeBoard_53 ?_
          refine aw_callVPv C ck13 (sb_add0 hG l hS (ch_w hw1.1) (ch_at (i := 33) rfl) (by decide) (c := (96 + b (22 + v))) (by have := hl1; omega) (by have := hA.1.o3 (v := v) (by omega); omega)) q1206 q1207 q1208 q108 q1209 (ch_w hw1.1) (n9 := 1) (by decide +kernel) rfl (Nat.le_of_ble_eq_true rfl) (Nat.le_of_ble_eq_true rfl) (by dsimp only; omega) (by dsimp only; omega) rfl (Nat.le_of_ble_eq_true rfl) dX1_writeBoard_54 ?_
          refine aw_wadd hw1 (fun ux2 hw2 => ?_)
          refine aw_pop C rfl dX1_writeBoard_57 ?_
          refine aw_iinc1 C rfl (by decide) rfl dX1_writeBoard_58 ?_
          refine aw_goto C (tgt := 10) dX1_writeBoard_61 (by decide) ?_
          have hvs := wrV_s b v
          first
          | (rw [if_pos gF] at hvs; rw [← hvs] at hw2; exact aw_lo (ih (v + 1) _ (by omega) (by omega) hw2) ⟨rfl, rfl, trivial⟩)
          | (rw [if_neg (by rw [gF]; decide)] at hvs; rw [← hvs] at hw2; exact aw_lo (ih (v + 1) _ (by omega) (by omega) hw2) ⟨rfl, rfl, trivial⟩)
        · refine aw_bipush C (v := nI 46) (by decide) dX1_writeBoard_36 ?_
          refine aw_goto C (tgt := 54) dX1_writeBoard_38 (by decide) ?_
          refine aw_callVPv C ck13 (sb_add0 hG l hS (ch_w hw1.1) (ch_at (i := 33) rfl) (by decide) (c := 46) (by have := hl1; omega) (by decide)) q1206 q1207 q1208 q108 q1209 (ch_w hw1.1) (n9 := 1) (by decide +kernel) rfl (Nat.le_of_ble_eq_true rfl) (Nat.le_of_ble_eq_true rfl) (by dsimp only; omega) (by dsimp only; omega) rfl (Nat.le_of_ble_eq_true rfl) dX1_writeBoard_54 ?_
          refine aw_wadd hw1 (fun ux2 hw2 => ?_)
          refine aw_pop C rfl dX1_writeBoard_57 ?_
          refine aw_iinc1 C rfl (by decide) rfl dX1_writeBoard_58 ?_
          refine aw_goto C (tgt := 10) dX1_writeBoard_61 (by decide) ?_
          have hvs := wrV_s b v
          first
          | (rw [if_pos gF] at hvs; rw [← hvs] at hw2; exact aw_lo (ih (v + 1) _ (by omega) (by omega) hw2) ⟨rfl, rfl, trivial⟩)
          | (rw [if_neg (by rw [gF]; decide)] at hvs; rw [← hvs] at hw2; exact aw_lo (ih (v + 1) _ (by omega) (by omega) hw2) ⟨rfl, rfl, trivial⟩)
  exact aw_lo (key (b 0 + 1) 0 _ (Nat.zero_le _) (by omega) ⟨rfl, fun i hi => absurd hi (Nat.not_lt_zero i), fun i a b => (if_neg a).trans (if_neg b), fun _ _ => rfl, rfl⟩) ⟨rfl, rfl, trivial⟩
set_option maxRecDepth 100000 in
theorem pc_writtenByte {γ : Gm} (hG : GF γ) (l : Launch) {o : Nat} {u : CU} {g : AH} {sz : Nat} (hT : GT γ) (hX : GEX γ l) {K : Nat} {s : SS} (hC : CS o sz u g K s) (i : Int32) : MX γ l yX1_writtenByte cX1_writtenByte 2 (some .int) 7 161 1 6 [.ref o, .int i] (ch o u g) sz (PCV o K (spWby s.2.2.2.2.2 i, s)) (PCX o K "java/lang/IndexOutOfBoundsException" "" (spWby s.2.2.2.2.2 i, s)) := by
  refine mx_start hG (by decide) (Nat.le_of_ble_eq_true rfl) (fun x C => ?_)
  obtain ⟨hw6, hwl, hwv⟩ := hC.2.2.2.2.2.2.2.2
  refine aw_iload_n C rfl rfl dX1_writtenByte_0 ?_
  refine aw_aload_n C rfl rfl dX1_writtenByte_1 ?_
  refine aw_getf C ck0 7 (by decide) q672 (fun _ z => z) (ch_at (i := 0) rfl) rfl dX1_writtenByte_2 ?_
  refine aw_callVRR C ck13 (sb_length hG l (ch_w hw6)) q1227 q525 q2245 q108 q526 (Or.inl (ch_w hw6)) (n9 := 0) (by decide +kernel) rfl (Nat.le_of_ble_eq_true rfl) (Nat.le_of_ble_eq_true rfl) (by dsimp only; omega) (by dsimp only; omega) rfl (Nat.le_of_ble_eq_true rfl) dX1_writtenByte_5 ?_
  refine aw_callSQ C (rq_Index hG l hX i (nI s.2.2.2.2.2.length)) q1548 q1549 q95 q1550 (n9 := 2) (by decide +kernel) rfl (Nat.le_of_ble_eq_true rfl) (Nat.le_of_ble_eq_true rfl) (by dsimp only; omega) (by dsimp only; omega) rfl (Nat.le_of_ble_eq_true rfl) dX1_writtenByte_8 (by omega) (by omega) (fun e sz' q => ⟨Or.inl ⟨by unfold spWby; rw [if_pos e], rfl⟩, u, g, rfl, hC.mono q⟩) (fun e => ?_)
  obtain ⟨i1, rfl, hi1⟩ := isI_last (by omega) e
  obtain ⟨hb1, hb2⟩ := hwv i1 hi1
  refine aw_aload_n C rfl rfl dX1_writtenByte_11 ?_
  refine aw_getf C ck0 7 (by decide) q672 (fun _ z => z) (ch_at (i := 0) rfl) rfl dX1_writtenByte_12 ?_
  refine aw_iload_n C rfl rfl dX1_writtenByte_15 ?_
  refine aw_callVRR C ck13 (sb_charAt hG l hT (ch_w hw6) (ch_at (i := 33) rfl) (by decide) hi1 (by omega) hb1 hb2) q1764 q1765 q1766 q108 q1767 (Or.inl (ch_w hw6)) (n9 := 1) (by decide +kernel) rfl (Nat.le_of_ble_eq_true rfl) (Nat.le_of_ble_eq_true rfl) (by dsimp only; omega) (by dsimp only; omega) rfl (Nat.le_of_ble_eq_true rfl) dX1_writtenByte_16 ?_
  refine aw_iret C rfl dX1_writtenByte_19 (by omega) (by omega) ?_
  have e0 : spWby s.2.2.2.2.2 (nI i1) = (0, nI (s.2.2.2.2.2.getD i1 0)) := by
    unfold spWby
    rw [if_neg (by rw [e]; decide), nt_n (by omega)]
  exact ⟨by rw [e0], by rw [e0], u, g, rfl, hC⟩
