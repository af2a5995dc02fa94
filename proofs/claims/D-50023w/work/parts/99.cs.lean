/-! the reader: a whole text, the graph -/
set_option maxRecDepth 100000 in
theorem rd_loop2 {γ : Gm} (hG : GF γ) (l : Launch) {h : AH} {sz : Nat} (hS : GSB γ) (hZ : XZ γ) {r o n s0 mi ρ : Nat} {bf : List Nat} (hb : RDF h o n bf) (hr0 : s0 ≤ r) (hs0 : s0 ≤ sz) (ho0 : o + 31 < s0) (hU : RUL γ ρ) (hI : FRU γ) (hB9 : GBO γ mi) {σ : Nat → Nat} (hσ : RTX γ σ) {S : RS} {x : WX} (C : Cx γ l x yX7_read cX7_read 3 (some (.object "ColourDuel$Board")) { frames := 20, cells := (300 + 50 * n), slots := (2000 + 230 * n), locals := 450 } []) : ∀ f s h5 sz5 p fr k5 n5 g b2, rS bf n S = rF bf n (rL bf n 501 (rG bf n f s)) → n + 1 ≤ s.1 + f → s.1 ≤ n → s.2.2.1 = 0 → WA s.2.1 → s.2.1 3 = 0 → (∀ j, 22 ≤ j → s.2.1 j = 0) → b2 = s.2.1 2 → h5 r = some (RDO n (.ref g) p fr o) → p ≤ n → rn (isSp bf n) n p = s.1 → GRW h5 s0 g s.2.1 → r < sz5 → (∀ q, q < s0 → h5 q = h q) → sz ≤ sz5 → k5 ≤ 60 + 5 * n + 20 * s.1 → n5 ≤ 500 + 10 * n + 165 * s.1 → AW γ l x (QY γ x (300 + 50 * n) (2000 + 230 * n) (fun v9 h' sz' => ∃ a s1 g cap, v9 = some (.ref a) ∧ (rS bf n S).2.2.1 = 0 ∧ sz ≤ sz' ∧ (∀ q, q < s0 → h' q = h q) ∧ s0 ≤ s1 ∧ BC h' s1 a g (rS bf n S).2.1 cap ∧ GRS h' s1 g (rS bf n S).2.1 ∧ GLO h' s0 g ∧ cap ≤ 8200) (YQ h s0 sz (rS bf n S).2.2)) 3 h5 sz5 k5 n5 91 [(0, .ref r), (1, .int (nI b2))] [] := by
  obtain ⟨u, fb, eo, eb, hn5, hfb⟩ := id hb
  intro f
  induction f with
  | zero => intro s h5 sz5 p fr k5 n5 g b2 hrs hf hsn hs5 hw5 h35 h225 hb25 er5 hp5 hP5 hg5 lr5 F5 hsz5 hk5 hn95; exact absurd hf (by omega)
  | succ f ih =>
    intro s h5 sz5 p fr k5 n5 g b2 hrs hf hsn hs5 hw5 h35 h225 hb25 er5 hp5 hP5 hg5 lr5 F5 hsz5 hk5 hn95
    refine aw_dom (fun hD5 => ?_)
    have hc9 := hs5
    have hb5 : RDF h5 o n bf := RDF.fr (F5 o (by omega)) (F5 (o + 31) (by omega)) hb
    have hPs : rn (isSp bf n) n s.1 = s.1 := by rw [← hP5]; exact rn_self hp5
    have hwb0 := hw5.w.1
    have hE9 := rn_le (P := isLt bf n) (n := n) (fun _ => isLt_lt) hsn
    refine aw_aload_n C rfl rfl dX7_read_91 ?_
    refine aw_ldcS C hσ.2.2.2.1.1 dX7_read_92 ?_
    refine aw_callV C ck6 (rd_accP hG l hS hb5 er5 hp5 hσ.2.2.2.1.2 hP5) q1311 q1313 qs22 q122 q1314 er5 (n9 := 1) (by decide +kernel) rfl (Nat.le_of_ble_eq_true rfl) (Nat.le_of_ble_eq_true rfl) (by dsimp only; omega) (by dsimp only; omega) rfl (Nat.le_of_ble_eq_true rfl) dX7_read_94 (fun _ _ _ z => z.elim) (fun v9 hB sB hp6 => ?_)
    obtain ⟨rfl, leB, frB, erB⟩ := hp6
    have hiw9 := isW_ac (bf := bf) (n := n) (w := wEdge) (s := s) hc9 (by decide)
    rcases (Bool.eq_false_or_eq_true (isW bf n wEdge (s))).symm with hw1 | hw1
    · have hd9 : decide (wL bf n (s).1 = wEdge) = false := hiw9.symm.trans hw1
      rw [if_neg (by rw [hd9]; decide), Nat.add_zero] at erB
      refine aw_top (show _ = nI 0 from by rw [if_neg (by rw [hd9]; decide)]) ?_
      have hgB := GRW.fr hD5 er5 frB hg5
      refine aw_dom (fun hDB => ?_)
      have lrB := hDB.lt erB
      obtain ⟨p9, fr9, hp9, hP9, erB⟩ : ∃ p9 fr9, p9 ≤ n ∧ rn (isSp bf n) n p9 = s.1 ∧ hB r = some (RDO n (.ref g) p9 fr9 o) := ⟨_, _, hsn, hPs, erB⟩
      refine aw_if_eq C (tgt := 107) dX7_read_97 (by decide) (fun _ => ?_) (fun g => absurd rfl g)
      refine aw_new C ck2 (fs := [.null, .null, .null, .null, .null, .int 0, .int 0]) q1428 q187 q97 (by decide) (by dsimp only; omega) (by dsimp only; omega) dX7_read_107 ?_
      refine aw_dup C rfl dX7_read_110 ?_
      refine aw_aload_n C rfl rfl dX7_read_111 ?_
      refine aw_getf C ck6 1 (by decide) q1291 (fun _ z => z) ((hset_n _ _ (Nat.ne_of_lt lrB)).trans erB) rfl dX7_read_112 ?_
      refine aw_callI C (bo_init hG l hB9.1.1 hB9.2.2 (Nat.lt_succ_self sB) (hset_s _ _ _)) q1429 q232 q97 q233 rfl (n9 := 1) (by decide +kernel) rfl (Nat.le_of_ble_eq_true rfl) (Nat.le_of_ble_eq_true rfl) (by dsimp only; omega) (by dsimp only; omega) rfl (Nat.le_of_ble_eq_true rfl) dX7_read_115 (fun _ _ _ z => z.elim) (fun v9 hN sN hp7 => ?_)
      obtain ⟨rfl, rfl, hBN⟩ := hp7
      obtain ⟨bn1, bn2, -⟩ := id hBN
      refine aw_astore_n C rfl (by decide) rfl dX7_read_118 ?_
      refine aw_aload_n C rfl rfl dX7_read_119 ?_
      refine aw_iload_n C rfl rfl dX7_read_120 ?_
      refine aw_putfN C ck2 5 (by decide) q625 (fun _ z => z) rfl rfl (ty := .int) rfl rfl bn2 (show 5 < 7 by decide) dX7_read_121 ?_
      have fN : ∀ q, q < sB → hset hN sB (.inr (2, [.ref g, .ref (sB + 1), .ref (sB + 1 + 1), .ref (sB + 1 + 2), .ref (sB + 1 + 5), .int (nI b2), .int 0])) q = hB q := fun q hq => (hset_n _ _ (by omega)).trans ((bn1 q (by omega) (by omega)).trans (hset_n _ _ (by omega)))
      have ST9 := (hgB.g.s hDB).fr fN
      have hrs8 : rS bf n S = rF bf n (rL bf n 501 s) := by rw [hrs, rG_stop hw1]
      refine aw_lo ((rd_loop3 hG l (h := h) (sz := sz) hS hZ hb hr0 hs0 ho0 hU hI hB9 hσ C) 501 s _ (sB + 1 + 7) p9 fr9 8 _ _ sB sB g hrs8 (by omega) hsn hs5 hw5 (by omega) ((fN r lrB).trans erB) hp9 hP9 (by rw [hb25]; exact BNew.bc hBN (by omega) (Nat.le_refl _) (by omega) h35 (fun v _ => h225 _ (by omega)) (fun v _ => h225 _ (by omega))) ST9 (hgB.lo.k (fN g (GLO.lt hgB.lo hDB))) (by omega) (Nat.le_refl _) (by omega) lrB (by omega) (fun q hq => (fN q (by omega)).trans ((frB q (by omega) (by omega)).trans (F5 q hq))) (by omega) (by omega) (by omega)) ⟨rfl, rfl, trivial⟩
    have hd9 : decide (wL bf n (s).1 = wEdge) = true := hiw9.symm.trans hw1
    rw [if_pos hd9] at erB
    refine aw_top (show _ = nI 1 from by rw [if_pos hd9]) ?_
    have hLe : rn (isLt bf n) n (s).1 - (s).1 = (wEdge).length := by rw [← wL_len, of_decide_eq_true hd9]
    have hLe4 : rn (isLt bf n) n s.1 - s.1 = 4 := hLe
    refine aw_if_eq C (tgt := 107) dX7_read_97 (by decide) (fun g => absurd g (by decide)) (fun _ => ?_)
    have hrl : rG bf n (f + 1) s = rG bf n f (eS bf n s) := by rw [rG, if_pos hw1]
    have hgB := GRW.fr hD5 er5 frB hg5
    have hbB : RDF hB o n bf := RDF.fr (frB o (by omega) (by omega)) (frB (o + 31) (by omega) (by omega)) hb5
    have hlt9 := (isW_k hw1).2.2
    have hEe := (isW_en hw1).1
    have hnE := en_le (bf := bf) hsn
    refine aw_aload_n C rfl rfl dX7_read_100 ?_
    refine ay_callV C ck6 (rd_edge hG l hS hZ hbB erB (by omega) rfl hs5 (isW_en hw1).2 hgB hr0 (by omega) hw5) q1420 q1422 qs30 q122 q1423 erB (n9 := 0) (by decide +kernel) rfl (Nat.le_of_ble_eq_true rfl) (Nat.le_of_ble_eq_true rfl) (by dsimp only; omega) (by dsimp only; omega) rfl (Nat.le_of_ble_eq_true rfl) dX7_read_101 (fun q9 h9 s9 hp9 => ay_out C (by omega) (by omega) (YQ.up (rS_7 (t := eS bf n s) (f := f) (hrs.trans (congrArg (fun z => rF bf n (rL bf n 501 z)) hrl)) hp9.1) (by omega) (fun j hj => (frB j (by omega) (by omega)).trans (F5 j hj)) hp9)) (fun v9 h7 s7 hp7 => ?_)
    obtain ⟨rfl, c7, le7, fr7, ⟨f7, p7, er7, hp7, hP7⟩, hg7⟩ := hp7
    refine aw_goto C (tgt := 91) dX7_read_104 (by decide) ?_
    have hadv := eS_gt hlt9 c7
    obtain ⟨wv1, wv2⟩ := eS_ok hw5 c7
    refine aw_dom (fun hD7 => ?_)
    have kk2 : b2 = (eS bf n s).2.1 2 := by rw [hb25, eS_k hw5 (Or.inl (by decide))]
    exact aw_lo (ih (eS bf n s) h7 s7 p7 f7 _ _ g b2 (hrs.trans (congrArg (fun z => rF bf n (rL bf n 501 z)) hrl)) (by omega) hadv.2 c7 wv1 (by omega) (fun j hj => (eS_k hw5 (Or.inr hj)).trans (h225 j hj)) kk2 er7 hp7 hP7 hg7 (hD7.lt er7) (fun q hq => (fr7 q hq).trans ((frB q (by omega) (by omega)).trans (F5 q hq))) (by omega) (by omega) (by omega)) ⟨rfl, rfl, trivial⟩
set_option maxRecDepth 100000 in
theorem rd_loop1 {γ : Gm} (hG : GF γ) (l : Launch) {h : AH} {sz : Nat} (hS : GSB γ) (hZ : XZ γ) {r o n s0 mi ρ : Nat} {bf : List Nat} (hb : RDF h o n bf) (hr0 : s0 ≤ r) (hs0 : s0 ≤ sz) (ho0 : o + 31 < s0) (hU : RUL γ ρ) (hI : FRU γ) (hB9 : GBO γ mi) {σ : Nat → Nat} (hσ : RTX γ σ) {S : RS} {x : WX} (C : Cx γ l x yX7_read cX7_read 3 (some (.object "ColourDuel$Board")) { frames := 20, cells := (300 + 50 * n), slots := (2000 + 230 * n), locals := 450 } []) : ∀ f s h5 sz5 p k5 n5 g b2, rS bf n S = rF bf n (rL bf n 501 (rG bf n 501 (rV bf n f s))) → n + 1 ≤ s.1 + f → isW bf n wVertex s = true → VB s.2.1 → b2 = s.2.1 2 → h5 r = some (RDO n (.ref g) p s.1 o) → p ≤ n → rn (isSp bf n) n p = nx bf n s.1 → GRW h5 s0 g s.2.1 → r < sz5 → (∀ q, q < s0 → h5 q = h q) → sz ≤ sz5 → k5 ≤ 40 + n + 20 * s.1 → n5 ≤ 340 + 5 * n + 165 * s.1 → AW γ l x (QY γ x (300 + 50 * n) (2000 + 230 * n) (fun v9 h' sz' => ∃ a s1 g cap, v9 = some (.ref a) ∧ (rS bf n S).2.2.1 = 0 ∧ sz ≤ sz' ∧ (∀ q, q < s0 → h' q = h q) ∧ s0 ≤ s1 ∧ BC h' s1 a g (rS bf n S).2.1 cap ∧ GRS h' s1 g (rS bf n S).2.1 ∧ GLO h' s0 g ∧ cap ≤ 8200) (YQ h s0 sz (rS bf n S).2.2)) 3 h5 sz5 k5 n5 74 [(0, .ref r), (1, .int (nI b2))] [] := by
  obtain ⟨u, fb, eo, eb, hn5, hfb⟩ := id hb
  intro f
  induction f with
  | zero => intro s h5 sz5 p k5 n5 g b2 hrs hf hwv hv5 hb25 er5 hp5 hP5 hg5 lr5 F5 hsz5 hk5 hn95; have := (isW_k hwv).2.2; exact absurd hf (by omega)
  | succ f ih =>
    intro s h5 sz5 p k5 n5 g b2 hrs hf hwv hv5 hb25 er5 hp5 hP5 hg5 lr5 F5 hsz5 hk5 hn95
    refine aw_dom (fun hD5 => ?_)
    obtain ⟨hs5, -, hlt9⟩ := isW_k hwv
    have hb5 : RDF h5 o n bf := RDF.fr (F5 o (by omega)) (F5 (o + 31) (by omega)) hb
    have hrl : rV bf n (f + 1) s = rV bf n f (vS bf n s) := by rw [rV, if_pos hwv]
    have hE9 := rn_le (P := isLt bf n) (n := n) (fun _ => isLt_lt) (rn_le (P := isSp bf n) (n := n) (fun _ => isSp_lt) hp5).2
    rw [hP5] at hE9
    have hvh : s.2.1 1 ≤ 3 ∧ s.2.1 1 ≤ 3 ∧ s.2.1 0 ≤ 9 ∧ s.2.1 0 ≤ 9 ∧ s.2.1 0 ≤ 9 ∧ s.2.1 0 ≤ 9 ∧ (∀ j, 13 ≤ j → s.2.1 j = 0) ∧ True := ⟨hv5.2.1, hv5.2.1, hv5.2.2.1, hv5.2.2.1, hv5.2.2.1, hv5.2.2.1, hv5.2.2.2.2.2.2.1, trivial⟩
    refine aw_aload_n C rfl rfl dX7_read_74 ?_
    refine aw_aload_n C rfl rfl dX7_read_75 ?_
    refine aw_getf C ck6 3 (by decide) q1293 (fun _ z => z) er5 rfl dX7_read_76 ?_
    refine ay_callV C ck6 (rd_vertex hG l hS hZ hb5 er5 hp5 hP5 hs5 rfl hg5 hr0 (by omega) hvh) q1387 q1389 qs28 q122 q1390 er5 (n9 := 1) (by decide +kernel) rfl (Nat.le_of_ble_eq_true rfl) (Nat.le_of_ble_eq_true rfl) (by dsimp only; omega) (by dsimp only; omega) rfl (Nat.le_of_ble_eq_true rfl) dX7_read_79 (fun q9 h9 s9 hp9 => ay_out C (by omega) (by omega) (YQ.up (rS_6 (t := vS bf n s) (f := f) (hrs.trans (congrArg (fun z => rF bf n (rL bf n 501 (rG bf n 501 z))) hrl)) hp9.1) (by omega) F5 hp9)) (fun v9 h7 s7 hp7 => ?_)
    obtain ⟨rfl, c7, le7, fr7, ⟨f7, p7, er7, hp7, hP7⟩, hg7⟩ := hp7
    have hadv := vS_gt hlt9 c7
    obtain ⟨wv1, wv2⟩ := vS_ok hv5 c7
    have hLv := v_ok hs5 rfl hv5.2.1 hn5 c7
    have hc9 := c7
    refine aw_dom (fun hD7 => ?_)
    have lr7 := hD7.lt er7
    have hPs : rn (isSp bf n) n (vS bf n s).1 = (vS bf n s).1 := by rw [← hP7]; exact rn_self hp7
    have hb7 : RDF h7 o n bf := RDF.fr ((fr7 o (by omega)).trans (F5 o (by omega))) ((fr7 (o + 31) (by omega)).trans (F5 (o + 31) (by omega))) hb
    have hEv := rn_le (P := isLt bf n) (n := n) (fun _ => isLt_lt) hadv.2
    have kk2 : b2 = (vS bf n s).2.1 2 := by rw [hb25, vS_2]
    refine aw_aload_n C rfl rfl dX7_read_82 ?_
    refine aw_ldcS C hσ.2.2.1.1 dX7_read_83 ?_
    refine aw_callV C ck6 (rd_accP hG l hS hb7 er7 hp7 hσ.2.2.1.2 hP7) q1311 q1313 qs22 q122 q1314 er7 (n9 := 1) (by decide +kernel) rfl (Nat.le_of_ble_eq_true rfl) (Nat.le_of_ble_eq_true rfl) (by dsimp only; omega) (by dsimp only; omega) rfl (Nat.le_of_ble_eq_true rfl) dX7_read_85 (fun _ _ _ z => z.elim) (fun v9 hB sB hp6 => ?_)
    obtain ⟨rfl, leB, frB, erB⟩ := hp6
    have hgB := GRW.fr hD7 er7 frB hg7
    have hiw9 := isW_ac (bf := bf) (n := n) (w := wVertex) (s := vS bf n s) hc9 (by decide)
    rcases (Bool.eq_false_or_eq_true (isW bf n wVertex (vS bf n s))).symm with hw1 | hw1
    · have hd9 : decide (wL bf n (vS bf n s).1 = wVertex) = false := hiw9.symm.trans hw1
      rw [if_neg (by rw [hd9]; decide), Nat.add_zero] at erB
      refine aw_top (show _ = nI 0 from by rw [if_neg (by rw [hd9]; decide)]) ?_
      refine aw_dom (fun hDB => ?_)
      have lrB := hDB.lt erB
      refine aw_if_ne C (tgt := 74) dX7_read_88 (by decide) (fun g => absurd g (by decide)) (fun _ => ?_)
      have hrs8 : rS bf n S = rF bf n (rL bf n 501 (rG bf n 501 (vS bf n s))) := hrs.trans (congrArg (fun z => rF bf n (rL bf n 501 (rG bf n 501 z))) (hrl.trans (rV_stop hw1 f)))
      exact aw_lo ((rd_loop2 hG l (h := h) (sz := sz) hS hZ hb hr0 hs0 ho0 hU hI hB9 hσ C) 501 (vS bf n s) hB sB _ _ _ _ g b2 hrs8 (by omega) hadv.2 c7 (wa_vb wv1 (by omega)) wv1.2.2.2.2.1 (fun j hj => wv1.2.2.2.2.2.2.1 j (by omega)) kk2 erB hadv.2 hPs hgB lrB (fun q hq => (frB q (by omega) (by omega)).trans ((fr7 q hq).trans (F5 q hq))) (by omega) (by omega) (by omega)) ⟨rfl, rfl, trivial⟩
    have hd9 : decide (wL bf n (vS bf n s).1 = wVertex) = true := hiw9.symm.trans hw1
    rw [if_pos hd9] at erB
    refine aw_top (show _ = nI 1 from by rw [if_pos hd9]) ?_
    have hLe : rn (isLt bf n) n (vS bf n s).1 - (vS bf n s).1 = (wVertex).length := by rw [← wL_len, of_decide_eq_true hd9]
    have hLe6 : rn (isLt bf n) n (vS bf n s).1 - (vS bf n s).1 = 6 := hLe
    refine aw_dom (fun hDB => ?_)
    have lrB := hDB.lt erB
    refine aw_if_ne C (tgt := 74) dX7_read_88 (by decide) (fun _ => ?_) (fun g => absurd g (by decide))
    have hEe := (isW_en hw1).1
    have hnE := en_le (bf := bf) hadv.2
    exact aw_lo (ih (vS bf n s) hB sB _ _ _ g b2 (hrs.trans (congrArg (fun z => rF bf n (rL bf n 501 (rG bf n 501 z))) hrl)) (by omega) hw1 wv1 kk2 erB (by omega) (isW_en hw1).2.symm hgB lrB (fun q hq => (frB q (by omega) (by omega)).trans ((fr7 q hq).trans (F5 q hq))) (by omega) (by omega) (by omega)) ⟨rfl, rfl, trivial⟩
