/-! the reader: a whole text from its start -/
theorem rB_22 {bf : List Nat} {n : Nat} {s : RS} : (rB bf n s).2.2 = (tkS bf n (nI 1) (nI 3) s).2.2 := rfl
theorem setB_22 {s : RS} {b : BT} : (setB s b).2.2 = s.2.2 := rfl
theorem setB_1 {s : RS} {b : BT} : (setB s b).1 = s.1 := rfl
theorem kz (j : Nat) : kzero j = 0 := rfl
theorem rS_v {bf : List Nat} {n : Nat} {S : RS} (h : isW bf n wVertex (meS bf n (rC bf n (rB bf n (rA bf n S)))) = true) : rS bf n S = rF bf n (rL bf n 501 (rG bf n 501 (rV bf n 501 (meS bf n (rC bf n (rB bf n (rA bf n S))))))) := by
  unfold rS
  rw [rE_yes h]
theorem vb_rC {bf : List Nat} {n : Nat} {S : RS} (hs : S.2.1 = kzero) (hc : (rC bf n (rB bf n (rA bf n S))).2.2.1 = 0) : VB (rC bf n (rB bf n (rA bf n S))).2.1 := by
  cases g : isW bf n wPasses (rB bf n (rA bf n S))
  · exact vbr_d hs g hc
  · exact vbr_c hs g hc
set_option maxRecDepth 100000 in
theorem rd_mid {γ : Gm} (hG : GF γ) (l : Launch) {h : AH} {sz : Nat} (hS : GSB γ) (hZ : XZ γ) {r o n s0 mi ρ : Nat} {bf : List Nat} (hb : RDF h o n bf) (hr0 : s0 ≤ r) (hs0 : s0 ≤ sz) (ho0 : o + 31 < s0) (hU : RUL γ ρ) (hI : FRU γ) (hB9 : GBO γ mi) {σ : Nat → Nat} (hσ : RTX γ σ) {S : RS} {x : WX} (C : Cx γ l x yX7_read cX7_read 3 (some (.object "ColourDuel$Board")) { frames := 20, cells := (300 + 50 * n), slots := (2000 + 230 * n), locals := 450 } []) : S.2.1 = kzero → ∀ h5 sz5 p fr k5 n5 g b2, (rC bf n (rB bf n (rA bf n S))).2.2.1 = 0 → (rC bf n (rB bf n (rA bf n S))).1 ≤ n → b2 = (rC bf n (rB bf n (rA bf n S))).2.1 2 → h5 r = some (RDO n (.ref g) p fr o) → p ≤ n → rn (isSp bf n) n p = (rC bf n (rB bf n (rA bf n S))).1 → GRW h5 s0 g (rC bf n (rB bf n (rA bf n S))).2.1 → r < sz5 → (∀ q, q < s0 → h5 q = h q) → sz ≤ sz5 → k5 ≤ 20 + n → n5 ≤ 170 + 5 * n → AW γ l x (QY γ x (300 + 50 * n) (2000 + 230 * n) (fun v9 h' sz' => ∃ a s1 g cap, v9 = some (.ref a) ∧ (rS bf n S).2.2.1 = 0 ∧ sz ≤ sz' ∧ (∀ q, q < s0 → h' q = h q) ∧ s0 ≤ s1 ∧ BC h' s1 a g (rS bf n S).2.1 cap ∧ GRS h' s1 g (rS bf n S).2.1 ∧ GLO h' s0 g ∧ cap ≤ 8200) (YQ h s0 sz (rS bf n S).2.2)) 3 h5 sz5 k5 n5 54 [(0, .ref r), (1, .int (nI b2))] [] := by
  obtain ⟨u, fb, eo, eb, hn5, hfb⟩ := id hb
  intro hSk h5 sz5 p fr k5 n5 g b2 hc3 hn3 hb25 er5 hp5 hP5 hg5 lr5 F5 hsz5 hk5 hn95
  refine aw_dom (fun hD5 => ?_)
  have hb5 : RDF h5 o n bf := RDF.fr (F5 o (by omega)) (F5 (o + 31) (by omega)) hb
  have hvb := vb_rC hSk hc3
  refine aw_aload_n C rfl rfl dX7_read_54 ?_
  refine ay_callV C ck6 (rd_semicolon hG l hZ hb5 er5 hp5 (s := (rC bf n (rB bf n (rA bf n S)))) hc3 hP5.symm) q1382 q1384 qs27 q122 q1385 er5 (n9 := 0) (by decide +kernel) rfl (Nat.le_of_ble_eq_true rfl) (Nat.le_of_ble_eq_true rfl) (by dsimp only; omega) (by dsimp only; omega) rfl (Nat.le_of_ble_eq_true rfl) dX7_read_55 (fun q9 h9 s9 hp9 => ay_out C (by omega) (by omega) (YP.q (rS_4 hp9.1) hr0 (by omega) (by omega) F5 hp9)) (fun v9 h4 s4 hp7 => ?_)
  obtain ⟨rfl, c4, hs4z, fr4, p4, er4, hp4, hP4⟩ := hp7
  have hc9 := c4
  have hn4 : (meS bf n (rC bf n (rB bf n (rA bf n S)))).1 ≤ n := ((le_meS bf n (rC bf n (rB bf n (rA bf n S)))).2 hn3).2
  refine aw_dom (fun hD4 => ?_)
  have hg4 : GRW h4 s0 g (meS bf n (rC bf n (rB bf n (rA bf n S)))).2.1 := by rw [meS_b]; exact GRW.fr hD5 er5 fr4 hg5
  have hPs : rn (isSp bf n) n (meS bf n (rC bf n (rB bf n (rA bf n S)))).1 = (meS bf n (rC bf n (rB bf n (rA bf n S)))).1 := by rw [← hP4]; exact rn_self hp4
  have hb4 : RDF h4 o n bf := RDF.fr ((fr4 o (by omega) (by omega)).trans (F5 o (by omega))) ((fr4 (o + 31) (by omega) (by omega)).trans (F5 (o + 31) (by omega))) hb
  have hE9 := rn_le (P := isLt bf n) (n := n) (fun _ => isLt_lt) hn4
  refine aw_aload_n C rfl rfl dX7_read_58 ?_
  refine aw_aload_n C rfl rfl dX7_read_59 ?_
  refine aw_ldcS C hσ.2.2.1.1 dX7_read_60 ?_
  refine aw_callV C ck6 (rd_accP hG l hS hb4 er4 hp4 hσ.2.2.1.2 hP4) q1311 q1313 qs22 q122 q1314 er4 (n9 := 1) (by decide +kernel) rfl (Nat.le_of_ble_eq_true rfl) (Nat.le_of_ble_eq_true rfl) (by dsimp only; omega) (by dsimp only; omega) rfl (Nat.le_of_ble_eq_true rfl) dX7_read_62 (fun _ _ _ z => z.elim) (fun v9 hB sB hp6 => ?_)
  obtain ⟨rfl, leB, frB, erB⟩ := hp6
  have hiw9 := isW_ac (bf := bf) (n := n) (w := wVertex) (s := (meS bf n (rC bf n (rB bf n (rA bf n S))))) hc9 (by decide)
  rcases (Bool.eq_false_or_eq_true (isW bf n wVertex ((meS bf n (rC bf n (rB bf n (rA bf n S))))))).symm with hw1 | hw1
  · have hd9 : decide (wL bf n ((meS bf n (rC bf n (rB bf n (rA bf n S))))).1 = wVertex) = false := hiw9.symm.trans hw1
    rw [if_neg (by rw [hd9]; decide), Nat.add_zero] at erB
    refine aw_top (show _ = nI 0 from by rw [if_neg (by rw [hd9]; decide)]) ?_
    have hE5 := rE_no c4 hw1
    have hX := (rS_5 (s := S) (by rw [hE5]; exact m2)).trans hE5
    refine aw_dom (fun hDB => ?_)
    have lrB := hDB.lt erB
    refine aw_bipush C (v := -2) (by decide) dX7_read_65 ?_
    refine aw_aload_n C rfl rfl dX7_read_67 ?_
    refine aw_getf C ck6 2 (by decide) q1292 (fun _ z => z) erB rfl dX7_read_68 ?_
    refine ay_callV C ck6 (rd_req0 hG l hZ (code := -2) (pos := (meS bf n (rC bf n (rB bf n (rA bf n S)))).1)) q1339 q1341 qs25 q122 q1342 erB (n9 := 3) (by decide +kernel) rfl (Nat.le_of_ble_eq_true rfl) (Nat.le_of_ble_eq_true rfl) (by dsimp only; omega) (by dsimp only; omega) rfl (Nat.le_of_ble_eq_true rfl) dX7_read_71 (fun q9 h9 s9 hp9 => ?_) (fun _ _ _ z => z.elim)
    obtain ⟨rfl, rfl, rfl⟩ := hp9
    refine ay_out C (by omega) (by omega) ⟨?_, by omega, fun j hj => (hset_n _ _ (by omega)).trans ((frB j (by omega) (by omega)).trans ((fr4 j (by omega) (by omega)).trans (F5 j hj))), ?_⟩
    · rw [hX]; exact m2
    · rw [hX]; exact hset_s _ _ _
  have hd9 : decide (wL bf n ((meS bf n (rC bf n (rB bf n (rA bf n S))))).1 = wVertex) = true := hiw9.symm.trans hw1
  rw [if_pos hd9] at erB
  refine aw_top (show _ = nI 1 from by rw [if_pos hd9]) ?_
  have hLe : rn (isLt bf n) n ((meS bf n (rC bf n (rB bf n (rA bf n S))))).1 - ((meS bf n (rC bf n (rB bf n (rA bf n S))))).1 = (wVertex).length := by rw [← wL_len, of_decide_eq_true hd9]
  have hLe6 : rn (isLt bf n) n (meS bf n (rC bf n (rB bf n (rA bf n S)))).1 - (meS bf n (rC bf n (rB bf n (rA bf n S)))).1 = 6 := hLe
  refine aw_dom (fun hDB => ?_)
  have lrB := hDB.lt erB
  have hgB := GRW.fr hD4 er4 frB hg4
  have hEe := (isW_en hw1).1
  have hnE := en_le (bf := bf) hn4
  refine aw_bipush C (v := -2) (by decide) dX7_read_65 ?_
  refine aw_aload_n C rfl rfl dX7_read_67 ?_
  refine aw_getf C ck6 2 (by decide) q1292 (fun _ z => z) erB rfl dX7_read_68 ?_
  refine aw_callVP C ck6 (rd_req1 hG l) q1339 q1341 qs25 q122 q1342 erB (n9 := 3) (by decide +kernel) rfl (Nat.le_of_ble_eq_true rfl) (Nat.le_of_ble_eq_true rfl) (by dsimp only; omega) (by dsimp only; omega) rfl (Nat.le_of_ble_eq_true rfl) dX7_read_71 ?_
  exact aw_lo ((rd_loop1 hG l (h := h) (sz := sz) hS hZ hb hr0 hs0 ho0 hU hI hB9 hσ C) 501 (meS bf n (rC bf n (rB bf n (rA bf n S)))) hB sB _ _ _ g b2 (rS_v hw1) (by omega) hw1 (by rw [meS_b]; exact hvb) (by rw [meS_b]; exact hb25) erB (by omega) (isW_en hw1).2.symm hgB lrB (fun q hq => (frB q (by omega) (by omega)).trans ((fr4 q (by omega) (by omega)).trans (F5 q hq))) (by omega) (by omega) (by omega)) ⟨rfl, rfl, trivial⟩
set_option maxRecDepth 100000 in
theorem rd_read {γ : Gm} (hG : GF γ) (l : Launch) {h : AH} {sz : Nat} (hS : GSB γ) (hZ : XZ γ) {r o n s0 mi ρ : Nat} {bf : List Nat} (hb : RDF h o n bf) (hr0 : s0 ≤ r) (hs0 : s0 ≤ sz) (ho0 : o + 31 < s0) (hU : RUL γ ρ) (hI : FRU γ) (hB9 : GBO γ mi) {σ : Nat → Nat} (hσ : RTX γ σ) {S : RS} (er : h r = some (RDO n .null 0 0 o)) (hSc : S.2.2.1 = 0) (hSk : S.2.1 = kzero) (hS0 : rn (isSp bf n) n 0 = S.1) : MY γ l yX7_read cX7_read 3 (some (.object "ColourDuel$Board")) 20 450 (300 + 50 * n) (2000 + 230 * n) [.ref r] h sz (fun v9 h' sz' => ∃ a s1 g cap, v9 = some (.ref a) ∧ (rS bf n S).2.2.1 = 0 ∧ sz ≤ sz' ∧ (∀ q, q < s0 → h' q = h q) ∧ s0 ≤ s1 ∧ BC h' s1 a g (rS bf n S).2.1 cap ∧ GRS h' s1 g (rS bf n S).2.1 ∧ GLO h' s0 g ∧ cap ≤ 8200) (YQ h s0 sz (rS bf n S).2.2) := by
  refine my_start hG (by decide) (Nat.le_of_ble_eq_true rfl) (fun x C => ?_)
  obtain ⟨u, fb, eo, eb, hn5, hfb⟩ := id hb
  refine aw_dom (fun hD => ?_)
  have lr := hD.lt er
  have hc9 : S.2.2.1 = 0 := hSc
  have hSn : S.1 ≤ n := by rw [← hS0]; exact (rn_le (P := isSp bf n) (n := n) (fun _ => isSp_lt) (Nat.zero_le n)).2
  have hE0 := rn_le (P := isLt bf n) (n := n) (fun _ => isLt_lt) hSn
  refine aw_aload_n C rfl rfl dX7_read_0 ?_
  refine aw_aload_n C rfl rfl dX7_read_1 ?_
  refine aw_ldcS C hσ.1.1 dX7_read_2 ?_
  refine aw_callV C ck6 (rd_accP hG l hS hb er (Nat.zero_le n) hσ.1.2 hS0) q1311 q1313 qs22 q122 q1314 er (n9 := 1) (by decide +kernel) rfl (Nat.le_of_ble_eq_true rfl) (Nat.le_of_ble_eq_true rfl) (by dsimp only; omega) (by dsimp only; omega) rfl (Nat.le_of_ble_eq_true rfl) dX7_read_4 (fun _ _ _ z => z.elim) (fun v9 hA sA hp6 => ?_)
  obtain ⟨rfl, leA, frA, erA⟩ := hp6
  have hiw9 := isW_ac (bf := bf) (n := n) (w := wColours) (s := S) hc9 (by decide)
  rcases (Bool.eq_false_or_eq_true (isW bf n wColours (S))).symm with hw0 | hw0
  · have hd9 : decide (wL bf n (S).1 = wColours) = false := hiw9.symm.trans hw0
    rw [if_neg (by rw [hd9]; decide), Nat.add_zero] at erA
    refine aw_top (show _ = nI 0 from by rw [if_neg (by rw [hd9]; decide)]) ?_
    have hE5 := rA_no hSc hw0
    have hX := (rS_1 (s := S) (by rw [hE5]; exact m2)).trans hE5
    refine aw_bipush C (v := -2) (by decide) dX7_read_7 ?_
    refine aw_aload_n C rfl rfl dX7_read_9 ?_
    refine aw_getf C ck6 2 (by decide) q1292 (fun _ z => z) erA rfl dX7_read_10 ?_
    refine ay_callV C ck6 (rd_req0 hG l hZ (code := -2) (pos := S.1)) q1339 q1341 qs25 q122 q1342 erA (n9 := 3) (by decide +kernel) rfl (Nat.le_of_ble_eq_true rfl) (Nat.le_of_ble_eq_true rfl) (by dsimp only; omega) (by dsimp only; omega) rfl (Nat.le_of_ble_eq_true rfl) dX7_read_13 (fun q9 h9 s9 hp9 => ?_) (fun _ _ _ z => z.elim)
    obtain ⟨rfl, rfl, rfl⟩ := hp9
    refine ay_out C (by omega) (by omega) ⟨?_, by omega, fun j hj => (hset_n _ _ (by omega)).trans (frA j (by omega) (by omega)), ?_⟩
    · rw [hX]; exact m2
    · rw [hX]; exact hset_s _ _ _
  have hd9 : decide (wL bf n (S).1 = wColours) = true := hiw9.symm.trans hw0
  rw [if_pos hd9] at erA
  refine aw_top (show _ = nI 1 from by rw [if_pos hd9]) ?_
  have hLe : rn (isLt bf n) n (S).1 - (S).1 = (wColours).length := by rw [← wL_len, of_decide_eq_true hd9]
  have hLe7 : rn (isLt bf n) n S.1 - S.1 = 7 := hLe
  have eA1 : rA bf n S = (rn (isSp bf n) n (S.1 + 7), S.2) := rA_yes hSc hw0
  have hEe0 := (isW_en hw0).1
  have hnE0 := en_le (bf := bf) hSn
  have hEe0' : en bf n S.1 = S.1 + 7 := hEe0
  refine aw_dom (fun hDA => ?_)
  have lrA := hDA.lt erA
  have hbA : RDF hA o n bf := RDF.fr (frA o (by omega) (by omega)) (frA (o + 31) (by omega) (by omega)) hb
  have hbG : RDF (hset hA sA (.inr (3, [.int 0, .null, .null, .int 0, .int 0]))) o n bf := RDF.fr (hset_n _ _ (by omega)) (hset_n _ _ (by omega)) hbA
  refine aw_bipush C (v := -2) (by decide) dX7_read_7 ?_
  refine aw_aload_n C rfl rfl dX7_read_9 ?_
  refine aw_getf C ck6 2 (by decide) q1292 (fun _ z => z) erA rfl dX7_read_10 ?_
  refine aw_callVP C ck6 (rd_req1 hG l) q1339 q1341 qs25 q122 q1342 erA (n9 := 3) (by decide +kernel) rfl (Nat.le_of_ble_eq_true rfl) (Nat.le_of_ble_eq_true rfl) (by dsimp only; omega) (by dsimp only; omega) rfl (Nat.le_of_ble_eq_true rfl) dX7_read_13 ?_
  refine aw_aload_n C rfl rfl dX7_read_16 ?_
  refine aw_new C ck3 (fs := [.int 0, .null, .null, .int 0, .int 0]) q1371 q192 q98 (by decide) (by dsimp only; omega) (by dsimp only; omega) dX7_read_17 ?_
  refine aw_dup C rfl dX7_read_20 ?_
  refine aw_aload_n C rfl rfl dX7_read_21 ?_
  refine aw_iconst C (v := nI 1) (by decide) dX7_read_22 ?_
  refine aw_iconst C (v := nI 3) (by decide) dX7_read_23 ?_
  refine ay_callV C ck6 (rd_number hG l hZ hbG ((hset_n _ _ (by omega)).trans erA) (by omega) (s := (rn (isSp bf n) n (S.1 + 7), S.2)) hSc rfl (ll := 1) (hh := 3) (by decide) (by decide)) q1372 q1374 qs26 q122 q1375 ((hset_n _ _ (by omega)).trans erA) (n9 := 2) (by decide +kernel) rfl (Nat.le_of_ble_eq_true rfl) (Nat.le_of_ble_eq_true rfl) (by dsimp only; omega) (by dsimp only; omega) rfl (Nat.le_of_ble_eq_true rfl) dX7_read_24 (fun q9 h9 s9 hp9 => ay_out C (by omega) (by omega) (YP.q ((rS_2 (by rw [eA1, rB_22]; exact hp9.1)).trans (by rw [eA1, rB_22])) hr0 (by omega) (by omega) (fun j hj => (hset_n _ _ (by omega)).trans (frA j (by omega) (by omega))) hp9)) (fun v9 hN sN hp7 => ?_)
  obtain ⟨rfl, cN, -, -, hsNz, frN, p2, erN, hp2, hPN⟩ := hp7
  refine aw_callIP C (gr_init hG l ((frN sA (by omega) (by omega)).trans (hset_s _ _ _)) (by omega)) q1380 q194 q98 q195 rfl (n9 := 1) (by decide +kernel) rfl (Nat.le_of_ble_eq_true rfl) (Nat.le_of_ble_eq_true rfl) (by dsimp only; omega) (by dsimp only; omega) rfl (Nat.le_of_ble_eq_true rfl) dX7_read_27 ?_
  refine aw_putf C ck6 1 (by decide) q1291 (fun _ z => z) rfl rfl (ty := .object "ColourDuel$Graph") rfl rfl ((hset_n _ _ (by omega)).trans ((hset_n _ _ (by omega)).trans ((hset_n _ _ (by omega)).trans erN))) (show 1 < 5 by decide) dX7_read_30 ?_
  refine aw_gh (fun hD4 ehD => ?_)
  have FD : ∀ q, q < sA → q ≠ r → hD4 q = hA q := fun q q1 q2 => by rw [ehD, hset_n _ _ q2, hset_n _ _ (by omega), hset_n _ _ (by omega), hset_n _ _ (by omega), frN q (by omega) q2, hset_n _ _ (by omega)]
  have erD : hD4 r = some (RDO n (.ref sA) p2 (rn (isSp bf n) n (S.1 + 7)) o) := by rw [ehD]; exact hset_s _ _ _
  have egD : hD4 sA = some (.inr (3, [.int (nI (tkV bf n (nI 1) (nI 3) (rn (isSp bf n) n (S.1 + 7), S.2))), .ref sN, .ref (sN + 1), .int 0, .int 0])) := by rw [ehD, hset_n _ _ (by omega)]; exact hset_s _ _ _
  have elD : hD4 sN = some (.inl (0, 9, .inl (fun _ => 0))) := by rw [ehD, hset_n _ _ (by omega), hset_n _ _ (by omega), hset_n _ _ (by omega)]; exact hset_s _ _ _
  have enD : hD4 (sN + 1) = some (.inl (0, 9, .inl (fun _ => 0))) := by rw [ehD, hset_n _ _ (by omega), hset_n _ _ (by omega)]; exact hset_s _ _ _
  clear ehD
  obtain ⟨S2, hS2⟩ : ∃ S2, S2 = rB bf n (rA bf n S) := ⟨_, rfl⟩
  have eS2 : S2 = setB (tkS bf n (nI 1) (nI 3) (rn (isSp bf n) n (S.1 + 7), S.2)) (updN kzero 1 (tkV bf n (nI 1) (nI 3) (rn (isSp bf n) n (S.1 + 7), S.2))) := by rw [hS2, eA1]; unfold rB; rw [hSk]
  have hP2 : rn (isSp bf n) n p2 = S2.1 := by rw [eS2, setB_1]; exact hPN
  have hc2 : S2.2.2.1 = 0 := by rw [eS2, setB_22]; exact cN
  have hc9 := hc2
  have hn2 : S2.1 ≤ n := by rw [← hP2]; exact (rn_le (P := isSp bf n) (n := n) (fun _ => isSp_lt) hp2).2
  have hE2 := rn_le (P := isLt bf n) (n := n) (fun _ => isLt_lt) hn2
  have hgD : GRW hD4 s0 sA S2.2.1 := by
    rw [eS2, setB_b]
    have z0 : edg (updN kzero 1 (tkV bf n (nI 1) (nI 3) (rn (isSp bf n) n (S.1 + 7), S.2))) = 0 := edg_0 (fun j hj => updN_n (by omega))
    refine ⟨sN, sN + 1, fun _ => 0, fun _ => 0, ⟨by omega, by omega, by omega, by omega⟩, ?_, elD, enD, fun v hv => ?_, fun v hv => ?_⟩
    · rw [z0, updN_s, updN_n (by decide)]
      exact egD
    · rw [updN_n (by omega)]; rfl
    · rw [updN_n (by omega)]; rfl
  have hbD : RDF hD4 o n bf := RDF.fr ((FD o (by omega) (by omega)).trans (frA o (by omega) (by omega))) ((FD (o + 31) (by omega) (by omega)).trans (frA (o + 31) (by omega) (by omega))) hb
  refine aw_dom (fun hDD => ?_)
  refine aw_aload_n C rfl rfl dX7_read_33 ?_
  refine aw_ldcS C hσ.2.1.1 dX7_read_34 ?_
  refine aw_callV C ck6 (rd_accP hG l hS hbD erD hp2 hσ.2.1.2 hP2) q1311 q1313 qs22 q122 q1314 erD (n9 := 1) (by decide +kernel) rfl (Nat.le_of_ble_eq_true rfl) (Nat.le_of_ble_eq_true rfl) (by dsimp only; omega) (by dsimp only; omega) rfl (Nat.le_of_ble_eq_true rfl) dX7_read_36 (fun _ _ _ z => z.elim) (fun v9 hE sE hp6 => ?_)
  obtain ⟨rfl, leE, frE, erE⟩ := hp6
  have hiw9 := isW_ac (bf := bf) (n := n) (w := wPasses) (s := S2) hc9 (by decide)
  rcases (Bool.eq_false_or_eq_true (isW bf n wPasses (S2))).symm with hw2 | hw2
  · have hd9 : decide (wL bf n (S2).1 = wPasses) = false := hiw9.symm.trans hw2
    rw [if_neg (by rw [hd9]; decide), Nat.add_zero] at erE
    refine aw_top (show _ = nI 0 from by rw [if_neg (by rw [hd9]; decide)]) ?_
    refine aw_dom (fun hDE => ?_)
    have lrE := hDE.lt erE
    have hgE := GRW.fr hDD erD frE hgD
    have eC : rC bf n (rB bf n (rA bf n S)) = S2 := by rw [← hS2]; exact rC_no hw2
    refine aw_if_eq C (tgt := 52) dX7_read_39 (by decide) (fun _ => ?_) (fun g => absurd rfl g)
    refine aw_iconst C (v := nI 0) (by decide) dX7_read_52 ?_
    refine aw_istore_n C rfl (by decide) rfl dX7_read_53 ?_
    exact aw_lo ((rd_mid hG l (h := h) (sz := sz) hS hZ hb hr0 hs0 ho0 hU hI hB9 hσ C) hSk hE sE _ _ _ _ sA 0 (by rw [eC]; exact hc2) (by rw [eC]; exact hn2) (by rw [eC, eS2, setB_b, updN_n (by decide)]; rfl) erE hn2 (by rw [eC]; exact (by rw [← hP2]; exact rn_self hp2)) (by rw [eC]; exact hgE) lrE (fun q hq => (frE q (by omega) (by omega)).trans ((FD q (by omega) (by omega)).trans (frA q (by omega) (by omega)))) (by omega) (by omega) (by omega)) ⟨rfl, rfl, trivial⟩
  have hd9 : decide (wL bf n (S2).1 = wPasses) = true := hiw9.symm.trans hw2
  rw [if_pos hd9] at erE
  refine aw_top (show _ = nI 1 from by rw [if_pos hd9]) ?_
  have hLe : rn (isLt bf n) n (S2).1 - (S2).1 = (wPasses).length := by rw [← wL_len, of_decide_eq_true hd9]
  have hLe6 : rn (isLt bf n) n S2.1 - S2.1 = 6 := hLe
  refine aw_dom (fun hDE => ?_)
  have lrE := hDE.lt erE
  have hgE := GRW.fr hDD erD frE hgD
  have eC : rC bf n (rB bf n (rA bf n S)) = setB (tkS bf n (nI 0) (nI 9) (rn (isSp bf n) n (S2.1 + 6), S2.2)) (updN S2.2.1 2 (tkV bf n (nI 0) (nI 9) (rn (isSp bf n) n (S2.1 + 6), S2.2))) := by rw [← hS2]; exact rC_yes hc2 hw2
  have hEe := (isW_en hw2).1
  have hw6 : wPasses.length = 6 := rfl
  rw [hw6] at erE hEe
  have hnE := en_le (bf := bf) hn2
  have hbE : RDF hE o n bf := RDF.fr ((frE o (by omega) (by omega)).trans ((FD o (by omega) (by omega)).trans (frA o (by omega) (by omega)))) ((frE (o + 31) (by omega) (by omega)).trans ((FD (o + 31) (by omega) (by omega)).trans (frA (o + 31) (by omega) (by omega)))) hb
  refine aw_if_eq C (tgt := 52) dX7_read_39 (by decide) (fun g => absurd g (by decide)) (fun _ => ?_)
  refine aw_aload_n C rfl rfl dX7_read_42 ?_
  refine aw_iconst C (v := nI 0) (by decide) dX7_read_43 ?_
  refine aw_bipush C (v := nI 9) (by decide) dX7_read_44 ?_
  refine ay_callV C ck6 (rd_number hG l hZ hbE erE (by omega) (s := (rn (isSp bf n) n (S2.1 + 6), S2.2)) hc2 rfl (ll := 0) (hh := 9) (by decide) (by decide)) q1372 q1374 qs26 q122 q1375 erE (n9 := 2) (by decide +kernel) rfl (Nat.le_of_ble_eq_true rfl) (Nat.le_of_ble_eq_true rfl) (by dsimp only; omega) (by dsimp only; omega) rfl (Nat.le_of_ble_eq_true rfl) dX7_read_46 (fun q9 h9 s9 hp9 => ay_out C (by omega) (by omega) (YP.q ((rS_3 (by rw [eC, setB_22]; exact hp9.1)).trans (by rw [eC, setB_22])) hr0 (by omega) (by omega) (fun q hq => (frE q (by omega) (by omega)).trans ((FD q (by omega) (by omega)).trans (frA q (by omega) (by omega)))) hp9)) (fun v9 h6 s6 hp7 => ?_)
  obtain ⟨rfl, c6, -, -, hs6z, fr6, p6, er6, hp6, hP6⟩ := hp7
  refine aw_goto C (tgt := 53) dX7_read_49 (by decide) ?_
  have hP6 : rn (isSp bf n) n p6 = (rC bf n (rB bf n (rA bf n S))).1 := by rw [eC, setB_1]; exact hP6
  have hn6 := (rn_le (P := isSp bf n) (n := n) (fun _ => isSp_lt) hp6).2
  refine aw_istore_n C rfl (by decide) rfl dX7_read_53 ?_
  exact aw_lo ((rd_mid hG l (h := h) (sz := sz) hS hZ hb hr0 hs0 ho0 hU hI hB9 hσ C) hSk h6 s6 _ _ _ _ sA _ (by rw [eC, setB_22]; exact c6) (by rw [← hP6]; exact hn6) (by rw [eC, setB_b, updN_s]) er6 hp6 hP6 (by rw [eC, setB_b]; exact GRW.st (st_up2 _ _) (by rw [eS2, setB_b, updN_n (by decide)]; exact Nat.zero_le _) (GRW.fr hDE erE fr6 hgE)) (by omega) (fun q hq => (fr6 q (by omega) (by omega)).trans ((frE q (by omega) (by omega)).trans ((FD q (by omega) (by omega)).trans (frA q (by omega) (by omega))))) (by omega) (by omega) (by omega)) ⟨rfl, rfl, trivial⟩
set_option maxRecDepth 100000 in
theorem rd_init {γ : Gm} (hG : GF γ) (l : Launch) {h : AH} {sz : Nat} {r o n : Nat} (er : h r = some (.inr (6, [.int 0, .null, .int 0, .int 0, .null]))) : MX γ l yX7_init cX7_init 3 none 1 12 0 0 [.ref r, .ref o, .int (nI n)] h sz (PE none (hset h r (RDO n .null 0 0 o)) sz) NX := by
  refine mx_start hG (by decide) (Nat.le_of_ble_eq_true rfl) (fun x C => ?_)
  refine aw_aload_n C rfl rfl dX7_init_0 ?_
  refine aw_aload_n C rfl rfl dX7_init_1 ?_
  refine aw_putfF C ck6 4 (by decide) q1294 (fun _ z => z) rfl rfl rfl (ty := .object "ColourDuel") rfl rfl rfl er (show 4 < 5 by decide) dX7_init_2 ?_
  refine aw_aload_n C rfl rfl dX7_init_5 ?_
  refine aw_objInit C q1289 q142 q143 (Nat.le_of_ble_eq_true rfl) (Nat.le_of_ble_eq_true rfl) dX7_init_6 ?_
  refine aw_aload_n C rfl rfl dX7_init_9 ?_
  refine aw_iload_n C rfl rfl dX7_init_10 ?_
  refine aw_putfF C ck6 0 (by decide) q1290 (fun _ z => z) rfl rfl rfl (ty := .int) rfl rfl rfl (hset_s _ _ _) (show 0 < 5 by decide) dX7_init_11 ?_
  rw [hset_hset]
  exact aw_vret C rfl dX7_init_14 (by omega) (by omega) ⟨rfl, rfl, rfl⟩
