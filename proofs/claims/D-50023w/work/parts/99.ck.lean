/-! the reader: accept, number, semicolon, letters -/
/-- what is thrown by the reader at r: a fault and its place -/
def YP (h : AH) (sz r : Nat) (c : Int32 × Nat) : Nat → AH → Nat → Prop := fun q h' sz' => ¬ c.1 = 0 ∧ sz ≤ q ∧ (∀ j, j < sz → j ≠ r → h' j = h j) ∧ h' q = some (TE c.1 c.2)
theorem YP.eq {h : AH} {sz r : Nat} {c d : Int32 × Nat} {q : Nat} {h' : AH} {sz' : Nat} (e : d = c) (g : YP h sz r c q h' sz') : YP h sz r d q h' sz' := by rw [e]; exact g
/-- the reader at r stands before P -/
def RAt (n : Nat) (bf : List Nat) (r o : Nat) (gr : Value) (f : Nat) (h : AH) (P : Nat) : Prop := ∃ p, h r = some (RDO n gr p f o) ∧ p ≤ n ∧ rn (isSp bf n) n p = P
theorem rn_self {bf : List Nat} {n p : Nat} (h : p ≤ n) : rn (isSp bf n) n (rn (isSp bf n) n p) = rn (isSp bf n) n p := by
  have key : ∀ j p, p ≤ n → n + 1 ≤ p + j → rn (isSp bf n) n (rn (isSp bf n) n p) = rn (isSp bf n) n p := by
    intro j
    induction j with
    | zero => intro p h1 h2; omega
    | succ j ih =>
      intro p h1 h2
      by_cases e : isSp bf n p = true
      · have := isSp_lt e
        rw [rn_t e this]
        exact ih (p + 1) (by omega) (by omega)
      · have e2 : isSp bf n p = false := by cases z : isSp bf n p <;> simp_all
        rw [rn_f e2, rn_f e2]
  exact key (n + 1) p h (by omega)
set_option maxRecDepth 100000 in
theorem rd_req1 {γ : Gm} (hG : GF γ) (l : Launch) {h : AH} {sz : Nat} {r : Nat} {code : Int32} {pos : Nat} : MX γ l yX7_require cX7_require 4 none 4 110 0 0 [.ref r, .int (nI 1), .int code, .int (nI pos)] h sz (PE none h sz) NX := by
  refine mx_start hG (by decide) (Nat.le_of_ble_eq_true rfl) (fun x C => ?_)
  refine aw_iload_n C rfl rfl dX7_require_0 ?_
  refine aw_if_ne C (tgt := 14) dX7_require_1 (by decide) (fun g1 => ?_) (fun g1 => ?_)
  · exact aw_vret C rfl dX7_require_14 (by omega) (by omega) ⟨rfl, rfl, rfl⟩
  · first | exact absurd (by decide) g1 | exact absurd g1 (by decide)
set_option maxRecDepth 100000 in
theorem rd_req0 {γ : Gm} (hG : GF γ) (l : Launch) {h : AH} {sz : Nat} (hZ : XZ γ) {r : Nat} {code : Int32} {pos : Nat} : MY γ l yX7_require cX7_require 4 none 4 110 1 8 [.ref r, .int (nI 0), .int code, .int (nI pos)] h sz (fun _ _ _ => False) (fun q h' sz' => q = sz ∧ h' = hset h sz (TE code pos) ∧ sz' = sz + 1) := by
  refine my_start hG (by decide) (Nat.le_of_ble_eq_true rfl) (fun x C => ?_)
  refine aw_iload_n C rfl rfl dX7_require_0 ?_
  refine aw_if_ne C (tgt := 14) dX7_require_1 (by decide) (fun g1 => ?_) (fun g1 => ?_)
  · first | exact absurd g1 (by decide) | exact absurd (by decide) g1
  · refine aw_new C ck7 (fs := [.null, .null, .null, .null, .null, .int 0, .int 0, .int 0]) q1343 q1344 q123 (by decide) (by dsimp only; omega) (by dsimp only; omega) dX7_require_4 ?_
    refine aw_dup C rfl dX7_require_7 ?_
    refine aw_iload_n C rfl rfl dX7_require_8 ?_
    refine aw_iload_n C rfl rfl dX7_require_9 ?_
    refine aw_callIP C (te_init hG l hZ (code := code) (pos := pos) (hset_s _ _ _)) q1352 q1353 q123 q1354 rfl (n9 := 2) (by decide +kernel) rfl (Nat.le_of_ble_eq_true rfl) (Nat.le_of_ble_eq_true rfl) (by dsimp only; omega) (by dsimp only; omega) rfl (Nat.le_of_ble_eq_true rfl) dX7_require_10 ?_
    rw [hset_hset]
    exact ay_throw C dX7_require_13 (ay_out C (by omega) (by omega) ⟨rfl, rfl, rfl⟩)
set_option maxRecDepth 100000 in
theorem rd_accept {γ : Gm} (hG : GF γ) (l : Launch) {h : AH} {sz : Nat} (hS : GSB γ) {r o n p f : Nat} {gr : Value} {bf : List Nat} (hb : RDF h o n bf) (er : h r = some (RDO n gr p f o)) (hp : p ≤ n) {e : Nat} {w : List Nat} (he9 : ∀ h, STR γ h e w) : MX γ l yX7_accept cX7_accept 3 (some .boolean) 18 402 (4 + ((rn (isLt bf n) n (rn (isSp bf n) n p)) - (rn (isSp bf n) n p))) (44 + 5 * ((rn (isLt bf n) n (rn (isSp bf n) n p)) - (rn (isSp bf n) n p))) [.ref r, .ref e] h sz (fun v9 h' sz' => v9 = some (.int (nI (if decide (wL bf n (rn (isSp bf n) n p) = w) = true then 1 else 0))) ∧ sz ≤ sz' ∧ (∀ q, q < sz → q ≠ r → h' q = h q) ∧ h' r = some (RDO n gr ((rn (isSp bf n) n p) + (if decide (wL bf n (rn (isSp bf n) n p) = w) = true then w.length else 0)) (rn (isSp bf n) n p) o)) NX := by
  refine mx_start hG (by decide) (Nat.le_of_ble_eq_true rfl) (fun x C => ?_)
  obtain ⟨v0, w01, w02, f0, s01, -⟩ := he9 h
  refine aw_rblt C ck14 s01 (fun hesz => ?_)
  refine aw_aload_n C rfl rfl dX7_accept_0 ?_
  refine aw_callV C ck6 (rd_word hG l hS hb er hp) q1315 q1317 qs23 q122 q1318 er (n9 := 0) (by decide +kernel) rfl (Nat.le_of_ble_eq_true rfl) (Nat.le_of_ble_eq_true rfl) (by dsimp only; omega) (by dsimp only; omega) rfl (Nat.le_of_ble_eq_true rfl) dX7_accept_1 (fun _ _ _ z => z.elim) (fun v9 h6 s6 hp6 => ?_)
  obtain ⟨a9, rfl, ha1, ha2, ha3, fr6, er6, hw6⟩ := hp6
  refine aw_aload_n C rfl rfl dX7_accept_4 ?_
  obtain ⟨v1, w1, w2, f1, sa1, sa2, sa3, sa4⟩ := hw6
  obtain ⟨v2, w3, w4, f2, sb1, sb2, sb3, sb4⟩ := he9 h6
  refine aw_callVRR C ck14 (sj_equals hG l hS.1 (by omega) sa1 sb1 sa2 sb2 sa3 sb3 sa4 sb4) q1330 q1331 q1332 q109 q1333 sa1 (n9 := 1) (by decide +kernel) rfl (Nat.le_of_ble_eq_true rfl) (Nat.le_of_ble_eq_true rfl) (by dsimp only; omega) (by dsimp only; omega) rfl (Nat.le_of_ble_eq_true rfl) dX7_accept_5 ?_
  refine aw_istore_n C rfl (by decide) rfl dX7_accept_8 ?_
  refine aw_aload_n C rfl rfl dX7_accept_9 ?_
  refine aw_dup C rfl dX7_accept_10 ?_
  refine aw_getf C ck6 2 (by decide) q1292 (fun _ z => z) er6 rfl dX7_accept_11 ?_
  refine aw_iload_n C rfl rfl dX7_accept_14 ?_
  refine aw_bit_eq0 C (tgt := 25) dX7_accept_15 (by decide) (fun g15 => ?_) (fun g15 => ?_)
  · refine aw_iconst C (v := nI 0) (by decide) dX7_accept_25 ?_
    refine aw_iaddN C dX7_accept_26 ?_
    refine aw_putf C ck6 2 (by decide) q1292 (fun _ z => z) rfl rfl (ty := .int) rfl rfl er6 (show 2 < 5 by decide) dX7_accept_27 ?_
    refine aw_iload_n C rfl rfl dX7_accept_30 ?_
    refine aw_zret C rfl (by (first | rw [if_pos g15] | rw [if_neg (by rw [g15]; decide)]) <;> decide) dX7_accept_31 (by omega) (by omega) ?_
    refine ⟨rfl, ha3, fun q hq q1 => (hset_n _ _ q1).trans (fr6 q hq q1), ?_⟩
    rw [hset_s]
    first
      | (rw [if_pos g15]; rfl)
      | (rw [if_neg (by rw [g15]; decide)]; rfl)
  · refine aw_aload_n C rfl rfl dX7_accept_18 ?_
    refine aw_callVRR C ck14 (sj_length hG l hS.1 sb1 sb2 sb3 sb4) q1338 q436 q437 q109 q438 sb1 (n9 := 0) (by decide +kernel) rfl (Nat.le_of_ble_eq_true rfl) (Nat.le_of_ble_eq_true rfl) (by dsimp only; omega) (by dsimp only; omega) rfl (Nat.le_of_ble_eq_true rfl) dX7_accept_19 ?_
    refine aw_goto C (tgt := 26) dX7_accept_22 (by decide) ?_
    refine aw_iaddN C dX7_accept_26 ?_
    refine aw_putf C ck6 2 (by decide) q1292 (fun _ z => z) rfl rfl (ty := .int) rfl rfl er6 (show 2 < 5 by decide) dX7_accept_27 ?_
    refine aw_iload_n C rfl rfl dX7_accept_30 ?_
    refine aw_zret C rfl (by (first | rw [if_pos g15] | rw [if_neg (by rw [g15]; decide)]) <;> decide) dX7_accept_31 (by omega) (by omega) ?_
    refine ⟨rfl, ha3, fun q hq q1 => (hset_n _ _ q1).trans (fr6 q hq q1), ?_⟩
    rw [hset_s]
    first
      | (rw [if_pos g15]; rfl)
      | (rw [if_neg (by rw [g15]; decide)]; rfl)
set_option maxRecDepth 100000 in
theorem rd_number {γ : Gm} (hG : GF γ) (l : Launch) {h : AH} {sz : Nat} (hZ : XZ γ) {r o n p f : Nat} {gr : Value} {bf : List Nat} (hb : RDF h o n bf) (er : h r = some (RDO n gr p f o)) (hp : p ≤ n) {s : RS} (hs : s.2.2.1 = 0) (hP : s.1 = (rn (isSp bf n) n p)) {ll hh : Nat} (hh9 : hh ≤ 9) (hl9 : ll ≤ 9) : MY γ l yX7_number cX7_number 5 (some .int) 5 133 1 8 [.ref r, .int (nI ll), .int (nI hh)] h sz (fun v9 h' sz' => v9 = some (.int (nI (tkV bf n (nI ll) (nI hh) s))) ∧ (tkS bf n (nI ll) (nI hh) s).2.2.1 = 0 ∧ ll ≤ tkV bf n (nI ll) (nI hh) s ∧ tkV bf n (nI ll) (nI hh) s ≤ hh ∧ sz' = sz ∧ (∀ q, q < sz → q ≠ r → h' q = h q) ∧ RAt n bf r o gr s.1 h' (tkS bf n (nI ll) (nI hh) s).1) (YP h sz r (tkS bf n (nI ll) (nI hh) s).2.2) := by
  refine my_start hG (by decide) (Nat.le_of_ble_eq_true rfl) (fun x C => ?_)
  obtain ⟨u, fb, eo, eb, hn5, hfb⟩ := id hb
  have nor : o ≠ r := ne9 eo er (by intro z; cases z)
  have nbr : o + 31 ≠ r := ne9 eb er (by intro z; cases z)
  have hPn := (rn_le (P := isSp bf n) (n := n) (fun _ => isSp_lt) hp).2
  refine aw_dom (fun hD => ?_)
  have lr := hD.lt er
  refine aw_aload_n C rfl rfl dX7_number_0 ?_
  refine aw_callVPv C ck6 (rd_peek hG l hb er hp) q1321 q1323 qs24 q122 q1324 er (n9 := 0) (by decide +kernel) rfl (Nat.le_of_ble_eq_true rfl) (Nat.le_of_ble_eq_true rfl) (by dsimp only; omega) (by dsimp only; omega) rfl (Nat.le_of_ble_eq_true rfl) dX7_number_1 ?_
  refine aw_i2l C (rfl) dX7_number_4 ?_
  refine aw_ldc2 C q1376 dX7_number_5 ?_
  refine aw_topl (show (48 : Int64) = (nI 48).toInt64 from by decide) ?_
  refine aw_ldc2 C q1377 dX7_number_8 ?_
  refine aw_topl (show (57 : Int64) = (nI 57).toInt64 from by decide) ?_
  refine aw_callSNR C (cp_inRange hG l (seeV bf n (rn (isSp bf n) n p)) (nI 48) (nI 57)) q1327 q1274 q95 q1275 (n9 := 3) (by decide +kernel) rfl (Nat.le_of_ble_eq_true rfl) (Nat.le_of_ble_eq_true rfl) (by dsimp only; omega) (by dsimp only; omega) rfl (Nat.le_of_ble_eq_true rfl) dX7_number_11 ?_
  refine aw_top (show _ = nI (if isDg bf n (rn (isSp bf n) n p) = true then 1 else 0) from by rw [see_dgI (fun i hi => (hfb i hi).1)]) ?_
  rcases (Bool.eq_false_or_eq_true (isDg bf n (rn (isSp bf n) n p))).symm with hd | hd
  · refine aw_top (show _ = nI 0 from by rw [hd, if_neg (by decide)]) ?_
    refine aw_istore_n C rfl (by decide) rfl dX7_number_14 ?_
    refine aw_aload_n C rfl rfl dX7_number_15 ?_
    refine aw_aload_n C rfl rfl dX7_number_16 ?_
    refine aw_getf C ck6 2 (by decide) q1292 (fun _ z => z) (hset_s _ _ _) rfl dX7_number_17 ?_
    refine aw_putf C ck6 3 (by decide) q1293 (fun _ z => z) rfl rfl (ty := .int) rfl rfl (hset_s _ _ _) (show 3 < 5 by decide) dX7_number_20 ?_
    rw [hset_hset]
    refine aw_aload_n C rfl rfl dX7_number_23 ?_
    refine aw_iload_n C rfl rfl dX7_number_24 ?_
    refine aw_bipush C (v := -2) (by decide) dX7_number_25 ?_
    refine aw_aload_n C rfl rfl dX7_number_27 ?_
    refine aw_getf C ck6 3 (by decide) q1293 (fun _ z => z) (hset_s _ _ _) rfl dX7_number_28 ?_
    refine ay_callV C ck6 (rd_req0 hG l hZ (code := -2) (pos := (rn (isSp bf n) n p))) q1339 q1341 qs25 q122 q1342 (hset_s _ _ _) (n9 := 3) (by decide +kernel) rfl (Nat.le_of_ble_eq_true rfl) (Nat.le_of_ble_eq_true rfl) (by dsimp only; omega) (by dsimp only; omega) rfl (Nat.le_of_ble_eq_true rfl) dX7_number_31 (fun q9 h9 s9 hp9 => ?_) (fun _ _ _ z => z.elim)
    obtain ⟨rfl, rfl, rfl⟩ := hp9
    refine ay_out C (by omega) (by omega) (YP.eq (tk_a hs (by rw [hP]; exact hd)) (by rw [hP]; exact ⟨m2, Nat.le_refl _, fun j hj j1 => (hset_n _ _ (by omega)).trans (hset_n _ _ j1), hset_s _ _ _⟩))
  refine aw_top (show _ = nI 1 from by rw [hd, if_pos rfl]) ?_
  refine aw_istore_n C rfl (by decide) rfl dX7_number_14 ?_
  refine aw_aload_n C rfl rfl dX7_number_15 ?_
  refine aw_aload_n C rfl rfl dX7_number_16 ?_
  refine aw_getf C ck6 2 (by decide) q1292 (fun _ z => z) (hset_s _ _ _) rfl dX7_number_17 ?_
  refine aw_putf C ck6 3 (by decide) q1293 (fun _ z => z) rfl rfl (ty := .int) rfl rfl (hset_s _ _ _) (show 3 < 5 by decide) dX7_number_20 ?_
  rw [hset_hset]
  refine aw_aload_n C rfl rfl dX7_number_23 ?_
  refine aw_iload_n C rfl rfl dX7_number_24 ?_
  refine aw_bipush C (v := -2) (by decide) dX7_number_25 ?_
  refine aw_aload_n C rfl rfl dX7_number_27 ?_
  refine aw_getf C ck6 3 (by decide) q1293 (fun _ z => z) (hset_s _ _ _) rfl dX7_number_28 ?_
  refine aw_callVP C ck6 (rd_req1 hG l) q1339 q1341 qs25 q122 q1342 (hset_s _ _ _) (n9 := 3) (by decide +kernel) rfl (Nat.le_of_ble_eq_true rfl) (Nat.le_of_ble_eq_true rfl) (by dsimp only; omega) (by dsimp only; omega) rfl (Nat.le_of_ble_eq_true rfl) dX7_number_31 ?_
  refine aw_iconst C (v := nI 0) (by decide) dX7_number_34 ?_
  refine aw_istore C (by decide) rfl dX7_number_35 ?_
  have key : ∀ j q vt vc, q ≤ n → n + 1 ≤ q + j → nm bf n (rn (isSp bf n) n p) 0 = nm bf n q vt → rn (isDg bf n) n (rn (isSp bf n) n p) = rn (isDg bf n) n q → nmR vt vc → AW γ l x (QY γ x 1 8 (fun v9 h' sz' => v9 = some (.int (nI (tkV bf n (nI ll) (nI hh) s))) ∧ (tkS bf n (nI ll) (nI hh) s).2.2.1 = 0 ∧ ll ≤ tkV bf n (nI ll) (nI hh) s ∧ tkV bf n (nI ll) (nI hh) s ≤ hh ∧ sz' = sz ∧ (∀ q, q < sz → q ≠ r → h' q = h q) ∧ RAt n bf r o gr s.1 h' (tkS bf n (nI ll) (nI hh) s).1) (YP h sz r (tkS bf n (nI ll) (nI hh) s).2.2)) 5 (hset h r (RDO n gr q (rn (isSp bf n) n p) o)) sz 0 0 37 [(0, .ref r), (1, .int (nI ll)), (2, .int (nI hh)), (4, .int (nI vc))] [] := by
    intro j
    induction j with
    | zero => intro q vt vc hq h2 hnm hrn hnR; exact absurd h2 (by omega)
    | succ j ih =>
      intro q vt vc hq h2 hnm hrn hnR
      refine aw_aload_n C rfl rfl dX7_number_37 ?_
      refine aw_getf C ck6 2 (by decide) q1292 (fun _ z => z) (hset_s _ _ _) rfl dX7_number_38 ?_
      refine aw_aload_n C rfl rfl dX7_number_41 ?_
      refine aw_getf C ck6 0 (by decide) q1290 (fun _ z => z) (hset_s _ _ _) rfl dX7_number_42 ?_
      refine aw_icmpN_ge C (tgt := 114) (by omega) (by omega) dX7_number_45 (by decide) (fun g45 => ?_) (fun g45 => ?_)
      · have hdq : isDg bf n q = false := by
          first
            | exact decide_eq_false (fun z => absurd z.1 (by omega))
            | exact (isDg_i (by omega) (hfb q (by omega)).1 (hfb q (by omega)).2).symm.trans g70
        have hnq : nm bf n (rn (isSp bf n) n p) 0 = vt := hnm.trans (nm_f hdq)
        have hqE : rn (isDg bf n) n (rn (isSp bf n) n p) = q := hrn.trans (rn_f hdq)
        refine aw_aload_n C rfl rfl dX7_number_114 ?_
        refine aw_iload C rfl dX7_number_115 ?_
        refine aw_i2l C (rfl) dX7_number_117 ?_
        refine aw_iload_n C rfl rfl dX7_number_118 ?_
        refine aw_i2l C (rfl) dX7_number_119 ?_
        refine aw_iload_n C rfl rfl dX7_number_120 ?_
        refine aw_i2l C (rfl) dX7_number_121 ?_
        refine aw_callSNR C (cp_inRange hG l (nI vc) (nI ll) (nI hh)) q1327 q1274 q95 q1275 (n9 := 3) (by decide +kernel) rfl (Nat.le_of_ble_eq_true rfl) (Nat.le_of_ble_eq_true rfl) (by dsimp only; omega) (by dsimp only; omega) rfl (Nat.le_of_ble_eq_true rfl) dX7_number_122 ?_
        rcases (Bool.eq_false_or_eq_true (isI (nI vc) (nI ll) (nI hh))).symm with hi | hi
        · refine aw_top (show _ = nI 0 from by rw [hi, if_neg (by decide)]) ?_
          refine aw_bipush C (v := -3) (by decide) dX7_number_125 ?_
          refine aw_aload_n C rfl rfl dX7_number_127 ?_
          refine aw_getf C ck6 3 (by decide) q1293 (fun _ z => z) (hset_s _ _ _) rfl dX7_number_128 ?_
          refine ay_callV C ck6 (rd_req0 hG l hZ (code := -3) (pos := (rn (isSp bf n) n p))) q1339 q1341 qs25 q122 q1342 (hset_s _ _ _) (n9 := 3) (by decide +kernel) rfl (Nat.le_of_ble_eq_true rfl) (Nat.le_of_ble_eq_true rfl) (by dsimp only; omega) (by dsimp only; omega) rfl (Nat.le_of_ble_eq_true rfl) dX7_number_131 (fun q9 h9 s9 hp9 => ?_) (fun _ _ _ z => z.elim)
          obtain ⟨rfl, rfl, rfl⟩ := hp9
          refine ay_out C (by omega) (by omega) (YP.eq (tk_b hs (by rw [hP]; exact hd) (by rw [hP, hnq]; exact (nmR_i hnR hh9).symm.trans hi)) (by rw [hP]; exact ⟨m3, Nat.le_refl _, fun j hj j1 => (hset_n _ _ (by omega)).trans (hset_n _ _ j1), hset_s _ _ _⟩))
        refine aw_top (show _ = nI 1 from by rw [hi, if_pos rfl]) ?_
        refine aw_bipush C (v := -3) (by decide) dX7_number_125 ?_
        refine aw_aload_n C rfl rfl dX7_number_127 ?_
        refine aw_getf C ck6 3 (by decide) q1293 (fun _ z => z) (hset_s _ _ _) rfl dX7_number_128 ?_
        refine aw_callVP C ck6 (rd_req1 hG l) q1339 q1341 qs25 q122 q1342 (hset_s _ _ _) (n9 := 3) (by decide +kernel) rfl (Nat.le_of_ble_eq_true rfl) (Nat.le_of_ble_eq_true rfl) (by dsimp only; omega) (by dsimp only; omega) rfl (Nat.le_of_ble_eq_true rfl) dX7_number_131 ?_
        refine aw_iload C rfl dX7_number_134 ?_
        refine ay_iret C rfl dX7_number_136 (by omega) (by omega) ?_
        obtain ⟨c1, c2⟩ := tk_c (lo := nI ll) (hi := nI hh) hs (by rw [hP]; exact hd) (by rw [hP, hnq]; exact (nmR_i hnR hh9).symm.trans hi)
        have hvv : vc = vt := nmR_v hnR hh9 hi
        have hvr := of_decide_eq_true hi
        have hvl := (nI_leI (by omega) (by have := hnR.1; omega)).mp hvr.1
        have hvh := (nI_leI (by have := hnR.1; omega) (by omega)).mp hvr.2
        rw [c1, c2, hP, hnq, ← hvv]
        exact ⟨rfl, hs, hvl, hvh, rfl, fun j hj j1 => hset_n _ _ j1, q, hset_s _ _ _, hq, by rw [hqE]⟩
      · refine aw_aload_n C rfl rfl dX7_number_48 ?_
        refine aw_getf C ck6 4 (by decide) q1294 (fun _ z => z) (hset_s _ _ _) rfl dX7_number_49 ?_
        refine aw_getfN C ck0 4 (by decide) q668 (fun _ z => z) ((hset_n _ _ nor).trans eo) rfl dX7_number_52 ?_
        refine aw_aload_n C rfl rfl dX7_number_55 ?_
        refine aw_getf C ck6 2 (by decide) q1292 (fun _ z => z) (hset_s _ _ _) rfl dX7_number_56 ?_
        refine aw_baldN C ((hset_n _ _ nbr).trans eb) (by omega) (by decide) dX7_number_59 ?_
        refine aw_i2l C (rfl) dX7_number_60 ?_
        refine aw_ldc2 C q1376 dX7_number_61 ?_
        refine aw_topl (show (48 : Int64) = (nI 48).toInt64 from by decide) ?_
        refine aw_ldc2 C q1377 dX7_number_64 ?_
        refine aw_topl (show (57 : Int64) = (nI 57).toInt64 from by decide) ?_
        refine aw_callSNR C (cp_inRange hG l (fb q) (nI 48) (nI 57)) q1327 q1274 q95 q1275 (n9 := 3) (by decide +kernel) rfl (Nat.le_of_ble_eq_true rfl) (Nat.le_of_ble_eq_true rfl) (by dsimp only; omega) (by dsimp only; omega) rfl (Nat.le_of_ble_eq_true rfl) dX7_number_67 ?_
        refine aw_bit_eq0 C (tgt := 114) dX7_number_70 (by decide) (fun g70 => ?_) (fun g70 => ?_)
        · have hdq : isDg bf n q = false := by
            first
              | exact decide_eq_false (fun z => absurd z.1 (by omega))
              | exact (isDg_i (by omega) (hfb q (by omega)).1 (hfb q (by omega)).2).symm.trans g70
          have hnq : nm bf n (rn (isSp bf n) n p) 0 = vt := hnm.trans (nm_f hdq)
          have hqE : rn (isDg bf n) n (rn (isSp bf n) n p) = q := hrn.trans (rn_f hdq)
          refine aw_aload_n C rfl rfl dX7_number_114 ?_
          refine aw_iload C rfl dX7_number_115 ?_
          refine aw_i2l C (rfl) dX7_number_117 ?_
          refine aw_iload_n C rfl rfl dX7_number_118 ?_
          refine aw_i2l C (rfl) dX7_number_119 ?_
          refine aw_iload_n C rfl rfl dX7_number_120 ?_
          refine aw_i2l C (rfl) dX7_number_121 ?_
          refine aw_callSNR C (cp_inRange hG l (nI vc) (nI ll) (nI hh)) q1327 q1274 q95 q1275 (n9 := 3) (by decide +kernel) rfl (Nat.le_of_ble_eq_true rfl) (Nat.le_of_ble_eq_true rfl) (by dsimp only; omega) (by dsimp only; omega) rfl (Nat.le_of_ble_eq_true rfl) dX7_number_122 ?_
          rcases (Bool.eq_false_or_eq_true (isI (nI vc) (nI ll) (nI hh))).symm with hi | hi
          · refine aw_top (show _ = nI 0 from by rw [hi, if_neg (by decide)]) ?_
            refine aw_bipush C (v := -3) (by decide) dX7_number_125 ?_
            refine aw_aload_n C rfl rfl dX7_number_127 ?_
            refine aw_getf C ck6 3 (by decide) q1293 (fun _ z => z) (hset_s _ _ _) rfl dX7_number_128 ?_
            refine ay_callV C ck6 (rd_req0 hG l hZ (code := -3) (pos := (rn (isSp bf n) n p))) q1339 q1341 qs25 q122 q1342 (hset_s _ _ _) (n9 := 3) (by decide +kernel) rfl (Nat.le_of_ble_eq_true rfl) (Nat.le_of_ble_eq_true rfl) (by dsimp only; omega) (by dsimp only; omega) rfl (Nat.le_of_ble_eq_true rfl) dX7_number_131 (fun q9 h9 s9 hp9 => ?_) (fun _ _ _ z => z.elim)
            obtain ⟨rfl, rfl, rfl⟩ := hp9
            refine ay_out C (by omega) (by omega) (YP.eq (tk_b hs (by rw [hP]; exact hd) (by rw [hP, hnq]; exact (nmR_i hnR hh9).symm.trans hi)) (by rw [hP]; exact ⟨m3, Nat.le_refl _, fun j hj j1 => (hset_n _ _ (by omega)).trans (hset_n _ _ j1), hset_s _ _ _⟩))
          refine aw_top (show _ = nI 1 from by rw [hi, if_pos rfl]) ?_
          refine aw_bipush C (v := -3) (by decide) dX7_number_125 ?_
          refine aw_aload_n C rfl rfl dX7_number_127 ?_
          refine aw_getf C ck6 3 (by decide) q1293 (fun _ z => z) (hset_s _ _ _) rfl dX7_number_128 ?_
          refine aw_callVP C ck6 (rd_req1 hG l) q1339 q1341 qs25 q122 q1342 (hset_s _ _ _) (n9 := 3) (by decide +kernel) rfl (Nat.le_of_ble_eq_true rfl) (Nat.le_of_ble_eq_true rfl) (by dsimp only; omega) (by dsimp only; omega) rfl (Nat.le_of_ble_eq_true rfl) dX7_number_131 ?_
          refine aw_iload C rfl dX7_number_134 ?_
          refine ay_iret C rfl dX7_number_136 (by omega) (by omega) ?_
          obtain ⟨c1, c2⟩ := tk_c (lo := nI ll) (hi := nI hh) hs (by rw [hP]; exact hd) (by rw [hP, hnq]; exact (nmR_i hnR hh9).symm.trans hi)
          have hvv : vc = vt := nmR_v hnR hh9 hi
          have hvr := of_decide_eq_true hi
          have hvl := (nI_leI (by omega) (by have := hnR.1; omega)).mp hvr.1
          have hvh := (nI_leI (by have := hnR.1; omega) (by omega)).mp hvr.2
          rw [c1, c2, hP, hnq, ← hvv]
          exact ⟨rfl, hs, hvl, hvh, rfl, fun j hj j1 => hset_n _ _ j1, q, hset_s _ _ _, hq, by rw [hqE]⟩
        · have hdq : isDg bf n q = true := (isDg_i (by omega) (hfb q (by omega)).1 (hfb q (by omega)).2).symm.trans g70
          have hb9 := of_decide_eq_true hdq
          have hvc9 : vc ≤ 100000 := hnR.1
          have hbv : vp_nar .byte (nI (bf.getD q 0)) = nI (bf.getD q 0) := (bt_l _ (by omega)).1
          refine aw_ldc C q1378 dX7_number_73 ?_
          refine aw_top ((show (100000 : Int32) = nI 100000 from rfl)) ?_
          refine aw_bipush C (v := nI 10) (by decide) dX7_number_75 ?_
          refine aw_iload C rfl dX7_number_77 ?_
          refine aw_imulN C dX7_number_79 ?_
          refine aw_aload_n C rfl rfl dX7_number_80 ?_
          refine aw_getf C ck6 4 (by decide) q1294 (fun _ z => z) (hset_s _ _ _) rfl dX7_number_81 ?_
          refine aw_getfN C ck0 4 (by decide) q668 (fun _ z => z) ((hset_n _ _ nor).trans eo) rfl dX7_number_84 ?_
          refine aw_aload_n C rfl rfl dX7_number_87 ?_
          refine aw_getf C ck6 2 (by decide) q1292 (fun _ z => z) (hset_s _ _ _) rfl dX7_number_88 ?_
          refine aw_baldN C ((hset_n _ _ nbr).trans eb) (by omega) (by decide) dX7_number_91 ?_
          refine aw_top ((hfb _ (by omega)).2.trans hbv) ?_
          refine aw_iaddN C dX7_number_92 ?_
          refine aw_bipush C (v := nI 48) (by decide) dX7_number_93 ?_
          refine aw_isubN C (by omega) dX7_number_95 ?_
          refine aw_mmin C (by omega) (by omega) q1379 qmin1 q112 qmin2 (by dsimp only; omega) (show 0 + 13 ≤ _ by dsimp only; omega) (by dsimp only; omega) (by dsimp only; omega) dX7_number_96 ?_
          refine aw_istore C (by decide) rfl dX7_number_99 ?_
          refine aw_aload_n C rfl rfl dX7_number_101 ?_
          refine aw_dup C rfl dX7_number_102 ?_
          refine aw_getf C ck6 2 (by decide) q1292 (fun _ z => z) (hset_s _ _ _) rfl dX7_number_103 ?_
          refine aw_iconst C (v := nI 1) (by decide) dX7_number_106 ?_
          refine aw_iaddN C dX7_number_107 ?_
          refine aw_putf C ck6 2 (by decide) q1292 (fun _ z => z) rfl rfl (ty := .int) rfl rfl (hset_s _ _ _) (show 2 < 5 by decide) dX7_number_108 ?_
          rw [hset_hset]
          refine aw_goto C (tgt := 37) dX7_number_111 (by decide) ?_
          refine aw_lo (ih (q + 1) (if vt < 10000 then 10 * vt + (bf.getD q 0 - 48) else vt) (if 10 * vc + (bf.getD q 0 - 48) < 100000 then 10 * vc + (bf.getD q 0 - 48) else 100000) (by omega) (by omega) (hnm.trans (nm_t hdq)) (hrn.trans (rn_t hdq (by omega))) (nm_s hnR (by omega))) ⟨rfl, rfl, rfl, ?_, trivial⟩
          refine congrArg (fun z => some (Value.int (nI z))) ?_
          split <;> split <;> omega
  exact aw_lo (key (n + 1) (rn (isSp bf n) n p) 0 0 hPn (by omega) rfl rfl ⟨by decide, by decide, Or.inl rfl⟩) ⟨rfl, rfl, rfl, rfl, trivial⟩
