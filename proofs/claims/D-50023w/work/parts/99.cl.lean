/-! the reader: semicolon, letters -/
theorem run_all {P : Nat → Bool} : ∀ f p i, p ≤ i → i < run P f p → P i = true := by
  intro f
  induction f with
  | zero => intro p i h1 h2; rw [run] at h2; omega
  | succ f ih =>
    intro p i h1 h2
    rw [run] at h2
    by_cases e : P p = true
    · rw [if_pos e] at h2
      by_cases e2 : p = i
      · rw [← e2]; exact e
      · exact ih (p + 1) i (by omega) h2
    · rw [if_neg e] at h2
      omega
theorem rn_al2 {P : Nat → Bool} {n p i : Nat} (h1 : p ≤ i) (h2 : i < rn P n p) : P i = true := run_all _ p i h1 h2
theorem aw_stk {γ : Gm} {l : Launch} {x : WX} {Q : State → Prop} {nL sz k n pc : Nat} {h : AH} {L : LV} {st st9 : List Value} (e : st = st9) (kk : AW γ l x Q nL h sz k n pc L st9) : AW γ l x Q nL h sz k n pc L st := by rw [e]; exact kk
/-- what letters answer: the fault and its place -/
def ltC (bf : List Nat) (n b1 most P : Nat) : Int32 × Nat := if rn (isLt bf n) n P - P = 0 then (-2, P) else if letS bf n b1 P = 0 ∨ most < rn (isLt bf n) n P - P then (-3, P) else (0, P)
theorem ltC_2 {bf : List Nat} {n b1 most P : Nat} (h : rn (isLt bf n) n P - P = 0) : ltC bf n b1 most P = (-2, P) := if_pos h
theorem ltC_3 {bf : List Nat} {n b1 most P : Nat} (h : ¬ rn (isLt bf n) n P - P = 0) (g : letS bf n b1 P = 0 ∨ most < rn (isLt bf n) n P - P) : ltC bf n b1 most P = (-3, P) := by
  unfold ltC
  rw [if_neg h, if_pos g]
set_option maxRecDepth 100000 in
theorem rd_semicolon {γ : Gm} (hG : GF γ) (l : Launch) {h : AH} {sz : Nat} (hZ : XZ γ) {r o n p f : Nat} {gr : Value} {bf : List Nat} (hb : RDF h o n bf) (er : h r = some (RDO n gr p f o)) (hp : p ≤ n) {s : RS} (hs : s.2.2.1 = 0) (hP : s.1 = (rn (isSp bf n) n p)) : MY γ l yX7_semicolon cX7_semicolon 2 none 5 133 1 8 [.ref r] h sz (fun v9 h' sz' => v9 = none ∧ (meS bf n s).2.2.1 = 0 ∧ sz' = sz ∧ (∀ q, q < sz → q ≠ r → h' q = h q) ∧ RAt n bf r o gr f h' (meS bf n s).1) (YP h sz r (meS bf n s).2.2) := by
  refine my_start hG (by decide) (Nat.le_of_ble_eq_true rfl) (fun x C => ?_)
  obtain ⟨u, fb, eo, eb, hn5, hfb⟩ := id hb
  have nor : o ≠ r := ne9 eo er (by intro z; cases z)
  have nbr : o + 31 ≠ r := ne9 eb er (by intro z; cases z)
  have hPn := (rn_le (P := isSp bf n) (n := n) (fun _ => isSp_lt) hp).2
  refine aw_dom (fun hD => ?_)
  have lr := hD.lt er
  refine aw_aload_n C rfl rfl dX7_semicolon_0 ?_
  refine aw_callVPv C ck6 (rd_peek hG l hb er hp) q1321 q1323 qs24 q122 q1324 er (n9 := 0) (by decide +kernel) rfl (Nat.le_of_ble_eq_true rfl) (Nat.le_of_ble_eq_true rfl) (by dsimp only; omega) (by dsimp only; omega) rfl (Nat.le_of_ble_eq_true rfl) dX7_semicolon_1 ?_
  refine aw_bipush C (v := nI 59) (by decide) dX7_semicolon_4 ?_
  refine aw_icmp_ne C (tgt := 13) dX7_semicolon_6 (by decide) (fun g6 => ?_) (fun g6 => ?_)
  · refine aw_iconst C (v := nI 0) (by decide) dX7_semicolon_13 ?_
    refine aw_istore_n C rfl (by decide) rfl dX7_semicolon_14 ?_
    refine aw_aload_n C rfl rfl dX7_semicolon_15 ?_
    refine aw_iload_n C rfl rfl dX7_semicolon_16 ?_
    refine aw_bipush C (v := -2) (by decide) dX7_semicolon_17 ?_
    refine aw_aload_n C rfl rfl dX7_semicolon_19 ?_
    refine aw_getf C ck6 2 (by decide) q1292 (fun _ z => z) (hset_s _ _ _) rfl dX7_semicolon_20 ?_
    refine ay_callV C ck6 (rd_req0 hG l hZ (code := -2) (pos := (rn (isSp bf n) n p))) q1339 q1341 qs25 q122 q1342 (hset_s _ _ _) (n9 := 3) (by decide +kernel) rfl (Nat.le_of_ble_eq_true rfl) (Nat.le_of_ble_eq_true rfl) (by dsimp only; omega) (by dsimp only; omega) rfl (Nat.le_of_ble_eq_true rfl) dX7_semicolon_23 (fun q9 h9 s9 hp9 => ?_) (fun _ _ _ z => z.elim)
    obtain ⟨rfl, rfl, rfl⟩ := hp9
    refine ay_out C (by omega) (by omega) (YP.eq (me_0 hs (by rw [hP]; cases z : semi bf n (rn (isSp bf n) n p); rfl; exact absurd ((see_59 (fun i hi => (hfb i hi).1)).mpr z) g6)) (by rw [hP]; exact ⟨m2, Nat.le_refl _, fun j hj j1 => (hset_n _ _ (by omega)).trans (hset_n _ _ j1), hset_s _ _ _⟩))
  · refine aw_iconst C (v := nI 1) (by decide) dX7_semicolon_9 ?_
    refine aw_goto C (tgt := 14) dX7_semicolon_10 (by decide) ?_
    refine aw_istore_n C rfl (by decide) rfl dX7_semicolon_14 ?_
    refine aw_aload_n C rfl rfl dX7_semicolon_15 ?_
    refine aw_iload_n C rfl rfl dX7_semicolon_16 ?_
    refine aw_bipush C (v := -2) (by decide) dX7_semicolon_17 ?_
    refine aw_aload_n C rfl rfl dX7_semicolon_19 ?_
    refine aw_getf C ck6 2 (by decide) q1292 (fun _ z => z) (hset_s _ _ _) rfl dX7_semicolon_20 ?_
    refine aw_callVP C ck6 (rd_req1 hG l) q1339 q1341 qs25 q122 q1342 (hset_s _ _ _) (n9 := 3) (by decide +kernel) rfl (Nat.le_of_ble_eq_true rfl) (Nat.le_of_ble_eq_true rfl) (by dsimp only; omega) (by dsimp only; omega) rfl (Nat.le_of_ble_eq_true rfl) dX7_semicolon_23 ?_
    refine aw_aload_n C rfl rfl dX7_semicolon_26 ?_
    refine aw_dup C rfl dX7_semicolon_27 ?_
    refine aw_getf C ck6 2 (by decide) q1292 (fun _ z => z) (hset_s _ _ _) rfl dX7_semicolon_28 ?_
    refine aw_iconst C (v := nI 1) (by decide) dX7_semicolon_31 ?_
    refine aw_iaddN C dX7_semicolon_32 ?_
    refine aw_putf C ck6 2 (by decide) q1292 (fun _ z => z) rfl rfl (ty := .int) rfl rfl (hset_s _ _ _) (show 2 < 5 by decide) dX7_semicolon_33 ?_
    rw [hset_hset]
    refine ay_vret C rfl dX7_semicolon_36 (by omega) (by omega) ?_
    have hsm : semi bf n s.1 = true := (by rw [hP]; exact (see_59 (fun i hi => (hfb i hi).1)).mp g6)
    have hpn : (rn (isSp bf n) n p) < n := by have := (semi_i.mp hsm).1; rw [hP] at this; exact this
    rw [me_1 hs hsm, hP]
    exact ⟨rfl, hs, rfl, fun j hj j1 => hset_n _ _ j1, (rn (isSp bf n) n p) + 1, hset_s _ _ _, by omega, rfl⟩
set_option maxRecDepth 100000 in
theorem rd_letters {γ : Gm} (hG : GF γ) (l : Launch) {h : AH} {sz : Nat} (hS : GSB γ) (hZ : XZ γ) {r o n p f : Nat} {g : Nat} {bf : List Nat} (hb : RDF h o n bf) (er : h r = some (RDO n (.ref g) p f o)) (hp : p ≤ n) {b1 most : Nat} (hb1 : b1 ≤ 3) (hmo : most ≤ 9) {fs : List Value} (eg : h g = some (.inr (3, .int (nI b1) :: fs))) (hfs : fs.length = 4) : MY γ l yX7_letters cX7_letters 6 (some .int) 18 402 (5 + ((rn (isLt bf n) n (rn (isSp bf n) n p)) - (rn (isSp bf n) n p))) (52 + 5 * ((rn (isLt bf n) n (rn (isSp bf n) n p)) - (rn (isSp bf n) n p))) [.ref r, .int (nI most)] h sz (fun v9 h' sz' => v9 = some (.int (nI (letS bf n b1 (rn (isSp bf n) n p)))) ∧ ¬ letS bf n b1 (rn (isSp bf n) n p) = 0 ∧ isLt bf n (rn (isSp bf n) n p) = true ∧ (rn (isLt bf n) n (rn (isSp bf n) n p)) - (rn (isSp bf n) n p) ≤ most ∧ sz ≤ sz' ∧ (∀ q, q < sz → q ≠ r → h' q = h q) ∧ h' r = some (RDO n (.ref g) (rn (isLt bf n) n (rn (isSp bf n) n p)) (rn (isSp bf n) n p) o)) (YP h sz r (ltC bf n b1 most (rn (isSp bf n) n p))) := by
  refine my_start hG (by decide) (Nat.le_of_ble_eq_true rfl) (fun x C => ?_)
  obtain ⟨u, fb, eo, eb, hn5, hfb⟩ := id hb
  have nor : o ≠ r := ne9 eo er (by intro z; cases z)
  have nbr : o + 31 ≠ r := ne9 eb er (by intro z; cases z)
  have hPn := (rn_le (P := isSp bf n) (n := n) (fun _ => isSp_lt) hp).2
  have hEn := rn_le (P := isLt bf n) (n := n) (fun _ => isLt_lt) hPn
  have ngr : g ≠ r := ne9 eg er (by intro z; cases z)
  match fs, hfs with
  | [x1, x2, x3, x4], _ =>
  refine aw_dom (fun hD => ?_)
  have lr := hD.lt er
  have lg := hD.lt eg
  refine aw_aload_n C rfl rfl dX7_letters_0 ?_
  refine aw_callV C ck6 (rd_word hG l hS hb er hp) q1315 q1317 qs23 q122 q1318 er (n9 := 0) (by decide +kernel) rfl (Nat.le_of_ble_eq_true rfl) (Nat.le_of_ble_eq_true rfl) (by dsimp only; omega) (by dsimp only; omega) rfl (Nat.le_of_ble_eq_true rfl) dX7_letters_1 (fun _ _ _ z => z.elim) (fun v9 h6 s6 hp6 => ?_)
  obtain ⟨a9, rfl, ha1, ha2, ha3, fr6, er6, hw6⟩ := hp6
  refine aw_stk (show _ = [Value.ref a9] from rfl) ?_
  obtain ⟨v1, w1, w2, f1, sa1, sa2, sa3, sa4⟩ := hw6
  have eg6 := (fr6 g lg ngr).trans eg
  refine aw_astore_n C rfl (by decide) rfl dX7_letters_4 ?_
  refine aw_aload_n C rfl rfl dX7_letters_5 ?_
  refine aw_aload_n C rfl rfl dX7_letters_6 ?_
  refine aw_callVRR C ck14 (sj_length hG l hS.1 sa1 sa2 sa3 sa4) q1338 q436 q437 q109 q438 sa1 (n9 := 0) (by decide +kernel) rfl (Nat.le_of_ble_eq_true rfl) (Nat.le_of_ble_eq_true rfl) (by dsimp only; omega) (by dsimp only; omega) rfl (Nat.le_of_ble_eq_true rfl) dX7_letters_7 ?_
  refine aw_top (show _ = nI ((rn (isLt bf n) n (rn (isSp bf n) n p)) - (rn (isSp bf n) n p)) from by rw [wL_len]) ?_
  refine aw_ifN_le C (tgt := 17) (by omega) dX7_letters_10 (by decide) (fun g10 => ?_) (fun g10 => ?_)
  · refine aw_iconst C (v := nI 0) (by decide) dX7_letters_17 ?_
    refine aw_bipush C (v := -2) (by decide) dX7_letters_18 ?_
    refine aw_aload_n C rfl rfl dX7_letters_20 ?_
    refine aw_getf C ck6 3 (by decide) q1293 (fun _ z => z) er6 rfl dX7_letters_21 ?_
    refine ay_callV C ck6 (rd_req0 hG l hZ (code := -2) (pos := (rn (isSp bf n) n p))) q1339 q1341 qs25 q122 q1342 er6 (n9 := 3) (by decide +kernel) rfl (Nat.le_of_ble_eq_true rfl) (Nat.le_of_ble_eq_true rfl) (by dsimp only; omega) (by dsimp only; omega) rfl (Nat.le_of_ble_eq_true rfl) dX7_letters_24 (fun q9 h9 s9 hp9 => ?_) (fun _ _ _ z => z.elim)
    obtain ⟨rfl, rfl, rfl⟩ := hp9
    refine ay_out C (by omega) (by omega) (YP.eq (ltC_2 (by omega)) ⟨m2, by omega, fun j hj j1 => (hset_n _ _ (by omega)).trans (fr6 j hj j1), hset_s _ _ _⟩)
  · refine aw_iconst C (v := nI 1) (by decide) dX7_letters_13 ?_
    refine aw_goto C (tgt := 18) dX7_letters_14 (by decide) ?_
    refine aw_bipush C (v := -2) (by decide) dX7_letters_18 ?_
    refine aw_aload_n C rfl rfl dX7_letters_20 ?_
    refine aw_getf C ck6 3 (by decide) q1293 (fun _ z => z) er6 rfl dX7_letters_21 ?_
    refine aw_callVP C ck6 (rd_req1 hG l) q1339 q1341 qs25 q122 q1342 er6 (n9 := 3) (by decide +kernel) rfl (Nat.le_of_ble_eq_true rfl) (Nat.le_of_ble_eq_true rfl) (by dsimp only; omega) (by dsimp only; omega) rfl (Nat.le_of_ble_eq_true rfl) dX7_letters_24 ?_
    have hlP : isLt bf n (rn (isSp bf n) n p) = true := by
      cases z : isLt bf n (rn (isSp bf n) n p)
      · rw [rn_f z] at g10; omega
      · rfl
    have key : ∀ j k0 set k5 n5, k0 ≤ (rn (isLt bf n) n (rn (isSp bf n) n p)) - (rn (isSp bf n) n p) → (rn (isLt bf n) n (rn (isSp bf n) n p)) - (rn (isSp bf n) n p) + 1 ≤ k0 + j → set < 8 → letS bf n b1 (rn (isSp bf n) n p) = ltF bf b1 (rn (isLt bf n) n (rn (isSp bf n) n p)) (501 - k0) ((rn (isSp bf n) n p) + k0) set → (0 < k0 → 0 < set) → k5 ≤ 4 + ((rn (isLt bf n) n (rn (isSp bf n) n p)) - (rn (isSp bf n) n p)) → n5 ≤ 44 + 5 * ((rn (isLt bf n) n (rn (isSp bf n) n p)) - (rn (isSp bf n) n p)) → AW γ l x (QY γ x (5 + ((rn (isLt bf n) n (rn (isSp bf n) n p)) - (rn (isSp bf n) n p))) (52 + 5 * ((rn (isLt bf n) n (rn (isSp bf n) n p)) - (rn (isSp bf n) n p))) (fun v9 h' sz' => v9 = some (.int (nI (letS bf n b1 (rn (isSp bf n) n p)))) ∧ ¬ letS bf n b1 (rn (isSp bf n) n p) = 0 ∧ isLt bf n (rn (isSp bf n) n p) = true ∧ (rn (isLt bf n) n (rn (isSp bf n) n p)) - (rn (isSp bf n) n p) ≤ most ∧ sz ≤ sz' ∧ (∀ q, q < sz → q ≠ r → h' q = h q) ∧ h' r = some (RDO n (.ref g) (rn (isLt bf n) n (rn (isSp bf n) n p)) (rn (isSp bf n) n p) o)) (YP h sz r (ltC bf n b1 most (rn (isSp bf n) n p)))) 6 h6 s6 k5 n5 32 [(0, .ref r), (1, .int (nI most)), (2, .ref a9), (3, .int (nI set)), (4, .int (nI k0))] [] := by
      intro j
      induction j with
      | zero => intro k0 set k5 n5 h1 h2 hset8 hl hsp hk5 hn5; exact absurd h2 (by omega)
      | succ j ih =>
        intro k0 set k5 n5 h1 h2 hset8 hl hsp hk5 hn5
        refine aw_iload C rfl dX7_letters_32 ?_
        refine aw_aload_n C rfl rfl dX7_letters_34 ?_
        refine aw_callVRR C ck14 (sj_length hG l hS.1 sa1 sa2 sa3 sa4) q1338 q436 q437 q109 q438 sa1 (n9 := 0) (by decide +kernel) rfl (Nat.le_of_ble_eq_true rfl) (Nat.le_of_ble_eq_true rfl) (by dsimp only; omega) (by dsimp only; omega) rfl (Nat.le_of_ble_eq_true rfl) dX7_letters_35 ?_
        refine aw_top (show _ = nI ((rn (isLt bf n) n (rn (isSp bf n) n p)) - (rn (isSp bf n) n p)) from by rw [wL_len]) ?_
        refine aw_icmpN_ge C (tgt := 101) (by omega) (by omega) dX7_letters_38 (by decide) (fun g38 => ?_) (fun g38 => ?_)
        · have hst : letS bf n b1 (rn (isSp bf n) n p) = set := by
            obtain ⟨w9, hw9⟩ : ∃ w9, 501 - k0 = w9 + 1 := ⟨500 - k0, by omega⟩
            rw [hl, hw9, ltF, if_pos (by omega)]
          have hs0 := hsp (by omega)
          refine aw_aload_n C rfl rfl dX7_letters_101 ?_
          refine aw_aload_n C rfl rfl dX7_letters_102 ?_
          refine aw_callVRR C ck14 (sj_length hG l hS.1 sa1 sa2 sa3 sa4) q1338 q436 q437 q109 q438 sa1 (n9 := 0) (by decide +kernel) rfl (Nat.le_of_ble_eq_true rfl) (Nat.le_of_ble_eq_true rfl) (by dsimp only; omega) (by dsimp only; omega) rfl (Nat.le_of_ble_eq_true rfl) dX7_letters_103 ?_
          refine aw_top (show _ = nI ((rn (isLt bf n) n (rn (isSp bf n) n p)) - (rn (isSp bf n) n p)) from by rw [wL_len]) ?_
          refine aw_iload_n C rfl rfl dX7_letters_106 ?_
          refine aw_icmpN_gt C (tgt := 114) (by omega) (by omega) dX7_letters_107 (by decide) (fun g107 => ?_) (fun g107 => ?_)
          · refine aw_iconst C (v := nI 0) (by decide) dX7_letters_114 ?_
            refine aw_bipush C (v := -3) (by decide) dX7_letters_115 ?_
            refine aw_aload_n C rfl rfl dX7_letters_117 ?_
            refine aw_getf C ck6 3 (by decide) q1293 (fun _ z => z) er6 rfl dX7_letters_118 ?_
            refine ay_callV C ck6 (rd_req0 hG l hZ (code := -3) (pos := (rn (isSp bf n) n p))) q1339 q1341 qs25 q122 q1342 er6 (n9 := 3) (by decide +kernel) rfl (Nat.le_of_ble_eq_true rfl) (Nat.le_of_ble_eq_true rfl) (by dsimp only; omega) (by dsimp only; omega) rfl (Nat.le_of_ble_eq_true rfl) dX7_letters_121 (fun q9 h9 s9 hp9 => ?_) (fun _ _ _ z => z.elim)
            obtain ⟨rfl, rfl, rfl⟩ := hp9
            refine ay_out C (by omega) (by omega) (YP.eq (ltC_3 (by omega) (Or.inr (by omega))) ⟨m3, by omega, fun j hj j1 => (hset_n _ _ (by omega)).trans (fr6 j hj j1), hset_s _ _ _⟩)
          · refine aw_iconst C (v := nI 1) (by decide) dX7_letters_110 ?_
            refine aw_goto C (tgt := 115) dX7_letters_111 (by decide) ?_
            refine aw_bipush C (v := -3) (by decide) dX7_letters_115 ?_
            refine aw_aload_n C rfl rfl dX7_letters_117 ?_
            refine aw_getf C ck6 3 (by decide) q1293 (fun _ z => z) er6 rfl dX7_letters_118 ?_
            refine aw_callVP C ck6 (rd_req1 hG l) q1339 q1341 qs25 q122 q1342 er6 (n9 := 3) (by decide +kernel) rfl (Nat.le_of_ble_eq_true rfl) (Nat.le_of_ble_eq_true rfl) (by dsimp only; omega) (by dsimp only; omega) rfl (Nat.le_of_ble_eq_true rfl) dX7_letters_121 ?_
            refine aw_aload_n C rfl rfl dX7_letters_124 ?_
            refine aw_dup C rfl dX7_letters_125 ?_
            refine aw_getf C ck6 2 (by decide) q1292 (fun _ z => z) er6 rfl dX7_letters_126 ?_
            refine aw_aload_n C rfl rfl dX7_letters_129 ?_
            refine aw_callVRR C ck14 (sj_length hG l hS.1 sa1 sa2 sa3 sa4) q1338 q436 q437 q109 q438 sa1 (n9 := 0) (by decide +kernel) rfl (Nat.le_of_ble_eq_true rfl) (Nat.le_of_ble_eq_true rfl) (by dsimp only; omega) (by dsimp only; omega) rfl (Nat.le_of_ble_eq_true rfl) dX7_letters_130 ?_
            refine aw_top (show _ = nI ((rn (isLt bf n) n (rn (isSp bf n) n p)) - (rn (isSp bf n) n p)) from by rw [wL_len]) ?_
            refine aw_iaddN C dX7_letters_133 ?_
            refine aw_putf C ck6 2 (by decide) q1292 (fun _ z => z) rfl rfl (ty := .int) rfl rfl er6 (show 2 < 5 by decide) dX7_letters_134 ?_
            refine aw_iload_n C rfl rfl dX7_letters_137 ?_
            refine ay_iret C rfl dX7_letters_138 (by omega) (by omega) ?_
            rw [hst]
            refine ⟨rfl, by omega, hlP, by omega, by omega, fun q hq q1 => (hset_n _ _ q1).trans (fr6 q hq q1), ?_⟩
            rw [hset_s]
            refine congrArg (fun z => some (RDO n (.ref g) z (rn (isSp bf n) n p) o)) ?_
            omega
        · refine aw_aload_n C rfl rfl dX7_letters_41 ?_
          refine aw_iload C rfl dX7_letters_42 ?_
          refine aw_callVRR C ck14 (sj_charAt hG l hS.1 sa1 sa2 sa3 sa4 (i := k0) (by rw [wL_len]; omega)) q1403 q1404 q1405 q109 q1406 sa1 (n9 := 1) (by decide +kernel) rfl (Nat.le_of_ble_eq_true rfl) (Nat.le_of_ble_eq_true rfl) (by dsimp only; omega) (by dsimp only; omega) rfl (Nat.le_of_ble_eq_true rfl) dX7_letters_44 ?_
          refine aw_top (show _ = nI (bf.getD ((rn (isSp bf n) n p) + k0) 0) from by rw [wL_at (by omega)]) ?_
          have hlt := of_decide_eq_true (rn_al2 (P := isLt bf n) (n := n) (p := (rn (isSp bf n) n p)) (i := (rn (isSp bf n) n p) + k0) (by omega) (by omega))
          refine aw_bipush C (v := nI 97) (by decide) dX7_letters_47 ?_
          refine aw_isubN C (by omega) dX7_letters_49 ?_
          have hst : ltF bf b1 (rn (isLt bf n) n (rn (isSp bf n) n p)) (501 - k0) ((rn (isSp bf n) n p) + k0) set = if b1 ≤ bf.getD ((rn (isSp bf n) n p) + k0) 0 - 97 ∨ set.testBit (bf.getD ((rn (isSp bf n) n p) + k0) 0 - 97) = true then 0 else ltF bf b1 (rn (isLt bf n) n (rn (isSp bf n) n p)) (501 - (k0 + 1)) ((rn (isSp bf n) n p) + (k0 + 1)) (set ||| 1 <<< (bf.getD ((rn (isSp bf n) n p) + k0) 0 - 97)) := by
            obtain ⟨w9, hw9⟩ : ∃ w9, 501 - k0 = w9 + 1 := ⟨500 - k0, by omega⟩
            rw [hw9, ltF, if_neg (by omega), show 501 - (k0 + 1) = w9 by omega]
            rfl
          refine aw_istore C (by decide) rfl dX7_letters_50 ?_
          refine aw_aload_n C rfl rfl dX7_letters_52 ?_
          refine aw_iload C rfl dX7_letters_53 ?_
          refine aw_aload_n C rfl rfl dX7_letters_55 ?_
          refine aw_getf C ck6 1 (by decide) q1291 (fun _ z => z) er6 rfl dX7_letters_56 ?_
          refine aw_getfN C ck3 0 (by decide) q199 (fun _ z => z) eg6 rfl dX7_letters_59 ?_
          refine aw_icmpN_ge C (tgt := 78) (by omega) (by omega) dX7_letters_62 (by decide) (fun g62 => ?_) (fun g62 => ?_)
          · refine aw_iconst C (v := nI 0) (by decide) dX7_letters_78 ?_
            refine aw_bipush C (v := -3) (by decide) dX7_letters_79 ?_
            refine aw_aload_n C rfl rfl dX7_letters_81 ?_
            refine aw_getf C ck6 3 (by decide) q1293 (fun _ z => z) er6 rfl dX7_letters_82 ?_
            refine ay_callV C ck6 (rd_req0 hG l hZ (code := -3) (pos := (rn (isSp bf n) n p))) q1339 q1341 qs25 q122 q1342 er6 (n9 := 3) (by decide +kernel) rfl (Nat.le_of_ble_eq_true rfl) (Nat.le_of_ble_eq_true rfl) (by dsimp only; omega) (by dsimp only; omega) rfl (Nat.le_of_ble_eq_true rfl) dX7_letters_85 (fun q9 h9 s9 hp9 => ?_) (fun _ _ _ z => z.elim)
            obtain ⟨rfl, rfl, rfl⟩ := hp9
            refine ay_out C (by omega) (by omega) (YP.eq (ltC_3 (by omega) (Or.inl (hl.trans (hst.trans (if_pos (by first | exact Or.inl g62 | exact Or.inr g71)))))) ⟨m3, by omega, fun j hj j1 => (hset_n _ _ (by omega)).trans (fr6 j hj j1), hset_s _ _ _⟩)
          · refine aw_iload_n C rfl rfl dX7_letters_65 ?_
            refine aw_iload C rfl dX7_letters_66 ?_
            refine aw_callSNR C (cp_has hG l (by omega) (by omega)) q1418 q154 q95 q155 (n9 := 2) (by decide +kernel) rfl (Nat.le_of_ble_eq_true rfl) (Nat.le_of_ble_eq_true rfl) (by dsimp only; omega) (by dsimp only; omega) rfl (Nat.le_of_ble_eq_true rfl) dX7_letters_68 ?_
            refine aw_bit_ne0 C (tgt := 78) dX7_letters_71 (by decide) (fun g71 => ?_) (fun g71 => ?_)
            · refine aw_iconst C (v := nI 0) (by decide) dX7_letters_78 ?_
              refine aw_bipush C (v := -3) (by decide) dX7_letters_79 ?_
              refine aw_aload_n C rfl rfl dX7_letters_81 ?_
              refine aw_getf C ck6 3 (by decide) q1293 (fun _ z => z) er6 rfl dX7_letters_82 ?_
              refine ay_callV C ck6 (rd_req0 hG l hZ (code := -3) (pos := (rn (isSp bf n) n p))) q1339 q1341 qs25 q122 q1342 er6 (n9 := 3) (by decide +kernel) rfl (Nat.le_of_ble_eq_true rfl) (Nat.le_of_ble_eq_true rfl) (by dsimp only; omega) (by dsimp only; omega) rfl (Nat.le_of_ble_eq_true rfl) dX7_letters_85 (fun q9 h9 s9 hp9 => ?_) (fun _ _ _ z => z.elim)
              obtain ⟨rfl, rfl, rfl⟩ := hp9
              refine ay_out C (by omega) (by omega) (YP.eq (ltC_3 (by omega) (Or.inl (hl.trans (hst.trans (if_pos (by first | exact Or.inl g62 | exact Or.inr g71)))))) ⟨m3, by omega, fun j hj j1 => (hset_n _ _ (by omega)).trans (fr6 j hj j1), hset_s _ _ _⟩)
            · refine aw_iconst C (v := nI 1) (by decide) dX7_letters_74 ?_
              refine aw_goto C (tgt := 79) dX7_letters_75 (by decide) ?_
              refine aw_bipush C (v := -3) (by decide) dX7_letters_79 ?_
              refine aw_aload_n C rfl rfl dX7_letters_81 ?_
              refine aw_getf C ck6 3 (by decide) q1293 (fun _ z => z) er6 rfl dX7_letters_82 ?_
              refine aw_callVP C ck6 (rd_req1 hG l) q1339 q1341 qs25 q122 q1342 er6 (n9 := 3) (by decide +kernel) rfl (Nat.le_of_ble_eq_true rfl) (Nat.le_of_ble_eq_true rfl) (by dsimp only; omega) (by dsimp only; omega) rfl (Nat.le_of_ble_eq_true rfl) dX7_letters_85 ?_
              have hsn : ¬ (b1 ≤ bf.getD ((rn (isSp bf n) n p) + k0) 0 - 97 ∨ set.testBit (bf.getD ((rn (isSp bf n) n p) + k0) 0 - 97) = true) := fun z => z.elim (fun z => absurd z (Nat.not_le.mpr g62)) (fun z => by rw [g71] at z; cases z)
              rw [if_neg hsn] at hst
              obtain ⟨pa1, pa2⟩ := pop_add set hset8 (bf.getD ((rn (isSp bf n) n p) + k0) 0 - 97) (by omega) g71
              refine aw_iload_n C rfl rfl dX7_letters_88 ?_
              refine aw_iconst C (v := nI 1) (by decide) dX7_letters_89 ?_
              refine aw_iload C rfl dX7_letters_90 ?_
              refine aw_ishlN C (by omega) dX7_letters_92 ?_
              refine aw_iorN C dX7_letters_93 ?_
              refine aw_istore_n C rfl (by decide) rfl dX7_letters_94 ?_
              refine aw_iinc1 C rfl (by decide) rfl dX7_letters_95 ?_
              refine aw_goto C (tgt := 32) dX7_letters_98 (by decide) ?_
              exact aw_lo (ih (k0 + 1) (set ||| 1 <<< (bf.getD ((rn (isSp bf n) n p) + k0) 0 - 97)) _ _ (by omega) (by omega) pa2 (hl.trans hst) (fun _ => Nat.pos_of_ne_zero (fun z => by rw [z] at pa1; rw [pop_zero] at pa1; omega)) (by omega) (by omega)) ⟨rfl, rfl, rfl, rfl, rfl, trivial⟩
    refine aw_iconst C (v := nI 0) (by decide) dX7_letters_27 ?_
    refine aw_istore_n C rfl (by decide) rfl dX7_letters_28 ?_
    refine aw_iconst C (v := nI 0) (by decide) dX7_letters_29 ?_
    refine aw_istore C (by decide) rfl dX7_letters_30 ?_
    exact aw_lo (key ((rn (isLt bf n) n (rn (isSp bf n) n p)) - (rn (isSp bf n) n p) + 1) 0 0 _ _ (Nat.zero_le _) (by omega) (by decide) (by unfold letS; rw [en_lt hlP]; rfl) (fun z => absurd z (Nat.lt_irrefl 0)) (by omega) (by omega)) ⟨rfl, rfl, rfl, rfl, rfl, trivial⟩
