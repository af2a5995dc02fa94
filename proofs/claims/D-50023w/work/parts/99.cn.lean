/-! the reader: vertex, edge -/
theorem rd_letP {γ : Gm} (hG : GF γ) (l : Launch) {h : AH} {sz : Nat} (hS : GSB γ) (hZ : XZ γ) {r o n p f : Nat} {g : Nat} {bf : List Nat} (hb : RDF h o n bf) (er : h r = some (RDO n (.ref g) p f o)) (hp : p ≤ n) {b1 most : Nat} (hb1 : b1 ≤ 3) (hmo : most ≤ 9) {fs : List Value} (eg : h g = some (.inr (3, .int (nI b1) :: fs))) (hfs : fs.length = 4) {P : Nat} (hPP : rn (isSp bf n) n p = P) : MY γ l yX7_letters cX7_letters 6 (some .int) 18 402 (5 + ((rn (isLt bf n) n P) - P)) (52 + 5 * ((rn (isLt bf n) n P) - P)) [.ref r, .int (nI most)] h sz (fun v9 h' sz' => v9 = some (.int (nI (letS bf n b1 P))) ∧ ¬ letS bf n b1 P = 0 ∧ isLt bf n P = true ∧ (rn (isLt bf n) n P) - P ≤ most ∧ sz ≤ sz' ∧ (∀ q, q < sz → q ≠ r → h' q = h q) ∧ h' r = some (RDO n (.ref g) (rn (isLt bf n) n P) P o)) (YP h sz r (ltC bf n b1 most P)) := by
  subst hPP
  exact rd_letters hG l hS hZ hb er hp hb1 hmo eg hfs
theorem rd_accP {γ : Gm} (hG : GF γ) (l : Launch) {h : AH} {sz : Nat} (hS : GSB γ) {r o n p f : Nat} {gr : Value} {bf : List Nat} (hb : RDF h o n bf) (er : h r = some (RDO n gr p f o)) (hp : p ≤ n) {e : Nat} {w : List Nat} (he9 : ∀ h, STR γ h e w) {P : Nat} (hPP : rn (isSp bf n) n p = P) : MX γ l yX7_accept cX7_accept 3 (some .boolean) 18 402 (4 + ((rn (isLt bf n) n P) - P)) (44 + 5 * ((rn (isLt bf n) n P) - P)) [.ref r, .ref e] h sz (fun v9 h' sz' => v9 = some (.int (nI (if decide (wL bf n P = w) = true then 1 else 0))) ∧ sz ≤ sz' ∧ (∀ q, q < sz → q ≠ r → h' q = h q) ∧ h' r = some (RDO n gr (P + (if decide (wL bf n P = w) = true then w.length else 0)) P o)) NX := by
  subst hPP
  exact rd_accept hG l hS hb er hp he9
set_option maxRecDepth 100000 in
theorem gr_link {γ : Gm} (hG : GF γ) (l : Launch) {h : AH} {sz : Nat} {g gl gn : Nat} {b : BT} {fn : Nat → Int32} (eg : h g = some (.inr (3, [.int (nI (b 1)), .ref gl, .ref gn, .int (nI (b 0)), .int (nI (edg b))]))) (egn : h gn = some (.inl (0, 9, .inl fn))) (hgn : ∀ v, v < 9 → fn v = nI (b (13 + v))) {one other : Nat} (h1 : one < 9) (h2 : other < 9) (hne : one ≠ other) : MX γ l yX4_link cX4_link 3 none 0 0 0 0 [.ref g, .int (nI one), .int (nI other)] h sz (PE none (hset (hset h gn (.inl (0, 9, .inl (upd (upd fn one (nI (b (13 + one) ||| 1 <<< other))) other (nI (b (13 + other) ||| 1 <<< one)))))) g (.inr (3, [.int (nI (b 1)), .ref gl, .ref gn, .int (nI (b 0)), .int (nI (edg b + 1))]))) sz) NX := by
  refine mx_start hG (by decide) (Nat.le_of_ble_eq_true rfl) (fun x C => ?_)
  have ngn : g ≠ gn := ne9 eg egn (by intro z; cases z)
  refine aw_aload_n C rfl rfl dX4_link_0 ?_
  refine aw_getf C ck3 2 (by decide) q207 (fun _ z => z) eg rfl dX4_link_1 ?_
  refine aw_iload_n C rfl rfl dX4_link_4 ?_
  refine aw_dup2 C rfl rfl dX4_link_5 ?_
  refine aw_ialdN C egn (by omega) (by decide) dX4_link_6 ?_
  refine aw_top ((hgn _ (by omega))) ?_
  refine aw_iconst C (v := nI 1) (by decide) dX4_link_7 ?_
  refine aw_iload_n C rfl rfl dX4_link_8 ?_
  refine aw_ishlN C (by omega) dX4_link_9 ?_
  refine aw_iorN C dX4_link_10 ?_
  refine aw_iastN C egn (by omega) (by decide) dX4_link_11 ?_
  refine aw_aload_n C rfl rfl dX4_link_12 ?_
  refine aw_getf C ck3 2 (by decide) q207 (fun _ z => z) ((hset_n _ _ ngn).trans eg) rfl dX4_link_13 ?_
  refine aw_iload_n C rfl rfl dX4_link_16 ?_
  refine aw_dup2 C rfl rfl dX4_link_17 ?_
  refine aw_ialdN C (hset_s _ _ _) (by omega) (by decide) dX4_link_18 ?_
  refine aw_top (show _ = nI (b (13 + other)) from (pk_un (by omega)).trans (hgn _ (by omega))) ?_
  refine aw_iconst C (v := nI 1) (by decide) dX4_link_19 ?_
  refine aw_iload_n C rfl rfl dX4_link_20 ?_
  refine aw_ishlN C (by omega) dX4_link_21 ?_
  refine aw_iorN C dX4_link_22 ?_
  refine aw_iastN C (hset_s _ _ _) (by omega) (by decide) dX4_link_23 ?_
  rw [hset_hset]
  refine aw_aload_n C rfl rfl dX4_link_24 ?_
  refine aw_dup C rfl dX4_link_25 ?_
  refine aw_getf C ck3 4 (by decide) q218 (fun _ z => z) ((hset_n _ _ ngn).trans eg) rfl dX4_link_26 ?_
  refine aw_iconst C (v := nI 1) (by decide) dX4_link_29 ?_
  refine aw_iaddN C dX4_link_30 ?_
  refine aw_putf C ck3 4 (by decide) q218 (fun _ z => z) rfl rfl (ty := .int) rfl rfl ((hset_n _ _ ngn).trans eg) (show 4 < 5 by decide) dX4_link_31 ?_
  exact aw_vret C rfl dX4_link_34 (by omega) (by omega) ⟨rfl, rfl, rfl⟩
set_option maxRecDepth 100000 in
theorem rd_vertex {γ : Gm} (hG : GF γ) (l : Launch) {h : AH} {sz : Nat} (hS : GSB γ) (hZ : XZ γ) {r o n p f : Nat} {g s0 : Nat} {bf : List Nat} (hb : RDF h o n bf) (er : h r = some (RDO n (.ref g) p f o)) (hp : p ≤ n) {P : Nat} (hPP : rn (isSp bf n) n p = P) {s : RS} (hs : s.2.2.1 = 0) (hnx : nx bf n s.1 = P) (hg : GRW h s0 g s.2.1) (hr0 : s0 ≤ r) (ho0 : o + 31 < s0) (hv : s.2.1 1 ≤ 3 ∧ s.2.1 1 ≤ 3 ∧ s.2.1 0 ≤ 9 ∧ s.2.1 0 ≤ 9 ∧ s.2.1 0 ≤ 9 ∧ s.2.1 0 ≤ 9 ∧ (∀ j, 13 ≤ j → s.2.1 j = 0) ∧ True) : MY γ l yX7_vertex cX7_vertex 2 none 19 427 (7 + (rn (isLt bf n) n P - P)) (68 + 5 * (rn (isLt bf n) n P - P)) [.ref r, .int (nI s.1)] h sz (fun v9 h' sz' => v9 = none ∧ (vS bf n s).2.2.1 = 0 ∧ sz ≤ sz' ∧ (∀ q, q < s0 → h' q = h q) ∧ (∃ f', RAt n bf r o (.ref g) f' h' (vS bf n s).1) ∧ GRW h' s0 g (vS bf n s).2.1) (YQ h s0 sz (vS bf n s).2.2) := by
  refine my_start hG (by decide) (Nat.le_of_ble_eq_true rfl) (fun x C => ?_)
  obtain ⟨u, fb, eo, eb, hn5, hfb⟩ := id hb
  obtain ⟨gl, gn, fl, fn, ⟨b1, b2, b3, b4⟩, eg, egl, egn, hgl, hgn⟩ := id hg
  have ngr : g ≠ r := ne9 eg er (by intro z; cases z)
  have nlr : gl ≠ r := ne9 egl er (by intro z; cases z)
  have nnr : gn ≠ r := ne9 egn er (by intro z; cases z)
  have ngl : g ≠ gl := ne9 eg egl (by intro z; cases z)
  have ngn : g ≠ gn := ne9 eg egn (by intro z; cases z)
  have hPn := rn_le (P := isSp bf n) (n := n) (fun _ => isSp_lt) hp
  rw [hPP] at hPn
  have hP2 : rn (isSp bf n) n P = P := by rw [← hPP]; exact rn_self hp
  have hEn := rn_le (P := isLt bf n) (n := n) (fun _ => isLt_lt) hPn.2
  refine aw_dom (fun hD => ?_)
  have lr := hD.lt er
  have lg := hD.lt eg
  have lgl := hD.lt egl
  have lgn := hD.lt egn
  have lo := hD.lt eo
  have lb := hD.lt eb
  refine aw_aload_n C rfl rfl dX7_vertex_0 ?_
  refine aw_aload_n C rfl rfl dX7_vertex_1 ?_
  refine aw_getf C ck6 1 (by decide) q1291 (fun _ z => z) er rfl dX7_vertex_2 ?_
  refine aw_callVRR C ck3 (bd_hasRoom hG l hg.g hv.2.2.1 hv.2.1) q1391 q1392 q1393 q98 q1394 (Or.inl eg) (n9 := 0) (by decide +kernel) rfl (Nat.le_of_ble_eq_true rfl) (Nat.le_of_ble_eq_true rfl) (by dsimp only; omega) (by dsimp only; omega) rfl (Nat.le_of_ble_eq_true rfl) dX7_vertex_5 ?_
  rcases (Bool.eq_false_or_eq_true (decide (s.2.1 0 < 9 ∧ (s.2.1 1 + 1) ^ (s.2.1 0 + 1) ≤ 20000))).symm with hrm9 | hrm9
  · refine aw_top (show _ = nI 0 from by rw [hrm9, if_neg (by decide)]) ?_
    have hrm : rmv s.2.1 := by
      have := of_decide_eq_false hrm9
      unfold rmv
      omega
    refine aw_bipush C (v := -6) (by decide) dX7_vertex_8 ?_
    refine aw_iload_n C rfl rfl dX7_vertex_10 ?_
    refine ay_callV C ck6 (rd_req0 hG l hZ (code := -6) (pos := s.1)) q1339 q1341 qs25 q122 q1342 er (n9 := 3) (by decide +kernel) rfl (Nat.le_of_ble_eq_true rfl) (Nat.le_of_ble_eq_true rfl) (by dsimp only; omega) (by dsimp only; omega) rfl (Nat.le_of_ble_eq_true rfl) dX7_vertex_11 (fun q9 h9 s9 hp9 => ?_) (fun _ _ _ z => z.elim)
    obtain ⟨rfl, rfl, rfl⟩ := hp9
    refine ay_out C (by omega) (by omega) ⟨?_, Nat.le_refl _, fun j hj => hset_n _ _ (by omega), ?_⟩
    · rw [v_no hs hrm]; exact (by decide : ¬ (-6 : Int32) = 0)
    · rw [v_no hs hrm]; exact hset_s _ _ _
  refine aw_top (show _ = nI 1 from by rw [hrm9, if_pos rfl]) ?_
  have hrm : ¬ rmv s.2.1 := by
    have := of_decide_eq_true hrm9
    unfold rmv
    omega
  have hrm8 := (of_decide_eq_true hrm9).1
  refine aw_bipush C (v := -6) (by decide) dX7_vertex_8 ?_
  refine aw_iload_n C rfl rfl dX7_vertex_10 ?_
  refine aw_callVP C ck6 (rd_req1 hG l) q1339 q1341 qs25 q122 q1342 er (n9 := 3) (by decide +kernel) rfl (Nat.le_of_ble_eq_true rfl) (Nat.le_of_ble_eq_true rfl) (by dsimp only; omega) (by dsimp only; omega) rfl (Nat.le_of_ble_eq_true rfl) dX7_vertex_11 ?_
  refine aw_aload_n C rfl rfl dX7_vertex_14 ?_
  refine aw_getf C ck6 1 (by decide) q1291 (fun _ z => z) er rfl dX7_vertex_15 ?_
  refine aw_getfN C ck3 1 (by decide) q205 (fun _ z => z) eg rfl dX7_vertex_18 ?_
  refine aw_aload_n C rfl rfl dX7_vertex_21 ?_
  refine aw_getf C ck6 1 (by decide) q1291 (fun _ z => z) er rfl dX7_vertex_22 ?_
  refine aw_getfN C ck3 3 (by decide) q216 (fun _ z => z) eg rfl dX7_vertex_25 ?_
  refine aw_aload_n C rfl rfl dX7_vertex_28 ?_
  refine aw_callVPv C ck6 (rd_peek hG l hb er hp) q1321 q1323 qs24 q122 q1324 er (n9 := 0) (by decide +kernel) rfl (Nat.le_of_ble_eq_true rfl) (Nat.le_of_ble_eq_true rfl) (by dsimp only; omega) (by dsimp only; omega) rfl (Nat.le_of_ble_eq_true rfl) dX7_vertex_29 ?_
  rw [hPP]
  refine aw_bipush C (v := nI 59) (by decide) dX7_vertex_32 ?_
  refine aw_icmp_ne C (tgt := 47) dX7_vertex_34 (by decide) (fun g34 => ?_) (fun g34 => ?_)
  · have hsm : semi bf n P = false := by
      cases z : semi bf n P
      · rfl
      · exact absurd ((see_59 (fun i hi => (hfb i hi).1)).mpr z) g34
    refine aw_aload_n C rfl rfl dX7_vertex_47 ?_
    refine aw_iconst C (v := nI 3) (by decide) dX7_vertex_48 ?_
    refine ay_callV C ck6 (rd_letP hG l hS hZ (RDF.fr (hset_n _ _ (by omega)) (hset_n _ _ (by omega)) hb) (hset_s _ _ _) hPn.2 hv.2.1 (show 3 ≤ 9 by decide) ((hset_n _ _ ngr).trans eg) rfl hP2) q1399 q1401 qs29 q122 q1402 (hset_s _ _ _) (n9 := 1) (by decide +kernel) rfl (Nat.le_of_ble_eq_true rfl) (Nat.le_of_ble_eq_true rfl) (by dsimp only; omega) (by dsimp only; omega) rfl (Nat.le_of_ble_eq_true rfl) dX7_vertex_49 (fun q9 h9 s9 hp9 => ay_out C (by omega) (by omega) (YP.q (v_lt hs hrm hnx hv.2.1 hn5 hsm hp9.1) hr0 (by omega) (Nat.le_refl _) (fun j hj => hset_n _ _ (by omega)) hp9)) (fun v9 h6 s6 hp6 => ?_)
    obtain ⟨rfl, ln6, lt6, -, le6, fr6, er6⟩ := hp6
    refine aw_iastN C ((fr6 gl lgl nlr).trans ((hset_n _ _ nlr).trans egl)) (by omega) (by decide) dX7_vertex_52 ?_
    refine aw_gh (fun hA ehA => ?_)
    have FA : ∀ q, q < sz → q ≠ r → q ≠ gl → hA q = h q := fun q q1 q2 q3 => by rw [ehA, hset_n _ _ q3]; exact (fr6 q q1 q2).trans (hset_n _ _ q2)
    have erA : hA r = some (RDO n (.ref g) (rn (isLt bf n) n P) P o) := by rw [ehA, hset_n _ _ (Ne.symm nlr)]; exact er6
    have elA : hA gl = some (.inl (0, 9, .inl (upd fl (s.2.1 0) (nI (letS bf n (s.2.1 1) P))))) := by rw [ehA]; exact hset_s _ _ _
    clear ehA
    have egA := (FA g lg ngr ngl).trans eg
    have enA := (FA gn lgn nnr (Ne.symm b4)).trans egn
    refine aw_aload_n C rfl rfl dX7_vertex_53 ?_
    refine aw_getf C ck6 1 (by decide) q1291 (fun _ z => z) erA rfl dX7_vertex_54 ?_
    refine aw_dup C rfl dX7_vertex_57 ?_
    refine aw_getfN C ck3 3 (by decide) q216 (fun _ z => z) egA rfl dX7_vertex_58 ?_
    refine aw_iconst C (v := nI 1) (by decide) dX7_vertex_61 ?_
    refine aw_iaddN C dX7_vertex_62 ?_
    refine aw_putfN C ck3 3 (by decide) q216 (fun _ z => z) rfl rfl (ty := .int) rfl rfl egA (show 3 < 5 by decide) dX7_vertex_63 ?_
    have nor : o < s0 := by omega
    have hbB : RDF (hset hA g (.inr (3, [.int (nI (s.2.1 1)), .ref gl, .ref gn, .int (nI (s.2.1 0 + 1)), .int (nI (edg s.2.1))]))) o n bf := RDF.fr ((hset_n _ _ (by omega)).trans (FA o lo (by omega) (by omega))) ((hset_n _ _ (by omega)).trans (FA (o + 31) lb (by omega) (by omega))) hb
    have erB := (hset_n hA (.inr (3, [.int (nI (s.2.1 1)), .ref gl, .ref gn, .int (nI (s.2.1 0 + 1)), .int (nI (edg s.2.1))])) (Ne.symm ngr)).trans erA
    have s2c : ((rn (isSp bf n) n (rn (isLt bf n) n P), s.2) : RS).2.2.1 = 0 := hs
    refine aw_aload_n C rfl rfl dX7_vertex_66 ?_
    refine ay_callV C ck6 (rd_semicolon hG l hZ hbB erB (by omega) s2c rfl) q1382 q1384 qs27 q122 q1385 erB (n9 := 0) (by decide +kernel) rfl (Nat.le_of_ble_eq_true rfl) (Nat.le_of_ble_eq_true rfl) (by dsimp only; omega) (by dsimp only; omega) rfl (Nat.le_of_ble_eq_true rfl) dX7_vertex_67 (fun q9 h9 s9 hp9 => ay_out C (by omega) (by omega) (YP.q (by rw [(v_let hs hrm hnx lt6 ln6), v4_22]) hr0 (by omega) (by omega) (fun j hj => (hset_n _ _ (by omega)).trans (FA j (by omega) (by omega) (by omega))) hp9)) (fun v9 h7 s7 hp7 => ?_)
    obtain ⟨rfl, c7, rfl, fr7, p7, er7, hp7, hPr7⟩ := hp7
    refine ay_vret C rfl dX7_vertex_70 (by omega) (by omega) ?_
    have hz2 : (vS bf n s).2.1 = updN (updN s.2.1 (4 + s.2.1 0) ((letS bf n (s.2.1 1) P))) 0 (s.2.1 0 + 1) := by
      rw [(v_let hs hrm hnx lt6 ln6), v4_b c7, meS_b]
    have hne0 : ∀ j, 0 < j → j ≠ 4 + s.2.1 0 → updN (updN s.2.1 (4 + s.2.1 0) ((letS bf n (s.2.1 1) P))) 0 (s.2.1 0 + 1) j = s.2.1 j := fun j z1 z2 => by rw [updN_n (by omega), updN_n z2]
    refine ⟨rfl, by rw [(v_let hs hrm hnx lt6 ln6), v4_22]; exact c7, by omega, fun q hq => (fr7 q (by omega) (by omega)).trans ((hset_n _ _ (by omega)).trans (FA q (by omega) (by omega) (by omega))), ⟨P, p7, er7, hp7, by rw [(v_let hs hrm hnx lt6 ln6), v4_1]; exact hPr7⟩, ?_⟩
    rw [hz2]
    have egE : edg (updN (updN s.2.1 (4 + s.2.1 0) ((letS bf n (s.2.1 1) P))) 0 (s.2.1 0 + 1)) = edg s.2.1 := by
      rw [edg_0 hv.2.2.2.2.2.2.1, edg_0 (fun j hj => (hne0 j (by omega) (by omega)).trans (hv.2.2.2.2.2.2.1 j hj))]
    refine ⟨gl, gn, upd fl (s.2.1 0) (nI ((letS bf n (s.2.1 1) P))), fn, ⟨b1, b2, b3, b4⟩, ?_, (fr7 gl (by omega) nlr).trans ((hset_n _ _ (Ne.symm ngl)).trans elA), (fr7 gn (by omega) nnr).trans ((hset_n _ _ (Ne.symm ngn)).trans enA), fun v hv9 => ?_, fun v hv9 => ?_⟩
    · rw [egE, hne0 1 (by omega) (by omega), updN_s]
      exact (fr7 g (by omega) ngr).trans (hset_s _ _ _)
    · rw [updN_n (by omega)]
      by_cases e : v = s.2.1 0
      · rw [e, pk_us, updN_s]
      · rw [pk_un e, updN_n (by omega)]
        exact hgl v hv9
    · rw [hne0 (13 + v) (by omega) (by omega)]
      exact hgn v hv9
  · have hsm : semi bf n P = true := (see_59 (fun i hi => (hfb i hi).1)).mp g34
    have HVA : vS bf n s = vS4 ((1 <<< s.2.1 1) - 1) (meS bf n (rn (isSp bf n) n P, s.2)) := by rw [hP2]; exact v_all hs hrm hnx hsm
    refine aw_aload_n C rfl rfl dX7_vertex_37 ?_
    refine aw_getf C ck6 1 (by decide) q1291 (fun _ z => z) (hset_s _ _ _) rfl dX7_vertex_38 ?_
    refine aw_callVRR C ck3 (bd_allColours hG l (GRW.fr hD er (fun q _ q1 => hset_n _ _ q1) hg).g hv.2.1) q1395 q1396 q1397 q98 q1398 (Or.inl ((hset_n _ _ ngr).trans eg)) (n9 := 0) (by decide +kernel) rfl (Nat.le_of_ble_eq_true rfl) (Nat.le_of_ble_eq_true rfl) (by dsimp only; omega) (by dsimp only; omega) rfl (Nat.le_of_ble_eq_true rfl) dX7_vertex_41 ?_
    refine aw_goto C (tgt := 52) dX7_vertex_44 (by decide) ?_
    refine aw_iastN C ((hset_n _ _ nlr).trans egl) (by omega) (by decide) dX7_vertex_52 ?_
    refine aw_gh (fun hA ehA => ?_)
    have FA : ∀ q, q < sz → q ≠ r → q ≠ gl → hA q = h q := fun q q1 q2 q3 => by rw [ehA, hset_n _ _ q3]; exact hset_n _ _ q2
    have erA : hA r = some (RDO n (.ref g) P f o) := by rw [ehA, hset_n _ _ (Ne.symm nlr)]; exact hset_s _ _ _
    have elA : hA gl = some (.inl (0, 9, .inl (upd fl (s.2.1 0) (nI ((1 <<< s.2.1 1) - 1))))) := by rw [ehA]; exact hset_s _ _ _
    clear ehA
    have egA := (FA g lg ngr ngl).trans eg
    have enA := (FA gn lgn nnr (Ne.symm b4)).trans egn
    refine aw_aload_n C rfl rfl dX7_vertex_53 ?_
    refine aw_getf C ck6 1 (by decide) q1291 (fun _ z => z) erA rfl dX7_vertex_54 ?_
    refine aw_dup C rfl dX7_vertex_57 ?_
    refine aw_getfN C ck3 3 (by decide) q216 (fun _ z => z) egA rfl dX7_vertex_58 ?_
    refine aw_iconst C (v := nI 1) (by decide) dX7_vertex_61 ?_
    refine aw_iaddN C dX7_vertex_62 ?_
    refine aw_putfN C ck3 3 (by decide) q216 (fun _ z => z) rfl rfl (ty := .int) rfl rfl egA (show 3 < 5 by decide) dX7_vertex_63 ?_
    have nor : o < s0 := by omega
    have hbB : RDF (hset hA g (.inr (3, [.int (nI (s.2.1 1)), .ref gl, .ref gn, .int (nI (s.2.1 0 + 1)), .int (nI (edg s.2.1))]))) o n bf := RDF.fr ((hset_n _ _ (by omega)).trans (FA o lo (by omega) (by omega))) ((hset_n _ _ (by omega)).trans (FA (o + 31) lb (by omega) (by omega))) hb
    have erB := (hset_n hA (.inr (3, [.int (nI (s.2.1 1)), .ref gl, .ref gn, .int (nI (s.2.1 0 + 1)), .int (nI (edg s.2.1))])) (Ne.symm ngr)).trans erA
    have s2c : ((rn (isSp bf n) n P, s.2) : RS).2.2.1 = 0 := hs
    refine aw_aload_n C rfl rfl dX7_vertex_66 ?_
    refine ay_callV C ck6 (rd_semicolon hG l hZ hbB erB (by omega) s2c rfl) q1382 q1384 qs27 q122 q1385 erB (n9 := 0) (by decide +kernel) rfl (Nat.le_of_ble_eq_true rfl) (Nat.le_of_ble_eq_true rfl) (by dsimp only; omega) (by dsimp only; omega) rfl (Nat.le_of_ble_eq_true rfl) dX7_vertex_67 (fun q9 h9 s9 hp9 => ay_out C (by omega) (by omega) (YP.q (by rw [HVA, v4_22]) hr0 (by omega) (by omega) (fun j hj => (hset_n _ _ (by omega)).trans (FA j (by omega) (by omega) (by omega))) hp9)) (fun v9 h7 s7 hp7 => ?_)
    obtain ⟨rfl, c7, rfl, fr7, p7, er7, hp7, hPr7⟩ := hp7
    refine ay_vret C rfl dX7_vertex_70 (by omega) (by omega) ?_
    have hz2 : (vS bf n s).2.1 = updN (updN s.2.1 (4 + s.2.1 0) (((1 <<< s.2.1 1) - 1))) 0 (s.2.1 0 + 1) := by
      rw [HVA, v4_b c7, meS_b]
    have hne0 : ∀ j, 0 < j → j ≠ 4 + s.2.1 0 → updN (updN s.2.1 (4 + s.2.1 0) (((1 <<< s.2.1 1) - 1))) 0 (s.2.1 0 + 1) j = s.2.1 j := fun j z1 z2 => by rw [updN_n (by omega), updN_n z2]
    refine ⟨rfl, by rw [HVA, v4_22]; exact c7, by omega, fun q hq => (fr7 q (by omega) (by omega)).trans ((hset_n _ _ (by omega)).trans (FA q (by omega) (by omega) (by omega))), ⟨f, p7, er7, hp7, by rw [HVA, v4_1]; exact hPr7⟩, ?_⟩
    rw [hz2]
    have egE : edg (updN (updN s.2.1 (4 + s.2.1 0) (((1 <<< s.2.1 1) - 1))) 0 (s.2.1 0 + 1)) = edg s.2.1 := by
      rw [edg_0 hv.2.2.2.2.2.2.1, edg_0 (fun j hj => (hne0 j (by omega) (by omega)).trans (hv.2.2.2.2.2.2.1 j hj))]
    refine ⟨gl, gn, upd fl (s.2.1 0) (nI (((1 <<< s.2.1 1) - 1))), fn, ⟨b1, b2, b3, b4⟩, ?_, (fr7 gl (by omega) nlr).trans ((hset_n _ _ (Ne.symm ngl)).trans elA), (fr7 gn (by omega) nnr).trans ((hset_n _ _ (Ne.symm ngn)).trans enA), fun v hv9 => ?_, fun v hv9 => ?_⟩
    · rw [egE, hne0 1 (by omega) (by omega), updN_s]
      exact (fr7 g (by omega) ngr).trans (hset_s _ _ _)
    · rw [updN_n (by omega)]
      by_cases e : v = s.2.1 0
      · rw [e, pk_us, updN_s]
      · rw [pk_un e, updN_n (by omega)]
        exact hgl v hv9
    · rw [hne0 (13 + v) (by omega) (by omega)]
      exact hgn v hv9
