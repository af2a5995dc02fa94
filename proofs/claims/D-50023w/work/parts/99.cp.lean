/-! the reader: edge, lay, pass -/
/-- the reader's cell alone changes -/
theorem BC.f6 {h h' : AH} {sz s1 a gr r : Nat} {b : BT} {cap : Nat} {fs : List Value} (hD : Dm h sz) (er : h r = some (.inr (6, fs))) (F : ∀ q, q < sz → q ≠ r → h' q = h q) (g : BC h s1 a gr b cap) : BC h' s1 a gr b cap := by
  have K : ∀ {q : Nat} {c : va_E}, h q = some c → c ≠ .inr (6, fs) → h' q = some c := fun e ne => (F _ (hD.lt e) (ne9 e er ne)).trans e
  obtain ⟨ca, ba, ac, a0, a1, li, el, mo, fc, fb, f, g0, e1, e2, e3, e4, e5, e6, e7, e8, g1, g2, g3⟩ := g
  refine ⟨ca, ba, ac, a0, a1, li, el, mo, fc, fb, f, g0, K e1 (by intro z; cases z), K e2 (by intro z; cases z), K e3 (by intro z; cases z), K e4 (by intro z; cases z), K e5 (by intro z; cases z), K e6 (by intro z; cases z), K e7 (by intro z; cases z), K e8 (by intro z; cases z), g1, fun k hk => ?_, g3⟩
  obtain ⟨z, z1, z2⟩ := g2 k hk
  exact ⟨z, z1, K z2 (by intro z; cases z)⟩
theorem GRS.f6 {h h' : AH} {sz s1 gr r : Nat} {b : BT} {fs : List Value} (hD : Dm h sz) (er : h r = some (.inr (6, fs))) (F : ∀ q, q < sz → q ≠ r → h' q = h q) (g : GRS h s1 gr b) : GRS h' s1 gr b := by
  obtain ⟨gl, gn, fl, fn, g0, e1, e2, e3, g1⟩ := g
  exact ⟨gl, gn, fl, fn, g0, (F _ (hD.lt e1) (ne9 e1 er (by intro z; cases z))).trans e1, (F _ (hD.lt e2) (ne9 e2 er (by intro z; cases z))).trans e2, (F _ (hD.lt e3) (ne9 e3 er (by intro z; cases z))).trans e3, g1⟩
/-- a list's growth -/
def capN (cap M : Nat) : Nat := nwL cap (M + 1 - cap) (cap >>> 1)
theorem capN_le {cap M : Nat} (h : M = cap) (h8 : 8 ≤ cap) : capN cap M ≤ 8 + 2 * (M + 1) + (cap - 8) ∧ capN cap M ≤ 4 * (capN cap M - cap) ∧ cap ≤ capN cap M ∧ 2 * capN cap M ≤ 3 * cap + 2 := by
  unfold capN nwL
  rw [Nat.shiftRight_eq_div_pow]
  split <;> omega
set_option maxRecDepth 100000 in
theorem rd_edge {γ : Gm} (hG : GF γ) (l : Launch) {h : AH} {sz : Nat} (hS : GSB γ) (hZ : XZ γ) {r o n p f : Nat} {g s0 : Nat} {bf : List Nat} (hb : RDF h o n bf) (er : h r = some (RDO n (.ref g) p f o)) (hp : p ≤ n) {P : Nat} (hPP : rn (isSp bf n) n p = P) {s : RS} (hs : s.2.2.1 = 0) (hnx : nx bf n s.1 = P) (hg : GRW h s0 g s.2.1) (hr0 : s0 ≤ r) (ho0 : o + 31 < s0) (hWA : WA s.2.1) : MY γ l yX7_edge cX7_edge 3 none 6 157 8 40 [.ref r] h sz (fun v9 h' sz' => v9 = none ∧ (eS bf n s).2.2.1 = 0 ∧ sz ≤ sz' ∧ (∀ q, q < s0 → h' q = h q) ∧ (∃ f', RAt n bf r o (.ref g) f' h' (eS bf n s).1) ∧ GRW h' s0 g (eS bf n s).2.1) (YQ h s0 sz (eS bf n s).2.2) := by
  refine my_start hG (by decide) (Nat.le_of_ble_eq_true rfl) (fun x C => ?_)
  obtain ⟨u, fb, eo, eb, hn5, hfb⟩ := id hb
  obtain ⟨gl, gn, fl, fn, ⟨b1, b2, b3, b4⟩, eg, egl, egn, hgl, hgn⟩ := id hg
  have ngr : g ≠ r := ne9 eg er (by intro z; cases z)
  have nlr : gl ≠ r := ne9 egl er (by intro z; cases z)
  have nnr : gn ≠ r := ne9 egn er (by intro z; cases z)
  have ngl : g ≠ gl := ne9 eg egl (by intro z; cases z)
  have ngn : g ≠ gn := ne9 eg egn (by intro z; cases z)
  have hPn := rn_le (P := isSp bf n) (n := n) (fun _ => isSp_lt) hp
  rw [hPP] at hPn
  have hP2 : rn (isSp bf n) n P = P := by rw [← hPP]; exact rn_self hp
  have hEn := rn_le (P := isLt bf n) (n := n) (fun _ => isLt_lt) hPn.2
  refine aw_dom (fun hD => ?_)
  have lr := hD.lt er
  have lg := hD.lt eg
  have lgl := hD.lt egl
  have lgn := hD.lt egn
  have lo := hD.lt eo
  have lb := hD.lt eb
  have hw0 := hWA.w.1
  have hw9 := hWA.w.2.1
  refine aw_aload_n C rfl rfl dX7_edge_0 ?_
  refine aw_iconst C (v := nI 0) (by decide) dX7_edge_1 ?_
  refine aw_aload_n C rfl rfl dX7_edge_2 ?_
  refine aw_getf C ck6 1 (by decide) q1291 (fun _ z => z) er rfl dX7_edge_3 ?_
  refine aw_getfN C ck3 3 (by decide) q216 (fun _ z => z) eg rfl dX7_edge_6 ?_
  refine aw_iconst C (v := nI 1) (by decide) dX7_edge_9 ?_
  refine aw_isubN C (by omega) dX7_edge_10 ?_
  refine ay_callV C ck6 (rd_number hG l hZ hb er hp (s := (P, s.2)) hs hPP.symm (ll := 0) (hh := s.2.1 0 - 1) (by omega) (by decide)) q1372 q1374 qs26 q122 q1375 er (n9 := 2) (by decide +kernel) rfl (Nat.le_of_ble_eq_true rfl) (Nat.le_of_ble_eq_true rfl) (by dsimp only; omega) (by dsimp only; omega) rfl (Nat.le_of_ble_eq_true rfl) dX7_edge_11 (fun q9 h9 s9 hp9 => ay_out C (by omega) (by omega) (YP.q (e_1 hs hnx hw0 hp9.1) hr0 (by omega) (Nat.le_refl _) (fun j hj => rfl) hp9)) (fun v9 hA sA hp7 => ?_)
  obtain ⟨rfl, hc1, -, vl1, hsA, frA, pA, erA, hpA, hPA⟩ := hp7
  have hc1 : (tA1 bf n P s).2.2.1 = 0 := hc1
  have vl1 : vA1 bf n P s ≤ s.2.1 0 - 1 := vl1
  have hPA : rn (isSp bf n) n pA = (tA1 bf n P s).1 := hPA
  have hbA : RDF hA o n bf := RDF.fr (frA o lo (by omega)) (frA (o + 31) lb (by omega)) hb
  refine aw_istore_n C rfl (by decide) rfl dX7_edge_14 ?_
  refine aw_aload_n C rfl rfl dX7_edge_15 ?_
  refine aw_iconst C (v := nI 0) (by decide) dX7_edge_16 ?_
  refine aw_aload_n C rfl rfl dX7_edge_17 ?_
  refine aw_getf C ck6 1 (by decide) q1291 (fun _ z => z) erA rfl dX7_edge_18 ?_
  refine aw_getfN C ck3 3 (by decide) q216 (fun _ z => z) ((frA g lg ngr).trans eg) rfl dX7_edge_21 ?_
  refine aw_iconst C (v := nI 1) (by decide) dX7_edge_24 ?_
  refine aw_isubN C (by omega) dX7_edge_25 ?_
  refine ay_callV C ck6 (rd_number hG l hZ hbA erA hpA (s := (tA1 bf n P s)) hc1 hPA.symm (ll := 0) (hh := s.2.1 0 - 1) (by omega) (by decide)) q1372 q1374 qs26 q122 q1375 erA (n9 := 2) (by decide +kernel) rfl (Nat.le_of_ble_eq_true rfl) (Nat.le_of_ble_eq_true rfl) (by dsimp only; omega) (by dsimp only; omega) rfl (Nat.le_of_ble_eq_true rfl) dX7_edge_26 (fun q9 h9 s9 hp9 => ay_out C (by omega) (by omega) (YP.q (e_2 hs hnx hw0 hw9 hc1 hp9.1) hr0 (by omega) (by omega) (fun j hj => frA j (by omega) (by omega)) hp9)) (fun v9 hB sB hp7 => ?_)
  obtain ⟨rfl, hc2, -, vl2, hsB, frB, pB, erB, hpB, hPB⟩ := hp7
  have hc2 : (tA2 bf n P s).2.2.1 = 0 := hc2
  have vl2 : vA2 bf n P s ≤ s.2.1 0 - 1 := vl2
  have hPB : rn (isSp bf n) n pB = (tA2 bf n P s).1 := hPB
  have FB : ∀ q, q < sz → q ≠ r → hB q = h q := fun q q1 q2 => (frB q (by omega) q2).trans (frA q q1 q2)
  have egB := (FB g lg ngr).trans eg
  have enB := (FB gn lgn nnr).trans egn
  have elB := (FB gl lgl nlr).trans egl
  refine aw_istore_n C rfl (by decide) rfl dX7_edge_29 ?_
  refine aw_aload_n C rfl rfl dX7_edge_30 ?_
  refine aw_iload_n C rfl rfl dX7_edge_31 ?_
  refine aw_iload_n C rfl rfl dX7_edge_32 ?_
  refine aw_icmpN_eq C (tgt := 40) (by omega) (by omega) dX7_edge_33 (by decide) (fun g33 => ?_) (fun g33 => ?_)
  · refine aw_iconst C (v := nI 0) (by decide) dX7_edge_40 ?_
    refine aw_bipush C (v := -3) (by decide) dX7_edge_41 ?_
    refine aw_aload_n C rfl rfl dX7_edge_43 ?_
    refine aw_getf C ck6 3 (by decide) q1293 (fun _ z => z) erB rfl dX7_edge_44 ?_
    refine ay_callV C ck6 (rd_req0 hG l hZ (code := -3) (pos := (tA1 bf n P s).1)) q1339 q1341 qs25 q122 q1342 erB (n9 := 3) (by decide +kernel) rfl (Nat.le_of_ble_eq_true rfl) (Nat.le_of_ble_eq_true rfl) (by dsimp only; omega) (by dsimp only; omega) rfl (Nat.le_of_ble_eq_true rfl) dX7_edge_47 (fun q9 h9 s9 hp9 => ?_) (fun _ _ _ z => z.elim)
    obtain ⟨rfl, rfl, rfl⟩ := hp9
    refine ay_out C (by omega) (by omega) ⟨?_, by omega, fun j hj => (hset_n _ _ (by omega)).trans (FB j (by omega) (by omega)), ?_⟩
    · rw [e_3 hs hnx hw0 hc1 hc2 g33]; exact (by decide : ¬ (-3 : Int32) = 0)
    · rw [e_3 hs hnx hw0 hc1 hc2 g33]; exact hset_s _ _ _
  · have g33 : ¬ vA1 bf n P s = vA2 bf n P s := g33
    refine aw_iconst C (v := nI 1) (by decide) dX7_edge_36 ?_
    refine aw_goto C (tgt := 41) dX7_edge_37 (by decide) ?_
    refine aw_bipush C (v := -3) (by decide) dX7_edge_41 ?_
    refine aw_aload_n C rfl rfl dX7_edge_43 ?_
    refine aw_getf C ck6 3 (by decide) q1293 (fun _ z => z) erB rfl dX7_edge_44 ?_
    refine aw_callVP C ck6 (rd_req1 hG l) q1339 q1341 qs25 q122 q1342 erB (n9 := 3) (by decide +kernel) rfl (Nat.le_of_ble_eq_true rfl) (Nat.le_of_ble_eq_true rfl) (by dsimp only; omega) (by dsimp only; omega) rfl (Nat.le_of_ble_eq_true rfl) dX7_edge_47 ?_
    refine aw_aload_n C rfl rfl dX7_edge_50 ?_
    refine aw_aload_n C rfl rfl dX7_edge_51 ?_
    refine aw_getf C ck6 1 (by decide) q1291 (fun _ z => z) erB rfl dX7_edge_52 ?_
    refine aw_getfN C ck3 2 (by decide) q210 (fun _ z => z) egB rfl dX7_edge_55 ?_
    refine aw_iload_n C rfl rfl dX7_edge_58 ?_
    refine aw_ialdN C enB (by omega) (by decide) dX7_edge_59 ?_
    refine aw_top ((hgn _ (by omega))) ?_
    refine aw_iload_n C rfl rfl dX7_edge_60 ?_
    refine aw_callSNR C (cp_has hG l (a := s.2.1 (13 + vA1 bf n P s)) (m := vA2 bf n P s) (Nat.lt_trans (hWA.w.n9 (by omega)) (by decide)) (by omega)) q1418 q154 q95 q155 (n9 := 2) (by decide +kernel) rfl (Nat.le_of_ble_eq_true rfl) (Nat.le_of_ble_eq_true rfl) (by dsimp only; omega) (by dsimp only; omega) rfl (Nat.le_of_ble_eq_true rfl) dX7_edge_61 ?_
    refine aw_bit_ne0 C (tgt := 71) dX7_edge_64 (by decide) (fun g64 => ?_) (fun g64 => ?_)
    · refine aw_iconst C (v := nI 0) (by decide) dX7_edge_71 ?_
      refine aw_bipush C (v := -4) (by decide) dX7_edge_72 ?_
      refine aw_aload_n C rfl rfl dX7_edge_74 ?_
      refine aw_getf C ck6 3 (by decide) q1293 (fun _ z => z) erB rfl dX7_edge_75 ?_
      refine ay_callV C ck6 (rd_req0 hG l hZ (code := -4) (pos := (tA1 bf n P s).1)) q1339 q1341 qs25 q122 q1342 erB (n9 := 3) (by decide +kernel) rfl (Nat.le_of_ble_eq_true rfl) (Nat.le_of_ble_eq_true rfl) (by dsimp only; omega) (by dsimp only; omega) rfl (Nat.le_of_ble_eq_true rfl) dX7_edge_78 (fun q9 h9 s9 hp9 => ?_) (fun _ _ _ z => z.elim)
      obtain ⟨rfl, rfl, rfl⟩ := hp9
      refine ay_out C (by omega) (by omega) ⟨?_, by omega, fun j hj => (hset_n _ _ (by omega)).trans (FB j (by omega) (by omega)), ?_⟩
      · rw [e_4 hs hnx hw0 hw9 hc1 hc2 g33 g64]; exact (by decide : ¬ (-4 : Int32) = 0)
      · rw [e_4 hs hnx hw0 hw9 hc1 hc2 g33 g64]; exact hset_s _ _ _
    · refine aw_iconst C (v := nI 1) (by decide) dX7_edge_67 ?_
      refine aw_goto C (tgt := 72) dX7_edge_68 (by decide) ?_
      refine aw_bipush C (v := -4) (by decide) dX7_edge_72 ?_
      refine aw_aload_n C rfl rfl dX7_edge_74 ?_
      refine aw_getf C ck6 3 (by decide) q1293 (fun _ z => z) erB rfl dX7_edge_75 ?_
      refine aw_callVP C ck6 (rd_req1 hG l) q1339 q1341 qs25 q122 q1342 erB (n9 := 3) (by decide +kernel) rfl (Nat.le_of_ble_eq_true rfl) (Nat.le_of_ble_eq_true rfl) (by dsimp only; omega) (by dsimp only; omega) rfl (Nat.le_of_ble_eq_true rfl) dX7_edge_78 ?_
      refine aw_aload_n C rfl rfl dX7_edge_81 ?_
      refine aw_getf C ck6 1 (by decide) q1291 (fun _ z => z) erB rfl dX7_edge_82 ?_
      refine aw_iload_n C rfl rfl dX7_edge_85 ?_
      refine aw_iload_n C rfl rfl dX7_edge_86 ?_
      refine aw_callVP C ck3 (gr_link hG l egB enB hgn (by omega) (by omega) g33) q1424 q1425 q1426 q98 q1427 egB (n9 := 2) (by decide +kernel) rfl (Nat.le_of_ble_eq_true rfl) (Nat.le_of_ble_eq_true rfl) (by dsimp only; omega) (by dsimp only; omega) rfl (Nat.le_of_ble_eq_true rfl) dX7_edge_87 ?_
      refine aw_gh (fun hC ehC => ?_)
      have FC : ∀ q, q < sz → q ≠ r → q ≠ g → q ≠ gn → hC q = h q := fun q q1 q2 q3 q4 => by rw [ehC, hset_n _ _ q3, hset_n _ _ q4]; exact FB q q1 q2
      have erC : hC r = some (RDO n (.ref g) pB (tA1 bf n P s).1 o) := by rw [ehC, hset_n _ _ (Ne.symm ngr), hset_n _ _ (Ne.symm nnr)]; exact erB
      have egC : hC g = some (.inr (3, [.int (nI (s.2.1 1)), .ref gl, .ref gn, .int (nI (s.2.1 0)), .int (nI (edg s.2.1 + 1))])) := by rw [ehC]; exact hset_s _ _ _
      have enC : hC gn = some (.inl (0, 9, .inl (upd (upd fn (vA1 bf n P s) (nI (s.2.1 (13 + vA1 bf n P s) ||| 1 <<< vA2 bf n P s))) (vA2 bf n P s) (nI (s.2.1 (13 + vA2 bf n P s) ||| 1 <<< vA1 bf n P s))))) := by rw [ehC, hset_n _ _ (Ne.symm ngn)]; exact hset_s _ _ _
      clear ehC
      have hbC : RDF hC o n bf := RDF.fr (FC o lo (by omega) (by omega) (by omega)) (FC (o + 31) lb (by omega) (by omega) (by omega)) hb
      have HV := e_5 hs hnx hw0 hc1 hc2 g33 g64
      refine aw_aload_n C rfl rfl dX7_edge_90 ?_
      refine ay_callV C ck6 (rd_semicolon hG l hZ hbC erC hpB (s := tA2 bf n P s) hc2 hPB.symm) q1382 q1384 qs27 q122 q1385 erC (n9 := 0) (by decide +kernel) rfl (Nat.le_of_ble_eq_true rfl) (Nat.le_of_ble_eq_true rfl) (by dsimp only; omega) (by dsimp only; omega) rfl (Nat.le_of_ble_eq_true rfl) dX7_edge_91 (fun q9 h9 s9 hp9 => ay_out C (by omega) (by omega) (YP.q (by rw [HV, st_e6.1]) hr0 (by omega) (by omega) (fun j hj => FC j (by omega) (by omega) (by omega) (by omega)) hp9)) (fun v9 h7 s7 hp7 => ?_)
      obtain ⟨rfl, c7, rfl, fr7, p7, er7, hp7, hPr7⟩ := hp7
      refine ay_vret C rfl dX7_edge_94 (by omega) (by omega) ?_
      have hz2 : (eS bf n s).2.1 = linkB s.2.1 (vA1 bf n P s) (vA2 bf n P s) := by
        rw [HV, e6_b c7, meS_b, tA2_b]
      refine ⟨rfl, by rw [HV, st_e6.1]; exact c7, by omega, fun q hq => (fr7 q (by omega) (by omega)).trans (FC q (by omega) (by omega) (by omega) (by omega)), ⟨(tA1 bf n P s).1, p7, er7, hp7, by rw [HV, st_e6.2]; exact hPr7⟩, ?_⟩
      rw [hz2]
      have hsy : (s.2.1 (13 + vA2 bf n P s)).testBit (vA1 bf n P s) = false := by rw [hWA.s _ _ (by omega) (by omega)]; exact g64
      obtain ⟨la1, la2⟩ := link_at (b := s.2.1) g33
      refine ⟨gl, gn, fl, _, ⟨b1, b2, b3, b4⟩, ?_, (fr7 gl (by omega) nlr).trans ((FC gl lgl nlr (Ne.symm ngl) b4).trans egl), (fr7 gn (by omega) nnr).trans enC, fun v hv9 => ?_, fun v hv9 => ?_⟩
      · rw [edg_link hWA.w (by omega) (by omega) g33 g64 hsy, link_n _ _ _ (by omega) (by omega), link_n _ _ _ (by omega) (by omega)]
        exact (fr7 g (by omega) ngr).trans egC
      · rw [link_n _ _ _ (by omega) (by omega)]; exact hgl v hv9
      · by_cases q2 : v = vA2 bf n P s
        · rw [q2, pk_us, la2]
        · by_cases q1 : v = vA1 bf n P s
          · rw [q1, pk_un g33, pk_us, la1]
          · rw [pk_un q2, pk_un q1, link_n _ _ _ (by omega) (by omega)]
            exact hgn v hv9
set_option maxRecDepth 100000 in
theorem rd_lay {γ : Gm} (hG : GF γ) (l : Launch) {h : AH} {sz : Nat} (hS : GSB γ) (hZ : XZ γ) {ρ : Nat} (hU : RUL γ ρ) (hI : FRU γ) {r o n p f : Nat} {g s0 s1 a cap mi : Nat} {bf : List Nat} (hb : RDF h o n bf) (er : h r = some (RDO n (.ref g) p f o)) (hp : p ≤ n) {P : Nat} (hPP : rn (isSp bf n) n p = P) {s : RS} (hs : s.2.2.1 = 0) (hnx : nx bf n s.1 = P) (hbc : BC h s1 a g s.2.1 cap) (hgs : GRS h s1 g s.2.1) (hr0 : s0 ≤ r) (ho0 : o + 31 < s0) (hr1 : r < s1) (hsz1 : s1 ≤ sz) (hWA : WA s.2.1) (hm9 : s.2.1 3 < 4096) (hc9 : cap ≤ 8200) {gs : Nat} (hgs9 : s.2.1 3 = cap → (nwL cap (s.2.1 3 + 1 - cap) (cap >>> 1)) ≤ gs) (hB9 : GBO γ mi) : MY γ l yX7_lay cX7_lay 4 none 19 427 (11 + (rn (isLt bf n) n (tA1 bf n P s).1 - (tA1 bf n P s).1)) (80 + 5 * (rn (isLt bf n) n (tA1 bf n P s).1 - (tA1 bf n P s).1) + gs) [.ref r, .ref a] h sz (fun v9 h' sz' => v9 = none ∧ (lS bf n s).2.2.1 = 0 ∧ sz ≤ sz' ∧ (∀ q, q < s1 → q ≠ r → h' q = h q) ∧ (∃ f', RAt n bf r o (.ref g) f' h' (lS bf n s).1) ∧ GRS h' s1 g (lS bf n s).2.1 ∧ ∃ cap', (cap' = cap ∧ s.2.1 3 < cap ∨ cap' = (nwL cap (s.2.1 3 + 1 - cap) (cap >>> 1)) ∧ s.2.1 3 = cap) ∧ BC h' s1 a g (lS bf n s).2.1 cap') (YQ h s0 sz (lS bf n s).2.2) := by
  refine my_start hG (by decide) (Nat.le_of_ble_eq_true rfl) (fun x C => ?_)
  obtain ⟨u, fb, eo, eb, hn5, hfb⟩ := id hb
  have hPn := rn_le (P := isSp bf n) (n := n) (fun _ => isSp_lt) hp
  rw [hPP] at hPn
  have hP2 : rn (isSp bf n) n P = P := by rw [← hPP]; exact rn_self hp
  refine aw_dom (fun hD => ?_)
  have lr := hD.lt er
  have lo := hD.lt eo
  have lb := hD.lt eb
  obtain ⟨gl, gn, fl, fn, ⟨b1, b2, b3⟩, eg, egl, egn, hgl, hgn⟩ := id hgs
  have ngr : g ≠ r := ne9 eg er (by intro z; cases z)
  have lg := hD.lt eg
  have hw0 := hWA.w.1
  have hw9 := hWA.w.2.1
  refine aw_aload_n C rfl rfl dX7_lay_0 ?_
  refine aw_iconst C (v := nI 0) (by decide) dX7_lay_1 ?_
  refine aw_aload_n C rfl rfl dX7_lay_2 ?_
  refine aw_getf C ck6 1 (by decide) q1291 (fun _ z => z) er rfl dX7_lay_3 ?_
  refine aw_getfN C ck3 3 (by decide) q216 (fun _ z => z) eg rfl dX7_lay_6 ?_
  refine aw_iconst C (v := nI 1) (by decide) dX7_lay_9 ?_
  refine aw_isubN C (by omega) dX7_lay_10 ?_
  refine ay_callV C ck6 (rd_number hG l hZ hb er hp (s := (P, s.2)) hs hPP.symm (ll := 0) (hh := s.2.1 0 - 1) (by omega) (by decide)) q1372 q1374 qs26 q122 q1375 er (n9 := 2) (by decide +kernel) rfl (Nat.le_of_ble_eq_true rfl) (Nat.le_of_ble_eq_true rfl) (by dsimp only; omega) (by dsimp only; omega) rfl (Nat.le_of_ble_eq_true rfl) dX7_lay_11 (fun q9 h9 s9 hp9 => ay_out C (by omega) (by omega) (YP.q (l_1 hs hnx hw0 hp9.1) hr0 (by omega) (Nat.le_refl _) (fun j hj => rfl) hp9)) (fun v9 hA sA hp7 => ?_)
  obtain ⟨rfl, hc1, -, vl1, hsA, frA, pA, erA, hpA, hPA⟩ := hp7
  have hc1 : (tA1 bf n P s).2.2.1 = 0 := hc1
  have vl1 : vA1 bf n P s ≤ s.2.1 0 - 1 := vl1
  have hPA : rn (isSp bf n) n pA = (tA1 bf n P s).1 := hPA
  have hbA : RDF hA o n bf := RDF.fr (frA o lo (by omega)) (frA (o + 31) lb (by omega)) hb
  have egA := (frA g lg ngr).trans eg
  have hEA := rn_le (P := isLt bf n) (n := n) (fun _ => isLt_lt) (rn_le (P := isSp bf n) (n := n) (fun _ => isSp_lt) hpA).2
  rw [hPA] at hEA
  refine aw_istore_n C rfl (by decide) rfl dX7_lay_14 ?_
  refine aw_aload_n C rfl rfl dX7_lay_15 ?_
  refine aw_iconst C (v := nI 1) (by decide) dX7_lay_16 ?_
  refine ay_callV C ck6 (rd_letP hG l hS hZ hbA erA hpA hWA.w.2.2.2.1 (show 1 ≤ 9 by decide) egA rfl hPA) q1399 q1401 qs29 q122 q1402 erA (n9 := 1) (by decide +kernel) rfl (Nat.le_of_ble_eq_true rfl) (Nat.le_of_ble_eq_true rfl) (by dsimp only; omega) (by dsimp only; omega) rfl (Nat.le_of_ble_eq_true rfl) dX7_lay_17 (fun q9 h9 s9 hp9 => ay_out C (by omega) (by omega) (YP.q (l_2 hs hnx hw0 hWA.w.2.2.2.1 hn5 hc1 hp9.1) hr0 (by omega) (by omega) (fun j hj => frA j (by omega) (by omega)) hp9)) (fun v9 hB sB hp6 => ?_)
  obtain ⟨rfl, ln6, lt6, ll6, le6, frB, erB⟩ := hp6
  have hlc8 := (l_col (s := s) hWA.w.2.2.2.1 hn5 lt6 ln6 ll6)
  refine aw_callSRR C (cp_ntz hG l (by omega) hlc8.2.2.1) q1435 q726 q118 q727 (n9 := 1) (by decide +kernel) rfl (Nat.le_of_ble_eq_true rfl) (Nat.le_of_ble_eq_true rfl) (by dsimp only; omega) (by dsimp only; omega) rfl (Nat.le_of_ble_eq_true rfl) dX7_lay_20 ?_
  obtain ⟨lc1, lc2, lc3, lc4⟩ := l_col (s := s) hWA.w.2.2.2.1 hn5 lt6 ln6 ll6
  have FB : ∀ q, q < sz → q ≠ r → hB q = h q := fun q q1 q2 => (frB q (by omega) q2).trans (frA q q1 q2)
  have bcB := BC.f6 hD er FB hbc
  have gsB := GRS.f6 hD er FB hgs
  have hwl := why_le s.2.1 (vA1 bf n P s) (low (letS bf n (s.2.1 1) (tA1 bf n P s).1))
  obtain ⟨ca9, ba9, v39, v49, fc9, fb9, ebo, -⟩ := bcB.brd gsB.g
  refine aw_istore_n C rfl (by decide) rfl dX7_lay_23 ?_
  refine aw_aload_n C rfl rfl dX7_lay_24 ?_
  refine aw_getsN C hU.1 q1436 (fun _ z => z) dX7_lay_25 ?_
  refine aw_aload_n C rfl rfl dX7_lay_28 ?_
  refine aw_iload_n C rfl rfl dX7_lay_29 ?_
  refine aw_iload_n C rfl rfl dX7_lay_30 ?_
  refine aw_callVOR C (bd_reason hG l hU hI (bcB.brd gsB.g) hWA.w (v := vA1 bf n P s) (c := (low (letS bf n (s.2.1 1) (tA1 bf n P s).1))) (by omega) lc2) q1437 q822 q823 q2248 q824 hU.2 (n9 := 3) (by decide +kernel) rfl (Nat.le_of_ble_eq_true rfl) (Nat.le_of_ble_eq_true rfl) (by dsimp only; omega) (by dsimp only; omega) rfl (Nat.le_of_ble_eq_true rfl) dX7_lay_31 ?_
  refine aw_ifN_ne C (tgt := 41) (by omega) dX7_lay_34 (by decide) (fun g34 => ?_) (fun g34 => ?_)
  · refine aw_iconst C (v := nI 0) (by decide) dX7_lay_41 ?_
    refine aw_bipush C (v := -5) (by decide) dX7_lay_42 ?_
    refine aw_aload_n C rfl rfl dX7_lay_44 ?_
    refine aw_getf C ck6 3 (by decide) q1293 (fun _ z => z) erB rfl dX7_lay_45 ?_
    refine ay_callV C ck6 (rd_req0 hG l hZ (code := -5) (pos := (tA1 bf n P s).1)) q1339 q1341 qs25 q122 q1342 erB (n9 := 3) (by decide +kernel) rfl (Nat.le_of_ble_eq_true rfl) (Nat.le_of_ble_eq_true rfl) (by dsimp only; omega) (by dsimp only; omega) rfl (Nat.le_of_ble_eq_true rfl) dX7_lay_48 (fun q9 h9 s9 hp9 => ?_) (fun _ _ _ z => z.elim)
    obtain ⟨rfl, rfl, rfl⟩ := hp9
    refine ay_out C (by omega) (by omega) ⟨?_, by omega, fun j hj => (hset_n _ _ (by omega)).trans (FB j (by omega) (by omega)), ?_⟩
    · rw [l_3 hs hnx hw0 hc1 lt6 lc1 (Nat.pos_of_ne_zero g34)]; exact (by decide : ¬ (-5 : Int32) = 0)
    · rw [l_3 hs hnx hw0 hc1 lt6 lc1 (Nat.pos_of_ne_zero g34)]; exact hset_s _ _ _
  · refine aw_iconst C (v := nI 1) (by decide) dX7_lay_37 ?_
    refine aw_goto C (tgt := 42) dX7_lay_38 (by decide) ?_
    refine aw_bipush C (v := -5) (by decide) dX7_lay_42 ?_
    refine aw_aload_n C rfl rfl dX7_lay_44 ?_
    refine aw_getf C ck6 3 (by decide) q1293 (fun _ z => z) erB rfl dX7_lay_45 ?_
    refine aw_callVP C ck6 (rd_req1 hG l) q1339 q1341 qs25 q122 q1342 erB (n9 := 3) (by decide +kernel) rfl (Nat.le_of_ble_eq_true rfl) (Nat.le_of_ble_eq_true rfl) (by dsimp only; omega) (by dsimp only; omega) rfl (Nat.le_of_ble_eq_true rfl) dX7_lay_48 ?_
    have hw9' : why s.2.1 (vA1 bf n P s) (low (letS bf n (s.2.1 1) (tA1 bf n P s).1)) = 0 := g34
    obtain ⟨hw1, hw2⟩ := why_ok hWA.w (v := vA1 bf n P s) (by omega) (fun z => absurd z (by rw [hw9']; exact Nat.lt_irrefl 0))
    have hfree : (freeS s.2.1).testBit (vA1 bf n P s) = true := by
      rw [freeS_bit, cols_free hw1]
      simp
      omega
    have HV := l_4 hs hnx hw0 hc1 lt6 lc1 hw9'
    refine aw_dom (fun hDB => ?_)
    refine aw_aload_n C rfl rfl dX7_lay_51 ?_
    refine aw_iload_n C rfl rfl dX7_lay_52 ?_
    refine aw_iload_n C rfl rfl dX7_lay_53 ?_
    refine aw_callV C ck2 (bm_lay hG l hB9 bcB gsB hWA.w hWA.s hDB (by omega) hc9 (by omega) hw2 hfree hgs9) q1438 q1037 q1038 q97 q1039 ebo (n9 := 2) (by decide +kernel) rfl (Nat.le_of_ble_eq_true rfl) (Nat.le_of_ble_eq_true rfl) (by dsimp only; omega) (by dsimp only; omega) rfl (Nat.le_of_ble_eq_true rfl) dX7_lay_54 (fun _ _ _ z => z.elim) (fun v9 hC sC hp7 => ?_)
    obtain ⟨rfl, sl1, sl2, frC, cap7, hcap7, bcC⟩ := hp7
    have hbC : RDF hC o n bf := RDF.fr ((frC o (by omega)).trans (FB o lo (by omega))) ((frC (o + 31) (by omega)).trans (FB (o + 31) lb (by omega))) hb
    have erC := (frC r hr1).trans erB
    have s2c : ((rn (isSp bf n) n (rn (isLt bf n) n (tA1 bf n P s).1), layM s.2.1 (vA1 bf n P s) (low (letS bf n (s.2.1 1) (tA1 bf n P s).1)), (tA1 bf n P s).2.2) : RS).2.2.1 = 0 := hc1
    refine aw_dom (fun hDC => ?_)
    have lrC := hDC.lt erC
    refine aw_aload_n C rfl rfl dX7_lay_57 ?_
    refine ay_callV C ck6 (rd_semicolon hG l hZ hbC erC hEA.2 s2c rfl) q1382 q1384 qs27 q122 q1385 erC (n9 := 0) (by decide +kernel) rfl (Nat.le_of_ble_eq_true rfl) (Nat.le_of_ble_eq_true rfl) (by dsimp only; omega) (by dsimp only; omega) rfl (Nat.le_of_ble_eq_true rfl) dX7_lay_58 (fun q9 h9 s9 hp9 => ay_out C (by omega) (by omega) (YP.q (by rw [HV]) hr0 (by omega) (by omega) (fun j hj => (frC j (by omega)).trans (FB j (by omega) (by omega))) hp9)) (fun v9 h7 s7 hp7 => ?_)
    obtain ⟨rfl, c7, rfl, fr7, p7, er7, hp7, hPr7⟩ := hp7
    refine ay_vret C rfl dX7_lay_61 (by omega) (by omega) ?_
    have hz2 : (lS bf n s).2.1 = layM s.2.1 (vA1 bf n P s) (low (letS bf n (s.2.1 1) (tA1 bf n P s).1)) := by rw [HV, meS_b]
    refine ⟨rfl, by rw [HV]; exact c7, by omega, fun q hq q1 => (fr7 q (by omega) q1).trans ((frC q (by omega)).trans (FB q (by omega) q1)), ⟨(tA1 bf n P s).1, p7, er7, hp7, by rw [HV]; exact hPr7⟩, ?_, cap7, hcap7, ?_⟩
    · rw [hz2]
      exact (GRS.st (st_layM s.2.1 _ _) hWA.w.2.1 ((gsB.fr frC).f6 hDC erC fr7))
    · rw [hz2]
      exact bcC.f6 hDC erC fr7
set_option maxRecDepth 100000 in
theorem rd_pass {γ : Gm} (hG : GF γ) (l : Launch) {h : AH} {sz : Nat} (hS : GSB γ) (hZ : XZ γ) {r o n p f : Nat} {g s0 s1 a cap mi : Nat} {bf : List Nat} (hb : RDF h o n bf) (er : h r = some (RDO n (.ref g) p f o)) (hp : p ≤ n) {P : Nat} (hPP : rn (isSp bf n) n p = P) {s : RS} (hs : s.2.2.1 = 0) (hnx : nx bf n s.1 = P) (hbc : BC h s1 a g s.2.1 cap) (hgs : GRS h s1 g s.2.1) (hr0 : s0 ≤ r) (ho0 : o + 31 < s0) (hr1 : r < s1) (hsz1 : s1 ≤ sz) (hWA : WA s.2.1) (hm9 : s.2.1 3 < 4096) (hc9 : cap ≤ 8200) {gs : Nat} (hgs9 : s.2.1 3 = cap → (nwL cap (s.2.1 3 + 1 - cap) (cap >>> 1)) ≤ gs) (hB9 : GBO γ mi) : MY γ l yX7_pass cX7_pass 3 none 9 213 4 (20 + gs) [.ref r, .ref a, .int (nI s.1)] h sz (fun v9 h' sz' => v9 = none ∧ (pS bf n s).2.2.1 = 0 ∧ sz ≤ sz' ∧ (∀ q, q < s1 → q ≠ r → h' q = h q) ∧ (∃ f', RAt n bf r o (.ref g) f' h' (pS bf n s).1) ∧ GRS h' s1 g (pS bf n s).2.1 ∧ ∃ cap', (cap' = cap ∧ s.2.1 3 < cap ∨ cap' = (nwL cap (s.2.1 3 + 1 - cap) (cap >>> 1)) ∧ s.2.1 3 = cap) ∧ BC h' s1 a g (pS bf n s).2.1 cap') (YQ h s0 sz (pS bf n s).2.2) := by
  refine my_start hG (by decide) (Nat.le_of_ble_eq_true rfl) (fun x C => ?_)
  obtain ⟨u, fb, eo, eb, hn5, hfb⟩ := id hb
  have hPn := rn_le (P := isSp bf n) (n := n) (fun _ => isSp_lt) hp
  rw [hPP] at hPn
  have hP2 : rn (isSp bf n) n P = P := by rw [← hPP]; exact rn_self hp
  refine aw_dom (fun hD => ?_)
  have lr := hD.lt er
  have lo := hD.lt eo
  have lb := hD.lt eb
  have hw0 := hWA.w.1
  have hw9 := hWA.w.2.1
  have ebo := hbc.brd hgs.g
  obtain ⟨ca9, ba9, v39, v49, fc9, fb9, ebo, -⟩ := ebo
  have hl9 := hWA.l
  refine aw_aload_n C rfl rfl dX7_pass_0 ?_
  refine aw_aload_n C rfl rfl dX7_pass_1 ?_
  refine aw_getfN C ck2 5 (by decide) q625 (fun _ z => z) ebo rfl dX7_pass_2 ?_
  refine aw_ifN_le C (tgt := 12) (by omega) dX7_pass_5 (by decide) (fun g5 => ?_) (fun g5 => ?_)
  · refine aw_iconst C (v := nI 0) (by decide) dX7_pass_12 ?_
    refine aw_bipush C (v := -5) (by decide) dX7_pass_13 ?_
    refine aw_iload_n C rfl rfl dX7_pass_15 ?_
    refine ay_callV C ck6 (rd_req0 hG l hZ (code := -5) (pos := s.1)) q1339 q1341 qs25 q122 q1342 er (n9 := 3) (by decide +kernel) rfl (Nat.le_of_ble_eq_true rfl) (Nat.le_of_ble_eq_true rfl) (by dsimp only; omega) (by dsimp only; omega) rfl (Nat.le_of_ble_eq_true rfl) dX7_pass_16 (fun q9 h9 s9 hp9 => ?_) (fun _ _ _ z => z.elim)
    obtain ⟨rfl, rfl, rfl⟩ := hp9
    refine ay_out C (by omega) (by omega) ⟨?_, by omega, fun j hj => hset_n _ _ (by omega), ?_⟩
    · rw [p_1 hs (by omega)]; exact (by decide : ¬ (-5 : Int32) = 0)
    · rw [p_1 hs (by omega)]; exact hset_s _ _ _
  · refine aw_iconst C (v := nI 1) (by decide) dX7_pass_8 ?_
    refine aw_goto C (tgt := 13) dX7_pass_9 (by decide) ?_
    refine aw_bipush C (v := -5) (by decide) dX7_pass_13 ?_
    refine aw_iload_n C rfl rfl dX7_pass_15 ?_
    refine aw_callVP C ck6 (rd_req1 hG l) q1339 q1341 qs25 q122 q1342 er (n9 := 3) (by decide +kernel) rfl (Nat.le_of_ble_eq_true rfl) (Nat.le_of_ble_eq_true rfl) (by dsimp only; omega) (by dsimp only; omega) rfl (Nat.le_of_ble_eq_true rfl) dX7_pass_16 ?_
    have HV := p_2 hs hnx (by omega)
    refine aw_aload_n C rfl rfl dX7_pass_19 ?_
    refine aw_callV C ck2 (bm_pass hG l hB9 hbc hgs hWA.w hWA.s hD (by omega) hc9 (by omega) hl9 hgs9) q1444 q985 q986 q97 q987 ebo (n9 := 0) (by decide +kernel) rfl (Nat.le_of_ble_eq_true rfl) (Nat.le_of_ble_eq_true rfl) (by dsimp only; omega) (by dsimp only; omega) rfl (Nat.le_of_ble_eq_true rfl) dX7_pass_20 (fun _ _ _ z => z.elim) (fun v9 hC sC hp7 => ?_)
    obtain ⟨rfl, sl1, sl2, frC, cap7, hcap7, bcC⟩ := hp7
    have hbC : RDF hC o n bf := RDF.fr (frC o (by omega)) (frC (o + 31) (by omega)) hb
    have erC := (frC r hr1).trans er
    have s2c : ((P, passM s.2.1, s.2.2) : RS).2.2.1 = 0 := hs
    refine aw_dom (fun hDC => ?_)
    have lrC := hDC.lt erC
    refine aw_aload_n C rfl rfl dX7_pass_23 ?_
    refine ay_callV C ck6 (rd_semicolon hG l hZ hbC erC hp s2c hPP.symm) q1382 q1384 qs27 q122 q1385 erC (n9 := 0) (by decide +kernel) rfl (Nat.le_of_ble_eq_true rfl) (Nat.le_of_ble_eq_true rfl) (by dsimp only; omega) (by dsimp only; omega) rfl (Nat.le_of_ble_eq_true rfl) dX7_pass_24 (fun q9 h9 s9 hp9 => ay_out C (by omega) (by omega) (YP.q (by rw [HV]) hr0 (by omega) (by omega) (fun j hj => frC j (by omega)) hp9)) (fun v9 h7 s7 hp7 => ?_)
    obtain ⟨rfl, c7, rfl, fr7, p7, er7, hp7, hPr7⟩ := hp7
    refine ay_vret C rfl dX7_pass_27 (by omega) (by omega) ?_
    have hz2 : (pS bf n s).2.1 = passM s.2.1 := by rw [HV, meS_b]
    refine ⟨rfl, by rw [HV]; exact c7, by omega, fun q hq q1 => (fr7 q (by omega) q1).trans (frC q (by omega)), ⟨_, p7, er7, hp7, by rw [HV]; exact hPr7⟩, ?_, cap7, hcap7, ?_⟩
    · rw [hz2]
      exact (GRS.st (st_passM s.2.1) hWA.w.2.1 ((hgs.fr frC).f6 hDC erC fr7))
    · rw [hz2]
      exact bcC.f6 hDC erC fr7
