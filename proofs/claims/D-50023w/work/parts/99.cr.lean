/-! the reader: a whole text -/
/-- the reader's texts are carried -/
def RTX (γ : Gm) (σ : Nat → Nat) : Prop := SCr γ "ColourDuel$Reader" 157 "colours" (σ 0) wColours ∧ SCr γ "ColourDuel$Reader" 165 "passes" (σ 1) wPasses ∧ SCr γ "ColourDuel$Reader" 166 "vertex" (σ 2) wVertex ∧ SCr γ "ColourDuel$Reader" 170 "edge" (σ 3) wEdge ∧ SCr γ "ColourDuel$Reader" 177 "lay" (σ 4) wLay ∧ SCr γ "ColourDuel$Reader" 181 "pass" (σ 5) wPass
/-- the graph's cells lie from s0 on -/
def GLO (h : AH) (s0 g : Nat) : Prop := ∃ (gl gn : Nat) (v1 v2 v3 : Value), h g = some (.inr (3, [v1, .ref gl, .ref gn, v2, v3])) ∧ s0 ≤ g ∧ s0 ≤ gl ∧ s0 ≤ gn
theorem GLO.k {h h' : AH} {s0 g : Nat} (e : h' g = h g) (q : GLO h s0 g) : GLO h' s0 g := by
  obtain ⟨gl, gn, v1, v2, v3, q1, q2⟩ := q
  exact ⟨gl, gn, v1, v2, v3, e.trans q1, q2⟩
theorem GLO.ne {h : AH} {s0 g r : Nat} {fs : List Value} (q : GLO h s0 g) (er : h r = some (.inr (6, fs))) : g ≠ r := by
  obtain ⟨gl, gn, v1, v2, v3, q1, q2⟩ := q
  exact ne9 q1 er (by intro z; cases z)
theorem GLO.lt {h : AH} {s0 g sz : Nat} (q : GLO h s0 g) (hD : Dm h sz) : g < sz := by
  obtain ⟨gl, gn, v1, v2, v3, q1, q2⟩ := q
  exact hD.lt q1
theorem GLO.s {h : AH} {s1 g : Nat} {b : BT} (q : GRS h s1 g b) : g < s1 := by
  obtain ⟨gl, gn, fl, fn, q0, -⟩ := q
  exact q0.1
theorem GRW.lo {h : AH} {s0 g : Nat} {b : BT} (q : GRW h s0 g b) : GLO h s0 g := by
  obtain ⟨gl, gn, fl, fn, q0, q1, -⟩ := q
  exact ⟨gl, gn, _, _, _, q1, q0.1, q0.2.1, q0.2.2.1⟩
theorem GRS.spl {h g2 : AH} {s0 s1 g : Nat} {b : BT} (q : GRS h s1 g b) (e : GLO h s0 g) (up : ∀ j, s0 ≤ j → g2 j = h j) : GRP g2 g b := by
  obtain ⟨gl, gn, fl, fn, -, q1, q2, q3, q4⟩ := q
  obtain ⟨gl2, gn2, v1, v2, v3, e1, e2, e3, e4⟩ := e
  rw [q1] at e1
  cases e1
  exact ⟨gl, gn, fl, fn, (up _ e2).trans q1, (up _ e3).trans q2, (up _ e4).trans q3, q4⟩
theorem gs_le {cap M : Nat} (h8 : 8 ≤ cap) : (if M = cap then capN cap M else 0) ≤ 2 * M + 1 := by
  by_cases h : M = cap
  · rw [if_pos h]
    have := (capN_le h h8).2.2.2
    omega
  · rw [if_neg h]; omega
theorem YQ.up {h h1 : AH} {s0 sz s1 : Nat} {c d : Int32 × Nat} {q : Nat} {h' : AH} {sz' : Nat} (e : d = c) (hle : sz ≤ s1) (F : ∀ j, j < s0 → h1 j = h j) (g : YQ h1 s0 s1 c q h' sz') : YQ h s0 sz d q h' sz' := by
  obtain ⟨g1, g2, g3, g4⟩ := g
  rw [e]
  exact ⟨g1, Nat.le_trans hle g2, fun j hj => (g3 j hj).trans (F j hj), g4⟩
theorem cap_n {cap cap' M : Nat} (h8 : 8 ≤ cap) (hc : cap ≤ 8 + 2 * M) (h : cap' = cap ∧ M < cap ∨ cap' = nwL cap (M + 1 - cap) (cap >>> 1) ∧ M = cap) : 8 ≤ cap' ∧ cap' ≤ 8 + 2 * (M + 1) ∧ cap ≤ cap' ∧ (if M = cap then capN cap M else 0) ≤ 4 * (cap' - cap) := by
  rcases h with ⟨h1, h2⟩ | ⟨h1, h2⟩
  · rw [if_neg (by omega)]
    omega
  · obtain ⟨a1, a2, a3, a4⟩ := capN_le h2 h8
    rw [if_pos h2]
    have : cap' = capN cap M := h1
    omega
theorem tA1_n {bf : List Nat} {n P : Nat} {s : RS} (hc : 0 ≤ n) (h : P ≤ n) : (tA1 bf n P s).1 ≤ n := ((le_tkS bf n (nI 0) (nI (s.2.1 0 - 1)) (P, s.2)).2 h).2
set_option maxRecDepth 100000 in
theorem rd_loop3 {γ : Gm} (hG : GF γ) (l : Launch) {h : AH} {sz : Nat} (hS : GSB γ) (hZ : XZ γ) {r o n s0 mi ρ : Nat} {bf : List Nat} (hb : RDF h o n bf) (hr0 : s0 ≤ r) (hs0 : s0 ≤ sz) (ho0 : o + 31 < s0) (hU : RUL γ ρ) (hI : FRU γ) (hB9 : GBO γ mi) {σ : Nat → Nat} (hσ : RTX γ σ) {S : RS} {x : WX} (C : Cx γ l x yX7_read cX7_read 3 (some (.object "ColourDuel$Board")) { frames := 20, cells := (300 + 50 * n), slots := (2000 + 230 * n), locals := 450 } []) : ∀ f s h5 sz5 p fr cap k5 n5 a s1 g, rS bf n S = rF bf n (rL bf n f s) → n + 1 ≤ s.1 + f → s.1 ≤ n → s.2.2.1 = 0 → WA s.2.1 → s.2.1 3 ≤ s.1 → h5 r = some (RDO n (.ref g) p fr o) → p ≤ n → rn (isSp bf n) n p = s.1 → BC h5 s1 a g s.2.1 cap → GRS h5 s1 g s.2.1 → GLO h5 s0 g → s1 ≤ sz5 → 8 ≤ cap → cap ≤ 8 + 2 * s.2.1 3 → r < s1 → s0 ≤ s1 → (∀ q, q < s0 → h5 q = h q) → sz ≤ sz5 → k5 ≤ 100 + 10 * n + 20 * s.1 → n5 ≤ 700 + 15 * n + 165 * s.1 + 4 * (cap - 8) → AW γ l x (QY γ x (300 + 50 * n) (2000 + 230 * n) (fun v9 h' sz' => ∃ a s1 g cap, v9 = some (.ref a) ∧ (rS bf n S).2.2.1 = 0 ∧ sz ≤ sz' ∧ (∀ q, q < s0 → h' q = h q) ∧ s0 ≤ s1 ∧ BC h' s1 a g (rS bf n S).2.1 cap ∧ GRS h' s1 g (rS bf n S).2.1 ∧ GLO h' s0 g ∧ cap ≤ 8200) (YQ h s0 sz (rS bf n S).2.2)) 3 h5 sz5 k5 n5 124 [(0, .ref r), (2, .ref a)] [] := by
  obtain ⟨u, fb, eo, eb, hn5, hfb⟩ := id hb
  intro f
  induction f with
  | zero => intro s h5 sz5 p fr cap k5 n5 a s1 g hrs hf hsn hs5 hw5 h35 er5 hp5 hP5 hbc hgs hglo hs15 h8 hcap hr1 hs01 F5 hsz5 hk5 hn95; exact absurd hf (by omega)
  | succ f ih =>
    intro s h5 sz5 p fr cap k5 n5 a s1 g hrs hf hsn hs5 hw5 h35 er5 hp5 hP5 hbc hgs hglo hs15 h8 hcap hr1 hs01 F5 hsz5 hk5 hn95
    refine aw_dom (fun hD5 => ?_)
    have lr5 := hD5.lt er5
    have hc9 := hs5
    have hb5 : RDF h5 o n bf := RDF.fr (F5 o (by omega)) (F5 (o + 31) (by omega)) hb
    have hPs : rn (isSp bf n) n s.1 = s.1 := by rw [← hP5]; exact rn_self hp5
    have hwb0 := hw5.w.1
    have hE9 := rn_le (P := isLt bf n) (n := n) (fun _ => isLt_lt) hsn
    have hm5 : s.2.1 3 ≤ 500 := by omega
    refine aw_aload_n C rfl rfl dX7_read_124 ?_
    refine aw_callVPv C ck6 (rd_peek hG l hb5 er5 hp5) q1321 q1323 qs24 q122 q1324 er5 (n9 := 0) (by decide +kernel) rfl (Nat.le_of_ble_eq_true rfl) (Nat.le_of_ble_eq_true rfl) (by dsimp only; omega) (by dsimp only; omega) rfl (Nat.le_of_ble_eq_true rfl) dX7_read_125 ?_
    rw [hP5]
    refine aw_iconst C (v := -1) (by decide) dX7_read_128 ?_
    refine aw_icmp_eq C (tgt := 184) dX7_read_129 (by decide) (fun g129 => ?_) (fun g129 => ?_)
    · have hend : rS bf n S = s := by
        have hz := (end_i (fun i hi => (hfb i hi).1)).mp g129
        rw [hrs, rL_stop (isW_end hz) (isW_end hz), rF_end hz]
      refine aw_aload_n C rfl rfl dX7_read_184 ?_
      refine ay_aret C rfl (Or.inl ⟨_, rfl⟩) (Or.inr ⟨_, rfl⟩) dX7_read_185 (by omega) (by omega) ?_
      refine ⟨a, s1, g, cap, rfl, by rw [hend]; exact hs5, by omega, fun q hq => (hset_n _ _ (by omega)).trans (F5 q hq), hs01, ?_, ?_, hglo.k (hset_n _ _ (GLO.ne hglo er5)), by omega⟩
      · rw [hend]; exact BC.f6 hD5 er5 (fun q _ q1 => hset_n _ _ q1) hbc
      · rw [hend]; exact GRS.f6 hD5 er5 (fun q _ q1 => hset_n _ _ q1) hgs
    · have hbA : RDF (hset h5 r (RDO n (.ref g) s.1 fr o)) o n bf := RDF.fr (hset_n _ _ (by omega)) (hset_n _ _ (by omega)) hb5
      have hlt9 : s.1 < n := by
        refine Nat.not_le.mp (fun z => ?_)
        exact g129 ((end_i (fun i hi => (hfb i hi).1)).mpr z)
      have hs9 := hs5
      refine aw_aload_n C rfl rfl dX7_read_132 ?_
      refine aw_ldcS C hσ.2.2.2.2.1.1 dX7_read_133 ?_
      refine aw_callV C ck6 (rd_accP hG l hS hbA (hset_s _ _ _) hsn hσ.2.2.2.2.1.2 hPs) q1311 q1313 qs22 q122 q1314 (hset_s _ _ _) (n9 := 1) (by decide +kernel) rfl (Nat.le_of_ble_eq_true rfl) (Nat.le_of_ble_eq_true rfl) (by dsimp only; omega) (by dsimp only; omega) rfl (Nat.le_of_ble_eq_true rfl) dX7_read_135 (fun _ _ _ z => z.elim) (fun v9 hB sB hp6 => ?_)
      obtain ⟨rfl, leB, frB, erB⟩ := hp6
      have hiw9 := isW_ac (bf := bf) (n := n) (w := wLay) (s := s) hc9 (by decide)
      rcases (Bool.eq_false_or_eq_true (isW bf n wLay (s))).symm with hw1 | hw1
      · have hd9 : decide (wL bf n (s).1 = wLay) = false := hiw9.symm.trans hw1
        rw [if_neg (by rw [hd9]; decide), Nat.add_zero] at erB
        refine aw_top (show _ = nI 0 from by rw [if_neg (by rw [hd9]; decide)]) ?_
        refine aw_if_eq C (tgt := 149) dX7_read_138 (by decide) (fun _ => ?_) (fun g => absurd rfl g)
        have hbB : RDF hB o n bf := RDF.fr ((frB o (by omega) (by omega)).trans (hset_n _ _ (by omega))) ((frB (o + 31) (by omega) (by omega)).trans (hset_n _ _ (by omega))) hb5
        refine aw_aload_n C rfl rfl dX7_read_149 ?_
        refine aw_ldcS C hσ.2.2.2.2.2.1 dX7_read_150 ?_
        refine aw_callV C ck6 (rd_accP hG l hS hbB erB hsn hσ.2.2.2.2.2.2 hPs) q1311 q1313 qs22 q122 q1314 erB (n9 := 1) (by decide +kernel) rfl (Nat.le_of_ble_eq_true rfl) (Nat.le_of_ble_eq_true rfl) (by dsimp only; omega) (by dsimp only; omega) rfl (Nat.le_of_ble_eq_true rfl) dX7_read_152 (fun _ _ _ z => z.elim) (fun v9 hC sC hp6 => ?_)
        obtain ⟨rfl, leC, frC, erC⟩ := hp6
        have hiw9 := isW_ac (bf := bf) (n := n) (w := wPass) (s := s) hc9 (by decide)
        rcases (Bool.eq_false_or_eq_true (isW bf n wPass (s))).symm with hw2 | hw2
        · have hd9 : decide (wL bf n (s).1 = wPass) = false := hiw9.symm.trans hw2
          rw [if_neg (by rw [hd9]; decide), Nat.add_zero] at erC
          refine aw_top (show _ = nI 0 from by rw [if_neg (by rw [hd9]; decide)]) ?_
          have hend : rS bf n S = rF bf n s := by rw [hrs, rL_stop hw1 hw2]
          have FC : ∀ q, q < sz5 → q ≠ r → hC q = h5 q := fun q q1 q2 => (frC q (by omega) q2).trans ((frB q q1 q2).trans (hset_n _ _ q2))
          have hD6 := hD5
          refine aw_dom (fun hDC => ?_)
          have lrC := hDC.lt erC
          refine aw_if_eq C (tgt := 170) dX7_read_155 (by decide) (fun _ => ?_) (fun g => absurd rfl g)
          refine aw_new C ck7 (fs := [.null, .null, .null, .null, .null, .int 0, .int 0, .int 0]) q1343 q1344 q123 (by decide) (by dsimp only; omega) (by dsimp only; omega) dX7_read_170 ?_
          refine aw_dup C rfl dX7_read_173 ?_
          refine aw_bipush C (v := -2) (by decide) dX7_read_174 ?_
          refine aw_aload_n C rfl rfl dX7_read_176 ?_
          refine aw_getf C ck6 2 (by decide) q1292 (fun _ z => z) ((hset_n _ _ (by omega)).trans erC) rfl dX7_read_177 ?_
          refine aw_callIP C (te_init hG l hZ (code := -2) (pos := s.1) (hset_s _ _ _)) q1352 q1353 q123 q1354 rfl (n9 := 2) (by decide +kernel) rfl (Nat.le_of_ble_eq_true rfl) (Nat.le_of_ble_eq_true rfl) (by dsimp only; omega) (by dsimp only; omega) rfl (Nat.le_of_ble_eq_true rfl) dX7_read_180 ?_
          rw [hset_hset]
          refine ay_throw C dX7_read_183 (ay_out C (by omega) (by omega) ⟨?_, by omega, fun j hj => (hset_n _ _ (by omega)).trans ((FC j (by omega) (by omega)).trans (F5 j hj)), ?_⟩)
          · rw [hend, rF_no hs9 hlt9]; exact m2
          · rw [hend, rF_no hs9 hlt9]; exact hset_s _ _ _
        have hd9 : decide (wL bf n (s).1 = wPass) = true := hiw9.symm.trans hw2
        rw [if_pos hd9] at erC
        refine aw_top (show _ = nI 1 from by rw [if_pos hd9]) ?_
        have hLe : rn (isLt bf n) n (s).1 - (s).1 = (wPass).length := by rw [← wL_len, of_decide_eq_true hd9]
        have hLe4 : rn (isLt bf n) n s.1 - s.1 = 4 := hLe
        refine aw_if_eq C (tgt := 170) dX7_read_155 (by decide) (fun g => absurd g (by decide)) (fun _ => ?_)
        refine aw_aload_n C rfl rfl dX7_read_158 ?_
        refine aw_aload_n C rfl rfl dX7_read_159 ?_
        refine aw_aload_n C rfl rfl dX7_read_160 ?_
        have hrl : rL bf n (f + 1) s = rL bf n f (pS bf n s) := by rw [rL, hw1, if_neg (by decide), if_pos hw2]
        have FF : ∀ q, q < sz5 → q ≠ r → hC q = h5 q := fun q q1 q2 => (frC q (by omega) q2).trans ((frB q q1 q2).trans (hset_n _ _ q2))
        have bcC := BC.f6 hD5 er5 FF hbc
        have gsC := GRS.f6 hD5 er5 FF hgs
        have hbC : RDF hC o n bf := RDF.fr (FF o (by omega) (by omega)) (FF (o + 31) (by omega) (by omega)) hb5
        have hEe := (isW_en hw2).1
        have hgb := gs_le (M := s.2.1 3) h8
        generalize hgd : (if s.2.1 3 = cap then capN cap (s.2.1 3) else 0) = gq at hgb
        have hnE := en_le (bf := bf) hsn
        refine aw_getf C ck6 3 (by decide) q1293 (fun _ z => z) erC rfl dX7_read_161 ?_
        refine ay_callV C ck6 (rd_pass hG l hS hZ hbC erC (by omega) rfl hs5 (isW_en hw2).2 bcC gsC hr0 (by omega) hr1 (by omega) hw5 (by omega) (by omega) (gs := gq) (fun z => by rw [← hgd, if_pos z]; exact Nat.le_refl _) hB9) q1440 q1442 qs32 q122 q1443 erC (n9 := 2) (by decide +kernel) rfl (Nat.le_of_ble_eq_true rfl) (Nat.le_of_ble_eq_true rfl) (by dsimp only; omega) (by dsimp only; omega) rfl (Nat.le_of_ble_eq_true rfl) dX7_read_164 (fun q9 h9 s9 hp9 => ay_out C (by omega) (by omega) (YQ.up (rS_8 (t := pS bf n s) (f := f) (hrs.trans (congrArg (rF bf n) hrl)) hp9.1) (by omega) (fun j hj => (FF j (by omega) (by omega)).trans (F5 j hj)) hp9)) (fun v9 h7 s7 hp7 => ?_)
        obtain ⟨rfl, c7, le7, fr7, ⟨f7, p7, er7, hp7, hP7⟩, gs7, cap7, hcap7, bc7⟩ := hp7
        refine aw_goto C (tgt := 124) dX7_read_167 (by decide) ?_
        have hadv := pS_gt hlt9 c7
        obtain ⟨wv1, wv2⟩ := (pS_ok hw5 (by omega) c7)
        obtain ⟨cz1, cz2, cz3, cz4⟩ := cap_n h8 hcap hcap7
        rw [hgd] at cz4
        exact aw_lo (ih (pS bf n s) h7 s7 p7 f7 cap7 _ _ a s1 g (hrs.trans (congrArg (rF bf n) hrl)) (by omega) hadv.2 c7 wv1 (by omega) er7 hp7 hP7 bc7 gs7 (hglo.k ((fr7 g (GLO.s gs7) (GLO.ne hglo er5)).trans (FF g (GLO.lt hglo hD5) (GLO.ne hglo er5)))) (by omega) cz1 (by omega) hr1 hs01 (fun q hq => (fr7 q (by omega) (by omega)).trans ((FF q (by omega) (by omega)).trans (F5 q hq))) (by omega) (by omega) (by omega)) ⟨rfl, rfl, trivial⟩
      have hd9 : decide (wL bf n (s).1 = wLay) = true := hiw9.symm.trans hw1
      rw [if_pos hd9] at erB
      refine aw_top (show _ = nI 1 from by rw [if_pos hd9]) ?_
      have hLe : rn (isLt bf n) n (s).1 - (s).1 = (wLay).length := by rw [← wL_len, of_decide_eq_true hd9]
      have hLe3 : rn (isLt bf n) n s.1 - s.1 = 3 := hLe
      refine aw_if_eq C (tgt := 149) dX7_read_138 (by decide) (fun g => absurd g (by decide)) (fun _ => ?_)
      have hrl : rL bf n (f + 1) s = rL bf n f (lS bf n s) := by rw [rL, if_pos hw1]
      have FF : ∀ q, q < sz5 → q ≠ r → hB q = h5 q := fun q q1 q2 => (frB q q1 q2).trans (hset_n _ _ q2)
      have bcB := BC.f6 hD5 er5 FF hbc
      have gsB := GRS.f6 hD5 er5 FF hgs
      have hbB : RDF hB o n bf := RDF.fr (FF o (by omega) (by omega)) (FF (o + 31) (by omega) (by omega)) hb5
      have hEe := (isW_en hw1).1
      have hgb := gs_le (M := s.2.1 3) h8
      generalize hgd : (if s.2.1 3 = cap then capN cap (s.2.1 3) else 0) = gq at hgb
      have hnE := en_le (bf := bf) hsn
      have hA1n := rn_le (P := isLt bf n) (n := n) (fun _ => isLt_lt) (p := (tA1 bf n (rn (isSp bf n) n (s.1 + wLay.length)) s).1) (tA1_n (by omega) (rn_le (P := isSp bf n) (n := n) (fun _ => isSp_lt) (by omega)).2)
      refine aw_aload_n C rfl rfl dX7_read_141 ?_
      refine aw_aload_n C rfl rfl dX7_read_142 ?_
      refine ay_callV C ck6 (rd_lay hG l hS hZ hU hI hbB erB (by omega) rfl hs5 (isW_en hw1).2 bcB gsB hr0 (by omega) hr1 (by omega) hw5 (by omega) (by omega) (gs := gq) (fun z => by rw [← hgd, if_pos z]; exact Nat.le_refl _) hB9) q1431 q1433 qs31 q122 q1434 erB (n9 := 1) (by decide +kernel) rfl (Nat.le_of_ble_eq_true rfl) (Nat.le_of_ble_eq_true rfl) (by dsimp only; omega) (by dsimp only; omega) rfl (Nat.le_of_ble_eq_true rfl) dX7_read_143 (fun q9 h9 s9 hp9 => ay_out C (by omega) (by omega) (YQ.up (rS_8 (t := lS bf n s) (f := f) (hrs.trans (congrArg (rF bf n) hrl)) hp9.1) (by omega) (fun j hj => (FF j (by omega) (by omega)).trans (F5 j hj)) hp9)) (fun v9 h7 s7 hp7 => ?_)
      obtain ⟨rfl, c7, le7, fr7, ⟨f7, p7, er7, hp7, hP7⟩, gs7, cap7, hcap7, bc7⟩ := hp7
      refine aw_goto C (tgt := 124) dX7_read_146 (by decide) ?_
      have hLo := l_ok hs5 (isW_en hw1).2 hwb0 hw5.w.2.2.2.1 hn5 c7
      have hadv := lS_gt hlt9 c7
      obtain ⟨wv1, wv2⟩ := (lS_ok hw5 (by omega) c7)
      obtain ⟨cz1, cz2, cz3, cz4⟩ := cap_n h8 hcap hcap7
      rw [hgd] at cz4
      exact aw_lo (ih (lS bf n s) h7 s7 p7 f7 cap7 _ _ a s1 g (hrs.trans (congrArg (rF bf n) hrl)) (by omega) hadv.2 c7 wv1 (by omega) er7 hp7 hP7 bc7 gs7 (hglo.k ((fr7 g (GLO.s gs7) (GLO.ne hglo er5)).trans (FF g (GLO.lt hglo hD5) (GLO.ne hglo er5)))) (by omega) cz1 (by omega) hr1 hs01 (fun q hq => (fr7 q (by omega) (by omega)).trans ((FF q (by omega) (by omega)).trans (F5 q hq))) (by omega) (by omega) (by omega)) ⟨rfl, rfl, trivial⟩
