/-! the parts of a board as a list -/
theorem low_rch {b : BT} {S left : Nat} (hN : b 0 ≤ 9) (hS : S < 512) (hR : Rcl b S left) (h0 : 0 < left) (h5 : left < 512) : low (rch b (low left) S) = low left := by
  obtain ⟨l1, l2, l3⟩ := low_bit left h5 h0
  have hp : rch b (low left) S < 512 := rch_lt l2 hS
  have h1 := rch_self b (low left) S
  have hp0 : 0 < rch b (low left) S := by
    rcases Nat.eq_zero_or_pos (rch b (low left) S) with e | e
    · rw [e] at h1
      simp at h1
    · exact e
  obtain ⟨p1, p2, p3⟩ := low_bit _ hp hp0
  rcases Nat.lt_trichotomy (low (rch b (low left) S)) (low left) with q | q | q
  · have := l3 _ q
    rw [rcl_rch hR l1 p1] at this
    cases this
  · exact q
  · rw [p3 _ q] at h1
    cases h1
/-- a part's fields -/
def ptF (b : BT) (p : Nat) : List Value := [.int (nI p), .int (nI (b (31 + low p)) - nI 1)]
/-- a list of a board's parts, first ones of them -/
def LPT (h : AH) (li : Nat) (b : BT) (L : List Nat) (m cap el : Nat) (mo : Int32) (f : Nat → Option Nat) : Prop := h li = some (.inr (12, [.int mo, .ref el, .int (nI m)])) ∧ h el = some (rfs 4 cap f) ∧ CN f m ∧ m ≤ cap ∧ (cap = 4 ∨ cap = 6 ∨ cap = 9) ∧ ∀ k, k < m → ∃ z, f k = some z ∧ h z = some (.inr (9, ptF b (L.getD k 0)))
theorem LPT.el {h : AH} {li : Nat} {b : BT} {L : List Nat} {m cap el : Nat} {mo : Int32} {f : Nat → Option Nat} (g : LPT h li b L m cap el mo f) : EL h 9 m f := fun i hi z hz => by
  obtain ⟨-, -, -, -, -, g1⟩ := g
  obtain ⟨z', e1, e2⟩ := g1 i hi
  rw [e1] at hz
  cases hz
  exact ⟨_, e2⟩
theorem cas9 : Cond.castable "ColourDuel$Part" "java/lang/Object" ∈ lw_tbl := q2270
set_option maxRecDepth 100000 in
theorem bo_parts {γ : Gm} (hG : GF γ) (l : Launch) {h : AH} {sz : Nat} {mi : Nat} (hB : GBO γ mi) {b : BT} {a gr : Nat} (hb : BRD h a gr b) (hW : WB b) (hY : SY b) (hD : Dm h sz) : MX γ l yX3_parts cX3_parts 4 (some (.object "java/util/List")) 18 401 20 106 [.ref a] h sz (fun v h' sz' => v = some (.ref sz) ∧ sz ≤ sz' ∧ sz' ≤ sz + 20 ∧ (∀ q, q < sz → h' q = h q) ∧ ∃ cap el mo f, LPT h' sz b (pts b (freeS b) (freeS b)) (pts b (freeS b) (freeS b)).length cap el mo f) NX := by
  refine mx_start hG (by decide) (Nat.le_of_ble_eq_true rfl) (fun x C => ?_)
  obtain ⟨ca, ba, v3, v4, fc, fb, eb, eca, eba, hg, hfc, hfb⟩ := id hb
  obtain ⟨gl, gn, fl, fn, eg, egl, egn, hgl, hgn⟩ := id hg
  have hN := hW.2.1
  have hF := freeS_lt (b := b) hN
  have lea := hD.lt eb
  have leg := hD.lt eg
  have lba := hD.lt eba
  have hnp := npts_le (b := b) hF
  have hnp2 : (pts b (freeS b) (freeS b)).length ≤ 9 := hnp
  have key : ∀ j left m h2 s2 el cap mo f, left + 1 ≤ j → left < 512 → Rcl b (freeS b) left → (pts b (freeS b) (freeS b)).drop m = pts b (freeS b) left → m ≤ (pts b (freeS b) (freeS b)).length → (∀ q, q < sz → h2 q = h q) → LPT h2 sz b (pts b (freeS b) (freeS b)) m cap el mo f → sz + 2 ≤ s2 → s2 ≤ sz + 2 + 2 * m → sz ≤ el → AW γ l x (QX γ x 20 106 (fun v h' sz' => v = some (.ref sz) ∧ sz ≤ sz' ∧ sz' ≤ sz + 20 ∧ (∀ q, q < sz → h' q = h q) ∧ ∃ cap el mo f, LPT h' sz b (pts b (freeS b) (freeS b)) (pts b (freeS b) (freeS b)).length cap el mo f) NX) 4 h2 s2 (2 + 2 * m) (7 + 11 * m) 14 [(0, .ref a), (1, .ref sz), (2, .int (nI left))] [] := by
    intro j
    induction j with
    | zero => intro left m h2 s2 el cap mo f h1 h3 hR h4 hm fr2 hp hs1 hs2 hel0; exact absurd h1 (by omega)
    | succ j ih =>
      intro left m h2 s2 el cap mo f h1 h3 hR h4 hm fr2 hp hs1 hs2 hel0
      refine aw_iload_n C rfl rfl dX3_parts_14 ?_
      refine aw_ifN_eq C (tgt := 63) (by omega) dX3_parts_15 (by decide) (fun g15 => ?_) (fun g15 => ?_)
      · refine aw_aload_n C rfl rfl dX3_parts_63 ?_
        have e0 : m = (pts b (freeS b) (freeS b)).length := by
          have g0 : left = 0 := by omega
          rw [g0] at h4
          rcases Nat.lt_or_ge m (pts b (freeS b) (freeS b)).length with q | q
          · rw [List.drop_eq_getElem_cons q] at h4
            cases h4
          · omega
        exact aw_aret C rfl (Or.inl ⟨_, rfl⟩) (Or.inr ⟨_, rfl⟩) dX3_parts_64 (by omega) (by omega) ⟨rfl, by omega, by omega, fr2, cap, el, mo, f, by rw [← e0]; exact hp⟩
      · have h0 : 0 < left := by omega
        obtain ⟨hl1, hl2, hl3⟩ := low_bit left h3 h0
        have hq := nd_rest hR hN (freeS_lt2 b) h0 h3
        have hd9 := nd_lt_of hl1 (rch_self b (low left) (freeS b))
        have hR2 := rcl_nd hR hY (freeS_lt2 b) hN hl1
        have hlow := low_rch hN hF hR h0 h3
        have hr9 : rch b (low left) (freeS b) < 512 := rch_lt hl2 hF
        have hfrl : fr b (low left) = true := fr_of (hR.1 _ hl1)
        rw [pts_s b (freeS b) h0 h3] at h4
        obtain ⟨hm1, hm2, hm3⟩ := pdrop h4
        refine aw_dom (fun hD2 => ?_)
        have hel : el < s2 := hD2.lt hp.2.1
        have hcp := hp.2.2.2.2.1
        have hmc := hp.2.2.2.1
        have hne0 : sz ≠ el := rfs_obj hp.1 hp.2.1
        have hgs : m = cap → nwL cap (m + 1 - cap) (cap >>> 1) ≤ 9 := fun e => by
          rcases hp.2.2.2.2.1 with z | z | z
          · rw [e, z]; decide
          · rw [e, z]; decide
          · omega
        refine aw_new C ck9 (fs := [.int 0, .int 0]) q1063 q1064 q129 (by decide) (by dsimp only; omega) (by dsimp only; omega) dX3_parts_18 ?_
        refine aw_dup C rfl dX3_parts_21 ?_
        refine aw_aload_n C rfl rfl dX3_parts_22 ?_
        refine aw_getf C ck2 0 (by decide) q609 (fun _ z => z) ((hset_n _ _ (by omega)).trans ((fr2 a (by omega)).trans eb)) rfl dX3_parts_23 ?_
        refine aw_iload_n C rfl rfl dX3_parts_26 ?_
        refine aw_callVRR C ck3 (bd_firstPart hG l ((GRP.fr hD fr2 hg).le (HLE.push hD2 _)) hN h3 h0) q1065 q714 q715 q98 q716 (Or.inl ((hset_n _ _ (by omega)).trans ((fr2 gr (by omega)).trans eg))) (n9 := 1) (by decide +kernel) rfl (Nat.le_of_ble_eq_true rfl) (Nat.le_of_ble_eq_true rfl) (by dsimp only; omega) (by dsimp only; omega) rfl (Nat.le_of_ble_eq_true rfl) dX3_parts_27 ?_
        rw [hq]
        refine aw_aload_n C rfl rfl dX3_parts_30 ?_
        refine aw_getf C ck2 2 (by decide) q616 (fun _ z => z) ((hset_n _ _ (by omega)).trans ((fr2 a (by omega)).trans eb)) rfl dX3_parts_31 ?_
        refine aw_iload_n C rfl rfl dX3_parts_34 ?_
        refine aw_callSRR C (cp_ntz hG l h3 h0) q1066 q726 q118 q727 (n9 := 1) (by decide +kernel) rfl (Nat.le_of_ble_eq_true rfl) (Nat.le_of_ble_eq_true rfl) (by dsimp only; omega) (by dsimp only; omega) rfl (Nat.le_of_ble_eq_true rfl) dX3_parts_35 ?_
        refine aw_ialdN C ((hset_n _ _ (by omega)).trans ((fr2 ba (by omega)).trans eba)) (by omega) (by decide) dX3_parts_38 ?_
        refine aw_top (hfb _ hl2 hfrl) ?_
        refine aw_callIPN C (pt_init hG l (hset_s _ _ _)) q1067 q1068 q129 q1069 rfl (n9 := 2) (by decide +kernel) rfl (Nat.le_of_ble_eq_true rfl) (Nat.le_of_ble_eq_true rfl) (by dsimp only; omega) (by dsimp only; omega) rfl (Nat.le_of_ble_eq_true rfl) dX3_parts_39 ?_
        rw [hset_hset]
        refine aw_astore_n C rfl (by decide) rfl dX3_parts_42 ?_
        refine aw_aload_n C rfl rfl dX3_parts_43 ?_
        refine aw_aload_n C rfl rfl dX3_parts_44 ?_
        refine aw_callF C ck12 (al_add hG l hB.1 ck9 cas9 ((hset_n _ _ (by omega)).trans hp.1) ((hset_n _ _ (by omega)).trans hp.2.1) (by omega) (by omega) (hD2.push _) hp.2.2.1 hp.2.2.2.1 (by omega) (by omega) (hp.el.push hD2 _) (hset_s _ _ _) (by decide) (ms := 9) hgs) q1020 q1023 q1025 q102 q1027 hB.2.1.2.2.1 ((hset_n _ _ (by omega)).trans hp.1) (n9 := 1) (by decide +kernel) rfl (Nat.le_of_ble_eq_true rfl) (Nat.le_of_ble_eq_true rfl) (by dsimp only; omega) (by dsimp only; omega) rfl (Nat.le_of_ble_eq_true rfl) dX3_parts_45 (fun _ _ _ z => z.elim) (fun v9 h5 s5 hp5 => ?_)
        obtain ⟨rfl, el', cap', hcs, rfl⟩ := hp5
        have hne : el' ≠ s2 := by rcases hcs with ⟨q, -⟩ | ⟨q, -⟩ <;> omega
        have hez : sz ≤ el' := by rcases hcs with ⟨q, -⟩ | ⟨q, -⟩ <;> omega
        have hs5 : s2 + 1 ≤ s5 ∧ s5 ≤ s2 + 2 := by rcases hcs with ⟨-, -, q, -⟩ | ⟨-, -, q, -⟩ <;> omega
        have hel2 : sz ≠ el' := by rcases hcs with ⟨q, -⟩ | ⟨q, -⟩ <;> omega
        have hcap' : m + 1 ≤ cap' ∧ (cap' = 4 ∨ cap' = 6 ∨ cap' = 9) := by
          rcases hcs with ⟨-, q, -, q2⟩ | ⟨-, q, -, q2⟩
          · omega
          · rcases hcp with z | z | z
            · rw [q, q2, z]; decide
            · rw [q, q2, z]; decide
            · omega
        refine aw_top rfl ?_
        have e9 : (hset (hset (hset h2 s2 (.inr (9, [.int (nI (rch b (low left) (freeS b))), .int (nI (b (31 + low left)) - nI 1)]))) el' (rfs 4 cap' (va_up f m (some s2)))) sz (.inr (12, [.int (mo + nI 1), .ref el', .int (nI (m + 1))]))) s2 = some (.inr (9, [.int (nI (rch b (low left) (freeS b))), .int (nI (b (31 + low left)) - nI 1)])) := by rw [hset_n _ _ (by omega), hset_n _ _ hne.symm, hset_s]
        refine aw_pop C rfl dX3_parts_50 ?_
        refine aw_iload_n C rfl rfl dX3_parts_51 ?_
        refine aw_aload_n C rfl rfl dX3_parts_52 ?_
        refine aw_callVRR C ck9 (pt_set hG l (p := nI (rch b (low left) (freeS b))) (v := nI (b (31 + low left)) - nI 1) e9) q1078 q1079 q1080 q129 q1081 (Or.inl e9) (n9 := 0) (by decide +kernel) rfl (Nat.le_of_ble_eq_true rfl) (Nat.le_of_ble_eq_true rfl) (by dsimp only; omega) (by dsimp only; omega) rfl (Nat.le_of_ble_eq_true rfl) dX3_parts_53 ?_
        refine aw_iconst C (v := -1) (by decide) dX3_parts_56 ?_
        refine aw_ixor C dX3_parts_57 ?_
        refine aw_iandNot C dX3_parts_58 ?_
        refine aw_istore_n C rfl (by decide) rfl dX3_parts_59 ?_
        refine aw_goto C (tgt := 14) dX3_parts_60 (by decide) ?_
        refine aw_lo (aw_kn (ih (nd left (rch b (low left) (freeS b))) (m + 1) _ s5 el' cap' (mo + nI 1) (va_up f m (some s2)) (by omega) (by omega) hR2 hm3 (by omega) (fun q hq => ?_) ?_ (by omega) (by omega) hez) (by omega) (by omega)) ⟨rfl, rfl, rfl, trivial⟩
        · rw [hset_n _ _ (by omega), hset_n _ _ (by omega), hset_n _ _ (by omega)]
          exact fr2 q hq
        · refine ⟨hset_s _ _ _, by rw [hset_n _ _ hel2.symm, hset_s], hp.2.2.1.up, hcap'.1, hcap'.2, fun k hk => ?_⟩
          by_cases e : k = m
          · refine ⟨s2, by rw [e, va_up_self], ?_⟩
            rw [e9, e, hm2, ptF, hlow]
          · obtain ⟨z, z1, z2⟩ := hp.2.2.2.2.2 k (by omega)
            refine ⟨z, (va_up_ne _ _ e).trans z1, ?_⟩
            have lz := hD2.lt z2
            have nz : z ≠ el' := by
              rcases hcs with ⟨q, -⟩ | ⟨q, -⟩
              · rw [q]; exact ne9 z2 hp.2.1 (by intro y; cases y)
              · omega
            rw [hset_n _ _ (ne9 z2 hp.1 (by intro y; cases y)), hset_n _ _ nz, hset_n _ _ (by omega)]
            exact z2
  refine aw_new C ck12 (fs := [.int 0, .null, .int 0]) q263 q264 q102 (by decide) (by dsimp only; omega) (by dsimp only; omega) dX3_parts_0 ?_
  refine aw_dup C rfl dX3_parts_3 ?_
  refine aw_iconst C (v := nI 4) (by decide) dX3_parts_4 ?_
  refine aw_callIP C (al_init hG l hB.1.1 (m := 4) (by decide) (by decide) (by omega) (hset_s _ _ _)) q265 q266 q102 q267 rfl (n9 := 1) (by decide +kernel) rfl (Nat.le_of_ble_eq_true rfl) (Nat.le_of_ble_eq_true rfl) (by dsimp only; omega) (by dsimp only; omega) rfl (Nat.le_of_ble_eq_true rfl) dX3_parts_5 ?_
  refine aw_gh (fun h1 eh1 => ?_)
  have fr1 : ∀ q, q < sz → h1 q = h q := fun q hq => by
    rw [eh1, hset_n _ _ (by omega), hset_n _ _ (by omega), hset_n _ _ (by omega)]
  have f1 : h1 sz = some (.inr (12, [.int 0, .ref (sz + 1), .int (nI 0)])) := by rw [eh1, hset_s]; rfl
  have f2 : h1 (sz + 1) = some (rfs 4 4 (fun _ => none)) := by rw [eh1, hset_n _ _ (by omega), hset_s]
  clear eh1
  refine aw_astore_n C rfl (by decide) rfl dX3_parts_8 ?_
  refine aw_aload_n C rfl rfl dX3_parts_9 ?_
  refine aw_callVRR C ck2 (bd_free hG l (BRD.fr hD fr1 hb) hW) q837 q706 q707 q97 q708 (Or.inl ((fr1 a (by omega)).trans eb)) (n9 := 0) (by decide +kernel) rfl (Nat.le_of_ble_eq_true rfl) (Nat.le_of_ble_eq_true rfl) (by dsimp only; omega) (by dsimp only; omega) rfl (Nat.le_of_ble_eq_true rfl) dX3_parts_10 ?_
  refine aw_istore_n C rfl (by decide) rfl dX3_parts_13 ?_
  refine aw_lo (aw_kn (key (freeS b + 1) (freeS b) 0 h1 (sz + 2) (sz + 1) 4 0 (fun _ => none) (by omega) hF (rcl_self b _) rfl (Nat.zero_le _) fr1 ⟨f1, f2, fun _ _ => rfl, by decide, Or.inl rfl, fun k hk => absurd hk (Nat.not_lt_zero k)⟩ (Nat.le_refl _) (by omega) (by omega)) rfl rfl) ⟨rfl, rfl, rfl, trivial⟩
