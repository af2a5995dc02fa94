/-! constructors -/
theorem upd_bt {fb : Nat → Int32} {S v : Nat} (x : Nat) : upd fb S (nI x) S = nI x := pk_us
theorem hgrid_lt {h : AH} {sz q : Nat} (hq : q < sz) : hgrid h sz q = h q := by
  unfold hgrid
  rw [if_neg (by omega), if_neg (by omega)]
set_option maxRecDepth 100000 in
theorem j0_init {γ : Gm} (hG : GF γ) (l : Launch) {h : AH} {sz : Nat} {a : Nat} : MX γ l yJ0_init cJ0_init 1 none 1 12 0 0 [.ref a] h sz (PE none h sz) NX := by
  refine mx_start hG (by decide) (Nat.le_of_ble_eq_true rfl) (fun x C => ?_)
  refine aw_aload_n C rfl rfl dJ0_init_0 ?_
  refine aw_objInit C q274 q142 q143 (Nat.le_of_ble_eq_true rfl) (Nat.le_of_ble_eq_true rfl) dJ0_init_1 ?_
  exact aw_vret C rfl dJ0_init_4 (Nat.le_refl _) (Nat.le_refl _) ⟨rfl, rfl, rfl⟩
set_option maxRecDepth 100000 in
theorem dq_init {γ : Gm} (hG : GF γ) (l : Launch) {h : AH} {sz : Nat} (hO : AOK γ "java/lang/Object") {a : Nat} (ea : h a = some (.inr (15, [.null, .int 0, .int 0]))) (ha : a < sz) : MX γ l yJ18_init cJ18_init 1 none 2 32 1 17 [.ref a] h sz (PE none (hset (hset h sz (rfs 4 17 (fun _ => none))) a (.inr (15, [.ref sz, .int 0, .int 0]))) (sz + 1)) NX := by
  refine mx_start hG (by decide) (Nat.le_of_ble_eq_true rfl) (fun x C => ?_)
  refine aw_aload_n C rfl rfl dJ18_init_0 ?_
  refine aw_callIP C (j0_init hG l) q649 q272 q100 q273 rfl (n9 := 0) (by decide +kernel) rfl (Nat.le_of_ble_eq_true rfl) (Nat.le_of_ble_eq_true rfl) (Nat.zero_le _) (Nat.zero_le _) rfl (Nat.le_of_ble_eq_true rfl) dJ18_init_1 ?_
  refine aw_aload_n C rfl rfl dJ18_init_4 ?_
  refine aw_bipush C (v := nI 17) (by decide) dJ18_init_5 ?_
  refine aw_newq C (t := 4) (by decide) rfl hO q650 (by decide) (by dsimp only; omega) (by dsimp only; omega) dJ18_init_7 ?_
  refine aw_putf C ck15 0 (by decide) q651 (fun _ z => z) rfl rfl (ty := .array (.object "java/lang/Object")) rfl rfl ((hset_n _ _ (by omega)).trans ea) (show 0 < 3 by decide) dJ18_init_10 ?_
  exact aw_vret C rfl dJ18_init_13 (by omega) (by omega) ⟨rfl, rfl, rfl⟩
set_option maxRecDepth 100000 in
theorem co_plain {γ : Gm} (hG : GF γ) (l : Launch) {h : AH} {sz : Nat}  : MX γ l yX1_plain cX1_plain 1 (some (.object "ColourDuel$Graph")) 2 33 3 23 [] h sz (fun v9 h' sz' => v9 = some (.ref sz) ∧ sz' = sz + 3 ∧ (∀ q, q < sz → h' q = h q) ∧ h' sz = some (.inr (3, [.int (nI 1), .ref (sz + 1), .ref (sz + 2), .int (nI 1), .int 0])) ∧ (∃ fl : Nat → Int32, h' (sz + 1) = some (.inl (0, 9, .inl fl)) ∧ (fl 0 = nI 1 ∧ ∀ v, v ≠ 0 → fl v = 0)) ∧ h' (sz + 2) = some (.inl (0, 9, .inl (fun _ => 0)))) NX := by
  refine mx_start hG (by decide) (Nat.le_of_ble_eq_true rfl) (fun x C => ?_)
  refine aw_new C ck3 (fs := [.int 0, .null, .null, .int 0, .int 0]) q191 q192 q98 (by decide) (by dsimp only; omega) (by dsimp only; omega) dX1_plain_0 ?_
  refine aw_dup C rfl dX1_plain_3 ?_
  refine aw_iconst C (v := nI 1) (by decide) dX1_plain_4 ?_
  refine aw_callIP C (gr_init hG l (c := 1) (hset_s _ _ _) (Nat.lt_succ_self sz)) q193 q194 q98 q195 rfl (n9 := 1) (by decide +kernel) rfl (Nat.le_of_ble_eq_true rfl) (Nat.le_of_ble_eq_true rfl) (by dsimp only; omega) (by dsimp only; omega) rfl (Nat.le_of_ble_eq_true rfl) dX1_plain_5 ?_
  refine aw_astore_n C rfl (by decide) rfl dX1_plain_8 ?_
  refine aw_aload_n C rfl rfl dX1_plain_9 ?_
  refine aw_getfN C ck3 1 (by decide) q206 (fun _ z => z) (hset_s _ _ _) rfl dX1_plain_10 ?_
  refine aw_iconst C (v := nI 0) (by decide) dX1_plain_13 ?_
  refine aw_iconst C (v := nI 1) (by decide) dX1_plain_14 ?_
  refine aw_iastN C ((hset_n _ _ (by omega)).trans ((hset_n _ _ (by omega)).trans (hset_s _ _ _))) (by decide) (by decide) dX1_plain_15 ?_
  refine aw_aload_n C rfl rfl dX1_plain_16 ?_
  refine aw_iconst C (v := nI 1) (by decide) dX1_plain_17 ?_
  refine aw_putfN C ck3 3 (by decide) q217 (fun _ z => z) rfl rfl (ty := .int) rfl rfl ((hset_n _ _ (by omega)).trans (hset_s _ _ _)) (show 3 < 5 by decide) dX1_plain_18 ?_
  refine aw_aload_n C rfl rfl dX1_plain_21 ?_
  refine aw_aret C rfl (Or.inl ⟨_, rfl⟩) (Or.inr ⟨_, rfl⟩) dX1_plain_22 (by omega) (by omega) ?_
  refine ⟨rfl, rfl, fun q hq => ?_, hset_s _ _ _, ⟨upd (fun _ => 0) 0 (nI 1), ?_, pk_us, fun v hv => pk_un hv⟩, ?_⟩
  · rw [hset_n _ _ (by omega), hset_n _ _ (by omega), hset_n _ _ (by omega), hset_n _ _ (by omega), hset_n _ _ (by omega), hset_n _ _ (by omega)]
  · rw [hset_n _ _ (by omega)]; exact hset_s _ _ _
  · rw [hset_n _ _ (by omega), hset_n _ _ (by omega), hset_n _ _ (by omega)]; exact hset_s _ _ _
set_option maxRecDepth 100000 in
theorem se_init {γ : Gm} (hG : GF γ) (l : Launch) {h : AH} {sz : Nat} (hAO : ∀ U, γ.X U → (Cond.arrayOver (.array .int)).before #[] U = true) {p o : Nat} (ep : h p = some (.inr (1, [.null, .null, .null, .null, .null, .null, .int 0, .int 0, .null]))) (hp : p < sz) : MX γ l yX2_init cX2_init 4 none 1 21 15 197220 [.ref p, .ref o] h sz (fun v9 h' sz' => v9 = none ∧ sz' = sz + 15 ∧ (∀ q, q < sz → q ≠ p → h' q = h q) ∧ h' p = some (.inr (1, [.ref sz, .ref (sz + 1), .ref (sz + 2), .ref (sz + 3), .ref (sz + 3 + 11), .null, .int 0, .int 0, .ref o])) ∧ h' sz = some (.inl (2, 65536, .inr (.inl (fun _ => 0)))) ∧ h' (sz + 1) = some (.inl (0, 65536, .inl (fun _ => 0))) ∧ h' (sz + 2) = some (.inl (0, 65536, .inl (fun _ => 0))) ∧ h' (sz + 3) = some (rfs 5 10 (fun j => if j < 10 then some (sz + 3 + 1 + j) else none)) ∧ (∀ d, d < 10 → h' (sz + 3 + 1 + d) = some (.inl (0, 9, .inl (fun _ => 0)))) ∧ ∃ fb : Nat → Int32, h' (sz + 3 + 11) = some (.inl (0, 512, .inl fb)) ∧ ∀ S, S < 512 → fb S = nI (btB S)) NX := by
  refine mx_start hG (by decide) (Nat.le_of_ble_eq_true rfl) (fun x C => ?_)
  refine aw_aload_n C rfl rfl dX2_init_0 ?_
  refine aw_aload_n C rfl rfl dX2_init_1 ?_
  refine aw_putfF C ck1 8 (by decide) q164 (fun _ z => z) rfl rfl rfl (ty := (.object "ColourDuel")) rfl rfl rfl ep (show 8 < 9 by decide) dX2_init_2 ?_
  refine aw_aload_n C rfl rfl dX2_init_5 ?_
  refine aw_objInit C q149 q142 q143 (Nat.le_of_ble_eq_true rfl) (Nat.le_of_ble_eq_true rfl) dX2_init_6 ?_
  refine aw_aload_n C rfl rfl dX2_init_9 ?_
  refine aw_ldc C q150 dX2_init_10 ?_
  refine aw_top ((show (65536 : Int32) = nI 65536 from rfl)) ?_
  refine aw_newJ C q184 (by decide) (by dsimp only; omega) (by dsimp only; omega) dX2_init_12 ?_
  refine aw_putfF C ck1 0 (by decide) q156 (fun _ z => z) rfl rfl rfl (ty := (.array .long)) rfl rfl rfl ((hset_n _ _ (by omega)).trans (hset_s _ _ _)) (show 0 < 9 by decide) dX2_init_14 ?_
  refine aw_aload_n C rfl rfl dX2_init_17 ?_
  refine aw_ldc C q150 dX2_init_18 ?_
  refine aw_top ((show (65536 : Int32) = nI 65536 from rfl)) ?_
  refine aw_newI C q185 (by decide) (by dsimp only; omega) (by dsimp only; omega) dX2_init_20 ?_
  refine aw_putfF C ck1 1 (by decide) q157 (fun _ z => z) rfl rfl rfl (ty := (.array .int)) rfl rfl rfl ((hset_n _ _ (by omega)).trans (hset_s _ _ _)) (show 1 < 9 by decide) dX2_init_22 ?_
  refine aw_aload_n C rfl rfl dX2_init_25 ?_
  refine aw_ldc C q150 dX2_init_26 ?_
  refine aw_top ((show (65536 : Int32) = nI 65536 from rfl)) ?_
  refine aw_newI C q185 (by decide) (by dsimp only; omega) (by dsimp only; omega) dX2_init_28 ?_
  refine aw_putfF C ck1 2 (by decide) q158 (fun _ z => z) rfl rfl rfl (ty := (.array .int)) rfl rfl rfl ((hset_n _ _ (by omega)).trans (hset_s _ _ _)) (show 2 < 9 by decide) dX2_init_30 ?_
  refine aw_aload_n C rfl rfl dX2_init_33 ?_
  refine aw_bipush C (v := nI 10) (by decide) dX2_init_34 ?_
  refine aw_bipush C (v := nI 9) (by decide) dX2_init_36 ?_
  refine aw_mnew C hAO q151 q185 (by dsimp only; omega) (by dsimp only; omega) dX2_init_38 ?_
  refine aw_putfF C ck1 3 (by decide) q159 (fun _ z => z) rfl rfl rfl (ty := (.array (.array .int))) rfl rfl rfl ((hgrid_lt (by omega)).trans (hset_s _ _ _)) (show 3 < 9 by decide) dX2_init_42 ?_
  refine aw_aload_n C rfl rfl dX2_init_45 ?_
  refine aw_sipush C (v := nI 512) (by decide) dX2_init_46 ?_
  refine aw_newI C q185 (by decide) (by dsimp only; omega) (by dsimp only; omega) dX2_init_49 ?_
  refine aw_putfF C ck1 4 (by decide) q160 (fun _ z => z) rfl rfl rfl (ty := (.array .int)) rfl rfl rfl ((hset_n _ _ (by omega)).trans (hset_s _ _ _)) (show 4 < 9 by decide) dX2_init_51 ?_
  refine aw_gh (fun h5 eh5 => ?_)
  obtain ⟨h4, hh4, f4, ep4, e40, e41, e42, e43, e44⟩ : ∃ h4 : AH, h5 = hset h4 (sz + 3 + 11) (.inl (0, 512, .inl (fun _ => 0))) ∧ (∀ q, q < sz → q ≠ p → h4 q = h q) ∧ h4 p = some (.inr (1, [.ref sz, .ref (sz + 1), .ref (sz + 2), .ref (sz + 3), .ref (sz + 3 + 11), .null, .int 0, .int 0, .ref o])) ∧ h4 sz = some (.inl (2, 65536, .inr (.inl (fun _ => 0)))) ∧ h4 (sz + 1) = some (.inl (0, 65536, .inl (fun _ => 0))) ∧ h4 (sz + 2) = some (.inl (0, 65536, .inl (fun _ => 0))) ∧ h4 (sz + 3) = some (rfs 5 10 (fun j => if j < 10 then some (sz + 3 + 1 + j) else none)) ∧ ∀ d, d < 10 → h4 (sz + 3 + 1 + d) = some (.inl (0, 9, .inl (fun _ => 0))) := by
    refine ⟨h5, ?_, fun q hq q1 => ?_, ?_, ?_, ?_, ?_, ?_, fun d hd => ?_⟩
    · refine (hset_self ?_).symm
      rw [eh5, hset_n _ _ (by omega)]; exact hset_s _ _ _
    · rw [eh5, hset_n _ _ q1, hset_n _ _ (by omega), hset_n _ _ q1, hgrid_lt (by omega), hset_n _ _ q1, hset_n _ _ (by omega), hset_n _ _ q1, hset_n _ _ (by omega), hset_n _ _ q1, hset_n _ _ (by omega), hset_n _ _ q1]
    · rw [eh5]; exact hset_s _ _ _
    · rw [eh5, hset_n _ _ (by omega), hset_n _ _ (by omega), hset_n _ _ (by omega), hgrid_lt (by omega), hset_n _ _ (by omega), hset_n _ _ (by omega), hset_n _ _ (by omega), hset_n _ _ (by omega), hset_n _ _ (by omega)]; exact hset_s _ _ _
    · rw [eh5, hset_n _ _ (by omega), hset_n _ _ (by omega), hset_n _ _ (by omega), hgrid_lt (by omega), hset_n _ _ (by omega), hset_n _ _ (by omega), hset_n _ _ (by omega)]; exact hset_s _ _ _
    · rw [eh5, hset_n _ _ (by omega), hset_n _ _ (by omega), hset_n _ _ (by omega), hgrid_lt (by omega), hset_n _ _ (by omega)]; exact hset_s _ _ _
    · rw [eh5, hset_n _ _ (by omega), hset_n _ _ (by omega), hset_n _ _ (by omega)]
      unfold hgrid
      rw [if_pos rfl]
    · rw [eh5, hset_n _ _ (by omega), hset_n _ _ (by omega), hset_n _ _ (by omega)]
      unfold hgrid
      rw [if_neg (by omega), if_pos ⟨by omega, by omega⟩]
  rw [hh4]
  clear eh5 hh4
  refine aw_iconst C (v := nI 0) (by decide) dX2_init_54 ?_
  refine aw_istore_n C rfl (by decide) rfl dX2_init_55 ?_
  have key : ∀ j S0 fb, S0 ≤ 512 → 513 ≤ S0 + j → (∀ S, S < S0 → fb S = nI (btB S)) → (∀ S, S0 ≤ S → fb S = 0) → AW γ l x (QX γ x 15 197220 (fun v9 h' sz' => v9 = none ∧ sz' = sz + 15 ∧ (∀ q, q < sz → q ≠ p → h' q = h q) ∧ h' p = some (.inr (1, [.ref sz, .ref (sz + 1), .ref (sz + 2), .ref (sz + 3), .ref (sz + 3 + 11), .null, .int 0, .int 0, .ref o])) ∧ h' sz = some (.inl (2, 65536, .inr (.inl (fun _ => 0)))) ∧ h' (sz + 1) = some (.inl (0, 65536, .inl (fun _ => 0))) ∧ h' (sz + 2) = some (.inl (0, 65536, .inl (fun _ => 0))) ∧ h' (sz + 3) = some (rfs 5 10 (fun j => if j < 10 then some (sz + 3 + 1 + j) else none)) ∧ (∀ d, d < 10 → h' (sz + 3 + 1 + d) = some (.inl (0, 9, .inl (fun _ => 0)))) ∧ ∃ fb : Nat → Int32, h' (sz + 3 + 11) = some (.inl (0, 512, .inl fb)) ∧ ∀ S, S < 512 → fb S = nI (btB S)) NX) 4 (hset h4 (sz + 3 + 11) (.inl (0, 512, .inl fb))) (sz + 15) 15 197220 56 [(0, .ref p), (2, .int (nI S0))] [] := by
    intro j
    induction j with
    | zero => intro S0 fb h1 h2 hlo hhi; exact absurd h2 (by omega)
    | succ j ih =>
      intro S0 fb h1 h2 hlo hhi
      have ep5 := (hset_n h4 (.inl (0, 512, .inl fb)) (show p ≠ sz + 3 + 11 by omega)).trans ep4
      refine aw_iload_n C rfl rfl dX2_init_56 ?_
      refine aw_aload_n C rfl rfl dX2_init_57 ?_
      refine aw_getf C ck1 4 (by decide) q160 (fun _ z => z) ep5 rfl dX2_init_58 ?_
      refine aw_alen C (t := 0) (by decide) (hset_s _ _ _) dX2_init_61 ?_
      refine aw_icmpN_ge C (tgt := 112) (by omega) (by omega) dX2_init_62 (by decide) (fun g62 => ?_) (fun g62 => ?_)
      · refine aw_vret C rfl dX2_init_112 (by omega) (by omega) ?_
        refine ⟨rfl, rfl, fun q hq q1 => (hset_n _ _ (by omega)).trans (f4 q hq q1), ep5, (hset_n _ _ (by omega)).trans e40, (hset_n _ _ (by omega)).trans e41, (hset_n _ _ (by omega)).trans e42, (hset_n _ _ (by omega)).trans e43, fun d hd => (hset_n _ _ (by omega)).trans (e44 d hd), fb, hset_s _ _ _, fun S hS => hlo S (by omega)⟩
      · refine aw_iconst C (v := nI 0) (by decide) dX2_init_65 ?_
        refine aw_istore_n C rfl (by decide) rfl dX2_init_66 ?_
        have key2 : ∀ j2 v fb, v ≤ 9 → 10 ≤ v + j2 → (∀ S, S < S0 → fb S = nI (btB S)) → fb S0 = nI (btF S0 v) → (∀ S, S0 < S → fb S = 0) → AW γ l x (QX γ x 15 197220 (fun v9 h' sz' => v9 = none ∧ sz' = sz + 15 ∧ (∀ q, q < sz → q ≠ p → h' q = h q) ∧ h' p = some (.inr (1, [.ref sz, .ref (sz + 1), .ref (sz + 2), .ref (sz + 3), .ref (sz + 3 + 11), .null, .int 0, .int 0, .ref o])) ∧ h' sz = some (.inl (2, 65536, .inr (.inl (fun _ => 0)))) ∧ h' (sz + 1) = some (.inl (0, 65536, .inl (fun _ => 0))) ∧ h' (sz + 2) = some (.inl (0, 65536, .inl (fun _ => 0))) ∧ h' (sz + 3) = some (rfs 5 10 (fun j => if j < 10 then some (sz + 3 + 1 + j) else none)) ∧ (∀ d, d < 10 → h' (sz + 3 + 1 + d) = some (.inl (0, 9, .inl (fun _ => 0)))) ∧ ∃ fb : Nat → Int32, h' (sz + 3 + 11) = some (.inl (0, 512, .inl fb)) ∧ ∀ S, S < 512 → fb S = nI (btB S)) NX) 4 (hset h4 (sz + 3 + 11) (.inl (0, 512, .inl fb))) (sz + 15) 15 197220 67 [(0, .ref p), (2, .int (nI S0)), (3, .int (nI v))] [] := by
          intro j2
          induction j2 with
          | zero => intro v fb h5 h6 hlo2 hcur hhi2; exact absurd h6 (by omega)
          | succ j2 ih2 =>
            intro v fb h5 h6 hlo2 hcur hhi2
            have ep5 := (hset_n h4 (.inl (0, 512, .inl fb)) (show p ≠ sz + 3 + 11 by omega)).trans ep4
            refine aw_iload_n C rfl rfl dX2_init_67 ?_
            refine aw_bipush C (v := nI 9) (by decide) dX2_init_68 ?_
            refine aw_icmpN_ge C (tgt := 106) (by omega) (by omega) dX2_init_70 (by decide) (fun g70 => ?_) (fun g70 => ?_)
            · refine aw_iinc1 C rfl (by decide) rfl dX2_init_106 ?_
              refine aw_goto C (tgt := 56) dX2_init_109 (by decide) ?_
              exact aw_lo (ih (S0 + 1) fb (by omega) (by omega) (fun S hS => by
                by_cases e : S = S0
                · rw [e, hcur, show v = 9 by omega]; rfl
                · exact hlo2 S (by omega)) (fun S hS => hhi2 S (by omega))) ⟨rfl, rfl, trivial⟩
            · refine aw_aload_n C rfl rfl dX2_init_73 ?_
              refine aw_getf C ck1 4 (by decide) q160 (fun _ z => z) ep5 rfl dX2_init_74 ?_
              refine aw_iload_n C rfl rfl dX2_init_77 ?_
              refine aw_dup2 C rfl rfl dX2_init_78 ?_
              refine aw_ialdN C (hset_s _ _ _) (by omega) (by decide) dX2_init_79 ?_
              refine aw_top (hcur) ?_
              refine aw_iload_n C rfl rfl dX2_init_80 ?_
              refine aw_iload_n C rfl rfl dX2_init_81 ?_
              refine aw_callSNR C (cp_has hG l (by omega) (by omega)) q153 q154 q95 q155 (n9 := 2) (by decide +kernel) rfl (Nat.le_of_ble_eq_true rfl) (Nat.le_of_ble_eq_true rfl) (by dsimp only; omega) (by dsimp only; omega) rfl (Nat.le_of_ble_eq_true rfl) dX2_init_82 ?_
              refine aw_bit_eq0 C (tgt := 97) dX2_init_85 (by decide) (fun g85 => ?_) (fun g85 => ?_)
              · refine aw_iconst C (v := nI 0) (by decide) dX2_init_97 ?_
                refine aw_iorN C dX2_init_98 ?_
                refine aw_iastN C (hset_s _ _ _) (by omega) (by decide) dX2_init_99 ?_
                rw [hset_hset]
                refine aw_iinc1 C rfl (by decide) rfl dX2_init_100 ?_
                refine aw_goto C (tgt := 67) dX2_init_103 (by decide) ?_
                refine aw_lo (ih2 (v + 1) _ (by omega) (by omega) (fun S hS => (pk_un (by omega)).trans (hlo2 S hS)) ?_ (fun S hS => (pk_un (by omega)).trans (hhi2 S hS))) ⟨rfl, rfl, rfl, trivial⟩
                rw [pk_us, btF]
                first
                  | rw [if_pos g85]
                  | rw [if_neg (by rw [g85]; decide)]
              · refine aw_bipush C (v := nI 7) (by decide) dX2_init_88 ?_
                refine aw_iconst C (v := nI 3) (by decide) dX2_init_90 ?_
                refine aw_iload_n C rfl rfl dX2_init_91 ?_
                refine aw_imulN C dX2_init_92 ?_
                refine aw_ishlN C (by omega) dX2_init_93 ?_
                refine aw_goto C (tgt := 98) dX2_init_94 (by decide) ?_
                refine aw_iorN C dX2_init_98 ?_
                refine aw_iastN C (hset_s _ _ _) (by omega) (by decide) dX2_init_99 ?_
                rw [hset_hset]
                refine aw_iinc1 C rfl (by decide) rfl dX2_init_100 ?_
                refine aw_goto C (tgt := 67) dX2_init_103 (by decide) ?_
                refine aw_lo (ih2 (v + 1) _ (by omega) (by omega) (fun S hS => (pk_un (by omega)).trans (hlo2 S hS)) ?_ (fun S hS => (pk_un (by omega)).trans (hhi2 S hS))) ⟨rfl, rfl, rfl, trivial⟩
                rw [pk_us, btF]
                first
                  | rw [if_pos g85]
                  | rw [if_neg (by rw [g85]; decide)]
        exact aw_lo (key2 10 0 fb (by decide) (by decide) hlo ((hhi S0 (Nat.le_refl _)).trans rfl) (fun S hS => hhi S (by omega))) ⟨rfl, rfl, rfl, trivial⟩
  exact aw_lo (key 513 0 (fun _ => 0) (by decide) (by decide) (fun S hS => absurd hS (Nat.not_lt_zero S)) (fun _ _ => rfl)) ⟨rfl, rfl, trivial⟩
