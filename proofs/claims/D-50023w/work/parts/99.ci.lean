/-! the reader: word -/
theorem upd_fit {f : Nat → Int32} {n c : Nat} (h : ∀ i, fits .byte (.int (f i)) = true) (hc : c < 128) : ∀ i, fits .byte (.int (upd f n (nI c) i)) = true := fun i => by
  by_cases e : i = n
  · rw [e, pk_us]; exact b7_fit hc
  · rw [pk_un e]; exact h i
theorem cpy_fit {f : Nat → Int32} {n : Nat} (h : ∀ i, fits .byte (.int (f i)) = true) : ∀ i, fits .byte (.int (va_cpy f (fun _ => 0) 0 0 n i)) = true := fun i => by
  unfold va_cpy
  split
  · exact h _
  · rfl
theorem cpy_at {f : Nat → Int32} {n i : Nat} (hi : i < n) : va_cpy f (fun _ => 0) 0 0 n i = f i := by
  unfold va_cpy
  rw [if_pos (by omega)]
  congr 1
  omega
/-- the letters from p on -/
def wL (bf : List Nat) (n p : Nat) : List Nat := (List.range (rn (isLt bf n) n p - p)).map (fun i => bf.getD (p + i) 0)
theorem wL_len (bf : List Nat) (n p : Nat) : (wL bf n p).length = rn (isLt bf n) n p - p := by
  unfold wL
  rw [List.length_map, List.length_range]
theorem wL_at {bf : List Nat} {n p i : Nat} (h : i < rn (isLt bf n) n p - p) : (wL bf n p).getD i 0 = bf.getD (p + i) 0 := by
  unfold wL
  rw [List.getD_eq_getElem?_getD, List.getElem?_map, List.getElem?_range h]
  rfl
set_option maxRecDepth 100000 in
theorem sb_addC {γ : Gm} (hG : GF γ) (l : Launch) {h : AH} {sz : Nat} (hS : GSB γ) {a v n cap : Nat} {mb : Int32} {fv : Nat → Int32} (es : h a = some (SBF v n mb)) (ev : h v = some (.inl (1, cap, .inl fv))) (hc9 : cap < 2 ^ 18) (ha : a < sz) (hv : v < sz) (hfit : ∀ i, fits .byte (.int (fv i)) = true) (hn : n ≤ cap) {c : Nat} (hc : c < 128) {gs : Nat} (hgs : n = cap → 2 * cap + 2 ≤ gs) : MX γ l yJ8_append_3 cJ8_append_3 2 (some (.object "java/lang/StringBuilder")) 7 158 1 gs [.ref a, .int (nI c)] h sz (fun v9 h' sz' => v9 = some (.ref a) ∧ ∃ (v' cap' : Nat) (fv' : Nat → Int32), h' a = some (SBF v' (n + 1) mb) ∧ h' v' = some (.inl (1, cap', .inl fv')) ∧ (∀ i, i < n → fv' i = fv i) ∧ fv' n = nI c ∧ (∀ i, fits .byte (.int (fv' i)) = true) ∧ (∀ q, q < sz → q ≠ a → q ≠ v → h' q = h q) ∧ (cap' = cap ∧ v' = v ∧ n < cap ∧ sz' = sz ∨ cap' = 2 * cap + 2 ∧ v' = sz ∧ n = cap ∧ sz' = sz + 1)) NX := by
  refine mx_start hG (by decide) (Nat.le_of_ble_eq_true rfl) (fun x C => ?_)
  have nav : a ≠ v := ne9 es ev (by intro z; cases z)
  rcases Nat.lt_or_ge n cap with hlt | hge
  · refine aw_aload_n C rfl rfl dJ8_append_3_0 ?_
    refine aw_iload_n C rfl rfl dJ8_append_3_1 ?_
    refine aw_callSU C ck13 (sb_app0 hG l hS es ev hc9 hlt hc) q1210 q2244 q355 q1211 q107 q1212 es (n9 := 1) (by decide +kernel) rfl (Nat.le_of_ble_eq_true rfl) (Nat.le_of_ble_eq_true rfl) (by dsimp only; omega) (by dsimp only; omega) rfl (Nat.le_of_ble_eq_true rfl) dJ8_append_3_2 (fun _ _ _ z => z.elim) (fun v9 h9 sz9 hp9 => ?_)
    obtain ⟨rfl, rfl, rfl⟩ := hp9
    refine aw_pop C rfl dJ8_append_3_5 ?_
    refine aw_aload_n C rfl rfl dJ8_append_3_6 ?_
    exact aw_aret C rfl (Or.inl ⟨_, rfl⟩) (Or.inr ⟨_, rfl⟩) dJ8_append_3_7 (by omega) (by omega) ⟨rfl, v, cap, upd fv n (nI c), (hset_n _ _ nav).trans (hset_s _ _ _), hset_s _ _ _, fun i hi => pk_un (by omega), pk_us, upd_fit hfit hc, fun q hq q1 q2 => (hset_n _ _ q2).trans (hset_n _ _ q1), Or.inl ⟨rfl, rfl, hlt, rfl⟩⟩
  · have hge : n = cap := by omega
    have hgs := hgs hge
    refine aw_aload_n C rfl rfl dJ8_append_3_0 ?_
    refine aw_iload_n C rfl rfl dJ8_append_3_1 ?_
    refine aw_callSU C ck13 (sb_app1 hG l hS es ev hc9 ha hv (fun i _ => hfit i) hge hc) q1210 q2244 q355 q1211 q107 q1212 es (n9 := 1) (by decide +kernel) rfl (Nat.le_of_ble_eq_true rfl) (Nat.le_of_ble_eq_true rfl) (by dsimp only; omega) (by dsimp only; omega) rfl (Nat.le_of_ble_eq_true rfl) dJ8_append_3_2 (fun _ _ _ z => z.elim) (fun v9 h9 sz9 hp9 => ?_)
    obtain ⟨rfl, rfl, rfl⟩ := hp9
    refine aw_pop C rfl dJ8_append_3_5 ?_
    refine aw_aload_n C rfl rfl dJ8_append_3_6 ?_
    exact aw_aret C rfl (Or.inl ⟨_, rfl⟩) (Or.inr ⟨_, rfl⟩) dJ8_append_3_7 (by omega) (by omega) ⟨rfl, sz, 2 * cap + 2, upd (va_cpy fv (fun _ => 0) 0 0 cap) n (nI c), (hset_n _ _ (by omega)).trans (hset_s _ _ _), hset_s _ _ _, fun i hi => (pk_un (by omega)).trans (cpy_at (by omega)), pk_us, upd_fit (cpy_fit hfit) hc, fun q hq q1 q2 => (hset_n _ _ (by omega)).trans ((hset_n _ _ q1).trans (hset_n _ _ (by omega))), Or.inr ⟨rfl, rfl, hge, rfl⟩⟩
set_option maxRecDepth 100000 in
theorem rd_word {γ : Gm} (hG : GF γ) (l : Launch) {h : AH} {sz : Nat} (hS : GSB γ) {r o n p f : Nat} {gr : Value} {bf : List Nat} (hb : RDF h o n bf) (er : h r = some (RDO n gr p f o)) (hp : p ≤ n) : MX γ l yX7_word cX7_word 3 (some (.object "java/lang/String")) 17 380 (4 + ((rn (isLt bf n) n (rn (isSp bf n) n p)) - (rn (isSp bf n) n p))) (44 + 5 * ((rn (isLt bf n) n (rn (isSp bf n) n p)) - (rn (isSp bf n) n p))) [.ref r] h sz (fun v9 h' sz' => ∃ a9, v9 = some (.ref a9) ∧ sz ≤ a9 ∧ a9 < sz' ∧ sz ≤ sz' ∧ (∀ q, q < sz → q ≠ r → h' q = h q) ∧ h' r = some (RDO n gr (rn (isSp bf n) n p) (rn (isSp bf n) n p) o) ∧ STR γ h' a9 (wL bf n (rn (isSp bf n) n p))) NX := by
  refine mx_start hG (by decide) (Nat.le_of_ble_eq_true rfl) (fun x C => ?_)
  obtain ⟨u, fb, eo, eb, hn5, hfb⟩ := id hb
  have nor : o ≠ r := ne9 eo er (by intro z; cases z)
  have nbr : o + 31 ≠ r := ne9 eb er (by intro z; cases z)
  refine aw_dom (fun hD => ?_)
  have lr := hD.lt er
  have lo := hD.lt eo
  have lb := hD.lt eb
  have hPn := rn_le (P := isSp bf n) (n := n) (fun _ => isSp_lt) hp
  have key : ∀ j k0 h5 s5 v cap fv k5 n5, (rn (isSp bf n) n p) + k0 ≤ n → n + 1 ≤ (rn (isSp bf n) n p) + k0 + j → rn (isLt bf n) n ((rn (isSp bf n) n p) + k0) = (rn (isLt bf n) n (rn (isSp bf n) n p)) → (∀ q, q < sz → q ≠ r → h5 q = h q) → h5 r = some (RDO n gr (rn (isSp bf n) n p) (rn (isSp bf n) n p) o) → h5 sz = some (SBF v k0 0) → h5 v = some (.inl (1, cap, .inl fv)) → v < s5 ∧ sz + 1 ≤ v → k0 ≤ cap → cap = 16 ∨ cap ≤ 2 * k0 + 2 → sz + 2 ≤ s5 → (∀ i, i < k0 → fv i = nI (bf.getD ((rn (isSp bf n) n p) + i) 0)) → (∀ i, i < k0 → bf.getD ((rn (isSp bf n) n p) + i) 0 < 128) → (∀ i, fits .byte (.int (fv i)) = true) → v < s5 → k5 ≤ 2 + k0 → n5 ≤ 4 + 2 * cap → AW γ l x (QX γ x (4 + ((rn (isLt bf n) n (rn (isSp bf n) n p)) - (rn (isSp bf n) n p))) (44 + 5 * ((rn (isLt bf n) n (rn (isSp bf n) n p)) - (rn (isSp bf n) n p))) (fun v9 h' sz' => ∃ a9, v9 = some (.ref a9) ∧ sz ≤ a9 ∧ a9 < sz' ∧ sz ≤ sz' ∧ (∀ q, q < sz → q ≠ r → h' q = h q) ∧ h' r = some (RDO n gr (rn (isSp bf n) n p) (rn (isSp bf n) n p) o) ∧ STR γ h' a9 (wL bf n (rn (isSp bf n) n p))) NX) 3 h5 s5 k5 n5 26 [(0, .ref r), (1, .ref sz), (2, .int (nI ((rn (isSp bf n) n p) + k0)))] [] := by
    intro j
    induction j with
    | zero => intro k0 h5 s5 v cap fv k5 n5 h1 h2 hE5 fr5 er5 es5 ev5 hvv5 hk05 hcap5 hs5 hf5 hlt5 hfit5 hv5 hk5 hn5; exact absurd h2 (by omega)
    | succ j ih =>
      intro k0 h5 s5 v cap fv k5 n5 h1 h2 hE5 fr5 er5 es5 ev5 hvv5 hk05 hcap5 hs5 hf5 hlt5 hfit5 hv5 hk5 hn5
      have hEk : k0 ≤ (rn (isLt bf n) n (rn (isSp bf n) n p)) - (rn (isSp bf n) n p) := by
        have h9 := rn_le (P := isLt bf n) (n := n) (fun _ => isLt_lt) (p := (rn (isSp bf n) n p) + k0) h1
        rw [hE5] at h9
        omega
      have nor : o ≠ r := ne9 eo er (by intro z; cases z)
      have eo5 := (fr5 o lo nor).trans eo
      have eb5 := (fr5 (o + 31) lb (ne9 eb er (by intro z; cases z))).trans eb
      refine aw_iload_n C rfl rfl dX7_word_26 ?_
      refine aw_aload_n C rfl rfl dX7_word_27 ?_
      refine aw_getf C ck6 0 (by decide) q1290 (fun _ z => z) er5 rfl dX7_word_28 ?_
      refine aw_icmpN_ge C (tgt := 77) (by omega) (by omega) dX7_word_31 (by decide) (fun g31 => ?_) (fun g31 => ?_)
      · have hE : rn (isLt bf n) n ((rn (isSp bf n) n p) + k0) = (rn (isSp bf n) n p) + k0 := by
          refine rn_f ?_
          first
            | exact decide_eq_false (fun z => absurd z.1 (by omega))
            | exact (isLt_i (by omega) (hfb ((rn (isSp bf n) n p) + k0) (by omega)).1 (hfb ((rn (isSp bf n) n p) + k0) (by omega)).2).symm.trans g53
        have hLk : rn (isLt bf n) n (rn (isSp bf n) n p) - (rn (isSp bf n) n p) = k0 := by rw [← hE5, hE]; omega
        refine aw_aload_n C rfl rfl dX7_word_77 ?_
        refine aw_callV C ck13 (sb_toString hG l hS.1 es5 ev5 (by omega) hv5 hk05 (by omega) hfit5) q1329 q504 q505 q108 q506 es5 (n9 := 0) (by decide +kernel) rfl (Nat.le_of_ble_eq_true rfl) (Nat.le_of_ble_eq_true rfl) (by dsimp only; omega) (by dsimp only; omega) rfl (Nat.le_of_ble_eq_true rfl) dX7_word_78 (fun _ _ _ z => z.elim) (fun v9 h6 s6 hp6 => ?_)
        obtain ⟨rfl, rfl, fr6, e61, f6, e62, hf6⟩ := hp6
        refine aw_aret C rfl (Or.inl ⟨_, rfl⟩) (Or.inr ⟨_, rfl⟩) dX7_word_81 (by omega) (by omega) ?_
        refine ⟨s5, rfl, by omega, Nat.lt_add_of_pos_right (by decide), Nat.le_trans (show sz ≤ s5 by omega) (Nat.le_add_right _ _), fun q hq q1 => (fr6 q (by omega)).trans (fr5 q hq q1), (fr6 r (by omega)).trans er5, s5 + 1, .int 0, .int 0, f6, Or.inl e61, ?_, ?_, fun i hi => ?_⟩
        · rw [wL_len, hLk]; exact Or.inl e62
        · rw [wL_len, hLk]; omega
        · rw [wL_len, hLk] at hi
          rw [wL_at (by rw [hLk]; exact hi), hf6 i hi, hf5 i hi]
          exact ⟨rfl, hlt5 i hi⟩
      · refine aw_aload_n C rfl rfl dX7_word_34 ?_
        refine aw_getf C ck6 4 (by decide) q1294 (fun _ z => z) er5 rfl dX7_word_35 ?_
        refine aw_getfN C ck0 4 (by decide) q668 (fun _ z => z) eo5 rfl dX7_word_38 ?_
        refine aw_iload_n C rfl rfl dX7_word_41 ?_
        refine aw_baldN C eb5 (by omega) (by decide) dX7_word_42 ?_
        refine aw_i2l C (rfl) dX7_word_43 ?_
        refine aw_ldc2 C q1325 dX7_word_44 ?_
        refine aw_topl (show (97 : Int64) = (nI 97).toInt64 from by decide) ?_
        refine aw_ldc2 C q1326 dX7_word_47 ?_
        refine aw_topl (show (122 : Int64) = (nI 122).toInt64 from by decide) ?_
        refine aw_callSNR C (cp_inRange hG l (fb ((rn (isSp bf n) n p) + k0)) (nI 97) (nI 122)) q1327 q1274 q95 q1275 (n9 := 3) (by decide +kernel) rfl (Nat.le_of_ble_eq_true rfl) (Nat.le_of_ble_eq_true rfl) (by dsimp only; omega) (by dsimp only; omega) rfl (Nat.le_of_ble_eq_true rfl) dX7_word_50 ?_
        refine aw_bit_eq0 C (tgt := 77) dX7_word_53 (by decide) (fun g53 => ?_) (fun g53 => ?_)
        · have hE : rn (isLt bf n) n ((rn (isSp bf n) n p) + k0) = (rn (isSp bf n) n p) + k0 := by
            refine rn_f ?_
            first
              | exact decide_eq_false (fun z => absurd z.1 (by omega))
              | exact (isLt_i (by omega) (hfb ((rn (isSp bf n) n p) + k0) (by omega)).1 (hfb ((rn (isSp bf n) n p) + k0) (by omega)).2).symm.trans g53
          have hLk : rn (isLt bf n) n (rn (isSp bf n) n p) - (rn (isSp bf n) n p) = k0 := by rw [← hE5, hE]; omega
          refine aw_aload_n C rfl rfl dX7_word_77 ?_
          refine aw_callV C ck13 (sb_toString hG l hS.1 es5 ev5 (by omega) hv5 hk05 (by omega) hfit5) q1329 q504 q505 q108 q506 es5 (n9 := 0) (by decide +kernel) rfl (Nat.le_of_ble_eq_true rfl) (Nat.le_of_ble_eq_true rfl) (by dsimp only; omega) (by dsimp only; omega) rfl (Nat.le_of_ble_eq_true rfl) dX7_word_78 (fun _ _ _ z => z.elim) (fun v9 h6 s6 hp6 => ?_)
          obtain ⟨rfl, rfl, fr6, e61, f6, e62, hf6⟩ := hp6
          refine aw_aret C rfl (Or.inl ⟨_, rfl⟩) (Or.inr ⟨_, rfl⟩) dX7_word_81 (by omega) (by omega) ?_
          refine ⟨s5, rfl, by omega, Nat.lt_add_of_pos_right (by decide), Nat.le_trans (show sz ≤ s5 by omega) (Nat.le_add_right _ _), fun q hq q1 => (fr6 q (by omega)).trans (fr5 q hq q1), (fr6 r (by omega)).trans er5, s5 + 1, .int 0, .int 0, f6, Or.inl e61, ?_, ?_, fun i hi => ?_⟩
          · rw [wL_len, hLk]; exact Or.inl e62
          · rw [wL_len, hLk]; omega
          · rw [wL_len, hLk] at hi
            rw [wL_at (by rw [hLk]; exact hi), hf6 i hi, hf5 i hi]
            exact ⟨rfl, hlt5 i hi⟩
        · have hil : isLt bf n ((rn (isSp bf n) n p) + k0) = true := (isLt_i (by omega) (hfb ((rn (isSp bf n) n p) + k0) (by omega)).1 (hfb ((rn (isSp bf n) n p) + k0) (by omega)).2).symm.trans g53
          obtain ⟨hbc1, hbc2⟩ := hfb ((rn (isSp bf n) n p) + k0) (by omega)
          have hbc3 : bf.getD ((rn (isSp bf n) n p) + k0) 0 < 128 := by have := (of_decide_eq_true hil).2; omega
          have hEn : k0 < (rn (isLt bf n) n (rn (isSp bf n) n p)) - (rn (isSp bf n) n p) := by
            have h9 := rn_le (P := isLt bf n) (n := n) (fun _ => isLt_lt) (p := (rn (isSp bf n) n p) + k0 + 1) (by omega)
            rw [rn_t hil (by omega)] at hE5
            omega
          refine aw_aload_n C rfl rfl dX7_word_56 ?_
          refine aw_aload_n C rfl rfl dX7_word_57 ?_
          refine aw_getf C ck6 4 (by decide) q1294 (fun _ z => z) er5 rfl dX7_word_58 ?_
          refine aw_getfN C ck0 4 (by decide) q668 (fun _ z => z) eo5 rfl dX7_word_61 ?_
          refine aw_iload_n C rfl rfl dX7_word_64 ?_
          refine aw_baldN C eb5 (by omega) (by decide) dX7_word_65 ?_
          refine aw_top hbc2 ?_
          refine aw_i2c C (bt_l _ hbc3).2 dX7_word_66 ?_
          refine aw_callV C ck13 (sb_addC hG l hS es5 ev5 (by omega) (by omega) hv5 hfit5 hk05 hbc3 (gs := if k0 = cap then 2 * cap + 2 else 0) (fun e => by rw [if_pos e]; exact Nat.le_refl _)) q1328 q1207 q1208 q108 q1209 es5 (n9 := 1) (by decide +kernel) rfl (Nat.le_of_ble_eq_true rfl) (Nat.le_of_ble_eq_true rfl) (by dsimp only; omega) (by dsimp only; split <;> omega) rfl (Nat.le_of_ble_eq_true rfl) dX7_word_67 (fun _ _ _ z => z.elim) (fun v9 h6 s6 hp6 => ?_)
          obtain ⟨rfl, v6, cap6, fv6, es6, ev6, hf6, hf6n, hfit6, fr6, hcs6⟩ := hp6
          refine aw_pop C rfl dX7_word_70 ?_
          refine aw_iinc1 C rfl (by decide) rfl dX7_word_71 ?_
          refine aw_goto C (tgt := 26) dX7_word_74 (by decide) ?_
          refine aw_lo (ih (k0 + 1) h6 s6 v6 cap6 fv6 _ _ (by omega) (by omega) ((rn_t hil (by omega)).symm.trans hE5) (fun q hq q1 => (fr6 q (by omega) (by omega) (by omega)).trans (fr5 q hq q1)) ((fr6 r (by omega) (by omega) (by omega)).trans er5) es6 ev6 (by rcases hcs6 with ⟨a1, a2, a3, a4⟩ | ⟨a1, a2, a3, a4⟩ <;> omega) (by rcases hcs6 with ⟨a1, a2, a3, a4⟩ | ⟨a1, a2, a3, a4⟩ <;> omega) (by rcases hcs6 with ⟨a1, a2, a3, a4⟩ | ⟨a1, a2, a3, a4⟩ <;> omega) (by rcases hcs6 with ⟨a1, a2, a3, a4⟩ | ⟨a1, a2, a3, a4⟩ <;> omega) (fun i hi => ?_) (fun i hi => ?_) hfit6 (by rcases hcs6 with ⟨a1, a2, a3, a4⟩ | ⟨a1, a2, a3, a4⟩ <;> omega) (by omega) ?_) ⟨rfl, rfl, rfl, trivial⟩
          · by_cases e : i = k0
            · rw [e, hf6n]
            · rw [hf6 i (by omega), hf5 i (by omega)]
          · by_cases e : i = k0
            · rw [e]; exact hbc3
            · exact hlt5 i (by omega)
          · rcases hcs6 with ⟨a1, a2, a3, a4⟩ | ⟨a1, a2, a3, a4⟩
            · rw [if_neg (by omega)]; omega
            · rw [if_pos a3]; omega
  refine aw_new C ck13 (fs := [.null, .int 0, .int 0, .int 0]) q1319 q325 q108 (by decide) (by dsimp only; omega) (by dsimp only; omega) dX7_word_0 ?_
  refine aw_dup C rfl dX7_word_3 ?_
  refine aw_callIP C (sb_init hG l hS.1 (by omega) (hset_s _ _ _)) q1320 q327 q108 q328 rfl (n9 := 0) (by decide +kernel) rfl (Nat.le_of_ble_eq_true rfl) (Nat.le_of_ble_eq_true rfl) (by dsimp only; omega) (by dsimp only; omega) rfl (Nat.le_of_ble_eq_true rfl) dX7_word_4 ?_
  refine aw_gh (fun h1 eh1 => ?_)
  have fr1 : ∀ q, q < sz → h1 q = h q := fun q hq => by rw [eh1, hset_n _ _ (by omega), hset_n _ _ (by omega), hset_n _ _ (by omega)]
  have f1 : h1 sz = some (SBF (sz + 1) 0 0) := by rw [eh1, hset_s]
  have f2 : h1 (sz + 1) = some (.inl (1, 16, .inl (fun _ => 0))) := by rw [eh1, hset_n _ _ (by omega), hset_s]
  clear eh1
  have er1 := (fr1 r lr).trans er
  have hb1 := RDF.fr (fr1 o lo) (fr1 (o + 31) lb) hb
  refine aw_astore_n C rfl (by decide) rfl dX7_word_7 ?_
  refine aw_aload_n C rfl rfl dX7_word_8 ?_
  refine aw_callVPv C ck6 (rd_peek hG l hb1 er1 hp) q1321 q1323 qs24 q122 q1324 er1 (n9 := 0) (by decide +kernel) rfl (Nat.le_of_ble_eq_true rfl) (Nat.le_of_ble_eq_true rfl) (by dsimp only; omega) (by dsimp only; omega) rfl (Nat.le_of_ble_eq_true rfl) dX7_word_9 ?_
  refine aw_pop C rfl dX7_word_12 ?_
  refine aw_aload_n C rfl rfl dX7_word_13 ?_
  refine aw_aload_n C rfl rfl dX7_word_14 ?_
  refine aw_getf C ck6 2 (by decide) q1292 (fun _ z => z) (hset_s _ _ _) rfl dX7_word_15 ?_
  refine aw_putf C ck6 3 (by decide) q1293 (fun _ z => z) rfl rfl (ty := .int) rfl rfl (hset_s _ _ _) (show 3 < 5 by decide) dX7_word_18 ?_
  rw [hset_hset]
  refine aw_aload_n C rfl rfl dX7_word_21 ?_
  refine aw_getf C ck6 2 (by decide) q1292 (fun _ z => z) (hset_s _ _ _) rfl dX7_word_22 ?_
  refine aw_istore_n C rfl (by decide) rfl dX7_word_25 ?_
  exact aw_lo (key (n + 1) 0 _ (sz + 2) (sz + 1) 16 (fun _ => 0) _ _ (by omega) (by omega) rfl (fun q hq q1 => (hset_n _ _ q1).trans (fr1 q hq)) (hset_s _ _ _) ((hset_n _ _ (by omega)).trans f1) ((hset_n _ _ (by omega)).trans f2) (by omega) (by omega) (by omega) (by omega) (fun i hi => absurd hi (Nat.not_lt_zero i)) (fun i hi => absurd hi (Nat.not_lt_zero i)) (fun _ => rfl) (by omega) (by omega) (by omega)) ⟨rfl, rfl, rfl, trivial⟩
