/-! accounts, moves, parts; the constructors of graphs and boards -/
section NEW
variable {γ : Gm} {l : Launch} {x : WX} {y : MethodName} {cc : ByteArray} {nL : Nat} {ret : Option FieldType} {rm : Room} {et : List ExceptionTableEntry} {Q : State → Prop} {h : AH} {sz k n pc : Nat} {L : LV} {st : List Value}
variable {y9 : MethodName} {b9 : ByteArray} {nL9 : Nat} {ret9 : Option FieldType} {f9 lo9 mc ms index : Nat} {As : List Value} {st0 : List Value} {h' : AH} {sz' : Nat}

theorem aw_gh (kk : ∀ h1, h1 = h → AW γ l x Q nL h1 sz k n pc L st) : AW γ l x Q nL h sz k n pc L st := kk h rfl
theorem aw_newI (C : Cx γ l x y cc nL ret rm et) {m : Nat} (q : Cond.arrayClass .int ∈ lw_all) (hm : m < 2 ^ 27) (hc : k + 1 ≤ rm.cells) (hs : n + m ≤ rm.slots) (d : decode cc pc = .ok (.newarray .int, 2)) (kk : AW γ l x Q nL (hset h sz (.inl (0, m, .inl (fun _ => 0)))) (sz + 1) (k + 1) (n + m) (pc + 2) L (.ref sz :: st)) : AW γ l x Q nL h sz k n pc L (.int (nI m) :: st) :=
  aw_newa C (atype := .int) (t := 0) (m := m) (a0 := (m, .inl (fun _ => 0))) (by decide) rfl kk_nm0 q (fun _ => rfl) (by omega) (by show m * 4 ≤ _; omega) hc hs d kk
theorem aw_newJ (C : Cx γ l x y cc nL ret rm et) {m : Nat} (q : Cond.arrayClass .long ∈ lw_all) (hm : m < 2 ^ 26) (hc : k + 1 ≤ rm.cells) (hs : n + m ≤ rm.slots) (d : decode cc pc = .ok (.newarray .long, 2)) (kk : AW γ l x Q nL (hset h sz (.inl (2, m, .inr (.inl (fun _ => 0))))) (sz + 1) (k + 1) (n + m) (pc + 2) L (.ref sz :: st)) : AW γ l x Q nL h sz k n pc L (.int (nI m) :: st) :=
  aw_newa C (atype := .long) (t := 2) (m := m) (a0 := (m, .inr (.inl (fun _ => 0)))) (by decide) rfl kk_nm2 q (fun _ => rfl) (by omega) (by show m * 8 ≤ _; omega) hc hs d kk
theorem aw_newB (C : Cx γ l x y cc nL ret rm et) {m : Nat} (q : Cond.arrayClass .byte ∈ lw_all) (hm : m < 2 ^ 27) (hc : k + 1 ≤ rm.cells) (hs : n + m ≤ rm.slots) (d : decode cc pc = .ok (.newarray .byte, 2)) (kk : AW γ l x Q nL (hset h sz (.inl (1, m, .inl (fun _ => 0)))) (sz + 1) (k + 1) (n + m) (pc + 2) L (.ref sz :: st)) : AW γ l x Q nL h sz k n pc L (.int (nI m) :: st) :=
  aw_newa C (atype := .byte) (t := 1) (m := m) (a0 := (m, .inl (fun _ => 0))) (by decide) rfl kk_nm1 q (fun _ => rfl) (by omega) (by show m * 1 ≤ _; omega) hc hs d kk
theorem aw_newZ (C : Cx γ l x y cc nL ret rm et) {m : Nat} (q : Cond.arrayClass .boolean ∈ lw_all) (hm : m < 2 ^ 27) (hc : k + 1 ≤ rm.cells) (hs : n + m ≤ rm.slots) (d : decode cc pc = .ok (.newarray .boolean, 2)) (kk : AW γ l x Q nL (hset h sz (.inl (3, m, .inl (fun _ => 0)))) (sz + 1) (k + 1) (n + m) (pc + 2) L (.ref sz :: st)) : AW γ l x Q nL h sz k n pc L (.int (nI m) :: st) :=
  aw_newa C (atype := .boolean) (t := 3) (m := m) (a0 := (m, .inl (fun _ => 0))) (by decide) rfl kk_nm3 q (fun _ => rfl) (by omega) (by show m * 1 ≤ _; omega) hc hs d kk
end NEW
set_option maxRecDepth 100000 in
theorem ac_init {γ : Gm} (hG : GF γ) (l : Launch) {h : AH} {sz : Nat} {a : Nat} : MX γ l yX5_init cX5_init 1 none 1 12 0 0 [.ref a] h sz (PE none h sz) NX := by
  refine mx_start hG (by decide) (Nat.le_of_ble_eq_true rfl) (fun x C => ?_)
  refine aw_aload_n C rfl rfl dX5_init_0 ?_
  refine aw_objInit C q241 q142 q143 (Nat.le_of_ble_eq_true rfl) (Nat.le_of_ble_eq_true rfl) dX5_init_1 ?_
  exact aw_vret C rfl dX5_init_4 (Nat.le_refl _) (Nat.le_refl _) ⟨rfl, rfl, rfl⟩
set_option maxRecDepth 100000 in
theorem ac_copy {γ : Gm} (hG : GF γ) (l : Launch) {h : AH} {sz : Nat} {a : Nat} {v0 v1 v2 v3 v4 : Int32} (ea : h a = some (.inr (4, [.int v0, .int v1, .int v2, .int v3, .int v4]))) (ha : a < sz) : MX γ l yX5_copy cX5_copy 2 (some (.object "ColourDuel$Account")) 2 32 1 5 [.ref a] h sz (PE (some (.ref sz)) (hset h sz (.inr (4, [.int v0, .int v1, .int v2, .int v3, .int v4]))) (sz + 1)) NX := by
  refine mx_start hG (by decide) (Nat.le_of_ble_eq_true rfl) (fun x C => ?_)
  refine aw_new C ck4 (fs := [.int 0, .int 0, .int 0, .int 0, .int 0]) q898 q237 q99 (by decide) (by dsimp only; omega) (by dsimp only; omega) dX5_copy_0 ?_
  refine aw_dup C rfl dX5_copy_3 ?_
  refine aw_callIP C (ac_init hG l) q899 q239 q99 q240 rfl (n9 := 0) (by decide +kernel) rfl (Nat.le_of_ble_eq_true rfl) (Nat.le_of_ble_eq_true rfl) (by dsimp only; omega) (by dsimp only; omega) rfl (Nat.le_of_ble_eq_true rfl) dX5_copy_4 ?_
  refine aw_astore_n C rfl (by decide) rfl dX5_copy_7 ?_
  refine aw_aload_n C rfl rfl dX5_copy_8 ?_
  refine aw_aload_n C rfl rfl dX5_copy_9 ?_
  refine aw_getf C ck4 0 (by decide) q242 (fun _ z => z) ((hset_n _ _ (by omega)).trans ea) rfl dX5_copy_10 ?_
  refine aw_putf C ck4 0 (by decide) q242 (fun _ z => z) rfl rfl (ty := .int) rfl rfl (hset_s _ _ _) (show 0 < 5 by decide) dX5_copy_13 ?_
  rw [hset_hset]
  refine aw_aload_n C rfl rfl dX5_copy_16 ?_
  refine aw_aload_n C rfl rfl dX5_copy_17 ?_
  refine aw_getf C ck4 1 (by decide) q244 (fun _ z => z) ((hset_n _ _ (by omega)).trans ea) rfl dX5_copy_18 ?_
  refine aw_putf C ck4 1 (by decide) q244 (fun _ z => z) rfl rfl (ty := .int) rfl rfl (hset_s _ _ _) (show 1 < 5 by decide) dX5_copy_21 ?_
  rw [hset_hset]
  refine aw_aload_n C rfl rfl dX5_copy_24 ?_
  refine aw_aload_n C rfl rfl dX5_copy_25 ?_
  refine aw_getf C ck4 2 (by decide) q246 (fun _ z => z) ((hset_n _ _ (by omega)).trans ea) rfl dX5_copy_26 ?_
  refine aw_putf C ck4 2 (by decide) q246 (fun _ z => z) rfl rfl (ty := .int) rfl rfl (hset_s _ _ _) (show 2 < 5 by decide) dX5_copy_29 ?_
  rw [hset_hset]
  refine aw_aload_n C rfl rfl dX5_copy_32 ?_
  refine aw_aload_n C rfl rfl dX5_copy_33 ?_
  refine aw_getf C ck4 3 (by decide) q248 (fun _ z => z) ((hset_n _ _ (by omega)).trans ea) rfl dX5_copy_34 ?_
  refine aw_putf C ck4 3 (by decide) q248 (fun _ z => z) rfl rfl (ty := .int) rfl rfl (hset_s _ _ _) (show 3 < 5 by decide) dX5_copy_37 ?_
  rw [hset_hset]
  refine aw_aload_n C rfl rfl dX5_copy_40 ?_
  refine aw_aload_n C rfl rfl dX5_copy_41 ?_
  refine aw_getf C ck4 4 (by decide) q250 (fun _ z => z) ((hset_n _ _ (by omega)).trans ea) rfl dX5_copy_42 ?_
  refine aw_putf C ck4 4 (by decide) q250 (fun _ z => z) rfl rfl (ty := .int) rfl rfl (hset_s _ _ _) (show 4 < 5 by decide) dX5_copy_45 ?_
  rw [hset_hset]
  refine aw_aload_n C rfl rfl dX5_copy_48 ?_
  exact aw_aret C rfl (Or.inl ⟨_, rfl⟩) (Or.inr ⟨_, rfl⟩) dX5_copy_49 (by omega) (by omega) ⟨rfl, rfl, rfl⟩
set_option maxRecDepth 100000 in
theorem ac_get {γ : Gm} (hG : GF γ) (l : Launch) {h : AH} {sz : Nat} {a w a0 a1 a2 a3 a4 : Nat} {v0 v1 v2 v3 v4 : Int32} (ea : h a = some (.inr (4, [.int v0, .int v1, .int v2, .int v3, .int v4]))) (e0 : v0 = nI a0) (e1 : v1 = nI a1) (e2 : v2 = nI a2) (e3 : v3 = nI a3) (e4 : v4 = nI a4) (h4 : a4 < 512) (hw : w ≤ 4) : MX γ l yX5_get cX5_get 2 (some .int) 1 20 0 0 [.ref a, .int (nI w)] h sz (RI h sz (nI (if w = 0 then a0 else if w = 1 then a1 else if w = 2 then a2 else if w = 3 then a3 else pop a4))) NX := by
  refine mx_start hG (by decide) (Nat.le_of_ble_eq_true rfl) (fun x C => ?_)
  refine aw_iload_n C rfl rfl dX5_get_0 ?_
  obtain rfl | rfl | rfl | rfl | hk9 : w = 0 ∨ w = 1 ∨ w = 2 ∨ w = 3 ∨ 4 ≤ w := by omega
  · refine aw_tableIn C (off := 31) (tgt := 32) dX5_get_1 (by decide) (by decide) (by decide) (by decide) ?_
    refine aw_aload_n C rfl rfl dX5_get_32 ?_
    refine aw_getf C ck4 0 (by decide) q242 (fun _ z => z) ea rfl dX5_get_33 ?_
    refine aw_top (e0) ?_
    exact aw_iret C rfl dX5_get_36 (Nat.le_refl _) (Nat.le_refl _) ⟨by first | rfl | (rw [if_neg (by omega), if_neg (by omega), if_neg (by omega), if_neg (by omega)]), rfl, rfl⟩
  · refine aw_tableIn C (off := 36) (tgt := 37) dX5_get_1 (by decide) (by decide) (by decide) (by decide) ?_
    refine aw_aload_n C rfl rfl dX5_get_37 ?_
    refine aw_getf C ck4 1 (by decide) q244 (fun _ z => z) ea rfl dX5_get_38 ?_
    refine aw_top (e1) ?_
    exact aw_iret C rfl dX5_get_41 (Nat.le_refl _) (Nat.le_refl _) ⟨by first | rfl | (rw [if_neg (by omega), if_neg (by omega), if_neg (by omega), if_neg (by omega)]), rfl, rfl⟩
  · refine aw_tableIn C (off := 41) (tgt := 42) dX5_get_1 (by decide) (by decide) (by decide) (by decide) ?_
    refine aw_aload_n C rfl rfl dX5_get_42 ?_
    refine aw_getf C ck4 2 (by decide) q246 (fun _ z => z) ea rfl dX5_get_43 ?_
    refine aw_top (e2) ?_
    exact aw_iret C rfl dX5_get_46 (Nat.le_refl _) (Nat.le_refl _) ⟨by first | rfl | (rw [if_neg (by omega), if_neg (by omega), if_neg (by omega), if_neg (by omega)]), rfl, rfl⟩
  · refine aw_tableIn C (off := 46) (tgt := 47) dX5_get_1 (by decide) (by decide) (by decide) (by decide) ?_
    refine aw_aload_n C rfl rfl dX5_get_47 ?_
    refine aw_getf C ck4 3 (by decide) q248 (fun _ z => z) ea rfl dX5_get_48 ?_
    refine aw_top (e3) ?_
    exact aw_iret C rfl dX5_get_51 (Nat.le_refl _) (Nat.le_refl _) ⟨by first | rfl | (rw [if_neg (by omega), if_neg (by omega), if_neg (by omega), if_neg (by omega)]), rfl, rfl⟩
  · refine aw_tableOut C (tgt := 52) dX5_get_1 (Or.inr (by rw [nI_int (by omega)]; omega)) (by decide) ?_
    refine aw_aload_n C rfl rfl dX5_get_52 ?_
    refine aw_getf C ck4 4 (by decide) q250 (fun _ z => z) ea rfl dX5_get_53 ?_
    refine aw_top (e4) ?_
    refine aw_callSRR C (cp_bitCount hG l h4) q1756 q750 q118 q751 (n9 := 1) (by decide +kernel) rfl (Nat.le_of_ble_eq_true rfl) (Nat.le_of_ble_eq_true rfl) (Nat.zero_le _) (Nat.zero_le _) rfl (Nat.le_of_ble_eq_true rfl) dX5_get_56 ?_
    exact aw_iret C rfl dX5_get_59 (Nat.le_refl _) (Nat.le_refl _) ⟨by first | rfl | (rw [if_neg (by omega), if_neg (by omega), if_neg (by omega), if_neg (by omega)]), rfl, rfl⟩
set_option maxRecDepth 100000 in
theorem rc_init {γ : Gm} (hG : GF γ) (l : Launch) {h : AH} {sz : Nat} {a : Nat} : MX γ l yJ20_init cJ20_init 1 none 1 12 0 0 [.ref a] h sz (PE none h sz) NX := by
  refine mx_start hG (by decide) (Nat.le_of_ble_eq_true rfl) (fun x C => ?_)
  refine aw_aload_n C rfl rfl dJ20_init_0 ?_
  refine aw_objInit C q1005 q142 q143 (Nat.le_of_ble_eq_true rfl) (Nat.le_of_ble_eq_true rfl) dJ20_init_1 ?_
  exact aw_vret C rfl dJ20_init_4 (Nat.le_refl _) (Nat.le_refl _) ⟨rfl, rfl, rfl⟩
set_option maxRecDepth 100000 in
theorem mv_init {γ : Gm} (hG : GF γ) (l : Launch) {h : AH} {sz : Nat} {a : Nat} {p v c q9 : Int32} (ea : h a = some (.inr (8, [.int 0, .int 0, .int 0, .int 0]))) : MX γ l yX9_init cX9_init 5 none 2 32 0 0 [.ref a, .int p, .int v, .int c, .int q9] h sz (PE none (hset h a (.inr (8, [.int p, .int v, .int c, .int q9]))) sz) NX := by
  refine mx_start hG (by decide) (Nat.le_of_ble_eq_true rfl) (fun x C => ?_)
  refine aw_aload_n C rfl rfl dX9_init_0 ?_
  refine aw_callIP C (rc_init hG l) q1002 q1003 q124 q1004 rfl (n9 := 0) (by decide +kernel) rfl (Nat.le_of_ble_eq_true rfl) (Nat.le_of_ble_eq_true rfl) (Nat.zero_le _) (Nat.zero_le _) rfl (Nat.le_of_ble_eq_true rfl) dX9_init_1 ?_
  refine aw_aload_n C rfl rfl dX9_init_4 ?_
  refine aw_iload_n C rfl rfl dX9_init_5 ?_
  refine aw_putfF C ck8 0 (by decide) q1006 (fun _ z => z) rfl rfl rfl (ty := .int) rfl rfl rfl ea (show 0 < 4 by decide) dX9_init_6 ?_
  refine aw_aload_n C rfl rfl dX9_init_9 ?_
  refine aw_iload_n C rfl rfl dX9_init_10 ?_
  refine aw_putfF C ck8 1 (by decide) q1007 (fun _ z => z) rfl rfl rfl (ty := .int) rfl rfl rfl (hset_s _ _ _) (show 1 < 4 by decide) dX9_init_11 ?_
  rw [hset_hset]
  refine aw_aload_n C rfl rfl dX9_init_14 ?_
  refine aw_iload_n C rfl rfl dX9_init_15 ?_
  refine aw_putfF C ck8 2 (by decide) q1008 (fun _ z => z) rfl rfl rfl (ty := .int) rfl rfl rfl (hset_s _ _ _) (show 2 < 4 by decide) dX9_init_16 ?_
  rw [hset_hset]
  refine aw_aload_n C rfl rfl dX9_init_19 ?_
  refine aw_iload C rfl dX9_init_20 ?_
  refine aw_putfF C ck8 3 (by decide) q1009 (fun _ z => z) rfl rfl rfl (ty := .int) rfl rfl rfl (hset_s _ _ _) (show 3 < 4 by decide) dX9_init_22 ?_
  rw [hset_hset]
  exact aw_vret C rfl dX9_init_25 (Nat.le_refl _) (Nat.le_refl _) ⟨rfl, rfl, rfl⟩
set_option maxRecDepth 100000 in
theorem mv_get {γ : Gm} (hG : GF γ) (l : Launch) {h : AH} {sz : Nat} {a w : Nat} {p v c q9 : Int32} (ea : h a = some (.inr (8, [.int p, .int v, .int c, .int q9]))) (hw : w ≤ 3) : MX γ l yX9_get cX9_get 2 (some .int) 0 0 0 0 [.ref a, .int (nI w)] h sz (RI h sz (if w = 0 then p else if w = 1 then v else if w = 2 then c else q9)) NX := by
  refine mx_start hG (by decide) (Nat.le_of_ble_eq_true rfl) (fun x C => ?_)
  refine aw_iload_n C rfl rfl dX9_get_0 ?_
  refine aw_ifN_ne C (tgt := 11) (by omega) dX9_get_1 (by decide) (fun g1 => ?_) (fun g1 => ?_)
  · refine aw_iload_n C rfl rfl dX9_get_11 ?_
    refine aw_iconst C (v := nI 1) (by decide) dX9_get_12 ?_
    refine aw_icmpN_ne C (tgt := 23) (by omega) (by omega) dX9_get_13 (by decide) (fun g13 => ?_) (fun g13 => ?_)
    · refine aw_iload_n C rfl rfl dX9_get_23 ?_
      refine aw_iconst C (v := nI 2) (by decide) dX9_get_24 ?_
      refine aw_icmpN_ne C (tgt := 35) (by omega) (by omega) dX9_get_25 (by decide) (fun g25 => ?_) (fun g25 => ?_)
      · refine aw_aload_n C rfl rfl dX9_get_35 ?_
        refine aw_getf C ck8 3 (by decide) q1009 (fun _ z => z) ea rfl dX9_get_36 ?_
        exact aw_iret C rfl dX9_get_39 (Nat.le_refl _) (Nat.le_refl _) ⟨by simp [*], rfl, rfl⟩
      · refine aw_aload_n C rfl rfl dX9_get_28 ?_
        refine aw_getf C ck8 2 (by decide) q1008 (fun _ z => z) ea rfl dX9_get_29 ?_
        refine aw_goto C (tgt := 39) dX9_get_32 (by decide) ?_
        exact aw_iret C rfl dX9_get_39 (Nat.le_refl _) (Nat.le_refl _) ⟨by simp [*], rfl, rfl⟩
    · refine aw_aload_n C rfl rfl dX9_get_16 ?_
      refine aw_getf C ck8 1 (by decide) q1007 (fun _ z => z) ea rfl dX9_get_17 ?_
      refine aw_goto C (tgt := 39) dX9_get_20 (by decide) ?_
      exact aw_iret C rfl dX9_get_39 (Nat.le_refl _) (Nat.le_refl _) ⟨by simp [*], rfl, rfl⟩
  · refine aw_aload_n C rfl rfl dX9_get_4 ?_
    refine aw_getf C ck8 0 (by decide) q1006 (fun _ z => z) ea rfl dX9_get_5 ?_
    refine aw_goto C (tgt := 39) dX9_get_8 (by decide) ?_
    exact aw_iret C rfl dX9_get_39 (Nat.le_refl _) (Nat.le_refl _) ⟨by simp [*], rfl, rfl⟩
set_option maxRecDepth 100000 in
theorem pt_init {γ : Gm} (hG : GF γ) (l : Launch) {h : AH} {sz : Nat} {a : Nat} {p v : Int32} (ea : h a = some (.inr (9, [.int 0, .int 0]))) : MX γ l yX10_init cX10_init 3 none 2 32 0 0 [.ref a, .int p, .int v] h sz (PE none (hset h a (.inr (9, [.int p, .int v]))) sz) NX := by
  refine mx_start hG (by decide) (Nat.le_of_ble_eq_true rfl) (fun x C => ?_)
  refine aw_aload_n C rfl rfl dX10_init_0 ?_
  refine aw_callIP C (rc_init hG l) q1070 q1003 q124 q1004 rfl (n9 := 0) (by decide +kernel) rfl (Nat.le_of_ble_eq_true rfl) (Nat.le_of_ble_eq_true rfl) (Nat.zero_le _) (Nat.zero_le _) rfl (Nat.le_of_ble_eq_true rfl) dX10_init_1 ?_
  refine aw_aload_n C rfl rfl dX10_init_4 ?_
  refine aw_iload_n C rfl rfl dX10_init_5 ?_
  refine aw_putfF C ck9 0 (by decide) q1071 (fun _ z => z) rfl rfl rfl (ty := .int) rfl rfl rfl ea (show 0 < 2 by decide) dX10_init_6 ?_
  refine aw_aload_n C rfl rfl dX10_init_9 ?_
  refine aw_iload_n C rfl rfl dX10_init_10 ?_
  refine aw_putfF C ck9 1 (by decide) q1072 (fun _ z => z) rfl rfl rfl (ty := .int) rfl rfl rfl (hset_s _ _ _) (show 1 < 2 by decide) dX10_init_11 ?_
  rw [hset_hset]
  exact aw_vret C rfl dX10_init_14 (Nat.le_refl _) (Nat.le_refl _) ⟨rfl, rfl, rfl⟩
set_option maxRecDepth 100000 in
theorem pt_set {γ : Gm} (hG : GF γ) (l : Launch) {h : AH} {sz : Nat} {a : Nat} {p v : Int32} (ea : h a = some (.inr (9, [.int p, .int v]))) : MX γ l yX10_set cX10_set 1 (some .int) 0 0 0 0 [.ref a] h sz (RI h sz p) NX := by
  refine mx_start hG (by decide) (Nat.le_of_ble_eq_true rfl) (fun x C => ?_)
  refine aw_aload_n C rfl rfl dX10_set_0 ?_
  refine aw_getf C ck9 0 (by decide) q1071 (fun _ z => z) ea rfl dX10_set_1 ?_
  exact aw_iret C rfl dX10_set_4 (Nat.le_refl _) (Nat.le_refl _) ⟨rfl, rfl, rfl⟩
set_option maxRecDepth 100000 in
theorem pt_ban {γ : Gm} (hG : GF γ) (l : Launch) {h : AH} {sz : Nat} {a : Nat} {p v : Int32} (ea : h a = some (.inr (9, [.int p, .int v]))) : MX γ l yX10_ban cX10_ban 1 (some .int) 0 0 0 0 [.ref a] h sz (RI h sz v) NX := by
  refine mx_start hG (by decide) (Nat.le_of_ble_eq_true rfl) (fun x C => ?_)
  refine aw_aload_n C rfl rfl dX10_ban_0 ?_
  refine aw_getf C ck9 1 (by decide) q1072 (fun _ z => z) ea rfl dX10_ban_1 ?_
  exact aw_iret C rfl dX10_ban_4 (Nat.le_refl _) (Nat.le_refl _) ⟨rfl, rfl, rfl⟩
set_option maxRecDepth 100000 in
theorem pt_size {γ : Gm} (hG : GF γ) (l : Launch) {h : AH} {sz : Nat} {a S : Nat} {v : Int32} (ea : h a = some (.inr (9, [.int (nI S), .int v]))) (hS : S < 512) : MX γ l yX10_size cX10_size 1 (some .int) 1 20 0 0 [.ref a] h sz (RI h sz (nI (pop S))) NX := by
  refine mx_start hG (by decide) (Nat.le_of_ble_eq_true rfl) (fun x C => ?_)
  refine aw_aload_n C rfl rfl dX10_size_0 ?_
  refine aw_getf C ck9 0 (by decide) q1071 (fun _ z => z) ea rfl dX10_size_1 ?_
  refine aw_callSRR C (cp_bitCount hG l hS) q1600 q750 q118 q751 (n9 := 1) (by decide +kernel) rfl (Nat.le_of_ble_eq_true rfl) (Nat.le_of_ble_eq_true rfl) (Nat.zero_le _) (Nat.zero_le _) rfl (Nat.le_of_ble_eq_true rfl) dX10_size_4 ?_
  exact aw_iret C rfl dX10_size_7 (Nat.le_refl _) (Nat.le_refl _) ⟨rfl, rfl, rfl⟩
set_option maxRecDepth 100000 in
theorem pt_least {γ : Gm} (hG : GF γ) (l : Launch) {h : AH} {sz : Nat} {a S : Nat} {v : Int32} (ea : h a = some (.inr (9, [.int (nI S), .int v]))) (hS : S < 512) (h0 : 0 < S) : MX γ l yX10_least cX10_least 1 (some .int) 1 21 0 0 [.ref a] h sz (RI h sz (nI (low S))) NX := by
  refine mx_start hG (by decide) (Nat.le_of_ble_eq_true rfl) (fun x C => ?_)
  refine aw_aload_n C rfl rfl dX10_least_0 ?_
  refine aw_getf C ck9 0 (by decide) q1071 (fun _ z => z) ea rfl dX10_least_1 ?_
  refine aw_callSRR C (cp_ntz hG l hS h0) q1605 q726 q118 q727 (n9 := 1) (by decide +kernel) rfl (Nat.le_of_ble_eq_true rfl) (Nat.le_of_ble_eq_true rfl) (Nat.zero_le _) (Nat.zero_le _) rfl (Nat.le_of_ble_eq_true rfl) dX10_least_4 ?_
  exact aw_iret C rfl dX10_least_7 (Nat.le_refl _) (Nat.le_refl _) ⟨rfl, rfl, rfl⟩
set_option maxRecDepth 100000 in
theorem gr_init {γ : Gm} (hG : GF γ) (l : Launch) {h : AH} {sz : Nat} {a c : Nat} (ea : h a = some (.inr (3, [.int 0, .null, .null, .int 0, .int 0]))) (ha : a < sz) : MX γ l yX4_init cX4_init 2 none 1 12 2 18 [.ref a, .int (nI c)] h sz (PE none (hset (hset (hset h sz (.inl (0, 9, .inl (fun _ => 0)))) (sz + 1) (.inl (0, 9, .inl (fun _ => 0)))) a (.inr (3, [.int (nI c), .ref sz, .ref (sz + 1), .int 0, .int 0]))) (sz + 2)) NX := by
  refine mx_start hG (by decide) (Nat.le_of_ble_eq_true rfl) (fun x C => ?_)
  refine aw_aload_n C rfl rfl dX4_init_0 ?_
  refine aw_objInit C q196 q142 q143 (Nat.le_of_ble_eq_true rfl) (Nat.le_of_ble_eq_true rfl) dX4_init_1 ?_
  refine aw_aload_n C rfl rfl dX4_init_4 ?_
  refine aw_bipush C (v := nI 9) (by decide) dX4_init_5 ?_
  refine aw_newI C q185 (by decide) (by dsimp only; omega) (by dsimp only; omega) dX4_init_7 ?_
  refine aw_putfF C ck3 1 (by decide) q202 (fun _ z => z) rfl rfl rfl (ty := (.array .int)) rfl rfl rfl ((hset_n _ _ (by omega)).trans ea) (show 1 < 5 by decide) dX4_init_9 ?_
  refine aw_aload_n C rfl rfl dX4_init_12 ?_
  refine aw_bipush C (v := nI 9) (by decide) dX4_init_13 ?_
  refine aw_newI C q185 (by decide) (by dsimp only; omega) (by dsimp only; omega) dX4_init_15 ?_
  refine aw_putfF C ck3 2 (by decide) q207 (fun _ z => z) rfl rfl rfl (ty := (.array .int)) rfl rfl rfl ((hset_n _ _ (by omega)).trans (hset_s _ _ _)) (show 2 < 5 by decide) dX4_init_17 ?_
  refine aw_aload_n C rfl rfl dX4_init_20 ?_
  refine aw_iload_n C rfl rfl dX4_init_21 ?_
  refine aw_putfF C ck3 0 (by decide) q197 (fun _ z => z) rfl rfl rfl (ty := .int) rfl rfl rfl (hset_s _ _ _) (show 0 < 5 by decide) dX4_init_22 ?_
  rw [hset_hset]
  exact aw_vret C rfl dX4_init_25 (by omega) (by omega) ⟨rfl, by rw [hset_comm _ _ _ (show a ≠ sz + 1 by omega), hset_hset]; rfl, rfl⟩
