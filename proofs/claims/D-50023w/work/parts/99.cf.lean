/-! TextError; what a text requires -/
section GSQ
variable {γ : Gm} {l : Launch} {x : WX} {y : MethodName} {cc : ByteArray} {nL : Nat} {ret : Option FieldType} {rm : Room} {et : List ExceptionTableEntry} {Q : State → Prop} {h : AH} {sz k n pc : Nat} {L : LV} {st : List Value}
variable {y9 : MethodName} {b9 : ByteArray} {nL9 : Nat} {ret9 : Option FieldType} {f9 lo9 mc ms index : Nat} {As : List Value} {st0 : List Value} {h' : AH} {sz' : Nat}
theorem aw_getsQ (C : Cx γ l x y cc nL ret rm et) {Cn nm dd ref : String} {index : Nat} (hZ : ∀ U, γ.X U → va_Zq Cn nm dd γ.W U U.heap) (q : Cond.fieldLink y.cls index ref nm dd ∈ lw_all) (hsame : ∀ z, x.s.fieldFound? Cn nm dd = some z → x.s.fieldFound? ref nm dd = some z) (d : decode cc pc = .ok (.getstatic index, 3)) (kk : ∀ v : Value, (v = .null ∨ ∃ a, v = .ref a) → AW γ l x Q nL h sz k n (pc + 3) L (v :: st)) : AW γ l x Q nL h sz k n pc L st := fun H locs ls h1 h2 h3 h4 => by
  rcases hZ x.s C.hX with hz | ⟨t, hz⟩
  · exact va_gets C.hx C.hb hz h3 C.hown (C.hts _ q) hsame d (kk .null (Or.inl rfl) H locs ls h1 h2 h3 h4)
  · exact va_gets C.hx C.hb hz h3 C.hown (C.hts _ q) hsame d (kk (.ref t) (Or.inr ⟨t, rfl⟩) H locs ls h1 h2 h3 h4)
end GSQ
theorem fit_ref {v : Value} (h : v = .null ∨ ∃ a, v = .ref a) : narrow (.array (.object "java/lang/StackTraceElement")) v = v ∧ fits (.array (.object "java/lang/StackTraceElement")) v = true ∧ narrow (.object "java/util/List") v = v ∧ fits (.object "java/util/List") v = true := by
  rcases h with rfl | ⟨a, rfl⟩ <;> exact ⟨rfl, rfl, rfl, rfl⟩
/-- a TextError -/
abbrev TE (code : Int32) (pos : Nat) : va_E := .inr (7, [.null, .null, .null, .null, .null, .int 0, .int code, .int (nI pos)])
section AL0
variable {γ : Gm} {l : Launch} {x : WX} {y : MethodName} {cc : ByteArray} {nL : Nat} {ret : Option FieldType} {rm : Room} {et : List ExceptionTableEntry} {Q : State → Prop} {h : AH} {sz k n pc : Nat} {L : LV} {st : List Value}
variable {y9 : MethodName} {b9 : ByteArray} {nL9 : Nat} {ret9 : Option FieldType} {f9 lo9 mc ms index : Nat} {As : List Value} {st0 : List Value} {h' : AH} {sz' : Nat}
theorem aw_aload_n0 (C : Cx γ l x y cc nL ret rm et) {c : Fin 4} {i : Nat} (hi : (c : Nat) = i) (hl : lup L i = some .null) (d : decode cc pc = .ok (.aload_n c, 1)) (kk : AW γ l x Q nL h sz k n (pc + 1) L (.null :: st)) : AW γ l x Q nL h sz k n pc L st := fun H locs ls h1 h2 h3 h4 => lv_aload_nN C.hx C.hb d hi (h4.at hl) (kk H locs ls h1 h2 h3 h4)
theorem aw_aload0 (C : Cx γ l x y cc nL ret rm et) {i : Nat} (hl : lup L i = some .null) (d : decode cc pc = .ok (.aload i, 2)) (kk : AW γ l x Q nL h sz k n (pc + 2) L (.null :: st)) : AW γ l x Q nL h sz k n pc L st := fun H locs ls h1 h2 h3 h4 => lv_aloadN C.hx C.hb d (h4.at hl) (kk H locs ls h1 h2 h3 h4)
end AL0
set_option maxRecDepth 100000 in
theorem te_init3 {γ : Gm} (hG : GF γ) (l : Launch) {h : AH} {sz : Nat} (hZ : XZ γ) {q : Nat} (et : h q = some (.inr (7, [.null, .null, .null, .null, .null, .int 0, .int 0, .int 0]))) : MX γ l yJ3_init_3 cJ3_init_3 5 none 1 40 0 0 [.ref q, .null, .null, .int (nI 0), .int (nI 0)] h sz (PE none h sz) NX := by
  refine mx_start hG (by decide) (Nat.le_of_ble_eq_true rfl) (fun x C => ?_)
  refine aw_aload_n C rfl rfl dJ3_init_3_0 ?_
  refine aw_objInit C q304 q142 q143 (Nat.le_of_ble_eq_true rfl) (Nat.le_of_ble_eq_true rfl) dJ3_init_3_1 ?_
  refine aw_aload_n C rfl rfl dJ3_init_3_4 ?_
  refine aw_aload_n C rfl rfl dJ3_init_3_5 ?_
  refine aw_putf C ck7 0 (by decide) q560 (fun _ z => z) rfl rfl (ty := (.object "java/lang/Throwable")) rfl rfl et (show 0 < 8 by decide) dJ3_init_3_6 ?_
  refine aw_aload_n C rfl rfl dJ3_init_3_9 ?_
  refine aw_getsQ C (fun U hU => (hZ U hU).1.1) q305 (fun _ z => z) dJ3_init_3_10 (fun v1 hv1 => ?_)
  refine aw_putf C ck7 1 (by decide) q561 (fun _ z => z) rfl rfl (ty := (.array (.object "java/lang/StackTraceElement"))) (fit_ref hv1).1 (fit_ref hv1).2.1 (hset_s _ _ _) (show 1 < 8 by decide) dJ3_init_3_13 ?_
  rw [hset_hset]
  refine aw_aload_n C rfl rfl dJ3_init_3_16 ?_
  refine aw_getsQ C (fun U hU => (hZ U hU).2.1) q307 (fun _ z => z) dJ3_init_3_17 (fun v2 hv2 => ?_)
  refine aw_putf C ck7 2 (by decide) q562 (fun _ z => z) rfl rfl (ty := (.object "java/util/List")) (fit_ref hv2).2.2.1 (fit_ref hv2).2.2.2 (hset_s _ _ _) (show 2 < 8 by decide) dJ3_init_3_20 ?_
  rw [hset_hset]
  refine aw_iload C rfl dJ3_init_3_23 ?_
  refine aw_if_eq C (tgt := 36) dJ3_init_3_25 (by decide) (fun g1 => ?_) (fun g1 => ?_)
  · refine aw_aload_n C rfl rfl dJ3_init_3_36 ?_
    refine aw_null C dJ3_init_3_37 ?_
    refine aw_putf C ck7 1 (by decide) q561 (fun _ z => z) rfl rfl (ty := (.array (.object "java/lang/StackTraceElement"))) rfl rfl (hset_s _ _ _) (show 1 < 8 by decide) dJ3_init_3_38 ?_
    rw [hset_hset]
    refine aw_aload_n C rfl rfl dJ3_init_3_41 ?_
    refine aw_aload_n0 C rfl rfl dJ3_init_3_42 ?_
    refine aw_putf C ck7 3 (by decide) q559 (fun _ z => z) rfl rfl (ty := (.object "java/lang/String")) rfl rfl (hset_s _ _ _) (show 3 < 8 by decide) dJ3_init_3_43 ?_
    rw [hset_hset]
    refine aw_aload_n C rfl rfl dJ3_init_3_46 ?_
    refine aw_aload_n0 C rfl rfl dJ3_init_3_47 ?_
    refine aw_putf C ck7 0 (by decide) q560 (fun _ z => z) rfl rfl (ty := (.object "java/lang/Throwable")) rfl rfl (hset_s _ _ _) (show 0 < 8 by decide) dJ3_init_3_48 ?_
    rw [hset_hset]
    refine aw_iload_n C rfl rfl dJ3_init_3_51 ?_
    refine aw_if_ne C (tgt := 60) dJ3_init_3_52 (by decide) (fun g2 => ?_) (fun g2 => ?_)
    · first | exact absurd g2 (by decide) | exact absurd (by decide) g2
    · refine aw_aload_n C rfl rfl dJ3_init_3_55 ?_
      refine aw_null C dJ3_init_3_56 ?_
      refine aw_putf C ck7 2 (by decide) q562 (fun _ z => z) rfl rfl (ty := (.object "java/util/List")) rfl rfl (hset_s _ _ _) (show 2 < 8 by decide) dJ3_init_3_57 ?_
      rw [hset_hset]
      exact aw_vret C rfl dJ3_init_3_60 (Nat.le_refl _) (Nat.le_refl _) ⟨rfl, hset_self et, rfl⟩
  · first | exact absurd (by decide) g1 | exact absurd g1 (by decide)
set_option maxRecDepth 100000 in
theorem te_init4 {γ : Gm} (hG : GF γ) (l : Launch) {h : AH} {sz : Nat} (hZ : XZ γ) {q : Nat} (et : h q = some (.inr (7, [.null, .null, .null, .null, .null, .int 0, .int 0, .int 0]))) : MX γ l yJ4_init_3 cJ4_init_3 5 none 2 64 0 0 [.ref q, .null, .null, .int (nI 0), .int (nI 0)] h sz (PE none h sz) NX := by
  refine mx_start hG (by decide) (Nat.le_of_ble_eq_true rfl) (fun x C => ?_)
  refine aw_aload_n C rfl rfl dJ4_init_3_0 ?_
  refine aw_aload_n0 C rfl rfl dJ4_init_3_1 ?_
  refine aw_aload_n0 C rfl rfl dJ4_init_3_2 ?_
  refine aw_iload_n C rfl rfl dJ4_init_3_3 ?_
  refine aw_iload C rfl dJ4_init_3_4 ?_
  refine aw_callIP C (te_init3 hG l hZ et) q1358 q1359 q103 q1360 rfl (n9 := 4) (by decide +kernel) rfl (Nat.le_of_ble_eq_true rfl) (Nat.le_of_ble_eq_true rfl) (Nat.zero_le _) (Nat.zero_le _) rfl (Nat.le_of_ble_eq_true rfl) dJ4_init_3_6 ?_
  exact aw_vret C rfl dJ4_init_3_9 (Nat.le_refl _) (Nat.le_refl _) ⟨rfl, rfl, rfl⟩
set_option maxRecDepth 100000 in
theorem te_init {γ : Gm} (hG : GF γ) (l : Launch) {h : AH} {sz : Nat} (hZ : XZ γ) {q : Nat} {code : Int32} {pos : Nat} (et : h q = some (.inr (7, [.null, .null, .null, .null, .null, .int 0, .int 0, .int 0]))) : MX γ l yX8_init cX8_init 3 none 3 88 0 0 [.ref q, .int code, .int (nI pos)] h sz (PE none (hset h q (TE code pos)) sz) NX := by
  refine mx_start hG (by decide) (Nat.le_of_ble_eq_true rfl) (fun x C => ?_)
  refine aw_aload_n C rfl rfl dX8_init_0 ?_
  refine aw_null C dX8_init_1 ?_
  refine aw_null C dX8_init_2 ?_
  refine aw_iconst C (v := nI 0) (by decide) dX8_init_3 ?_
  refine aw_iconst C (v := nI 0) (by decide) dX8_init_4 ?_
  refine aw_callIP C (te_init4 hG l hZ et) q1355 q1356 q104 q1357 rfl (n9 := 4) (by decide +kernel) rfl (Nat.le_of_ble_eq_true rfl) (Nat.le_of_ble_eq_true rfl) (Nat.zero_le _) (Nat.zero_le _) rfl (Nat.le_of_ble_eq_true rfl) dX8_init_5 ?_
  refine aw_aload_n C rfl rfl dX8_init_8 ?_
  refine aw_iload_n C rfl rfl dX8_init_9 ?_
  refine aw_putfF C ck7 6 (by decide) q1361 (fun _ z => z) rfl rfl rfl (ty := .int) rfl rfl rfl et (show 6 < 8 by decide) dX8_init_10 ?_
  refine aw_aload_n C rfl rfl dX8_init_13 ?_
  refine aw_iload_n C rfl rfl dX8_init_14 ?_
  refine aw_putfF C ck7 7 (by decide) q1363 (fun _ z => z) rfl rfl rfl (ty := .int) rfl rfl rfl (hset_s _ _ _) (show 7 < 8 by decide) dX8_init_15 ?_
  rw [hset_hset]
  exact aw_vret C rfl dX8_init_18 (Nat.le_refl _) (Nat.le_refl _) ⟨rfl, rfl, rfl⟩
set_option maxRecDepth 100000 in
theorem rd_require {γ : Gm} (hG : GF γ) (l : Launch) {h : AH} {sz : Nat} (hZ : XZ γ) {r : Nat} (t : Bool) {code : Int32} {pos : Nat} : MY γ l yX7_require cX7_require 4 none 4 110 1 8 [.ref r, .int (nI (if t = true then 1 else 0)), .int code, .int (nI pos)] h sz (RQ t h sz) (fun q h' sz' => q = sz ∧ t = false ∧ h' = hset h sz (TE code pos) ∧ sz' = sz + 1) := by
  refine my_start hG (by decide) (Nat.le_of_ble_eq_true rfl) (fun x C => ?_)
  refine aw_iload_n C rfl rfl dX7_require_0 ?_
  refine aw_bit_ne0 C (tgt := 14) dX7_require_1 (by decide) (fun g1 => ?_) (fun g1 => ?_)
  · exact ay_vret C rfl dX7_require_14 (by omega) (by omega) ⟨rfl, rfl, rfl, g1⟩
  · refine aw_new C ck7 (fs := [.null, .null, .null, .null, .null, .int 0, .int 0, .int 0]) q1343 q1344 q123 (by decide) (by dsimp only; omega) (by dsimp only; omega) dX7_require_4 ?_
    refine aw_dup C rfl dX7_require_7 ?_
    refine aw_iload_n C rfl rfl dX7_require_8 ?_
    refine aw_iload_n C rfl rfl dX7_require_9 ?_
    refine aw_callIP C (te_init hG l hZ (code := code) (pos := pos) (hset_s _ _ _)) q1352 q1353 q123 q1354 rfl (n9 := 2) (by decide +kernel) rfl (Nat.le_of_ble_eq_true rfl) (Nat.le_of_ble_eq_true rfl) (by dsimp only; omega) (by dsimp only; omega) rfl (Nat.le_of_ble_eq_true rfl) dX7_require_10 ?_
    rw [hset_hset]
    exact ay_throw C dX7_require_13 (ay_out C (by omega) (by omega) ⟨rfl, g1, rfl, rfl⟩)
