/-! boxed ints; the iterator of moves -/
section BXI
variable {γ : Gm} {l : Launch} {x : WX} {y : MethodName} {cc : ByteArray} {nL : Nat} {ret : Option FieldType} {rm : Room} {et : List ExceptionTableEntry} {Q : State → Prop} {h : AH} {sz k n pc : Nat} {L : LV} {st : List Value}
variable {y9 : MethodName} {b9 : ByteArray} {nL9 : Nat} {ret9 : Option FieldType} {f9 lo9 mc ms index : Nat} {As : List Value} {st0 : List Value} {h' : AH} {sz' : Nat}
theorem aw_getsN (C : Cx γ l x y cc nL ret rm et) {Cn nm dd ref host : String} {v : Value} {index : Nat} (hZ : ZZ γ Cn nm dd v) (q : Cond.fieldLinkNest y.cls index ref nm dd host ∈ lw_tbl) (hsame : ∀ z, x.s.fieldFound? Cn nm dd = some z → x.s.fieldFound? ref nm dd = some z) (d : decode cc pc = .ok (.getstatic index, 3)) (kk : AW γ l x Q nL h sz k n (pc + 3) L (v :: st)) : AW γ l x Q nL h sz k n pc L st := fun H locs ls h1 h2 h3 h4 =>
  va_getsN C.hx C.hb (hZ x.s C.hX) h3 C.hown (va_Nw.use rfl (C.nest q rfl)) hsame d (kk H locs ls h1 h2 h3 h4)
/-- an element of a carried array of objects -/
theorem aw_aaldT (C : Cx γ l x y cc nL ret rm et) {t N j : Nat} {E : String} {f : Nat → Value} {v : Value} (hT : ∀ U, γ.X U → va_T (.object E) t N f γ.W U U.heap) (hj : j < N) (hN : N < 2 ^ 31) (hv : f j = v) (d : decode cc pc = .ok (.aaload, 1)) (kk : AW γ l x Q nL h sz k n (pc + 1) L (v :: st)) : AW γ l x Q nL h sz k n pc L (.int (nI j) :: .ref t :: st) := fun H locs ls h1 h2 h3 h4 => by
  have hc : (nI j).toNatClampNeg = j := nI_clamp (by omega)
  refine vb_tq C.hx C.hb (hT x.s C.hX) h3 (i := nI j) (fun z => ?_) (by rw [hc]; exact hv) d (kk H locs ls h1 h2 h3 h4)
  rcases z with z | z
  · exact nI_pos (by omega) z
  · rw [hc] at z
    omega
theorem aw_getX (C : Cx γ l x y cc nL ret rm et) {o nm dd ref : String} {N i index : Nat} {v : Nat → Value} {ad : Nat → Nat} (hE : ∀ U, γ.X U → va_Ef N o nm dd v ad γ.W U U.heap) (hi : i < N) (q : Cond.fieldLink y.cls index ref nm dd ∈ lw_all) (hsame : ∀ z, x.s.fieldFound? o nm dd = some z → x.s.fieldFound? ref nm dd = some z) (d : decode cc pc = .ok (.getfield index, 3)) (kk : AW γ l x Q nL h sz k n (pc + 3) L (v i :: st)) : AW γ l x Q nL h sz k n pc L (.ref (ad i) :: st) := fun H locs ls h1 h2 h3 h4 =>
  va_getX C.hx C.hb (hE x.s C.hX) hi h3 C.hown (C.hts _ q) hsame d (kk H locs ls h1 h2 h3 h4)
end BXI
/-- the cache of Integers is carried -/
def GIN (γ : Gm) (ca : Nat) (ad : Nat → Nat) : Prop := ZZ γ "java/lang/Integer$IntegerCache" "high" "I" (.int 127) ∧ ZZ γ "java/lang/Integer$IntegerCache" "cache" "[Ljava/lang/Integer;" (.ref ca) ∧ ∀ U, γ.X U → va_T (.object "java/lang/Integer") ca 256 (fun k => .ref (ad k)) γ.W U U.heap ∧ vb_C ad γ.W U U.heap
theorem GIN.o {γ : Gm} {ca : Nat} {ad : Nat → Nat} (g : GIN γ ca ad) {k : Nat} (hk : k < 256) : OBJ γ "java/lang/Integer" (ad k) := fun U hU => by
  obtain ⟨cell, h1, h2, h3, -⟩ := (g.2.2 U hU).2.1 k hk
  exact ⟨cell, h1, h2, h3⟩
theorem vb_n : ∀ i, i < 128 → vb_c (i + 128) = nI i := by decide +kernel
/-- a move that can be -/
def cb (b : BT) (j : Nat) : Bool := decide (j % 4 < b 1 ∧ why b (j / 4) (j % 4) = 0)
/-- the next place -/
def stF (b : BT) : Nat → Nat → Nat
  | 0, i => i
  | f + 1, i => if i < 4 * b 0 ∧ cb b i = false then stF b f (i + 1) else i
def stl (b : BT) (i : Nat) : Nat := if stF b 40 i = 4 * b 0 then (if 0 < b 2 then 100 else 101) else stF b 40 i
theorem stF_fix {b : BT} {i : Nat} (h : ¬ (i < 4 * b 0 ∧ cb b i = false)) : ∀ f, stF b f i = i := by
  intro f
  cases f with
  | zero => rfl
  | succ f => rw [stF, if_neg h]
theorem stF_le {b : BT} : ∀ f i, i ≤ stF b f i := by
  intro f
  induction f with
  | zero => intro i; exact Nat.le_refl _
  | succ f ih =>
    intro i
    rw [stF]
    split
    · have := ih (i + 1); omega
    · exact Nat.le_refl _
theorem stF_s {b : BT} : ∀ f i, 4 * b 0 < i + f → i < 4 * b 0 → cb b i = false → stF b (f + 1) i = stF b (f + 1) (i + 1) := by
  intro f
  induction f with
  | zero => intro i h h1; omega
  | succ f ih =>
    intro i h h1 h2
    rw [stF, if_pos ⟨h1, h2⟩]
    by_cases q : i + 1 < 4 * b 0 ∧ cb b (i + 1) = false
    · have e : stF b (f + 1 + 1) (i + 1) = stF b (f + 1) (i + 1 + 1) := by rw [stF, if_pos q]
      rw [e]
      exact ih (i + 1) (by omega) q.1 q.2
    · rw [stF_fix q, stF_fix q]
theorem BRD.m10 {h : AH} {m a gr : Nat} {b : BT} {fs : List Value} {c : va_E} (em : h m = some (.inr (10, fs))) (g : BRD h a gr b) : BRD (hset h m c) a gr b := by
  obtain ⟨ca, ba, v3, v4, fc, fb, e1, e2, e3, ⟨gl, gn, fl, fn, g1, g2, g3, g4⟩, e5⟩ := g
  exact ⟨ca, ba, v3, v4, fc, fb, (hset_n _ _ (ne9 e1 em (by intro z; cases z))).trans e1, (hset_n _ _ (ne9 e2 em (by intro z; cases z))).trans e2, (hset_n _ _ (ne9 e3 em (by intro z; cases z))).trans e3, ⟨gl, gn, fl, fn, (hset_n _ _ (ne9 g1 em (by intro z; cases z))).trans g1, (hset_n _ _ (ne9 g2 em (by intro z; cases z))).trans g2, (hset_n _ _ (ne9 g3 em (by intro z; cases z))).trans g3, g4⟩, e5⟩
set_option maxRecDepth 100000 in
theorem in_valueOf {γ : Gm} (hG : GF γ) (l : Launch) {h : AH} {sz : Nat} {ic : Nat} {ad : Nat → Nat} (hI9 : GIN γ ic ad) {i : Nat} (hi : i ≤ 127) : MX γ l yJ17_valueOf cJ17_valueOf 1 (some (.object "java/lang/Integer")) 3 53 0 0 [.int (nI i)] h sz (PE (some (.ref (ad (i + 128)))) h sz) NX := by
  refine mx_start hG (by decide) (Nat.le_of_ble_eq_true rfl) (fun x C => ?_)
  refine aw_iload_n C rfl rfl dJ17_valueOf_0 ?_
  refine aw_bipush C (v := -128) (by decide) dJ17_valueOf_1 ?_
  refine aw_icmp_lt C (tgt := 23) dJ17_valueOf_3 (by decide) (fun g3 => ?_) (fun g3 => ?_)
  · exact absurd g3 (fun z => by have := nI_pos (n := i) (by omega); exact Int32.not_lt.mpr (Int32.le_of_lt (Int32.lt_of_lt_of_le (by decide) (Int32.not_lt.mp this))) z)
  · refine aw_iload_n C rfl rfl dJ17_valueOf_6 ?_
    refine aw_gets C hI9.1 q858 (fun _ z => z) dJ17_valueOf_7 ?_
    refine aw_top (show _ = nI 127 from rfl) ?_
    refine aw_icmpN_gt C (tgt := 23) (by omega) (by omega) dJ17_valueOf_10 (by decide) (fun g10 => ?_) (fun g10 => ?_)
    · exact absurd g10 (by omega)
    · refine aw_gets C hI9.2.1 q860 (fun _ z => z) dJ17_valueOf_13 ?_
      refine aw_iload_n C rfl rfl dJ17_valueOf_16 ?_
      refine aw_sipush C (v := nI 128) (by decide) dJ17_valueOf_17 ?_
      refine aw_iaddN C dJ17_valueOf_20 ?_
      refine aw_aaldT C (fun U hU => (hI9.2.2 U hU).1) (show i + 128 < 256 by omega) (by decide) rfl dJ17_valueOf_21 ?_
      exact aw_aret C rfl (Or.inl ⟨_, rfl⟩) (Or.inr ⟨_, rfl⟩) dJ17_valueOf_22 (Nat.le_refl _) (Nat.le_refl _) ⟨rfl, rfl, rfl⟩
set_option maxRecDepth 100000 in
theorem in_intValue {γ : Gm} (hG : GF γ) (l : Launch) {h : AH} {sz : Nat} {ic : Nat} {ad : Nat → Nat} (hI9 : GIN γ ic ad) {k9 : Nat} (hk : k9 < 256) : MX γ l yJ17_intValue cJ17_intValue 1 (some .int) 0 0 0 0 [.ref (ad k9)] h sz (RI h sz (vb_c k9)) NX := by
  refine mx_start hG (by decide) (Nat.le_of_ble_eq_true rfl) (fun x C => ?_)
  refine aw_aload_n C rfl rfl dJ17_intValue_0 ?_
  refine aw_getX C (fun U hU => (hI9.2.2 U hU).2.2) hk q871 (fun _ z => z) dJ17_intValue_1 ?_
  exact aw_iret C rfl dJ17_intValue_4 (Nat.le_refl _) (Nat.le_refl _) ⟨rfl, rfl, rfl⟩
set_option maxRecDepth 100000 in
theorem mo_hasNext {γ : Gm} (hG : GF γ) (l : Launch) {h : AH} {sz : Nat} {m i : Nat} {v : Value} (em : h m = some (.inr (10, [.int (nI i), v]))) (hi : i < 2 ^ 31) : MX γ l yX11_hasNext cX11_hasNext 1 (some .boolean) 0 0 0 0 [.ref m] h sz (RI h sz (nI (if i ≤ 100 then 1 else 0))) NX := by
  refine mx_start hG (by decide) (Nat.le_of_ble_eq_true rfl) (fun x C => ?_)
  refine aw_aload_n C rfl rfl dX11_hasNext_0 ?_
  refine aw_getf C ck10 0 (by decide) q840 (fun _ z => z) em rfl dX11_hasNext_1 ?_
  refine aw_bipush C (v := nI 100) (by decide) dX11_hasNext_4 ?_
  refine aw_icmpN_gt C (tgt := 13) (by omega) (by omega) dX11_hasNext_6 (by decide) (fun g6 => ?_) (fun g6 => ?_)
  · refine aw_iconst C (v := nI 0) (by decide) dX11_hasNext_13 ?_
    exact aw_zret C rfl (by decide) dX11_hasNext_14 (Nat.le_refl _) (Nat.le_refl _) ⟨by first | rw [if_pos (by omega)] | rw [if_neg (by omega)], rfl, rfl⟩
  · refine aw_iconst C (v := nI 1) (by decide) dX11_hasNext_9 ?_
    refine aw_goto C (tgt := 14) dX11_hasNext_10 (by decide) ?_
    exact aw_zret C rfl (by decide) dX11_hasNext_14 (Nat.le_refl _) (Nat.le_refl _) ⟨by first | rw [if_pos (by omega)] | rw [if_neg (by omega)], rfl, rfl⟩
set_option maxRecDepth 100000 in
theorem mo_canBe {γ : Gm} (hG : GF γ) (l : Launch) {h : AH} {sz : Nat} {ρ : Nat} (hU : RUL γ ρ) (hI : FRU γ)  {b : BT} {m a gr i : Nat} (em : h m = some (.inr (10, [.int (nI i), .ref a]))) (hb : BRD h a gr b) (hW : WB b) (hi : i < 4 * b 0) : MX γ l yX11_canBe cX11_canBe 3 (some .boolean) 4 91 0 0 [.ref m] h sz (RI h sz (nI (if cb b i = true then 1 else 0))) NX := by
  refine mx_start hG (by decide) (Nat.le_of_ble_eq_true rfl) (fun x C => ?_)
  have hN := hW.2.1
  have hC3 := hW.2.2.2.1
  have hl4 := why_le b (i / 4) (i % 4)
  obtain ⟨ca, ba, v3, v4, fc, fb, eb, eca, eba, hg, hfc, hfb⟩ := id hb
  obtain ⟨gl, gn, fl, fn, eg, egl, egn, hgl, hgn⟩ := id hg
  refine aw_aload_n C rfl rfl dX11_canBe_0 ?_
  refine aw_getf C ck10 0 (by decide) q840 (fun _ z => z) em rfl dX11_canBe_1 ?_
  refine aw_iconst C (v := nI 4) (by decide) dX11_canBe_4 ?_
  refine aw_idivN C (by omega) (by omega) (by omega) dX11_canBe_5 ?_
  refine aw_istore_n C rfl (by decide) rfl dX11_canBe_6 ?_
  refine aw_aload_n C rfl rfl dX11_canBe_7 ?_
  refine aw_getf C ck10 0 (by decide) q840 (fun _ z => z) em rfl dX11_canBe_8 ?_
  refine aw_iconst C (v := nI 4) (by decide) dX11_canBe_11 ?_
  refine aw_iremN C (by omega) (by omega) (by omega) dX11_canBe_12 ?_
  refine aw_istore_n C rfl (by decide) rfl dX11_canBe_13 ?_
  refine aw_iload_n C rfl rfl dX11_canBe_14 ?_
  refine aw_aload_n C rfl rfl dX11_canBe_15 ?_
  refine aw_getf C ck10 1 (by decide) q841 (fun _ z => z) em rfl dX11_canBe_16 ?_
  refine aw_getfN C ck2 0 (by decide) q610 (fun _ z => z) eb rfl dX11_canBe_19 ?_
  refine aw_getfN C ck3 0 (by decide) q198 (fun _ z => z) eg rfl dX11_canBe_22 ?_
  refine aw_icmpN_ge C (tgt := 47) (by omega) (by omega) dX11_canBe_25 (by decide) (fun g25 => ?_) (fun g25 => ?_)
  · refine aw_iconst C (v := nI 0) (by decide) dX11_canBe_47 ?_
    exact aw_zret C rfl (by decide) dX11_canBe_48 (Nat.le_refl _) (Nat.le_refl _) ⟨by unfold cb; first | rw [if_pos (decide_eq_true (by omega))] | rw [if_neg (fun z => by have := of_decide_eq_true z; omega)], rfl, rfl⟩
  · refine aw_getsN C hU.1 q819 (fun _ z => z) dX11_canBe_28 ?_
    refine aw_aload_n C rfl rfl dX11_canBe_31 ?_
    refine aw_getf C ck10 1 (by decide) q841 (fun _ z => z) em rfl dX11_canBe_32 ?_
    refine aw_iload_n C rfl rfl dX11_canBe_35 ?_
    refine aw_iload_n C rfl rfl dX11_canBe_36 ?_
    refine aw_callVOR C  (bd_reason hG l hU hI hb hW (show i / 4 < 9 by omega) (by omega)) q821 q822 q823 q2248 q824 hU.2 (n9 := 3) (by decide +kernel) rfl (Nat.le_of_ble_eq_true rfl) (Nat.le_of_ble_eq_true rfl) (Nat.zero_le _) (Nat.zero_le _) rfl (Nat.le_of_ble_eq_true rfl) dX11_canBe_37 ?_
    refine aw_ifN_ne C (tgt := 47) (by omega) dX11_canBe_40 (by decide) (fun g40 => ?_) (fun g40 => ?_)
    · refine aw_iconst C (v := nI 0) (by decide) dX11_canBe_47 ?_
      exact aw_zret C rfl (by decide) dX11_canBe_48 (Nat.le_refl _) (Nat.le_refl _) ⟨by unfold cb; first | rw [if_pos (decide_eq_true (by omega))] | rw [if_neg (fun z => by have := of_decide_eq_true z; omega)], rfl, rfl⟩
    · refine aw_iconst C (v := nI 1) (by decide) dX11_canBe_43 ?_
      refine aw_goto C (tgt := 48) dX11_canBe_44 (by decide) ?_
      exact aw_zret C rfl (by decide) dX11_canBe_48 (Nat.le_refl _) (Nat.le_refl _) ⟨by unfold cb; first | rw [if_pos (decide_eq_true (by omega))] | rw [if_neg (fun z => by have := of_decide_eq_true z; omega)], rfl, rfl⟩
set_option maxRecDepth 100000 in
theorem mo_settles {γ : Gm} (hG : GF γ) (l : Launch) {h : AH} {sz : Nat} {ρ : Nat} (hU : RUL γ ρ) (hI : FRU γ)  {b : BT} {m a gr i0 : Nat} {at0 : Int32} (em0 : h m = some (.inr (10, [.int at0, .ref a]))) (e0 : at0 + nI 1 = nI i0) (hb : BRD h a gr b) (hW : WB b) (hL9 : b 2 ≤ 9) (hi0 : i0 ≤ 101) : MX γ l yX11_settles cX11_settles 1 none 5 113 0 0 [.ref m] h sz (PE none (hset h m (.inr (10, [.int (nI (stl b i0)), .ref a]))) sz) NX := by
  refine mx_start hG (by decide) (Nat.le_of_ble_eq_true rfl) (fun x C => ?_)
  have hN := hW.2.1
  obtain ⟨ca, ba, v3, v4, fc, fb, eb, eca, eba, hg, hfc, hfb⟩ := id hb
  obtain ⟨gl, gn, fl, fn, eg, egl, egn, hgl, hgn⟩ := id hg
  have key : ∀ j i, i ≤ 101 → 102 ≤ i + j → stF b 40 i = stF b 40 i0 → AW γ l x (QX γ x 0 0 (PE none (hset h m (.inr (10, [.int (nI (stl b i0)), .ref a]))) sz) NX) 1 (hset h m (.inr (10, [.int (nI i), .ref a]))) sz 0 0 10 [(0, .ref m)] [] := by
    intro j
    induction j with
    | zero => intro i h1 h2 h3; exact absurd h2 (by omega)
    | succ j ih =>
      intro i h1 h2 h3
      refine aw_aload_n C rfl rfl dX11_settles_10 ?_
      refine aw_getf C ck10 0 (by decide) q840 (fun _ z => z) (hset_s _ _ _) rfl dX11_settles_11 ?_
      refine aw_iconst C (v := nI 4) (by decide) dX11_settles_14 ?_
      refine aw_aload_n C rfl rfl dX11_settles_15 ?_
      refine aw_getf C ck10 1 (by decide) q841 (fun _ z => z) (hset_s _ _ _) rfl dX11_settles_16 ?_
      refine aw_getfN C ck2 0 (by decide) q610 (fun _ z => z) ((hset_n _ _ (ne9 eb em0 (by intro z; cases z))).trans eb) rfl dX11_settles_19 ?_
      refine aw_getfN C ck3 3 (by decide) q214 (fun _ z => z) ((hset_n _ _ (ne9 eg em0 (by intro z; cases z))).trans eg) rfl dX11_settles_22 ?_
      refine aw_imulN C dX11_settles_25 ?_
      refine aw_icmpN_ge C (tgt := 49) (by omega) (by omega) dX11_settles_26 (by decide) (fun g26 => ?_) (fun g26 => ?_)
      · have hst : stF b 40 i0 = i := by
          rw [← h3]
          exact stF_fix (fun z => by first | omega | (rw [z.2] at g33; cases g33)) _
        refine aw_aload_n C rfl rfl dX11_settles_49 ?_
        refine aw_getf C ck10 0 (by decide) q840 (fun _ z => z) (hset_s _ _ _) rfl dX11_settles_50 ?_
        refine aw_iconst C (v := nI 4) (by decide) dX11_settles_53 ?_
        refine aw_aload_n C rfl rfl dX11_settles_54 ?_
        refine aw_getf C ck10 1 (by decide) q841 (fun _ z => z) (hset_s _ _ _) rfl dX11_settles_55 ?_
        refine aw_getfN C ck2 0 (by decide) q610 (fun _ z => z) ((hset_n _ _ (ne9 eb em0 (by intro z; cases z))).trans eb) rfl dX11_settles_58 ?_
        refine aw_getfN C ck3 3 (by decide) q214 (fun _ z => z) ((hset_n _ _ (ne9 eg em0 (by intro z; cases z))).trans eg) rfl dX11_settles_61 ?_
        refine aw_imulN C dX11_settles_64 ?_
        refine aw_icmpN_ne C (tgt := 89) (by omega) (by omega) dX11_settles_65 (by decide) (fun g65 => ?_) (fun g65 => ?_)
        · refine aw_vret C rfl dX11_settles_89 (Nat.le_refl _) (Nat.le_refl _) ?_
          unfold stl
          rw [hst]
          first
          | (rw [if_pos (by omega), if_pos (by omega)]; exact ⟨rfl, rfl, rfl⟩)
          | (rw [if_pos (by omega), if_neg (by omega)]; exact ⟨rfl, rfl, rfl⟩)
          | (rw [if_neg (by omega)]; exact ⟨rfl, rfl, rfl⟩)
        · refine aw_aload_n C rfl rfl dX11_settles_68 ?_
          refine aw_aload_n C rfl rfl dX11_settles_69 ?_
          refine aw_getf C ck10 1 (by decide) q841 (fun _ z => z) (hset_s _ _ _) rfl dX11_settles_70 ?_
          refine aw_getfN C ck2 5 (by decide) q624 (fun _ z => z) ((hset_n _ _ (ne9 eb em0 (by intro z; cases z))).trans eb) rfl dX11_settles_73 ?_
          refine aw_ifN_le C (tgt := 84) (by omega) dX11_settles_76 (by decide) (fun g76 => ?_) (fun g76 => ?_)
          · refine aw_bipush C (v := nI 101) (by decide) dX11_settles_84 ?_
            refine aw_putf C ck10 0 (by decide) q840 (fun _ z => z) rfl rfl (ty := .int) rfl rfl (hset_s _ _ _) (show 0 < 2 by decide) dX11_settles_86 ?_
            rw [hset_hset]
            refine aw_vret C rfl dX11_settles_89 (Nat.le_refl _) (Nat.le_refl _) ?_
            unfold stl
            rw [hst]
            first
            | (rw [if_pos (by omega), if_pos (by omega)]; exact ⟨rfl, rfl, rfl⟩)
            | (rw [if_pos (by omega), if_neg (by omega)]; exact ⟨rfl, rfl, rfl⟩)
            | (rw [if_neg (by omega)]; exact ⟨rfl, rfl, rfl⟩)
          · refine aw_bipush C (v := nI 100) (by decide) dX11_settles_79 ?_
            refine aw_goto C (tgt := 86) dX11_settles_81 (by decide) ?_
            refine aw_putf C ck10 0 (by decide) q840 (fun _ z => z) rfl rfl (ty := .int) rfl rfl (hset_s _ _ _) (show 0 < 2 by decide) dX11_settles_86 ?_
            rw [hset_hset]
            refine aw_vret C rfl dX11_settles_89 (Nat.le_refl _) (Nat.le_refl _) ?_
            unfold stl
            rw [hst]
            first
            | (rw [if_pos (by omega), if_pos (by omega)]; exact ⟨rfl, rfl, rfl⟩)
            | (rw [if_pos (by omega), if_neg (by omega)]; exact ⟨rfl, rfl, rfl⟩)
            | (rw [if_neg (by omega)]; exact ⟨rfl, rfl, rfl⟩)
      · have hlt : i < 4 * b 0 := by omega
        refine aw_aload_n C rfl rfl dX11_settles_29 ?_
        refine aw_callVRR C ck10 (mo_canBe hG l hU hI (hset_s _ _ _) (hb.m10 em0) hW (show i < 4 * b 0 by omega)) q815 q817 qs10 q131 q818 (Or.inl (hset_s _ _ _)) (n9 := 0) (by decide +kernel) rfl (Nat.le_of_ble_eq_true rfl) (Nat.le_of_ble_eq_true rfl) (Nat.zero_le _) (Nat.zero_le _) rfl (Nat.le_of_ble_eq_true rfl) dX11_settles_30 ?_
        refine aw_bit_ne0 C (tgt := 49) dX11_settles_33 (by decide) (fun g33 => ?_) (fun g33 => ?_)
        · have hst : stF b 40 i0 = i := by
            rw [← h3]
            exact stF_fix (fun z => by first | omega | (rw [z.2] at g33; cases g33)) _
          refine aw_aload_n C rfl rfl dX11_settles_49 ?_
          refine aw_getf C ck10 0 (by decide) q840 (fun _ z => z) (hset_s _ _ _) rfl dX11_settles_50 ?_
          refine aw_iconst C (v := nI 4) (by decide) dX11_settles_53 ?_
          refine aw_aload_n C rfl rfl dX11_settles_54 ?_
          refine aw_getf C ck10 1 (by decide) q841 (fun _ z => z) (hset_s _ _ _) rfl dX11_settles_55 ?_
          refine aw_getfN C ck2 0 (by decide) q610 (fun _ z => z) ((hset_n _ _ (ne9 eb em0 (by intro z; cases z))).trans eb) rfl dX11_settles_58 ?_
          refine aw_getfN C ck3 3 (by decide) q214 (fun _ z => z) ((hset_n _ _ (ne9 eg em0 (by intro z; cases z))).trans eg) rfl dX11_settles_61 ?_
          refine aw_imulN C dX11_settles_64 ?_
          refine aw_icmpN_ne C (tgt := 89) (by omega) (by omega) dX11_settles_65 (by decide) (fun g65 => ?_) (fun g65 => ?_)
          · refine aw_vret C rfl dX11_settles_89 (Nat.le_refl _) (Nat.le_refl _) ?_
            unfold stl
            rw [hst]
            first
            | (rw [if_pos (by omega), if_pos (by omega)]; exact ⟨rfl, rfl, rfl⟩)
            | (rw [if_pos (by omega), if_neg (by omega)]; exact ⟨rfl, rfl, rfl⟩)
            | (rw [if_neg (by omega)]; exact ⟨rfl, rfl, rfl⟩)
          · refine aw_aload_n C rfl rfl dX11_settles_68 ?_
            refine aw_aload_n C rfl rfl dX11_settles_69 ?_
            refine aw_getf C ck10 1 (by decide) q841 (fun _ z => z) (hset_s _ _ _) rfl dX11_settles_70 ?_
            refine aw_getfN C ck2 5 (by decide) q624 (fun _ z => z) ((hset_n _ _ (ne9 eb em0 (by intro z; cases z))).trans eb) rfl dX11_settles_73 ?_
            refine aw_ifN_le C (tgt := 84) (by omega) dX11_settles_76 (by decide) (fun g76 => ?_) (fun g76 => ?_)
            · refine aw_bipush C (v := nI 101) (by decide) dX11_settles_84 ?_
              refine aw_putf C ck10 0 (by decide) q840 (fun _ z => z) rfl rfl (ty := .int) rfl rfl (hset_s _ _ _) (show 0 < 2 by decide) dX11_settles_86 ?_
              rw [hset_hset]
              refine aw_vret C rfl dX11_settles_89 (Nat.le_refl _) (Nat.le_refl _) ?_
              unfold stl
              rw [hst]
              first
              | (rw [if_pos (by omega), if_pos (by omega)]; exact ⟨rfl, rfl, rfl⟩)
              | (rw [if_pos (by omega), if_neg (by omega)]; exact ⟨rfl, rfl, rfl⟩)
              | (rw [if_neg (by omega)]; exact ⟨rfl, rfl, rfl⟩)
            · refine aw_bipush C (v := nI 100) (by decide) dX11_settles_79 ?_
              refine aw_goto C (tgt := 86) dX11_settles_81 (by decide) ?_
              refine aw_putf C ck10 0 (by decide) q840 (fun _ z => z) rfl rfl (ty := .int) rfl rfl (hset_s _ _ _) (show 0 < 2 by decide) dX11_settles_86 ?_
              rw [hset_hset]
              refine aw_vret C rfl dX11_settles_89 (Nat.le_refl _) (Nat.le_refl _) ?_
              unfold stl
              rw [hst]
              first
              | (rw [if_pos (by omega), if_pos (by omega)]; exact ⟨rfl, rfl, rfl⟩)
              | (rw [if_pos (by omega), if_neg (by omega)]; exact ⟨rfl, rfl, rfl⟩)
              | (rw [if_neg (by omega)]; exact ⟨rfl, rfl, rfl⟩)
        · refine aw_aload_n C rfl rfl dX11_settles_36 ?_
          refine aw_dup C rfl dX11_settles_37 ?_
          refine aw_getf C ck10 0 (by decide) q840 (fun _ z => z) (hset_s _ _ _) rfl dX11_settles_38 ?_
          refine aw_iconst C (v := nI 1) (by decide) dX11_settles_41 ?_
          refine aw_iaddN C dX11_settles_42 ?_
          refine aw_putf C ck10 0 (by decide) q840 (fun _ z => z) rfl rfl (ty := .int) rfl rfl (hset_s _ _ _) (show 0 < 2 by decide) dX11_settles_43 ?_
          rw [hset_hset]
          refine aw_goto C (tgt := 10) dX11_settles_46 (by decide) ?_
          exact aw_lo (ih (i + 1) (by omega) (by omega) ((stF_s 39 i (by omega) (by omega) (by first | exact g33 | (cases q : cb b i; rfl; exact absurd q g33))).symm.trans h3)) ⟨rfl, trivial⟩
  refine aw_aload_n C rfl rfl dX11_settles_0 ?_
  refine aw_dup C rfl dX11_settles_1 ?_
  refine aw_getf C ck10 0 (by decide) q840 (fun _ z => z) em0 rfl dX11_settles_2 ?_
  refine aw_iconst C (v := nI 1) (by decide) dX11_settles_5 ?_
  refine aw_iadd C dX11_settles_6 ?_
  refine aw_top e0 ?_
  refine aw_putf C ck10 0 (by decide) q840 (fun _ z => z) rfl rfl (ty := .int) rfl rfl em0 (show 0 < 2 by decide) dX11_settles_7 ?_
  exact aw_lo (key 102 i0 hi0 (by omega) rfl) ⟨rfl, trivial⟩
