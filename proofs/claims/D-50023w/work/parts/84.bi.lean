/-! boards: the constructor -/
section IPN
variable {γ : Gm} {l : Launch} {x : WX} {y : MethodName} {cc : ByteArray} {nL : Nat} {ret : Option FieldType} {rm : Room} {et : List ExceptionTableEntry} {Q : State → Prop} {h : AH} {sz k n pc : Nat} {L : LV} {st : List Value}
variable {y9 : MethodName} {b9 : ByteArray} {nL9 : Nat} {ret9 : Option FieldType} {f9 lo9 mc ms index : Nat} {As : List Value} {st0 : List Value} {h' : AH} {sz' : Nat}
theorem aw_callIPN (C : Cx γ l x y cc nL ret rm et) {a n9 : Nat} {host : String} (hM : MX γ l y9 b9 nL9 none f9 lo9 mc ms (.ref a :: As) h sz (PE none h' sz') NX)
    (q1 : Cond.methodLinkNest y.cls index y9 host ∈ lw_tbl) (q2 : Cond.instanceMethod y9 ∈ lw_all) (q3 : Cond.initialized y9.cls ∈ lw_all) (q4 : Cond.code y9 b9 nL9 none ∈ lw_all) (hy1 : y9.name = "<init>")
    (hd : y9.cls ≠ "java/lang/invoke/MethodHandle" ∧ y9.cls ≠ "java/lang/invoke/VarHandle" ∧ (parseMethodDescriptor y9.desc).map (fun d => d.parameters.length) = some n9) (hn : As.length = n9) (hf : f9 + 1 ≤ rm.frames) (hl : 8 + (nL9 + 11) + lo9 ≤ rm.locals) (hc : k + mc ≤ rm.cells) (hs : n + ms ≤ rm.slots) (hst : st0 = As.reverse ++ .ref a :: st) (hw : (st.map fun v => v.category).sum ≤ 8) (d : decode cc pc = .ok (.invokespecial index, 3))
    (kk : AW γ l x Q nL h' sz' (k + mc) (n + ms) (pc + 3) L st) : AW γ l x Q nL h sz k n pc L st0 :=
  aw_callIN C hM q1 q2 q3 q4 hy1 hd hn hf hl hc hs hst hw d (fun _ _ _ z => z.elim) (fun v9 h9 sz9 hp => by
    obtain ⟨rfl, rfl, rfl⟩ := hp
    exact kk)
theorem aw_callVPN (C : Cx γ l x y cc nL ret rm et) {ci N a n9 : Nat} {w : Value} {Cn host : String} {T : u_T} {ty : Nat → FieldType} (K : CKF ci Cn T N ty) {fs : List Value} (hM : MX γ l y9 b9 nL9 ret9 f9 lo9 mc ms (.ref a :: As) h sz (PE (some w) h' sz') NX)
    (q1 : Cond.methodLinkNest y.cls index y9 host ∈ lw_tbl) (q2 : Cond.instanceMethod y9 ∈ lw_all) (q3 : Cond.selects Cn y9 y9 ∈ lw_all) (q4 : Cond.initialized y9.cls ∈ lw_all) (q5 : Cond.code y9 b9 nL9 ret9 ∈ lw_all)
    (he : h a = some (.inr (ci, fs))) (hd : y9.cls ≠ "java/lang/invoke/MethodHandle" ∧ y9.cls ≠ "java/lang/invoke/VarHandle" ∧ (parseMethodDescriptor y9.desc).map (fun d => d.parameters.length) = some n9) (hn : As.length = n9) (hf : f9 + 1 ≤ rm.frames) (hl : 8 + (nL9 + 11) + lo9 ≤ rm.locals) (hc : k + mc ≤ rm.cells) (hs : n + ms ≤ rm.slots) (hst : st0 = As.reverse ++ .ref a :: st) (hw : (st.map fun v => v.category).sum ≤ 8) (d : decode cc pc = .ok (.invokevirtual index, 3))
    (kk : AW γ l x Q nL h' sz' (k + mc) (n + ms) (pc + 3) L (w :: st)) : AW γ l x Q nL h sz k n pc L st0 :=
  aw_callVN C K hM q1 q2 q3 q4 q5 he hd hn hf hl hc hs hst hw d (fun _ _ _ z => z.elim) (fun v9 h9 sz9 hp => by
    obtain ⟨rfl, rfl, rfl⟩ := hp
    exact kk)
end IPN

/-- the two accounts -/
def acR (x y : Nat) : Nat → Option Nat := va_up (va_up (fun _ => none) 0 (some x)) 1 (some y)
/-- a new board at a, its cells from s -/
def BNew (h h' : AH) (a gr s : Nat) : Prop := (∀ q, q < s → q ≠ a → h' q = h q) ∧ h' a = some (.inr (2, [.ref gr, .ref s, .ref (s + 1), .ref (s + 2), .ref (s + 5), .int 0, .int 0])) ∧ (∃ fc fb, h' s = some (.inl (0, 9, .inl fc)) ∧ h' (s + 1) = some (.inl (0, 9, .inl fb)) ∧ (∀ v, v < 9 → fc v = -1) ∧ ∀ v, v < 9 → fb v = -1) ∧ h' (s + 2) = some (rfs 6 2 (acR (s + 3) (s + 4))) ∧ h' (s + 3) = some (.inr (4, [.int 0, .int 0, .int 0, .int 0, .int 0])) ∧ h' (s + 4) = some (.inr (4, [.int 0, .int 0, .int 0, .int 0, .int 0])) ∧ h' (s + 5) = some (.inr (12, [.int 0, .ref (s + 6), .int 0])) ∧ h' (s + 6) = some (rfs 4 8 (fun _ => none))
set_option maxRecDepth 100000 in
theorem bo_init {γ : Gm} (hG : GF γ) (l : Launch) {h : AH} {sz : Nat} {a gr : Nat} (hO4 : AOK γ "java/lang/Object") (hO6 : AOK γ "ColourDuel$Account") (ha : a < sz) (ea : h a = some (.inr (2, [.null, .null, .null, .null, .null, .int 0, .int 0]))) : MX γ l yX3_init cX3_init 3 none 18 401 7 41 [.ref a, .ref gr] h sz (fun v h' sz' => v = none ∧ sz' = sz + 7 ∧ BNew h h' a gr sz) NX := by
  refine mx_start hG (by decide) (Nat.le_of_ble_eq_true rfl) (fun x C => ?_)
  refine aw_aload_n C rfl rfl dX3_init_0 ?_
  refine aw_objInit C q234 q142 q143 (Nat.le_of_ble_eq_true rfl) (Nat.le_of_ble_eq_true rfl) dX3_init_1 ?_
  refine aw_aload_n C rfl rfl dX3_init_4 ?_
  refine aw_bipush C (v := nI 9) (by decide) dX3_init_5 ?_
  refine aw_newI C q185 (by decide) (by dsimp only; omega) (by dsimp only; omega) dX3_init_7 ?_
  refine aw_putfF C ck2 1 (by decide) q614 (fun _ z => z) rfl rfl rfl (ty := (.array .int)) rfl rfl rfl ((hset_n _ _ (by omega)).trans ea) (show 1 < 7 by decide) dX3_init_9 ?_
  refine aw_aload_n C rfl rfl dX3_init_12 ?_
  refine aw_bipush C (v := nI 9) (by decide) dX3_init_13 ?_
  refine aw_newI C q185 (by decide) (by dsimp only; omega) (by dsimp only; omega) dX3_init_15 ?_
  refine aw_putfF C ck2 2 (by decide) q616 (fun _ z => z) rfl rfl rfl (ty := (.array .int)) rfl rfl rfl ((hset_n _ _ (by omega)).trans (hset_s _ _ _)) (show 2 < 7 by decide) dX3_init_17 ?_
  refine aw_aload_n C rfl rfl dX3_init_20 ?_
  refine aw_iconst C (v := nI 2) (by decide) dX3_init_21 ?_
  refine aw_newq C (t := 6) (by decide) rfl hO6 q235 (by omega) (by dsimp only; omega) (by dsimp only; omega) dX3_init_22 ?_
  refine aw_dup C rfl dX3_init_25 ?_
  refine aw_iconst C (v := nI 0) (by decide) dX3_init_26 ?_
  refine aw_new C ck4 (fs := [.int 0, .int 0, .int 0, .int 0, .int 0]) q235 q237 q99 (by decide) (by dsimp only; omega) (by dsimp only; omega) dX3_init_27 ?_
  refine aw_dup C rfl dX3_init_30 ?_
  refine aw_callIPN C (ac_init hG l) q238 q239 q99 q240 rfl (n9 := 0) (by decide +kernel) rfl (Nat.le_of_ble_eq_true rfl) (Nat.le_of_ble_eq_true rfl) (by dsimp only; omega) (by dsimp only; omega) rfl (Nat.le_of_ble_eq_true rfl) dX3_init_31 ?_
  refine aw_aast C ck4 (t := 6) (by decide) rfl (Or.inl rfl) ((hset_n _ _ (by omega)).trans (hset_s _ _ _)) (show 0 < 2 by decide) (by decide) (hset_s _ _ _) dX3_init_34 ?_
  refine aw_dup C rfl dX3_init_35 ?_
  refine aw_iconst C (v := nI 1) (by decide) dX3_init_36 ?_
  refine aw_new C ck4 (fs := [.int 0, .int 0, .int 0, .int 0, .int 0]) q235 q237 q99 (by decide) (by dsimp only; omega) (by dsimp only; omega) dX3_init_37 ?_
  refine aw_dup C rfl dX3_init_40 ?_
  refine aw_callIPN C (ac_init hG l) q238 q239 q99 q240 rfl (n9 := 0) (by decide +kernel) rfl (Nat.le_of_ble_eq_true rfl) (Nat.le_of_ble_eq_true rfl) (by dsimp only; omega) (by dsimp only; omega) rfl (Nat.le_of_ble_eq_true rfl) dX3_init_41 ?_
  refine aw_aast C ck4 (t := 6) (by decide) rfl (Or.inl rfl) ((hset_n _ _ (by omega)).trans (hset_s _ _ _)) (show 1 < 2 by decide) (by decide) (hset_s _ _ _) dX3_init_44 ?_
  refine aw_putfF C ck2 3 (by decide) q619 (fun _ z => z) rfl rfl rfl (ty := (.array (.object "ColourDuel$Account"))) rfl rfl rfl ((hset_n _ _ (by omega)).trans ((hset_n _ _ (by omega)).trans ((hset_n _ _ (by omega)).trans ((hset_n _ _ (by omega)).trans ((hset_n _ _ (by omega)).trans (hset_s _ _ _)))))) (show 3 < 7 by decide) dX3_init_45 ?_
  refine aw_aload_n C rfl rfl dX3_init_48 ?_
  refine aw_new C ck12 (fs := [.int 0, .null, .int 0]) q263 q264 q102 (by decide) (by dsimp only; omega) (by dsimp only; omega) dX3_init_49 ?_
  refine aw_dup C rfl dX3_init_52 ?_
  refine aw_bipush C (v := nI 8) (by decide) dX3_init_53 ?_
  refine aw_callIP C (al_init hG l hO4 (m := 8) (by decide) (by decide) (by omega) (hset_s _ _ _)) q265 q266 q102 q267 rfl (n9 := 1) (by decide +kernel) rfl (Nat.le_of_ble_eq_true rfl) (Nat.le_of_ble_eq_true rfl) (by dsimp only; omega) (by dsimp only; omega) rfl (Nat.le_of_ble_eq_true rfl) dX3_init_55 ?_
  refine aw_putfF C ck2 4 (by decide) q621 (fun _ z => z) rfl rfl rfl (ty := (.object "java/util/List")) rfl rfl rfl ((hset_n _ _ (by omega)).trans ((hset_n _ _ (by omega)).trans ((hset_n _ _ (by omega)).trans (hset_s _ _ _)))) (show 4 < 7 by decide) dX3_init_58 ?_
  refine aw_aload_n C rfl rfl dX3_init_61 ?_
  refine aw_aload_n C rfl rfl dX3_init_62 ?_
  refine aw_putfF C ck2 0 (by decide) q609 (fun _ z => z) rfl rfl rfl (ty := (.object "ColourDuel$Graph")) rfl rfl rfl (hset_s _ _ _) (show 0 < 7 by decide) dX3_init_63 ?_
  refine aw_gh (fun h1 eh => ?_)
  have f_a : h1 a = some (.inr (2, [.ref gr, .ref sz, .ref (sz + 1), .ref (sz + 2), .ref (sz + 5), .int 0, .int 0])) := by
    rw [eh]
    repeat first | rw [hset_s] | rw [hset_n _ _ (by omega)]
    all_goals first | rfl | assumption
  have f0 : h1 sz = some (.inl (0, 9, .inl (fun _ => 0))) := by
    rw [eh]
    repeat first | rw [hset_s] | rw [hset_n _ _ (by omega)]
    all_goals first | rfl | assumption
  have f1 : h1 (sz + 1) = some (.inl (0, 9, .inl (fun _ => 0))) := by
    rw [eh]
    repeat first | rw [hset_s] | rw [hset_n _ _ (by omega)]
    all_goals first | rfl | assumption
  have f2 : h1 (sz + 2) = some (rfs 6 2 (acR (sz + 3) (sz + 4))) := by
    rw [eh]
    repeat first | rw [hset_s] | rw [hset_n _ _ (by omega)]
    all_goals first | rfl | assumption
  have f3 : h1 (sz + 3) = some (.inr (4, [.int 0, .int 0, .int 0, .int 0, .int 0])) := by
    rw [eh]
    repeat first | rw [hset_s] | rw [hset_n _ _ (by omega)]
    all_goals first | rfl | assumption
  have f4 : h1 (sz + 4) = some (.inr (4, [.int 0, .int 0, .int 0, .int 0, .int 0])) := by
    rw [eh]
    repeat first | rw [hset_s] | rw [hset_n _ _ (by omega)]
    all_goals first | rfl | assumption
  have f5 : h1 (sz + 5) = some (.inr (12, [.int 0, .ref (sz + 6), .int 0])) := by
    rw [eh]
    repeat first | rw [hset_s] | rw [hset_n _ _ (by omega)]
    all_goals first | rfl | assumption
  have f6 : h1 (sz + 6) = some (rfs 4 8 (fun _ => none)) := by
    rw [eh]
    repeat first | rw [hset_s] | rw [hset_n _ _ (by omega)]
    all_goals first | rfl | assumption
  have fq : ∀ q, q < sz → q ≠ a → h1 q = h q := fun q q1 q2 => by
    rw [eh]
    repeat rw [hset_n _ _ (by omega)]
  clear eh
  have key : ∀ j v f g, v ≤ 9 → 10 ≤ v + j → (∀ i, i < v → f i = -1) → (∀ i, i < v → g i = -1) → AW γ l x (QX γ x 7 41 (fun v h' sz' => v = none ∧ sz' = sz + 7 ∧ BNew h h' a gr sz) NX) 3 (hset (hset h1 sz (.inl (0, 9, .inl f))) (sz + 1) (.inl (0, 9, .inl g))) (sz + 7) 7 41 68 [(0, .ref a), (1, .ref gr), (2, .int (nI v))] [] := by
    intro j
    induction j with
    | zero => intro v f g h1x h2 hf hg; exact absurd h2 (by omega)
    | succ j ih =>
      intro v f g h1x h2 hf hg
      refine aw_iload_n C rfl rfl dX3_init_68 ?_
      refine aw_bipush C (v := nI 9) (by decide) dX3_init_69 ?_
      refine aw_icmpN_ge C (tgt := 94) (by omega) (by omega) dX3_init_71 (by decide) (fun gN => ?_) (fun gN => ?_)
      · refine aw_vret C rfl dX3_init_94 (by omega) (by omega) ?_
        refine ⟨rfl, rfl, fun q q1 q2 => ?_, ?_, ⟨f, g, ?_, hset_s _ _ _, fun i hi => hf i (by omega), fun i hi => hg i (by omega)⟩, ?_, ?_, ?_, ?_, ?_⟩
        · rw [hset_n _ _ (by omega), hset_n _ _ (by omega)]; exact fq q q1 q2
        · rw [hset_n _ _ (by omega), hset_n _ _ (by omega)]; exact f_a
        · rw [hset_n _ _ (by omega)]; exact hset_s _ _ _
        · rw [hset_n _ _ (by omega), hset_n _ _ (by omega)]; exact f2
        · rw [hset_n _ _ (by omega), hset_n _ _ (by omega)]; exact f3
        · rw [hset_n _ _ (by omega), hset_n _ _ (by omega)]; exact f4
        · rw [hset_n _ _ (by omega), hset_n _ _ (by omega)]; exact f5
        · rw [hset_n _ _ (by omega), hset_n _ _ (by omega)]; exact f6
      · refine aw_aload_n C rfl rfl dX3_init_74 ?_
        refine aw_getf C ck2 1 (by decide) q614 (fun _ z => z) ((hset_n _ _ (by omega)).trans ((hset_n _ _ (by omega)).trans f_a)) rfl dX3_init_75 ?_
        refine aw_iload_n C rfl rfl dX3_init_78 ?_
        refine aw_iconst C (v := -1) (by decide) dX3_init_79 ?_
        refine aw_iastN C ((hset_n _ _ (by omega)).trans (hset_s _ _ _)) (by omega) (by decide) dX3_init_80 ?_
        rw [hset_comm _ _ _ (show sz + 1 ≠ sz by omega), hset_hset]
        refine aw_aload_n C rfl rfl dX3_init_81 ?_
        refine aw_getf C ck2 2 (by decide) q616 (fun _ z => z) ((hset_n _ _ (by omega)).trans ((hset_n _ _ (by omega)).trans f_a)) rfl dX3_init_82 ?_
        refine aw_iload_n C rfl rfl dX3_init_85 ?_
        refine aw_iconst C (v := -1) (by decide) dX3_init_86 ?_
        refine aw_iastN C (hset_s _ _ _) (by omega) (by decide) dX3_init_87 ?_
        rw [hset_hset]
        refine aw_iinc1 C rfl (by decide) rfl dX3_init_88 ?_
        refine aw_goto C (tgt := 68) dX3_init_91 (by decide) ?_
        refine aw_lo (ih (v + 1) _ _ (by omega) (by omega) ?_ ?_) ⟨rfl, rfl, rfl, trivial⟩
        · exact fun i hi => by
            show upd f v (-1) i = -1
            by_cases e : i = v
            · rw [e, pk_us]
            · rw [pk_un e]; exact hf i (by omega)
        · exact fun i hi => by
            show upd g v (-1) i = -1
            by_cases e : i = v
            · rw [e, pk_us]
            · rw [pk_un e]; exact hg i (by omega)
  refine aw_iconst C (v := nI 0) (by decide) dX3_init_66 ?_
  refine aw_istore_n C rfl (by decide) rfl dX3_init_67 ?_
  have e9 : h1 = hset (hset h1 sz (.inl (0, 9, .inl (fun _ => 0)))) (sz + 1) (.inl (0, 9, .inl (fun _ => 0))) := by rw [hset_self f0, hset_self f1]
  refine aw_hp e9 (aw_lo (key 10 0 (fun _ => 0) (fun _ => 0) (Nat.zero_le _) (by omega) (fun i hi => absurd hi (Nat.not_lt_zero i)) (fun i hi => absurd hi (Nat.not_lt_zero i))) ⟨rfl, rfl, rfl, trivial⟩)
