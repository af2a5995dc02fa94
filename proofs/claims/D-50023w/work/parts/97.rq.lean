/-! what is required, or an exception -/
def RQ (t : Bool) (h : AH) (sz : Nat) : Option Value → AH → Nat → Prop := fun v h' sz' => v = none ∧ h' = h ∧ sz' = sz ∧ t = true
def RQX (cls : String) (t : Bool) (h : AH) (sz : Nat) : String → AH → Nat → Prop := fun E h' sz' => E = cls ∧ h' = h ∧ sz ≤ sz' ∧ t = false
/-- what is carried for exceptions -/
def GEX (γ : Gm) (l : Launch) : Prop := l.stackTraces = false ∧ XZ γ
theorem xn_all : ∀ n ∈ ["java/lang/RuntimeException", "java/lang/Exception"], Bundle.fit n = true := by decide +kernel
theorem xf_State : Bundle.fit "java/lang/IllegalStateException" = true := by decide +kernel
theorem xw_State : (∀ w ∈ xw "ColourDuel" "java/lang/IllegalStateException" 16 18 ["java/lang/RuntimeException", "java/lang/Exception"], w ∈ lw_tbl) ∧ (∀ w ∈ xw "ColourDuel" "java/lang/IllegalStateException" 16 18 ["java/lang/RuntimeException", "java/lang/Exception"], (goodWord w || nk w) = true) ∧ ∀ w ∈ xw "ColourDuel" "java/lang/IllegalStateException" 16 18 ["java/lang/RuntimeException", "java/lang/Exception"], vx_ot w = true := ⟨by decide +kernel, by decide +kernel, by decide +kernel⟩
theorem xf_Argument : Bundle.fit "java/lang/IllegalArgumentException" = true := by decide +kernel
theorem xw_Argument : (∀ w ∈ xw "ColourDuel" "java/lang/IllegalArgumentException" 13 15 ["java/lang/RuntimeException", "java/lang/Exception"], w ∈ lw_tbl) ∧ (∀ w ∈ xw "ColourDuel" "java/lang/IllegalArgumentException" 13 15 ["java/lang/RuntimeException", "java/lang/Exception"], (goodWord w || nk w) = true) ∧ ∀ w ∈ xw "ColourDuel" "java/lang/IllegalArgumentException" 13 15 ["java/lang/RuntimeException", "java/lang/Exception"], vx_ot w = true := ⟨by decide +kernel, by decide +kernel, by decide +kernel⟩
theorem xf_Element : Bundle.fit "java/util/NoSuchElementException" = true := by decide +kernel
theorem xw_Element : (∀ w ∈ xw "ColourDuel" "java/util/NoSuchElementException" 19 21 ["java/lang/RuntimeException", "java/lang/Exception"], w ∈ lw_tbl) ∧ (∀ w ∈ xw "ColourDuel" "java/util/NoSuchElementException" 19 21 ["java/lang/RuntimeException", "java/lang/Exception"], (goodWord w || nk w) = true) ∧ ∀ w ∈ xw "ColourDuel" "java/util/NoSuchElementException" 19 21 ["java/lang/RuntimeException", "java/lang/Exception"], vx_ot w = true := ⟨by decide +kernel, by decide +kernel, by decide +kernel⟩
theorem xf_Index : Bundle.fit "java/lang/IndexOutOfBoundsException" = true := by decide +kernel
theorem xw_Index : (∀ w ∈ xw "ColourDuel" "java/lang/IndexOutOfBoundsException" 7 9 ["java/lang/RuntimeException", "java/lang/Exception"], w ∈ lw_tbl) ∧ (∀ w ∈ xw "ColourDuel" "java/lang/IndexOutOfBoundsException" 7 9 ["java/lang/RuntimeException", "java/lang/Exception"], (goodWord w || nk w) = true) ∧ ∀ w ∈ xw "ColourDuel" "java/lang/IndexOutOfBoundsException" 7 9 ["java/lang/RuntimeException", "java/lang/Exception"], vx_ot w = true := ⟨by decide +kernel, by decide +kernel, by decide +kernel⟩
set_option maxRecDepth 100000 in
theorem rq_State {γ : Gm} (hG : GF γ) (l : Launch) {h : AH} {sz : Nat} (hX : GEX γ l) (t : Bool) : MX γ l yX1_requireState cX1_requireState 1 none 6 120 1 6 [.int (nI (if t = true then 1 else 0))] h sz (RQ t h sz) (RQX "java/lang/IllegalStateException" t h sz) := by
  refine mx_start hG (by decide) (Nat.le_of_ble_eq_true rfl) (fun x C => ?_)
  refine aw_iload_n C rfl rfl dX1_requireState_0 ?_
  refine aw_bit_ne0 C (tgt := 12) dX1_requireState_1 (by decide) (fun g1 => ?_) (fun g1 => ?_)
  · exact aw_vret C rfl dX1_requireState_12 (by omega) (by omega) ⟨rfl, rfl, rfl, g1⟩
  · exact aw_throw0 C hX.1 hX.2 xf_State xn_all xw_State.1 xw_State.2.1 xw_State.2.2 dX1_requireState_4 dX1_requireState_7 dX1_requireState_8 dX1_requireState_11 (Nat.le_of_ble_eq_true rfl) (Nat.le_of_ble_eq_true rfl) (Nat.le_of_ble_eq_true rfl) (Nat.le_of_ble_eq_true rfl) (Nat.le_of_ble_eq_true rfl) (Nat.le_of_ble_eq_true rfl) (fun sz' q => ⟨rfl, rfl, q, g1⟩)
set_option maxRecDepth 100000 in
theorem rq_Argument {γ : Gm} (hG : GF γ) (l : Launch) {h : AH} {sz : Nat} (hX : GEX γ l) (t : Bool) : MX γ l yX1_requireArgument cX1_requireArgument 1 none 6 120 1 6 [.int (nI (if t = true then 1 else 0))] h sz (RQ t h sz) (RQX "java/lang/IllegalArgumentException" t h sz) := by
  refine mx_start hG (by decide) (Nat.le_of_ble_eq_true rfl) (fun x C => ?_)
  refine aw_iload_n C rfl rfl dX1_requireArgument_0 ?_
  refine aw_bit_ne0 C (tgt := 12) dX1_requireArgument_1 (by decide) (fun g1 => ?_) (fun g1 => ?_)
  · exact aw_vret C rfl dX1_requireArgument_12 (by omega) (by omega) ⟨rfl, rfl, rfl, g1⟩
  · exact aw_throw0 C hX.1 hX.2 xf_Argument xn_all xw_Argument.1 xw_Argument.2.1 xw_Argument.2.2 dX1_requireArgument_4 dX1_requireArgument_7 dX1_requireArgument_8 dX1_requireArgument_11 (Nat.le_of_ble_eq_true rfl) (Nat.le_of_ble_eq_true rfl) (Nat.le_of_ble_eq_true rfl) (Nat.le_of_ble_eq_true rfl) (Nat.le_of_ble_eq_true rfl) (Nat.le_of_ble_eq_true rfl) (fun sz' q => ⟨rfl, rfl, q, g1⟩)
set_option maxRecDepth 100000 in
theorem rq_Element {γ : Gm} (hG : GF γ) (l : Launch) {h : AH} {sz : Nat} (hX : GEX γ l) (t : Bool) : MX γ l yX1_requireElement cX1_requireElement 1 none 6 120 1 6 [.int (nI (if t = true then 1 else 0))] h sz (RQ t h sz) (RQX "java/util/NoSuchElementException" t h sz) := by
  refine mx_start hG (by decide) (Nat.le_of_ble_eq_true rfl) (fun x C => ?_)
  refine aw_iload_n C rfl rfl dX1_requireElement_0 ?_
  refine aw_bit_ne0 C (tgt := 12) dX1_requireElement_1 (by decide) (fun g1 => ?_) (fun g1 => ?_)
  · exact aw_vret C rfl dX1_requireElement_12 (by omega) (by omega) ⟨rfl, rfl, rfl, g1⟩
  · exact aw_throw0 C hX.1 hX.2 xf_Element xn_all xw_Element.1 xw_Element.2.1 xw_Element.2.2 dX1_requireElement_4 dX1_requireElement_7 dX1_requireElement_8 dX1_requireElement_11 (Nat.le_of_ble_eq_true rfl) (Nat.le_of_ble_eq_true rfl) (Nat.le_of_ble_eq_true rfl) (Nat.le_of_ble_eq_true rfl) (Nat.le_of_ble_eq_true rfl) (Nat.le_of_ble_eq_true rfl) (fun sz' q => ⟨rfl, rfl, q, g1⟩)
set_option maxRecDepth 100000 in
theorem rq_Index {γ : Gm} (hG : GF γ) (l : Launch) {h : AH} {sz : Nat} (hX : GEX γ l) (i m : Int32) : MX γ l yX1_requireIndex cX1_requireIndex 2 none 6 140 1 6 [.int i, .int m] h sz (RQ (isI i (nI 0) (m - nI 1)) h sz) (RQX "java/lang/IndexOutOfBoundsException" (isI i (nI 0) (m - nI 1)) h sz) := by
  refine mx_start hG (by decide) (Nat.le_of_ble_eq_true rfl) (fun x C => ?_)
  refine aw_iload_n C rfl rfl dX1_requireIndex_0 ?_
  refine aw_i2l C (rfl) dX1_requireIndex_1 ?_
  refine aw_lconst C (v := (nI 0).toInt64) (by decide) dX1_requireIndex_2 ?_
  refine aw_iload_n C rfl rfl dX1_requireIndex_3 ?_
  refine aw_iconst C (v := nI 1) (by decide) dX1_requireIndex_4 ?_
  refine aw_isub C dX1_requireIndex_5 ?_
  refine aw_i2l C (rfl) dX1_requireIndex_6 ?_
  refine aw_callSRR C (cp_inRange hG l i (nI 0) (m - nI 1)) q1273 q1274 q95 q1275 (n9 := 3) (by decide +kernel) rfl (Nat.le_of_ble_eq_true rfl) (Nat.le_of_ble_eq_true rfl) (Nat.zero_le _) (Nat.zero_le _) rfl (Nat.le_of_ble_eq_true rfl) dX1_requireIndex_7 ?_
  refine aw_bit_ne0 C (tgt := 21) dX1_requireIndex_10 (by decide) (fun g1 => ?_) (fun g1 => ?_)
  · exact aw_vret C rfl dX1_requireIndex_21 (by omega) (by omega) ⟨rfl, rfl, rfl, g1⟩
  · exact aw_throw0 C hX.1 hX.2 xf_Index xn_all xw_Index.1 xw_Index.2.1 xw_Index.2.2 dX1_requireIndex_13 dX1_requireIndex_16 dX1_requireIndex_17 dX1_requireIndex_20 (Nat.le_of_ble_eq_true rfl) (Nat.le_of_ble_eq_true rfl) (Nat.le_of_ble_eq_true rfl) (Nat.le_of_ble_eq_true rfl) (Nat.le_of_ble_eq_true rfl) (Nat.le_of_ble_eq_true rfl) (fun sz' q => ⟨rfl, rfl, q, by cases z : isI i (nI 0) (m - nI 1); rfl; rw [z] at g1; cases g1⟩)
