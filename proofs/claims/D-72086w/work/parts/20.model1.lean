/-! THE MODEL: leaves that only read -/
set_option maxRecDepth 100000
theorem hdX2_in : yX2_in.cls = "LiarClocksModel" ∧ yX2_in.cls ≠ "java/lang/invoke/MethodHandle" ∧ yX2_in.cls ≠ "java/lang/invoke/VarHandle" ∧ (parseMethodDescriptor yX2_in.desc).map (fun d => d.parameters.length) = some 3 := by decide +kernel
set_option maxHeartbeats 4000000 in
/-- in(v, lo, hi) -/
theorem mX2_in (l : Launch) (v lo hi : Int32) : Met l yX2_in (ws_ yX2_in cX2_in 3 (some .boolean)) ({ frames := 0, cells := 0, slots := 0, locals := 0 } : Room) (fun v9 _ => v9 = ([.int v, .int lo, .int hi] : List Value).toArray) (QcRead (bI (decide (lo ≤ v) && decide (v ≤ hi)))) 0 0 (fun _ => False) := by
  refine sR_intro [.int v, .int lo, .int hi] (by decide) (Nat.le_of_ble_eq_true rfl) ?_
  intro pg en s0 mi below meth cd ls hx hb hown hts hr hlk hml hl
  have hl : lv_has ls 3 [(0, .int v), (1, .int lo), (2, .int hi)] := hl
  refine lv_iload_n hx hb dX2_in_0 rfl (lv_at hl 0 rfl) ?_
  refine lv_iload_n hx hb dX2_in_1 rfl (lv_at hl 1 rfl) ?_
  refine lv_icmp_lt (tgt := 14) hx hb dX2_in_2 (by decide) (fun c_1 => ?_) (fun c_1 => ?_)
  · refine lv_iconst (v := 0) hx hb dX2_in_14 (by decide) ?_
    exact w_retZ hx hb hlk hr dX2_in_15 (by simp [bI, Int32.not_le.mpr c_1])
  · refine lv_iload_n hx hb dX2_in_5 rfl (lv_at hl 0 rfl) ?_
    refine lv_iload_n hx hb dX2_in_6 rfl (lv_at hl 2 rfl) ?_
    refine lv_icmp_gt (tgt := 14) hx hb dX2_in_7 (by decide) (fun c_2 => ?_) (fun c_2 => ?_)
    · refine lv_iconst (v := 0) hx hb dX2_in_14 (by decide) ?_
      exact w_retZ hx hb hlk hr dX2_in_15 (by simp [bI, Int32.not_le.mpr c_2])
    · refine lv_iconst (v := 1) hx hb dX2_in_10 (by decide) ?_
      refine lv_goto (tgt := 15) hx hb dX2_in_11 (by decide) ?_
      exact w_retZ hx hb hlk hr dX2_in_15 (by simp [bI, Int32.not_lt.mp c_1, Int32.not_lt.mp c_2])

theorem hdX2_aim : yX2_aim.cls = "LiarClocksModel" ∧ yX2_aim.cls ≠ "java/lang/invoke/MethodHandle" ∧ yX2_aim.cls ≠ "java/lang/invoke/VarHandle" ∧ (parseMethodDescriptor yX2_aim.desc).map (fun d => d.parameters.length) = some 2 := by decide +kernel
set_option maxHeartbeats 4000000 in
/-- aim -/
theorem mX2_aim (l : Launch) (D : va_G) (T : Nat → ClassId) (ad : Nat → Nat) (μ : Nat → Nat → Int32) (h : Vw) (x c : Nat) (hR : Rp (μ 1) x h) (hx0 : x ≤ 3648) (hc : c < 8) : Met l yX2_aim (ws_ yX2_aim cX2_aim 3 (some .int)) ({ frames := 0, cells := 0, slots := 0, locals := 0 } : Room) (mPc D T ad μ [.ref (ad 0), .int (nI x), .int (nI c)]) (QcRead (aimS h c)) 0 0 (fun _ => False) := by
  refine mR_intro [.ref (ad 0), .int (nI x), .int (nI c)] (by decide) rfl (Nat.le_of_ble_eq_true rfl) ?_
  intro pg en s0 mi below meth cd ls C hr hlk hml hP hl
  have hx := C.1
  have hb := C.2.1
  have hown := C.2.2.1
  have hts := C.2.2.2.1
  have hl : lv_has ls 3 [(0, .ref (ad 0)), (1, .int (nI x)), (2, .int (nI c))] := hl
  refine lv_aload_n hx hb dX2_aim_0 rfl (lv_at hl 0 rfl) ?_
  refine mg_w C hP dX2_aim_1 ?_
  refine lv_iload_n hx hb dX2_aim_4 rfl (lv_at hl 1 rfl) ?_
  refine lv_iconst (v := nI 3) hx hb dX2_aim_5 (by decide) ?_
  refine w_iaddN hx hb dX2_aim_6 ?_
  refine lv_iload_n hx hb dX2_aim_7 rfl (lv_at hl 2 rfl) ?_
  refine w_iaddN hx hb dX2_aim_8 ?_
  refine m_ald1 C hP (by omega) dX2_aim_9 ?_
  refine w_eqi (rp_1 hR (c) (by omega) (by omega)) ?_
  refine lv_aload_n hx hb dX2_aim_10 rfl (lv_at hl 0 rfl) ?_
  refine mg_w C hP dX2_aim_11 ?_
  refine lv_iload_n hx hb dX2_aim_14 rfl (lv_at hl 1 rfl) ?_
  refine lv_bipush (v := nI 19) hx hb dX2_aim_15 (by decide) ?_
  refine w_iaddN hx hb dX2_aim_17 ?_
  refine lv_iload_n hx hb dX2_aim_18 rfl (lv_at hl 2 rfl) ?_
  refine w_iaddN hx hb dX2_aim_19 ?_
  refine m_ald1 C hP (by omega) dX2_aim_20 ?_
  refine w_eqi (rp_3 hR (c) (by omega) (by omega)) ?_
  refine lv_iadd hx hb dX2_aim_21 ?_
  exact w_retR hx hb hlk hr dX2_aim_22 rfl

theorem hdX2_isTrue : yX2_isTrue.cls = "LiarClocksModel" ∧ yX2_isTrue.cls ≠ "java/lang/invoke/MethodHandle" ∧ yX2_isTrue.cls ≠ "java/lang/invoke/VarHandle" ∧ (parseMethodDescriptor yX2_isTrue.desc).map (fun d => d.parameters.length) = some 2 := by decide +kernel
set_option maxHeartbeats 4000000 in
/-- isTrue -/
theorem mX2_isTrue (l : Launch) (D : va_G) (T : Nat → ClassId) (ad : Nat → Nat) (μ : Nat → Nat → Int32) (h : Vw) (x c : Nat) (hR : Rp (μ 1) x h) (hx0 : x ≤ 3648) (hc : c < 8) : Met l yX2_isTrue (ws_ yX2_isTrue cX2_isTrue 3 (some .boolean)) ({ frames := 0, cells := 0, slots := 0, locals := 0 } : Room) (mPc D T ad μ [.ref (ad 0), .int (nI x), .int (nI c)]) (QcRead (bI (trS h c))) 0 0 (fun _ => False) := by
  refine mR_intro [.ref (ad 0), .int (nI x), .int (nI c)] (by decide) rfl (Nat.le_of_ble_eq_true rfl) ?_
  intro pg en s0 mi below meth cd ls C hr hlk hml hP hl
  have hx := C.1
  have hb := C.2.1
  have hown := C.2.2.1
  have hts := C.2.2.2.1
  have hl : lv_has ls 3 [(0, .ref (ad 0)), (1, .int (nI x)), (2, .int (nI c))] := hl
  refine lv_aload_n hx hb dX2_isTrue_0 rfl (lv_at hl 0 rfl) ?_
  refine mg_w C hP dX2_isTrue_1 ?_
  refine lv_iload_n hx hb dX2_isTrue_4 rfl (lv_at hl 1 rfl) ?_
  refine lv_bipush (v := nI 27) hx hb dX2_isTrue_5 (by decide) ?_
  refine w_iaddN hx hb dX2_isTrue_7 ?_
  refine lv_iload_n hx hb dX2_isTrue_8 rfl (lv_at hl 2 rfl) ?_
  refine w_iaddN hx hb dX2_isTrue_9 ?_
  refine m_ald1 C hP (by omega) dX2_isTrue_10 ?_
  refine w_eqi (rp_4 hR (c) (by omega) (by omega)) ?_
  refine lv_if_ne (tgt := 32) hx hb dX2_isTrue_11 (by decide) (fun c_3 => ?_) (fun c_3 => ?_)
  · refine lv_iconst (v := 0) hx hb dX2_isTrue_32 (by decide) ?_
    exact w_retZ hx hb hlk hr dX2_isTrue_33 (by simp [bI, trS, c_3])
  · refine lv_aload_n hx hb dX2_isTrue_14 rfl (lv_at hl 0 rfl) ?_
    refine mg_w C hP dX2_isTrue_15 ?_
    refine lv_iload_n hx hb dX2_isTrue_18 rfl (lv_at hl 1 rfl) ?_
    refine lv_bipush (v := nI 35) hx hb dX2_isTrue_19 (by decide) ?_
    refine w_iaddN hx hb dX2_isTrue_21 ?_
    refine lv_iload_n hx hb dX2_isTrue_22 rfl (lv_at hl 2 rfl) ?_
    refine w_iaddN hx hb dX2_isTrue_23 ?_
    refine m_ald1 C hP (by omega) dX2_isTrue_24 ?_
    refine w_eqi (rp_5 hR (c) (by omega) (by omega)) ?_
    refine lv_if_ne (tgt := 32) hx hb dX2_isTrue_25 (by decide) (fun c_4 => ?_) (fun c_4 => ?_)
    · refine lv_iconst (v := 0) hx hb dX2_isTrue_32 (by decide) ?_
      exact w_retZ hx hb hlk hr dX2_isTrue_33 (by simp [bI, trS, c_4])
    · refine lv_iconst (v := 1) hx hb dX2_isTrue_28 (by decide) ?_
      refine lv_goto (tgt := 33) hx hb dX2_isTrue_29 (by decide) ?_
      exact w_retZ hx hb hlk hr dX2_isTrue_33 (by simp [bI, trS, c_3, c_4])

theorem hdX2_isLiar : yX2_isLiar.cls = "LiarClocksModel" ∧ yX2_isLiar.cls ≠ "java/lang/invoke/MethodHandle" ∧ yX2_isLiar.cls ≠ "java/lang/invoke/VarHandle" ∧ (parseMethodDescriptor yX2_isLiar.desc).map (fun d => d.parameters.length) = some 2 := by decide +kernel
set_option maxHeartbeats 4000000 in
/-- isLiar -/
theorem mX2_isLiar (l : Launch) (D : va_G) (T : Nat → ClassId) (ad : Nat → Nat) (μ : Nat → Nat → Int32) (h : Vw) (x c : Nat) (hR : Rp (μ 1) x h) (hx0 : x ≤ 3648) (hc : c < 8) : Met l yX2_isLiar (ws_ yX2_isLiar cX2_isLiar 3 (some .boolean)) ({ frames := 0, cells := 0, slots := 0, locals := 0 } : Room) (mPc D T ad μ [.ref (ad 0), .int (nI x), .int (nI c)]) (QcRead (bI (lrS h c))) 0 0 (fun _ => False) := by
  refine mR_intro [.ref (ad 0), .int (nI x), .int (nI c)] (by decide) rfl (Nat.le_of_ble_eq_true rfl) ?_
  intro pg en s0 mi below meth cd ls C hr hlk hml hP hl
  have hx := C.1
  have hb := C.2.1
  have hown := C.2.2.1
  have hts := C.2.2.2.1
  have hl : lv_has ls 3 [(0, .ref (ad 0)), (1, .int (nI x)), (2, .int (nI c))] := hl
  refine lv_aload_n hx hb dX2_isLiar_0 rfl (lv_at hl 0 rfl) ?_
  refine mg_w C hP dX2_isLiar_1 ?_
  refine lv_iload_n hx hb dX2_isLiar_4 rfl (lv_at hl 1 rfl) ?_
  refine lv_bipush (v := nI 27) hx hb dX2_isLiar_5 (by decide) ?_
  refine w_iaddN hx hb dX2_isLiar_7 ?_
  refine lv_iload_n hx hb dX2_isLiar_8 rfl (lv_at hl 2 rfl) ?_
  refine w_iaddN hx hb dX2_isLiar_9 ?_
  refine m_ald1 C hP (by omega) dX2_isLiar_10 ?_
  refine w_eqi (rp_4 hR (c) (by omega) (by omega)) ?_
  refine lv_iconst (v := 1) hx hb dX2_isLiar_11 (by decide) ?_
  refine lv_icmp_ne (tgt := 33) hx hb dX2_isLiar_12 (by decide) (fun c_5 => ?_) (fun c_5 => ?_)
  · refine lv_iconst (v := 0) hx hb dX2_isLiar_33 (by decide) ?_
    exact w_retZ hx hb hlk hr dX2_isLiar_34 (by simp [bI, lrS, c_5])
  · refine lv_aload_n hx hb dX2_isLiar_15 rfl (lv_at hl 0 rfl) ?_
    refine mg_w C hP dX2_isLiar_16 ?_
    refine lv_iload_n hx hb dX2_isLiar_19 rfl (lv_at hl 1 rfl) ?_
    refine lv_bipush (v := nI 35) hx hb dX2_isLiar_20 (by decide) ?_
    refine w_iaddN hx hb dX2_isLiar_22 ?_
    refine lv_iload_n hx hb dX2_isLiar_23 rfl (lv_at hl 2 rfl) ?_
    refine w_iaddN hx hb dX2_isLiar_24 ?_
    refine m_ald1 C hP (by omega) dX2_isLiar_25 ?_
    refine w_eqi (rp_5 hR (c) (by omega) (by omega)) ?_
    refine lv_if_ne (tgt := 33) hx hb dX2_isLiar_26 (by decide) (fun c_6 => ?_) (fun c_6 => ?_)
    · refine lv_iconst (v := 0) hx hb dX2_isLiar_33 (by decide) ?_
      exact w_retZ hx hb hlk hr dX2_isLiar_34 (by simp [bI, lrS, c_6])
    · refine lv_iconst (v := 1) hx hb dX2_isLiar_29 (by decide) ?_
      refine lv_goto (tgt := 34) hx hb dX2_isLiar_30 (by decide) ?_
      exact w_retZ hx hb hlk hr dX2_isLiar_34 (by simp [bI, lrS, c_5, c_6])

