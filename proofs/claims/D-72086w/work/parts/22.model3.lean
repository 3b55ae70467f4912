/-! THE MODEL: apart, a tick, sets and counts -/
set_option maxRecDepth 100000
theorem hdX2_liars : yX2_liars.cls = "LiarClocksModel" ∧ yX2_liars.cls ≠ "java/lang/invoke/MethodHandle" ∧ yX2_liars.cls ≠ "java/lang/invoke/VarHandle" ∧ (parseMethodDescriptor yX2_liars.desc).map (fun d => d.parameters.length) = some 0 := by decide +kernel
set_option maxHeartbeats 4000000 in
/-- liars -/
theorem mX2_liars (l : Launch) (D : va_G) (T : Nat → ClassId) (ad : Nat → Nat) (μ : Nat → Nat → Int32) (h : Vw) (hR : Rp (μ 1) 0 h) (hB : HB h) : Met l yX2_liars (ws_ yX2_liars cX2_liars 3 (some .int)) ({ frames := 1, cells := 0, slots := 0, locals := 22 } : Room) (mPc D T ad μ [.ref (ad 0)]) (QcRead (nI (fa_cnt (lrS h) (nM h)))) 0 0 (fun _ => False) := by
  have h8 := hB.many8
  have h3 := hB.strike3
  have h6 := hB.alarms6
  refine mR_intro [.ref (ad 0)] (by decide) rfl (Nat.le_of_ble_eq_true rfl) ?_
  intro pg en s0 mi below meth cd ls C hr hlk hml hP hl
  have hx := C.1
  have hb := C.2.1
  have hown := C.2.2.1
  have hts := C.2.2.2.1
  have hl : lv_has ls 3 [(0, .ref (ad 0))] := hl
  refine lv_iconst (v := nI 0) hx hb dX2_liars_0 (by decide) ?_
  refine lv_istore_n (lv' := [(1, .int (nI 0)), (0, .ref (ad 0))]) hx hb dX2_liars_1 rfl hl (by decide) rfl (fun ls hl => ?_)
  refine lv_iconst (v := nI 0) hx hb dX2_liars_2 (by decide) ?_
  refine lv_istore_n (lv' := [(2, .int (nI 0)), (1, .int (nI 0)), (0, .ref (ad 0))]) hx hb dX2_liars_3 rfl hl (by decide) rfl (fun ls hl => ?_)
  refine w_up (nM h) 4 3 (fun i => [(0, .ref (ad 0)), (1, .int (nI (fa_cnt (lrS h) i))), (2, .int (nI i))]) ?_ ?_ 0 (Nat.zero_le _) _ (lv_sub hl [2, 1, 0] rfl)
  · intro i ls hi_i hl ih_i
    have hl : lv_has ls 3 [(0, .ref (ad 0)), (1, .int (nI (fa_cnt (lrS h) i))), (2, .int (nI i))] := hl
    refine lv_iload_n hx hb dX2_liars_4 rfl (lv_at hl 2 rfl) ?_
    refine lv_aload_n hx hb dX2_liars_5 rfl (lv_at hl 0 rfl) ?_
    refine mg_w C hP dX2_liars_6 ?_
    refine lv_iconst (v := nI 0) hx hb dX2_liars_9 (by decide) ?_
    refine m_ald1 C hP (by omega) dX2_liars_10 ?_
    refine w_eqi (rp_many hR (by omega)) ?_
    refine w_eqi (hB.many) ?_
    refine w_icmpN_ge (tgt := 37) hx hb dX2_liars_11 (by decide) (by omega) (by omega) (fun c_47 => ?_) (fun c_47 => ?_)
    · exact absurd c_47 (by omega)
    · refine lv_iload_n hx hb dX2_liars_14 rfl (lv_at hl 1 rfl) ?_
      refine lv_aload_n hx hb dX2_liars_15 rfl (lv_at hl 0 rfl) ?_
      refine lv_iconst (v := nI 0) hx hb dX2_liars_16 (by decide) ?_
      refine lv_iload_n hx hb dX2_liars_17 rfl (lv_at hl 2 rfl) ?_
      refine m_cR [.int (nI 0), .int (nI i)] C hml hl.1 hP (mX2_isLiar l D T ad μ h 0 i hR (by omega) (by omega)) (lw_V q919 q921 qs49 q71 q922) hdX2_isLiar ⟨rfl, rfl⟩ ⟨Nat.le_of_ble_eq_true rfl, Nat.le_of_ble_eq_true rfl⟩ rfl (Nat.le_of_ble_eq_true rfl) dX2_liars_18 ⟨Nat.zero_le _, Nat.zero_le _⟩ ?_
      refine w_join (α := Int32) (fun v_48 => v_48 = bI (lrS h i)) (fun v_48 => F0 mi 29 ls (.int v_48 :: .int (nI (fa_cnt (lrS h) i)) :: [])) (fun v_48 hv_48 => ?_) (fun hJv_48 => ?_)
      · subst hv_48
        refine lv_iadd hx hb dX2_liars_29 ?_
        refine w_eqi bI_cnt ?_
        refine lv_istore_n (lv' := [(1, .int (nI (fa_cnt (lrS h) (i + 1)))), (0, .ref (ad 0)), (2, .int (nI i))]) hx hb dX2_liars_30 rfl hl (by decide) rfl (fun ls hl => ?_)
        refine lv_iinc (v := nI (i + 1)) (lv' := [(2, .int (nI (i + 1))), (1, .int (nI (fa_cnt (lrS h) (i + 1)))), (0, .ref (ad 0))]) hx hb dX2_liars_31 hl (k := 2) rfl (w_inc _ _) (by decide) rfl (fun ls hl => ?_)
        refine lv_goto (tgt := 4) hx hb dX2_liars_34 (by decide) ?_
        refine ih_i _ ?_
        show lv_has ls 3 [(0, .ref (ad 0)), (1, .int (nI (fa_cnt (lrS h) (i + 1)))), (2, .int (nI (i + 1)))]
        exact lv_sub hl [2, 1, 0] rfl
      · refine lv_if_eq (tgt := 28) hx hb dX2_liars_21 (by decide) (fun c_49 => ?_) (fun c_49 => ?_)
        · refine lv_iconst (v := 0) hx hb dX2_liars_28 (by decide) ?_
          exact hJv_48 _ (by rw [bI_eq0.mp c_49]; rfl)
        · refine lv_iconst (v := 1) hx hb dX2_liars_24 (by decide) ?_
          refine lv_goto (tgt := 29) hx hb dX2_liars_25 (by decide) ?_
          exact hJv_48 _ (by rw [bI_ne0.mp c_49]; rfl)
  · intro ls hl
    have hl : lv_has ls 3 [(0, .ref (ad 0)), (1, .int (nI (fa_cnt (lrS h) (nM h)))), (2, .int (nI (nM h)))] := hl
    refine lv_iload_n hx hb dX2_liars_4 rfl (lv_at hl 2 rfl) ?_
    refine lv_aload_n hx hb dX2_liars_5 rfl (lv_at hl 0 rfl) ?_
    refine mg_w C hP dX2_liars_6 ?_
    refine lv_iconst (v := nI 0) hx hb dX2_liars_9 (by decide) ?_
    refine m_ald1 C hP (by omega) dX2_liars_10 ?_
    refine w_eqi (rp_many hR (by omega)) ?_
    refine w_eqi (hB.many) ?_
    refine w_icmpN_ge (tgt := 37) hx hb dX2_liars_11 (by decide) (by omega) (by omega) (fun c_50 => ?_) (fun c_50 => ?_)
    · refine lv_iload_n hx hb dX2_liars_37 rfl (lv_at hl 1 rfl) ?_
      exact w_retR hx hb hlk hr dX2_liars_38 rfl
    · exact absurd c_50 (by omega)

theorem hdX2_rungSet : yX2_rungSet.cls = "LiarClocksModel" ∧ yX2_rungSet.cls ≠ "java/lang/invoke/MethodHandle" ∧ yX2_rungSet.cls ≠ "java/lang/invoke/VarHandle" ∧ (parseMethodDescriptor yX2_rungSet.desc).map (fun d => d.parameters.length) = some 0 := by decide +kernel
set_option maxHeartbeats 4000000 in
/-- rungSet -/
theorem mX2_rungSet (l : Launch) (D : va_G) (T : Nat → ClassId) (ad : Nat → Nat) (μ : Nat → Nat → Int32) (h : Vw) (hR : Rp (μ 1) 0 h) (hB : HB h) : Met l yX2_rungSet (ws_ yX2_rungSet cX2_rungSet 3 (some .int)) ({ frames := 0, cells := 0, slots := 0, locals := 0 } : Room) (mPc D T ad μ [.ref (ad 0)]) (QcRead (nI (setN (eq1 h 10) (nA h)))) 0 0 (fun _ => False) := by
  have h8 := hB.many8
  have h3 := hB.strike3
  have h6 := hB.alarms6
  refine mR_intro [.ref (ad 0)] (by decide) rfl (Nat.le_of_ble_eq_true rfl) ?_
  intro pg en s0 mi below meth cd ls C hr hlk hml hP hl
  have hx := C.1
  have hb := C.2.1
  have hown := C.2.2.1
  have hts := C.2.2.2.1
  have hl : lv_has ls 3 [(0, .ref (ad 0))] := hl
  refine lv_iconst (v := nI 0) hx hb dX2_rungSet_0 (by decide) ?_
  refine lv_istore_n (lv' := [(1, .int (nI 0)), (0, .ref (ad 0))]) hx hb dX2_rungSet_1 rfl hl (by decide) rfl (fun ls hl => ?_)
  refine lv_iconst (v := nI 0) hx hb dX2_rungSet_2 (by decide) ?_
  refine lv_istore_n (lv' := [(2, .int (nI 0)), (1, .int (nI 0)), (0, .ref (ad 0))]) hx hb dX2_rungSet_3 rfl hl (by decide) rfl (fun ls hl => ?_)
  refine w_up (nA h) 4 3 (fun i => [(0, .ref (ad 0)), (1, .int (nI (setN (eq1 h 10) i))), (2, .int (nI i))]) ?_ ?_ 0 (Nat.zero_le _) _ (lv_sub hl [2, 1, 0] rfl)
  · intro i ls hi_i hl ih_i
    have hl : lv_has ls 3 [(0, .ref (ad 0)), (1, .int (nI (setN (eq1 h 10) i))), (2, .int (nI i))] := hl
    refine lv_iload_n hx hb dX2_rungSet_4 rfl (lv_at hl 2 rfl) ?_
    refine lv_aload_n hx hb dX2_rungSet_5 rfl (lv_at hl 0 rfl) ?_
    refine mg_w C hP dX2_rungSet_6 ?_
    refine lv_sipush (v := nI 171) hx hb dX2_rungSet_9 (by decide) ?_
    refine m_ald1 C hP (by omega) dX2_rungSet_12 ?_
    refine w_eqi (rp_alarms hR (by omega)) ?_
    refine w_eqi (hB.alarms) ?_
    refine w_icmpN_ge (tgt := 37) hx hb dX2_rungSet_13 (by decide) (by omega) (by omega) (fun c_51 => ?_) (fun c_51 => ?_)
    · exact absurd c_51 (by omega)
    · refine lv_iload_n hx hb dX2_rungSet_16 rfl (lv_at hl 1 rfl) ?_
      refine lv_aload_n hx hb dX2_rungSet_17 rfl (lv_at hl 0 rfl) ?_
      refine mg_w C hP dX2_rungSet_18 ?_
      refine lv_sipush (v := nI 184) hx hb dX2_rungSet_21 (by decide) ?_
      refine lv_iload_n hx hb dX2_rungSet_24 rfl (lv_at hl 2 rfl) ?_
      refine w_iaddN hx hb dX2_rungSet_25 ?_
      refine m_ald1 C hP (by omega) dX2_rungSet_26 ?_
      refine w_eqi (rp_10 hR (i) (by omega) (by omega)) ?_
      refine lv_iload_n hx hb dX2_rungSet_27 rfl (lv_at hl 2 rfl) ?_
      refine lv_ishl hx hb dX2_rungSet_28 ?_
      refine w_eqi (show h 10 i <<< (nI i &&& 31) = nI (if eq1 h 10 i then 2 ^ i else 0) from ?_) ?_
      · unfold eq1
        rcases hB.rung (a := i) (by omega) with e | e
        · rw [e]; have : ∀ i, i < 6 → (0 : Int32) <<< (nI i &&& 31) = nI 0 := by decide
          rw [this i (by omega)]; rfl
        · rw [e, nI_shl1 i (by omega)]; rfl
      · refine lv_ior hx hb dX2_rungSet_29 ?_
        refine w_eqi setN_or ?_
        refine lv_istore_n (lv' := [(1, .int (nI (setN (eq1 h 10) (i + 1)))), (0, .ref (ad 0)), (2, .int (nI i))]) hx hb dX2_rungSet_30 rfl hl (by decide) rfl (fun ls hl => ?_)
        refine lv_iinc (v := nI (i + 1)) (lv' := [(2, .int (nI (i + 1))), (1, .int (nI (setN (eq1 h 10) (i + 1)))), (0, .ref (ad 0))]) hx hb dX2_rungSet_31 hl (k := 2) rfl (w_inc _ _) (by decide) rfl (fun ls hl => ?_)
        refine lv_goto (tgt := 4) hx hb dX2_rungSet_34 (by decide) ?_
        refine ih_i _ ?_
        show lv_has ls 3 [(0, .ref (ad 0)), (1, .int (nI (setN (eq1 h 10) (i + 1)))), (2, .int (nI (i + 1)))]
        exact lv_sub hl [2, 1, 0] rfl
  · intro ls hl
    have hl : lv_has ls 3 [(0, .ref (ad 0)), (1, .int (nI (setN (eq1 h 10) (nA h)))), (2, .int (nI (nA h)))] := hl
    refine lv_iload_n hx hb dX2_rungSet_4 rfl (lv_at hl 2 rfl) ?_
    refine lv_aload_n hx hb dX2_rungSet_5 rfl (lv_at hl 0 rfl) ?_
    refine mg_w C hP dX2_rungSet_6 ?_
    refine lv_sipush (v := nI 171) hx hb dX2_rungSet_9 (by decide) ?_
    refine m_ald1 C hP (by omega) dX2_rungSet_12 ?_
    refine w_eqi (rp_alarms hR (by omega)) ?_
    refine w_eqi (hB.alarms) ?_
    refine w_icmpN_ge (tgt := 37) hx hb dX2_rungSet_13 (by decide) (by omega) (by omega) (fun c_52 => ?_) (fun c_52 => ?_)
    · refine lv_iload_n hx hb dX2_rungSet_37 rfl (lv_at hl 1 rfl) ?_
      exact w_retR hx hb hlk hr dX2_rungSet_38 rfl
    · exact absurd c_52 (by omega)

theorem hdX2_manyOf : yX2_manyOf.cls = "LiarClocksModel" ∧ yX2_manyOf.cls ≠ "java/lang/invoke/MethodHandle" ∧ yX2_manyOf.cls ≠ "java/lang/invoke/VarHandle" ∧ (parseMethodDescriptor yX2_manyOf.desc).map (fun d => d.parameters.length) = some 1 := by decide +kernel
set_option maxHeartbeats 4000000 in
/-- manyOf -/
theorem mX2_manyOf (l : Launch) (D : va_G) (T : Nat → ClassId) (ad : Nat → Nat) (μ : Nat → Nat → Int32) (h : Vw) (hR : Rp (μ 1) 0 h) (hB : HB h) (f wh : Nat) (hw : (f = 4 ∧ wh = 27) ∨ (f = 5 ∧ wh = 35)) : Met l yX2_manyOf (ws_ yX2_manyOf cX2_manyOf 4 (some .int)) ({ frames := 0, cells := 0, slots := 0, locals := 0 } : Room) (mPc D T ad μ [.ref (ad 0), .int (nI wh)]) (QcRead (nI (fa_cnt (eq1 h f) (nM h)))) 0 0 (fun _ => False) := by
  have h8 := hB.many8
  have h3 := hB.strike3
  have h6 := hB.alarms6
  refine mR_intro [.ref (ad 0), .int (nI wh)] (by decide) rfl (Nat.le_of_ble_eq_true rfl) ?_
  intro pg en s0 mi below meth cd ls C hr hlk hml hP hl
  have hx := C.1
  have hb := C.2.1
  have hown := C.2.2.1
  have hts := C.2.2.2.1
  have hl : lv_has ls 4 [(0, .ref (ad 0)), (1, .int (nI wh))] := hl
  refine lv_iconst (v := nI 0) hx hb dX2_manyOf_0 (by decide) ?_
  refine lv_istore_n (lv' := [(2, .int (nI 0)), (0, .ref (ad 0)), (1, .int (nI wh))]) hx hb dX2_manyOf_1 rfl hl (by decide) rfl (fun ls hl => ?_)
  refine lv_iconst (v := nI 0) hx hb dX2_manyOf_2 (by decide) ?_
  refine lv_istore_n (lv' := [(3, .int (nI 0)), (2, .int (nI 0)), (0, .ref (ad 0)), (1, .int (nI wh))]) hx hb dX2_manyOf_3 rfl hl (by decide) rfl (fun ls hl => ?_)
  refine w_up (nM h) 4 4 (fun i => [(0, .ref (ad 0)), (1, .int (nI wh)), (2, .int (nI (fa_cnt (eq1 h f) i))), (3, .int (nI i))]) ?_ ?_ 0 (Nat.zero_le _) _ (lv_sub hl [2, 3, 1, 0] rfl)
  · intro i ls hi_i hl ih_i
    have hl : lv_has ls 4 [(0, .ref (ad 0)), (1, .int (nI wh)), (2, .int (nI (fa_cnt (eq1 h f) i))), (3, .int (nI i))] := hl
    refine lv_iload_n hx hb dX2_manyOf_4 rfl (lv_at hl 3 rfl) ?_
    refine lv_aload_n hx hb dX2_manyOf_5 rfl (lv_at hl 0 rfl) ?_
    refine mg_w C hP dX2_manyOf_6 ?_
    refine lv_iconst (v := nI 0) hx hb dX2_manyOf_9 (by decide) ?_
    refine m_ald1 C hP (by omega) dX2_manyOf_10 ?_
    refine w_eqi (rp_many hR (by omega)) ?_
    refine w_eqi (hB.many) ?_
    refine w_icmpN_ge (tgt := 31) hx hb dX2_manyOf_11 (by decide) (by omega) (by omega) (fun c_53 => ?_) (fun c_53 => ?_)
    · exact absurd c_53 (by omega)
    · have hwl : wh + i < 3840 := by omega
      refine lv_iload_n hx hb dX2_manyOf_14 rfl (lv_at hl 2 rfl) ?_
      refine lv_aload_n hx hb dX2_manyOf_15 rfl (lv_at hl 0 rfl) ?_
      refine mg_w C hP dX2_manyOf_16 ?_
      refine lv_iload_n hx hb dX2_manyOf_19 rfl (lv_at hl 1 rfl) ?_
      refine lv_iload_n hx hb dX2_manyOf_20 rfl (lv_at hl 3 rfl) ?_
      refine w_iaddN hx hb dX2_manyOf_21 ?_
      refine m_ald1 C hP (by omega) dX2_manyOf_22 ?_
      refine w_eqi (show μ 1 (wh + i) = bI (eq1 h f i) from ?_) ?_
      · unfold eq1
        rcases hw with ⟨rfl, rfl⟩ | ⟨rfl, rfl⟩
        · rw [rp_4 hR i (by omega) (by omega)]
          rcases hB.lies (c := i) (by omega) with e | e <;> rw [e] <;> rfl
        · rw [rp_5 hR i (by omega) (by omega)]
          rcases hB.stands (c := i) (by omega) with e | e <;> rw [e] <;> rfl
      · refine lv_iadd hx hb dX2_manyOf_23 ?_
        refine w_eqi bI_cnt ?_
        refine lv_istore_n (lv' := [(2, .int (nI (fa_cnt (eq1 h f) (i + 1)))), (0, .ref (ad 0)), (1, .int (nI wh)), (3, .int (nI i))]) hx hb dX2_manyOf_24 rfl hl (by decide) rfl (fun ls hl => ?_)
        refine lv_iinc (v := nI (i + 1)) (lv' := [(3, .int (nI (i + 1))), (2, .int (nI (fa_cnt (eq1 h f) (i + 1)))), (0, .ref (ad 0)), (1, .int (nI wh))]) hx hb dX2_manyOf_25 hl (k := 3) rfl (w_inc _ _) (by decide) rfl (fun ls hl => ?_)
        refine lv_goto (tgt := 4) hx hb dX2_manyOf_28 (by decide) ?_
        refine ih_i _ ?_
        show lv_has ls 4 [(0, .ref (ad 0)), (1, .int (nI wh)), (2, .int (nI (fa_cnt (eq1 h f) (i + 1)))), (3, .int (nI (i + 1)))]
        exact lv_sub hl [2, 3, 1, 0] rfl
  · intro ls hl
    have hl : lv_has ls 4 [(0, .ref (ad 0)), (1, .int (nI wh)), (2, .int (nI (fa_cnt (eq1 h f) (nM h)))), (3, .int (nI (nM h)))] := hl
    refine lv_iload_n hx hb dX2_manyOf_4 rfl (lv_at hl 3 rfl) ?_
    refine lv_aload_n hx hb dX2_manyOf_5 rfl (lv_at hl 0 rfl) ?_
    refine mg_w C hP dX2_manyOf_6 ?_
    refine lv_iconst (v := nI 0) hx hb dX2_manyOf_9 (by decide) ?_
    refine m_ald1 C hP (by omega) dX2_manyOf_10 ?_
    refine w_eqi (rp_many hR (by omega)) ?_
    refine w_eqi (hB.many) ?_
    refine w_icmpN_ge (tgt := 31) hx hb dX2_manyOf_11 (by decide) (by omega) (by omega) (fun c_54 => ?_) (fun c_54 => ?_)
    · refine lv_iload_n hx hb dX2_manyOf_31 rfl (lv_at hl 2 rfl) ?_
      exact w_retR hx hb hlk hr dX2_manyOf_32 rfl
    · exact absurd c_54 (by omega)

theorem hdX2_mayLie : yX2_mayLie.cls = "LiarClocksModel" ∧ yX2_mayLie.cls ≠ "java/lang/invoke/MethodHandle" ∧ yX2_mayLie.cls ≠ "java/lang/invoke/VarHandle" ∧ (parseMethodDescriptor yX2_mayLie.desc).map (fun d => d.parameters.length) = some 0 := by decide +kernel
set_option maxHeartbeats 4000000 in
/-- mayLie -/
theorem mX2_mayLie (l : Launch) (D : va_G) (T : Nat → ClassId) (ad : Nat → Nat) (μ : Nat → Nat → Int32) (h : Vw) (hR : Rp (μ 1) 0 h) (hB : HB h) : Met l yX2_mayLie (ws_ yX2_mayLie cX2_mayLie 3 (some .int)) ({ frames := 0, cells := 0, slots := 0, locals := 0 } : Room) (mPc D T ad μ [.ref (ad 0)]) (QcRead (mayLieS h)) 0 0 (fun _ => False) := by
  have h8 := hB.many8
  have h3 := hB.strike3
  have h6 := hB.alarms6
  refine mR_intro [.ref (ad 0)] (by decide) rfl (Nat.le_of_ble_eq_true rfl) ?_
  intro pg en s0 mi below meth cd ls C hr hlk hml hP hl
  have hx := C.1
  have hb := C.2.1
  have hown := C.2.2.1
  have hts := C.2.2.2.1
  have hl : lv_has ls 3 [(0, .ref (ad 0))] := hl
  refine lv_iconst (v := nI 0) hx hb dX2_mayLie_0 (by decide) ?_
  refine lv_istore_n (lv' := [(1, .int (nI 0)), (0, .ref (ad 0))]) hx hb dX2_mayLie_1 rfl hl (by decide) rfl (fun ls hl => ?_)
  refine lv_iconst (v := nI 0) hx hb dX2_mayLie_2 (by decide) ?_
  refine lv_istore_n (lv' := [(2, .int (nI 0)), (1, .int (nI 0)), (0, .ref (ad 0))]) hx hb dX2_mayLie_3 rfl hl (by decide) rfl (fun ls hl => ?_)
  refine w_up (nM h) 4 3 (fun i => [(0, .ref (ad 0)), (1, .int (nI (fa_cnt (fun c => decide (h 5 c = 0)) i))), (2, .int (nI i))]) ?_ ?_ 0 (Nat.zero_le _) _ (lv_sub hl [2, 1, 0] rfl)
  · intro i ls hi_i hl ih_i
    have hl : lv_has ls 3 [(0, .ref (ad 0)), (1, .int (nI (fa_cnt (fun c => decide (h 5 c = 0)) i))), (2, .int (nI i))] := hl
    refine lv_iload_n hx hb dX2_mayLie_4 rfl (lv_at hl 2 rfl) ?_
    refine lv_aload_n hx hb dX2_mayLie_5 rfl (lv_at hl 0 rfl) ?_
    refine mg_w C hP dX2_mayLie_6 ?_
    refine lv_iconst (v := nI 0) hx hb dX2_mayLie_9 (by decide) ?_
    refine m_ald1 C hP (by omega) dX2_mayLie_10 ?_
    refine w_eqi (rp_many hR (by omega)) ?_
    refine w_eqi (hB.many) ?_
    refine w_icmpN_ge (tgt := 40) hx hb dX2_mayLie_11 (by decide) (by omega) (by omega) (fun c_55 => ?_) (fun c_55 => ?_)
    · exact absurd c_55 (by omega)
    · refine lv_iload_n hx hb dX2_mayLie_14 rfl (lv_at hl 1 rfl) ?_
      refine lv_aload_n hx hb dX2_mayLie_15 rfl (lv_at hl 0 rfl) ?_
      refine mg_w C hP dX2_mayLie_16 ?_
      refine lv_bipush (v := nI 35) hx hb dX2_mayLie_19 (by decide) ?_
      refine lv_iload_n hx hb dX2_mayLie_21 rfl (lv_at hl 2 rfl) ?_
      refine w_iaddN hx hb dX2_mayLie_22 ?_
      refine m_ald1 C hP (by omega) dX2_mayLie_23 ?_
      refine w_eqi (rp_5 hR (i) (by omega) (by omega)) ?_
      refine w_join (α := Int32) (fun v_56 => v_56 = bI (decide (h 5 i = 0))) (fun v_56 => F0 mi 32 ls (.int v_56 :: .int (nI (fa_cnt (fun c => decide (h 5 c = 0)) i)) :: [])) (fun v_56 hv_56 => ?_) (fun hJv_56 => ?_)
      · subst hv_56
        refine lv_iadd hx hb dX2_mayLie_32 ?_
        refine w_eqi (bI_cnt (p := (fun c => decide (h 5 c = 0)))) ?_
        refine lv_istore_n (lv' := [(1, .int (nI (fa_cnt (fun c => decide (h 5 c = 0)) (i + 1)))), (0, .ref (ad 0)), (2, .int (nI i))]) hx hb dX2_mayLie_33 rfl hl (by decide) rfl (fun ls hl => ?_)
        refine lv_iinc (v := nI (i + 1)) (lv' := [(2, .int (nI (i + 1))), (1, .int (nI (fa_cnt (fun c => decide (h 5 c = 0)) (i + 1)))), (0, .ref (ad 0))]) hx hb dX2_mayLie_34 hl (k := 2) rfl (w_inc _ _) (by decide) rfl (fun ls hl => ?_)
        refine lv_goto (tgt := 4) hx hb dX2_mayLie_37 (by decide) ?_
        refine ih_i _ ?_
        show lv_has ls 3 [(0, .ref (ad 0)), (1, .int (nI (fa_cnt (fun c => decide (h 5 c = 0)) (i + 1)))), (2, .int (nI (i + 1)))]
        exact lv_sub hl [2, 1, 0] rfl
      · refine lv_if_ne (tgt := 31) hx hb dX2_mayLie_24 (by decide) (fun c_57 => ?_) (fun c_57 => ?_)
        · refine lv_iconst (v := 0) hx hb dX2_mayLie_31 (by decide) ?_
          exact hJv_56 _ (by rw [decide_eq_false c_57]; rfl)
        · refine lv_iconst (v := 1) hx hb dX2_mayLie_27 (by decide) ?_
          refine lv_goto (tgt := 32) hx hb dX2_mayLie_28 (by decide) ?_
          exact hJv_56 _ (by rw [decide_eq_true c_57]; rfl)
  · intro ls hl
    have hl : lv_has ls 3 [(0, .ref (ad 0)), (1, .int (nI (fa_cnt (fun c => decide (h 5 c = 0)) (nM h)))), (2, .int (nI (nM h)))] := hl
    refine lv_iload_n hx hb dX2_mayLie_4 rfl (lv_at hl 2 rfl) ?_
    refine lv_aload_n hx hb dX2_mayLie_5 rfl (lv_at hl 0 rfl) ?_
    refine mg_w C hP dX2_mayLie_6 ?_
    refine lv_iconst (v := nI 0) hx hb dX2_mayLie_9 (by decide) ?_
    refine m_ald1 C hP (by omega) dX2_mayLie_10 ?_
    refine w_eqi (rp_many hR (by omega)) ?_
    refine w_eqi (hB.many) ?_
    refine w_icmpN_ge (tgt := 40) hx hb dX2_mayLie_11 (by decide) (by omega) (by omega) (fun c_58 => ?_) (fun c_58 => ?_)
    · have hgN : fa_cnt (fun c => decide (h 5 c = 0)) (nM h) = goN h := rfl
      rw [hgN] at hl
      have hg8 : goN h ≤ 8 := cnt_le8 h8
      rcases Nat.eq_zero_or_pos (goN h) with hz | hz
      · rw [hz] at hl
        refine lv_iload_n hx hb dX2_mayLie_40 rfl (lv_at hl 1 rfl) ?_
        refine lv_iconst (v := nI 1) hx hb dX2_mayLie_41 (by decide) ?_
        refine lv_isub hx hb dX2_mayLie_42 ?_
        refine lv_iconst (v := nI 3) hx hb dX2_mayLie_43 (by decide) ?_
        refine lv_idiv hx hb dX2_mayLie_44 (by decide) ?_
        refine lv_istore_n (lv' := [(2, .int (((nI (0)) - (nI (1))) / (nI (3)))), (0, .ref (ad 0)), (1, .int (nI 0))]) hx hb dX2_mayLie_45 rfl hl (by decide) rfl (fun ls hl => ?_)
        refine lv_iload_n hx hb dX2_mayLie_46 rfl (lv_at hl 2 rfl) ?_
        refine w_ifN_ne (tgt := 54) hx hb dX2_mayLie_47 (by decide) (by omega) (fun c_59 => ?_) (fun c_59 => ?_)
        · exact absurd c_59 (by omega)
        · refine lv_iconst (v := -1) hx hb dX2_mayLie_50 (by decide) ?_
          refine lv_goto (tgt := 74) hx hb dX2_mayLie_51 (by decide) ?_
          exact w_retR hx hb hlk hr dX2_mayLie_74 (by unfold mayLieS; rw [if_pos hz])
      · refine lv_iload_n hx hb dX2_mayLie_40 rfl (lv_at hl 1 rfl) ?_
        refine lv_iconst (v := nI 1) hx hb dX2_mayLie_41 (by decide) ?_
        refine w_isubN hx hb dX2_mayLie_42 (by omega) ?_
        refine lv_iconst (v := nI 3) hx hb dX2_mayLie_43 (by decide) ?_
        refine lv_idiv hx hb dX2_mayLie_44 (by decide) ?_
        refine w_eqi (pk_div (a := goN h - 1) (d := 3) (by omega) (by omega) (by omega)) ?_
        refine lv_istore_n (lv' := [(2, .int (nI ((goN h - 1) / 3))), (0, .ref (ad 0)), (1, .int (nI (goN h)))]) hx hb dX2_mayLie_45 rfl hl (by decide) rfl (fun ls hl => ?_)
        refine lv_iload_n hx hb dX2_mayLie_46 rfl (lv_at hl 2 rfl) ?_
        refine w_ifN_ne (tgt := 54) hx hb dX2_mayLie_47 (by decide) (by omega) (fun c_60 => ?_) (fun c_60 => ?_)
        · refine lv_iload_n hx hb dX2_mayLie_54 rfl (lv_at hl 0 rfl) ?_
          refine lv_aload_n hx hb dX2_mayLie_55 rfl (lv_at hl 1 rfl) ?_
          refine mg_w C hP dX2_mayLie_56 ?_
          refine lv_iconst (v := nI 1) hx hb dX2_mayLie_59 (by decide) ?_
          refine m_ald1 C hP (by omega) dX2_mayLie_60 ?_
          refine w_eqi (rp_strike hR (by omega)) ?_
          refine w_eqi (hB.strike) ?_
          refine w_icmpN_ge (tgt := 68) hx hb dX2_mayLie_61 (by decide) (by omega) (by omega) (fun c_61 => ?_) (fun c_61 => ?_)
          · refine lv_aload_n hx hb dX2_mayLie_68 rfl (lv_at hl 1 rfl) ?_
            refine mg_w C hP dX2_mayLie_69 ?_
            refine lv_iconst (v := nI 1) hx hb dX2_mayLie_72 (by decide) ?_
            refine m_ald1 C hP (by omega) dX2_mayLie_73 ?_
            refine w_eqi (rp_strike hR (by omega)) ?_
            refine w_eqi (hB.strike) ?_
            exact w_retR hx hb hlk hr dX2_mayLie_74 (by unfold mayLieS; rw [if_neg (by omega), if_neg (by omega)])
          · refine lv_iload_n hx hb dX2_mayLie_64 rfl (lv_at hl 0 rfl) ?_
            refine lv_goto (tgt := 74) hx hb dX2_mayLie_65 (by decide) ?_
            exact w_retR hx hb hlk hr dX2_mayLie_74 (by unfold mayLieS; rw [if_neg (by omega), if_pos (by omega)])
        · exact absurd c_60 (by omega)
    · exact absurd c_58 (by omega)

theorem hdX2_setOf : yX2_setOf.cls = "LiarClocksModel" ∧ yX2_setOf.cls ≠ "java/lang/invoke/MethodHandle" ∧ yX2_setOf.cls ≠ "java/lang/invoke/VarHandle" ∧ (parseMethodDescriptor yX2_setOf.desc).map (fun d => d.parameters.length) = some 1 := by decide +kernel
set_option maxHeartbeats 4000000 in
/-- setOf -/
theorem mX2_setOf (l : Launch) (D : va_G) (T : Nat → ClassId) (ad : Nat → Nat) (μ : Nat → Nat → Int32) (h : Vw) (hR : Rp (μ 1) 0 h) (hB : HB h) (q : Nat) (hq : q < 2 ^ 31) (pp : Nat → Bool) (hp : ∀ c, c < 8 → (q = 4 → pp c = decide (h 4 c = 1)) ∧ (q = 5 → pp c = decide (h 5 c = 1)) ∧ (q ≠ 4 → q ≠ 5 → pp c = trS h c)) : Met l yX2_setOf (ws_ yX2_setOf cX2_setOf 5 (some .int)) ({ frames := 1, cells := 0, slots := 0, locals := 22 } : Room) (mPc D T ad μ [.ref (ad 0), .int (nI q)]) (QcRead (nI (setN pp (nM h)))) 0 0 (fun _ => False) := by
  have h8 := hB.many8
  have h3 := hB.strike3
  have h6 := hB.alarms6
  refine mR_intro [.ref (ad 0), .int (nI q)] (by decide) rfl (Nat.le_of_ble_eq_true rfl) ?_
  intro pg en s0 mi below meth cd ls C hr hlk hml hP hl
  have hx := C.1
  have hb := C.2.1
  have hown := C.2.2.1
  have hts := C.2.2.2.1
  have hl : lv_has ls 5 [(0, .ref (ad 0)), (1, .int (nI q))] := hl
  refine lv_iconst (v := nI 0) hx hb dX2_setOf_0 (by decide) ?_
  refine lv_istore_n (lv' := [(2, .int (nI 0)), (0, .ref (ad 0)), (1, .int (nI q))]) hx hb dX2_setOf_1 rfl hl (by decide) rfl (fun ls hl => ?_)
  refine lv_iconst (v := nI 0) hx hb dX2_setOf_2 (by decide) ?_
  refine lv_istore_n (lv' := [(3, .int (nI 0)), (2, .int (nI 0)), (0, .ref (ad 0)), (1, .int (nI q))]) hx hb dX2_setOf_3 rfl hl (by decide) rfl (fun ls hl => ?_)
  refine w_up (nM h) 4 5 (fun i => [(0, .ref (ad 0)), (1, .int (nI q)), (2, .int (nI (setN pp i))), (3, .int (nI i))]) ?_ ?_ 0 (Nat.zero_le _) _ (lv_sub hl [2, 3, 1, 0] rfl)
  · intro i ls hi_i hl ih_i
    have hl : lv_has ls 5 [(0, .ref (ad 0)), (1, .int (nI q)), (2, .int (nI (setN pp i))), (3, .int (nI i))] := hl
    refine lv_iload_n hx hb dX2_setOf_4 rfl (lv_at hl 3 rfl) ?_
    refine lv_aload_n hx hb dX2_setOf_5 rfl (lv_at hl 0 rfl) ?_
    refine mg_w C hP dX2_setOf_6 ?_
    refine lv_iconst (v := nI 0) hx hb dX2_setOf_9 (by decide) ?_
    refine m_ald1 C hP (by omega) dX2_setOf_10 ?_
    refine w_eqi (rp_many hR (by omega)) ?_
    refine w_eqi (hB.many) ?_
    refine w_icmpN_ge (tgt := 95) hx hb dX2_setOf_11 (by decide) (by omega) (by omega) (fun c_62 => ?_) (fun c_62 => ?_)
    · exact absurd c_62 (by omega)
    · have hpi := hp i (by omega)
      refine w_join (α := Int32) (fun v_63 => v_63 = bI (pp i)) (fun v_63 => F0 mi 72 ls (.int v_63 :: [])) (fun v_63 hv_63 => ?_) (fun hJv_63 => ?_)
      · subst hv_63
        refine lv_istore (lv' := [(4, .int (bI (pp i))), (0, .ref (ad 0)), (1, .int (nI q)), (2, .int (nI (setN pp i))), (3, .int (nI i))]) hx hb dX2_setOf_72 hl (by decide) rfl (fun ls hl => ?_)
        refine lv_iload_n hx hb dX2_setOf_74 rfl (lv_at hl 3 rfl) ?_
        refine lv_iload hx hb dX2_setOf_75 (lv_at hl 0 rfl) ?_
        refine w_join (α := Int32) (fun v_68 => v_68 = nI (if pp i then 2 ^ i else 0)) (fun v_68 => F0 mi 87 ls (.int v_68 :: .int (nI (setN pp i)) :: [])) (fun v_68 hv_68 => ?_) (fun hJv_68 => ?_)
        · subst hv_68
          refine lv_ior hx hb dX2_setOf_87 ?_
          refine w_eqi setN_or ?_
          refine lv_istore_n (lv' := [(2, .int (nI (setN pp (i + 1)))), (4, .int (bI (pp i))), (0, .ref (ad 0)), (1, .int (nI q)), (3, .int (nI i))]) hx hb dX2_setOf_88 rfl hl (by decide) rfl (fun ls hl => ?_)
          refine lv_iinc (v := nI (i + 1)) (lv' := [(3, .int (nI (i + 1))), (2, .int (nI (setN pp (i + 1)))), (4, .int (bI (pp i))), (0, .ref (ad 0)), (1, .int (nI q))]) hx hb dX2_setOf_89 hl (k := 4) rfl (w_inc _ _) (by decide) rfl (fun ls hl => ?_)
          refine lv_goto (tgt := 4) hx hb dX2_setOf_92 (by decide) ?_
          refine ih_i _ ?_
          show lv_has ls 5 [(0, .ref (ad 0)), (1, .int (nI q)), (2, .int (nI (setN pp (i + 1)))), (3, .int (nI (i + 1)))]
          exact lv_sub hl [3, 4, 1, 0] rfl
        · refine lv_if_eq (tgt := 86) hx hb dX2_setOf_77 (by decide) (fun c_69 => ?_) (fun c_69 => ?_)
          · refine lv_iconst (v := nI 0) hx hb dX2_setOf_86 (by decide) ?_
            exact hJv_68 _ (by rw [bI_eq0.mp c_69]; rfl)
          · refine lv_iconst (v := 1) hx hb dX2_setOf_80 (by decide) ?_
            refine lv_iload_n hx hb dX2_setOf_81 rfl (lv_at hl 4 rfl) ?_
            refine lv_ishl hx hb dX2_setOf_82 ?_
            refine lv_goto (tgt := 87) hx hb dX2_setOf_83 (by decide) ?_
            exact hJv_68 _ (by rw [bI_ne0.mp c_69, nI_shl1 i (by omega)]; rfl)
      · refine lv_iload_n hx hb dX2_setOf_14 rfl (lv_at hl 1 rfl) ?_
        refine lv_iconst (v := nI 4) hx hb dX2_setOf_15 (by decide) ?_
        refine w_icmpN_ne (tgt := 40) hx hb dX2_setOf_16 (by decide) (by omega) (by omega) (fun c_64 => ?_) (fun c_64 => ?_)
        · refine lv_iload_n hx hb dX2_setOf_40 rfl (lv_at hl 1 rfl) ?_
          refine lv_iconst (v := nI 5) hx hb dX2_setOf_41 (by decide) ?_
          refine w_icmpN_ne (tgt := 66) hx hb dX2_setOf_42 (by decide) (by omega) (by omega) (fun c_66 => ?_) (fun c_66 => ?_)
          · refine lv_aload_n hx hb dX2_setOf_66 rfl (lv_at hl 0 rfl) ?_
            refine lv_iconst (v := nI 0) hx hb dX2_setOf_67 (by decide) ?_
            refine lv_iload_n hx hb dX2_setOf_68 rfl (lv_at hl 3 rfl) ?_
            refine m_cR [.int (nI 0), .int (nI i)] C hml hl.1 hP (mX2_isTrue l D T ad μ h 0 i hR (by omega) (by omega)) (lw_V q895 q897 qs43 q71 q898) hdX2_isTrue ⟨rfl, rfl⟩ ⟨Nat.le_of_ble_eq_true rfl, Nat.le_of_ble_eq_true rfl⟩ rfl (Nat.le_of_ble_eq_true rfl) dX2_setOf_69 ⟨Nat.zero_le _, Nat.zero_le _⟩ ?_
            exact hJv_63 _ (by rw [hpi.2.2 c_64 c_66])
          · refine lv_aload_n hx hb dX2_setOf_45 rfl (lv_at hl 0 rfl) ?_
            refine mg_w C hP dX2_setOf_46 ?_
            refine lv_bipush (v := nI 35) hx hb dX2_setOf_49 (by decide) ?_
            refine lv_iload_n hx hb dX2_setOf_51 rfl (lv_at hl 3 rfl) ?_
            refine w_iaddN hx hb dX2_setOf_52 ?_
            refine m_ald1 C hP (by omega) dX2_setOf_53 ?_
            refine w_eqi (rp_5 hR (i) (by omega) (by omega)) ?_
            refine lv_iconst (v := 1) hx hb dX2_setOf_54 (by decide) ?_
            refine lv_icmp_ne (tgt := 62) hx hb dX2_setOf_55 (by decide) (fun c_67 => ?_) (fun c_67 => ?_)
            · refine lv_iconst (v := 0) hx hb dX2_setOf_62 (by decide) ?_
              refine lv_goto (tgt := 72) hx hb dX2_setOf_63 (by decide) ?_
              exact hJv_63 _ (by rw [hpi.2.1 c_66, decide_eq_false c_67]; rfl)
            · refine lv_iconst (v := 1) hx hb dX2_setOf_58 (by decide) ?_
              refine lv_goto (tgt := 72) hx hb dX2_setOf_59 (by decide) ?_
              exact hJv_63 _ (by rw [hpi.2.1 c_66, decide_eq_true c_67]; rfl)
        · refine lv_aload_n hx hb dX2_setOf_19 rfl (lv_at hl 0 rfl) ?_
          refine mg_w C hP dX2_setOf_20 ?_
          refine lv_bipush (v := nI 27) hx hb dX2_setOf_23 (by decide) ?_
          refine lv_iload_n hx hb dX2_setOf_25 rfl (lv_at hl 3 rfl) ?_
          refine w_iaddN hx hb dX2_setOf_26 ?_
          refine m_ald1 C hP (by omega) dX2_setOf_27 ?_
          refine w_eqi (rp_4 hR (i) (by omega) (by omega)) ?_
          refine lv_iconst (v := 1) hx hb dX2_setOf_28 (by decide) ?_
          refine lv_icmp_ne (tgt := 36) hx hb dX2_setOf_29 (by decide) (fun c_65 => ?_) (fun c_65 => ?_)
          · refine lv_iconst (v := 0) hx hb dX2_setOf_36 (by decide) ?_
            refine lv_goto (tgt := 72) hx hb dX2_setOf_37 (by decide) ?_
            exact hJv_63 _ (by rw [hpi.1 c_64, decide_eq_false c_65]; rfl)
          · refine lv_iconst (v := 1) hx hb dX2_setOf_32 (by decide) ?_
            refine lv_goto (tgt := 72) hx hb dX2_setOf_33 (by decide) ?_
            exact hJv_63 _ (by rw [hpi.1 c_64, decide_eq_true c_65]; rfl)
  · intro ls hl
    have hl : lv_has ls 5 [(0, .ref (ad 0)), (1, .int (nI q)), (2, .int (nI (setN pp (nM h)))), (3, .int (nI (nM h)))] := hl
    refine lv_iload_n hx hb dX2_setOf_4 rfl (lv_at hl 3 rfl) ?_
    refine lv_aload_n hx hb dX2_setOf_5 rfl (lv_at hl 0 rfl) ?_
    refine mg_w C hP dX2_setOf_6 ?_
    refine lv_iconst (v := nI 0) hx hb dX2_setOf_9 (by decide) ?_
    refine m_ald1 C hP (by omega) dX2_setOf_10 ?_
    refine w_eqi (rp_many hR (by omega)) ?_
    refine w_eqi (hB.many) ?_
    refine w_icmpN_ge (tgt := 95) hx hb dX2_setOf_11 (by decide) (by omega) (by omega) (fun c_70 => ?_) (fun c_70 => ?_)
    · refine lv_iload_n hx hb dX2_setOf_95 rfl (lv_at hl 2 rfl) ?_
      exact w_retR hx hb hlk hr dX2_setOf_96 rfl
    · exact absurd c_70 (by omega)

theorem hdX2_extreme : yX2_extreme.cls = "LiarClocksModel" ∧ yX2_extreme.cls ≠ "java/lang/invoke/MethodHandle" ∧ yX2_extreme.cls ≠ "java/lang/invoke/VarHandle" ∧ (parseMethodDescriptor yX2_extreme.desc).map (fun d => d.parameters.length) = some 2 := by decide +kernel
set_option maxHeartbeats 4000000 in
/-- extreme -/
theorem mX2_extreme (l : Launch) (D : va_G) (T : Nat → ClassId) (ad : Nat → Nat) (μ : Nat → Nat → Int32) (h : Vw) (hR : Rp (μ 1) 0 h) (hB : HB h) (B : Int) (hA : HA h B) (hB0 : B ≤ 400000000) (hB1 : 0 ≤ B) (hns : 2 * nF h < nM h) (i : Nat) (hi : i < nM h) (t : Int32) (ht : t = 500000000 ∨ t = -500000000) : ∀ sz, Met l yX2_extreme (ws_ yX2_extreme cX2_extreme 4 (some .int)) ({ frames := 2, cells := 0, slots := 0, locals := 46 } : Room) (mPs D T ad μ [.ref (ad 0), .int (nI i), .int t] sz) (mQ D T ad (fun r μ' => r = some (.int (extS h i t)) ∧ ∀ q, q ≠ 5 → μ' q = μ q)) 0 0 (gA 7 ad sz) := by
  have h8 := hB.many8
  have h3 := hB.strike3
  have h6 := hB.alarms6
  refine mM_intro [.ref (ad 0), .int (nI i), .int t] (by decide) rfl (Nat.le_of_ble_eq_true rfl) ?_
  intro pg en s0 mi below meth cd ls C hr hlk hml hP hS hl
  have hx := C.1
  have hb := C.2.1
  have hown := C.2.2.1
  have hts := C.2.2.2.1
  have hl : lv_has ls 4 [(0, .ref (ad 0)), (1, .int (nI i)), (2, .int t)] := hl
  refine lv_iconst (v := nI 0) hx hb dX2_extreme_0 (by decide) ?_
  refine lv_istore_n (lv' := [(3, .int (nI 0)), (0, .ref (ad 0)), (1, .int (nI i)), (2, .int t)]) hx hb dX2_extreme_1 rfl hl (by decide) rfl (fun ls hl => ?_)
  refine w_upM (α := Nat → Nat → Int32) (nM h) 2 4 (gA 7 ad s0.heap.size) s0.heap (fun j μ2 => [(0, .ref (ad 0)), (1, .int (nI i)), (2, .int t), (3, .int (nI j))]) (fun j μ2 H => mW D T ad μ2 H ∧ (∀ k, k < j → μ2 5 k = ordS (toldS h i t) j k) ∧ ∀ q, q ≠ 5 → μ2 q = μ q) ?_ ?_ 0 (Nat.zero_le _) μ (lv_sub hl [1, 2, 3, 0] rfl) ⟨hP, fun k hk => absurd hk (Nat.not_lt_zero k), fun _ _ => rfl⟩ hS
  · intro j μ2 ls H locs hi_j hl hW hS ih_j
    have hl : lv_has ls 4 [(0, .ref (ad 0)), (1, .int (nI i)), (2, .int t), (3, .int (nI j))] := hl
    obtain ⟨hP, hord, hoth⟩ := hW
    have hR2 : Rp (μ2 1) 0 h := by rw [hoth 1 (by decide)]; exact hR
    refine lv_iload_n hx hb dX2_extreme_2 rfl (lv_at hl 3 rfl) ?_
    refine lv_aload_n hx hb dX2_extreme_3 rfl (lv_at hl 0 rfl) ?_
    refine mg_w C hP dX2_extreme_4 ?_
    refine lv_iconst (v := nI 0) hx hb dX2_extreme_7 (by decide) ?_
    refine m_ald1 C hP (by omega) dX2_extreme_8 ?_
    refine w_eqi (rp_many hR2 (by omega)) ?_
    refine w_eqi (hB.many) ?_
    refine w_icmpN_ge (tgt := 43) hx hb dX2_extreme_9 (by decide) (by omega) (by omega) (fun c_71 => ?_) (fun c_71 => ?_)
    · exact absurd c_71 (by omega)
    · refine lv_aload_n hx hb dX2_extreme_12 rfl (lv_at hl 0 rfl) ?_
      refine lv_iload_n hx hb dX2_extreme_13 rfl (lv_at hl 3 rfl) ?_
      refine lv_aload_n hx hb dX2_extreme_14 rfl (lv_at hl 0 rfl) ?_
      refine lv_iconst (v := nI 0) hx hb dX2_extreme_15 (by decide) ?_
      refine lv_iload_n hx hb dX2_extreme_16 rfl (lv_at hl 3 rfl) ?_
      refine m_cR [.int (nI 0), .int (nI j)] C hml hl.1 hP (mX2_isLiar l D T ad μ2 h 0 j hR2 (by omega) (by omega)) (lw_V q919 q921 qs49 q71 q922) hdX2_isLiar ⟨rfl, rfl⟩ ⟨Nat.le_of_ble_eq_true rfl, Nat.le_of_ble_eq_true rfl⟩ rfl (Nat.le_of_ble_eq_true rfl) dX2_extreme_17 ⟨Nat.zero_le _, Nat.zero_le _⟩ ?_
      refine w_join (α := Int32) (fun v_72 => v_72 = toldS h i t j) (fun v_72 => F0 mi 34 ls (.int v_72 :: .int (nI j) :: .ref (ad 0) :: [])) (fun v_72 hv_72 => ?_) (fun hJv_72 => ?_)
      · subst hv_72
        refine m_cM [.int (nI j), .int (toldS h i t j)] C hml hl.1 hP hS (mX2_put l D T ad μ2 j (toldS h i t j) (by omega)) (lw_V q933 q935 qs52 q71 q936) hdX2_put ⟨rfl, rfl⟩ ⟨Nat.le_of_ble_eq_true rfl, Nat.le_of_ble_eq_true rfl⟩ rfl (Nat.le_of_ble_eq_true rfl) dX2_extreme_34 ⟨Nat.zero_le _, Nat.zero_le _⟩ (fun v_74 μ_75 H locs hp_76 hP hS => ?_)
        obtain ⟨rfl, h5_77, ho_78⟩ := hp_76
        have hR_79 : Rp (μ_75 1) 0 h := by rw [ho_78 1 (by decide)]; exact hR2
        refine lv_iinc (v := nI (j + 1)) (lv' := [(3, .int (nI (j + 1))), (0, .ref (ad 0)), (1, .int (nI i)), (2, .int t)]) hx hb dX2_extreme_37 hl (k := 3) rfl (w_inc _ _) (by decide) rfl (fun ls hl => ?_)
        refine lv_goto (tgt := 2) hx hb dX2_extreme_40 (by decide) ?_
        refine ih_j μ_75 _ _ _ ?_ ⟨hP, ?_, ?_⟩ hS
        · exact lv_sub hl [1, 2, 3, 0] rfl
        · intro k hk
          rw [h5_77]
          exact insS_congr _ j _ _ hord k (by omega)
        · intro q hq
          rw [ho_78 q hq, hoth q hq]
      · refine lv_if_eq (tgt := 27) hx hb dX2_extreme_20 (by decide) (fun c_73 => ?_) (fun c_73 => ?_)
        · refine lv_aload_n hx hb dX2_extreme_27 rfl (lv_at hl 0 rfl) ?_
          refine lv_iconst (v := nI 0) hx hb dX2_extreme_28 (by decide) ?_
          refine lv_iload_n hx hb dX2_extreme_29 rfl (lv_at hl 3 rfl) ?_
          refine lv_iload_n hx hb dX2_extreme_30 rfl (lv_at hl 1 rfl) ?_
          refine m_cR [.int (nI 0), .int (nI j), .int (nI i)] C hml hl.1 hP (mX2_heardOf l D T ad μ2 h 0 hR2 hB (by omega) j i (by omega) (by omega)) (lw_V q929 q931 qs51 q71 q932) hdX2_heardOf ⟨rfl, rfl⟩ ⟨Nat.le_of_ble_eq_true rfl, Nat.le_of_ble_eq_true rfl⟩ rfl (Nat.le_of_ble_eq_true rfl) dX2_extreme_31 ⟨Nat.zero_le _, Nat.zero_le _⟩ ?_
          exact hJv_72 _ (by unfold toldS; rw [if_neg (by rw [bI_eq0.mp c_73]; decide)])
        · refine lv_iload_n hx hb dX2_extreme_23 rfl (lv_at hl 2 rfl) ?_
          refine lv_goto (tgt := 34) hx hb dX2_extreme_24 (by decide) ?_
          exact hJv_72 _ (by unfold toldS; rw [if_pos (bI_ne0.mp c_73)])
  · intro μ2 ls H locs hl hW hS
    have hl : lv_has ls 4 [(0, .ref (ad 0)), (1, .int (nI i)), (2, .int t), (3, .int (nI (nM h)))] := hl
    obtain ⟨hP, hord, hoth⟩ := hW
    have hR2 : Rp (μ2 1) 0 h := by rw [hoth 1 (by decide)]; exact hR
    refine lv_iload_n hx hb dX2_extreme_2 rfl (lv_at hl 3 rfl) ?_
    refine lv_aload_n hx hb dX2_extreme_3 rfl (lv_at hl 0 rfl) ?_
    refine mg_w C hP dX2_extreme_4 ?_
    refine lv_iconst (v := nI 0) hx hb dX2_extreme_7 (by decide) ?_
    refine m_ald1 C hP (by omega) dX2_extreme_8 ?_
    refine w_eqi (rp_many hR2 (by omega)) ?_
    refine w_eqi (hB.many) ?_
    refine w_icmpN_ge (tgt := 43) hx hb dX2_extreme_9 (by decide) (by omega) (by omega) (fun c_80 => ?_) (fun c_80 => ?_)
    · have hbd := midS_bd (f := μ2 5) (st := nF h) (m := nM h) (L := -500000000) (U := 500000000) (fun k hk => by rw [hord k hk]; exact ordS_all (P := fun v => -500000000 ≤ v.toInt ∧ v.toInt ≤ 500000000) (val := toldS h i t) (nM h) (fun j hj => toldS_bd hA hB0 h8 hi hj ht) k hk) (by omega) (by omega) (by omega)
      refine lv_aload_n hx hb dX2_extreme_43 rfl (lv_at hl 0 rfl) ?_
      refine lv_iconst (v := nI 0) hx hb dX2_extreme_44 (by decide) ?_
      refine lv_aload_n hx hb dX2_extreme_45 rfl (lv_at hl 0 rfl) ?_
      refine mg_w C hP dX2_extreme_46 ?_
      refine lv_iconst (v := nI 0) hx hb dX2_extreme_49 (by decide) ?_
      refine m_ald1 C hP (by omega) dX2_extreme_50 ?_
      refine w_eqi (rp_many hR2 (by omega)) ?_
      refine w_eqi (hB.many) ?_
      refine m_cR [.int (nI 0), .int (nI (nM h))] C hml hl.1 hP (mX2_middle l D T ad μ2 h 0 hR2 hB (by omega) (nM h) (by omega) (by omega) hbd.1) (lw_V q937 q939 qs53 q71 q940) hdX2_middle ⟨rfl, rfl⟩ ⟨Nat.le_of_ble_eq_true rfl, Nat.le_of_ble_eq_true rfl⟩ rfl (Nat.le_of_ble_eq_true rfl) dX2_extreme_51 ⟨Nat.zero_le _, Nat.zero_le _⟩ ?_
      exact mM_retI C hlk hr hS hP dX2_extreme_54 ⟨by unfold extS; rw [midS_congr hord (by omega)], hoth⟩
    · exact absurd c_80 (by omega)

theorem hdX2_rank : yX2_rank.cls = "LiarClocksModel" ∧ yX2_rank.cls ≠ "java/lang/invoke/MethodHandle" ∧ yX2_rank.cls ≠ "java/lang/invoke/VarHandle" ∧ (parseMethodDescriptor yX2_rank.desc).map (fun d => d.parameters.length) = some 2 := by decide +kernel
set_option maxHeartbeats 4000000 in
/-- rank -/
theorem mX2_rank (l : Launch) (D : va_G) (T : Nat → ClassId) (ad : Nat → Nat) (μ : Nat → Nat → Int32) (h : Vw) (hR : Rp (μ 1) 0 h) (hB : HB h) (j i : Nat) (hj : j < nM h) (hi : i < nM h) : Met l yX2_rank (ws_ yX2_rank cX2_rank 7 (some .int)) ({ frames := 2, cells := 0, slots := 0, locals := 46 } : Room) (mPc D T ad μ [.ref (ad 0), .int (nI j), .int (nI i)]) (QcRead (rankS h j i)) 0 0 (fun _ => False) := by
  have h8 := hB.many8
  have h3 := hB.strike3
  have h6 := hB.alarms6
  refine mR_intro [.ref (ad 0), .int (nI j), .int (nI i)] (by decide) rfl (Nat.le_of_ble_eq_true rfl) ?_
  intro pg en s0 mi below meth cd ls C hr hlk hml hP hl
  have hx := C.1
  have hb := C.2.1
  have hown := C.2.2.1
  have hts := C.2.2.2.1
  have hl : lv_has ls 7 [(0, .ref (ad 0)), (1, .int (nI j)), (2, .int (nI i))] := hl
  refine lv_aload_n hx hb dX2_rank_0 rfl (lv_at hl 0 rfl) ?_
  refine lv_iconst (v := nI 0) hx hb dX2_rank_1 (by decide) ?_
  refine lv_iload_n hx hb dX2_rank_2 rfl (lv_at hl 1 rfl) ?_
  refine lv_iload_n hx hb dX2_rank_3 rfl (lv_at hl 2 rfl) ?_
  refine m_cR [.int (nI 0), .int (nI j), .int (nI i)] C hml hl.1 hP (mX2_heardOf l D T ad μ h 0 hR hB (by omega) j i (by omega) (by omega)) (lw_V q929 q931 qs51 q71 q932) hdX2_heardOf ⟨rfl, rfl⟩ ⟨Nat.le_of_ble_eq_true rfl, Nat.le_of_ble_eq_true rfl⟩ rfl (Nat.le_of_ble_eq_true rfl) dX2_rank_4 ⟨Nat.zero_le _, Nat.zero_le _⟩ ?_
  refine lv_istore_n (lv' := [(3, .int (heardS h i j)), (0, .ref (ad 0)), (1, .int (nI j)), (2, .int (nI i))]) hx hb dX2_rank_7 rfl hl (by decide) rfl (fun ls hl => ?_)
  refine lv_iconst (v := nI 0) hx hb dX2_rank_8 (by decide) ?_
  refine lv_istore (lv' := [(4, .int (nI 0)), (3, .int (heardS h i j)), (0, .ref (ad 0)), (1, .int (nI j)), (2, .int (nI i))]) hx hb dX2_rank_9 hl (by decide) rfl (fun ls hl => ?_)
  refine lv_iconst (v := nI 0) hx hb dX2_rank_11 (by decide) ?_
  refine lv_istore (lv' := [(5, .int (nI 0)), (4, .int (nI 0)), (3, .int (heardS h i j)), (0, .ref (ad 0)), (1, .int (nI j)), (2, .int (nI i))]) hx hb dX2_rank_12 hl (by decide) rfl (fun ls hl => ?_)
  refine w_up (nM h) 14 7 (fun k => [(0, .ref (ad 0)), (1, .int (nI j)), (2, .int (nI i)), (3, .int (heardS h i j)), (4, .int (nI (fa_cnt (rkS h i j) k))), (5, .int (nI k))]) ?_ ?_ 0 (Nat.zero_le _) _ (lv_sub hl [3, 4, 5, 2, 1, 0] rfl)
  · intro k ls hi_k hl ih_k
    have hl : lv_has ls 7 [(0, .ref (ad 0)), (1, .int (nI j)), (2, .int (nI i)), (3, .int (heardS h i j)), (4, .int (nI (fa_cnt (rkS h i j) k))), (5, .int (nI k))] := hl
    refine lv_iload hx hb dX2_rank_14 (lv_at hl 5 rfl) ?_
    refine lv_aload_n hx hb dX2_rank_16 rfl (lv_at hl 0 rfl) ?_
    refine mg_w C hP dX2_rank_17 ?_
    refine lv_iconst (v := nI 0) hx hb dX2_rank_20 (by decide) ?_
    refine m_ald1 C hP (by omega) dX2_rank_21 ?_
    refine w_eqi (rp_many hR (by omega)) ?_
    refine w_eqi (hB.many) ?_
    refine w_icmpN_ge (tgt := 69) hx hb dX2_rank_22 (by decide) (by omega) (by omega) (fun c_81 => ?_) (fun c_81 => ?_)
    · exact absurd c_81 (by omega)
    · refine lv_aload_n hx hb dX2_rank_25 rfl (lv_at hl 0 rfl) ?_
      refine lv_iconst (v := nI 0) hx hb dX2_rank_26 (by decide) ?_
      refine lv_iload hx hb dX2_rank_27 (lv_at hl 5 rfl) ?_
      refine lv_iload_n hx hb dX2_rank_29 rfl (lv_at hl 2 rfl) ?_
      refine m_cR [.int (nI 0), .int (nI k), .int (nI i)] C hml hl.1 hP (mX2_heardOf l D T ad μ h 0 hR hB (by omega) k i (by omega) (by omega)) (lw_V q929 q931 qs51 q71 q932) hdX2_heardOf ⟨rfl, rfl⟩ ⟨Nat.le_of_ble_eq_true rfl, Nat.le_of_ble_eq_true rfl⟩ rfl (Nat.le_of_ble_eq_true rfl) dX2_rank_30 ⟨Nat.zero_le _, Nat.zero_le _⟩ ?_
      refine lv_istore (lv' := [(6, .int (heardS h i k)), (0, .ref (ad 0)), (1, .int (nI j)), (2, .int (nI i)), (3, .int (heardS h i j)), (4, .int (nI (fa_cnt (rkS h i j) k))), (5, .int (nI k))]) hx hb dX2_rank_33 hl (by decide) rfl (fun ls hl => ?_)
      refine lv_iload hx hb dX2_rank_35 (lv_at hl 5 rfl) ?_
      refine w_join (α := Int32) (fun v_82 => v_82 = bI (rkS h i j k)) (fun v_82 => F0 mi 60 ls (.int v_82 :: .int (nI (fa_cnt (rkS h i j) k)) :: [])) (fun v_82 hv_82 => ?_) (fun hJv_82 => ?_)
      · subst hv_82
        refine lv_iadd hx hb dX2_rank_60 ?_
        refine w_eqi bI_cnt ?_
        refine lv_istore (lv' := [(4, .int (nI (fa_cnt (rkS h i j) (k + 1)))), (6, .int (heardS h i k)), (0, .ref (ad 0)), (1, .int (nI j)), (2, .int (nI i)), (3, .int (heardS h i j)), (5, .int (nI k))]) hx hb dX2_rank_61 hl (by decide) rfl (fun ls hl => ?_)
        refine lv_iinc (v := nI (k + 1)) (lv' := [(5, .int (nI (k + 1))), (4, .int (nI (fa_cnt (rkS h i j) (k + 1)))), (6, .int (heardS h i k)), (0, .ref (ad 0)), (1, .int (nI j)), (2, .int (nI i)), (3, .int (heardS h i j))]) hx hb dX2_rank_63 hl (k := 6) rfl (w_inc _ _) (by decide) rfl (fun ls hl => ?_)
        refine lv_goto (tgt := 14) hx hb dX2_rank_66 (by decide) ?_
        refine ih_k _ ?_
        show lv_has ls 7 [(0, .ref (ad 0)), (1, .int (nI j)), (2, .int (nI i)), (3, .int (heardS h i j)), (4, .int (nI (fa_cnt (rkS h i j) (k + 1)))), (5, .int (nI (k + 1)))]
        exact lv_sub hl [3, 4, 5, 6, 1, 0] rfl
      · refine lv_iload hx hb dX2_rank_37 (lv_at hl 0 rfl) ?_
        refine lv_iload_n hx hb dX2_rank_39 rfl (lv_at hl 4 rfl) ?_
        refine lv_icmp_lt (tgt := 55) hx hb dX2_rank_40 (by decide) (fun c_83 => ?_) (fun c_83 => ?_)
        · refine lv_iconst (v := 1) hx hb dX2_rank_55 (by decide) ?_
          refine lv_goto (tgt := 60) hx hb dX2_rank_56 (by decide) ?_
          exact hJv_82 _ (by unfold rkS; rw [decide_eq_true c_83]; rfl)
        · refine lv_iload hx hb dX2_rank_43 (lv_at hl 0 rfl) ?_
          refine lv_iload_n hx hb dX2_rank_45 rfl (lv_at hl 4 rfl) ?_
          refine lv_icmp_ne (tgt := 59) hx hb dX2_rank_46 (by decide) (fun c_84 => ?_) (fun c_84 => ?_)
          · refine lv_iconst (v := 0) hx hb dX2_rank_59 (by decide) ?_
            exact hJv_82 _ (by unfold rkS; rw [decide_eq_false c_83, decide_eq_false c_84]; rfl)
          · refine lv_iload hx hb dX2_rank_49 (lv_at hl 6 rfl) ?_
            refine lv_iload_n hx hb dX2_rank_51 rfl (lv_at hl 2 rfl) ?_
            refine w_icmpN_ge (tgt := 59) hx hb dX2_rank_52 (by decide) (by omega) (by omega) (fun c_85 => ?_) (fun c_85 => ?_)
            · refine lv_iconst (v := 0) hx hb dX2_rank_59 (by decide) ?_
              exact hJv_82 _ (by unfold rkS; rw [decide_eq_false c_83, decide_eq_true c_84, decide_eq_false (Nat.not_lt.mpr c_85)]; rfl)
            · refine lv_iconst (v := 1) hx hb dX2_rank_55 (by decide) ?_
              refine lv_goto (tgt := 60) hx hb dX2_rank_56 (by decide) ?_
              exact hJv_82 _ (by unfold rkS; rw [decide_eq_false c_83, decide_eq_true c_84, decide_eq_true c_85]; rfl)
  · intro ls hl
    have hl : lv_has ls 7 [(0, .ref (ad 0)), (1, .int (nI j)), (2, .int (nI i)), (3, .int (heardS h i j)), (4, .int (nI (fa_cnt (rkS h i j) (nM h)))), (5, .int (nI (nM h)))] := hl
    refine lv_iload hx hb dX2_rank_14 (lv_at hl 5 rfl) ?_
    refine lv_aload_n hx hb dX2_rank_16 rfl (lv_at hl 0 rfl) ?_
    refine mg_w C hP dX2_rank_17 ?_
    refine lv_iconst (v := nI 0) hx hb dX2_rank_20 (by decide) ?_
    refine m_ald1 C hP (by omega) dX2_rank_21 ?_
    refine w_eqi (rp_many hR (by omega)) ?_
    refine w_eqi (hB.many) ?_
    refine w_icmpN_ge (tgt := 69) hx hb dX2_rank_22 (by decide) (by omega) (by omega) (fun c_86 => ?_) (fun c_86 => ?_)
    · refine lv_iload hx hb dX2_rank_69 (lv_at hl 4 rfl) ?_
      exact w_retR hx hb hlk hr dX2_rank_71 rfl
    · exact absurd c_86 (by omega)

