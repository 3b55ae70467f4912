/-! THE MODEL: the book, the worst, the farthest lie -/
set_option maxRecDepth 100000
theorem hdX2_arePair : yX2_arePair.cls = "LiarClocksModel" ∧ yX2_arePair.cls ≠ "java/lang/invoke/MethodHandle" ∧ yX2_arePair.cls ≠ "java/lang/invoke/VarHandle" ∧ (parseMethodDescriptor yX2_arePair.desc).map (fun d => d.parameters.length) = some 2 := by decide +kernel
set_option maxHeartbeats 4000000 in
/-- arePair -/
theorem mX2_arePair (l : Launch) (D : va_G) (T : Nat → ClassId) (ad : Nat → Nat) (μ : Nat → Nat → Int32) (h : Vw) (hR : Rp (μ 1) 0 h) (hB : HB h) (j i : Int32) : Met l yX2_arePair (ws_ yX2_arePair cX2_arePair 3 (some .boolean)) ({ frames := 2, cells := 0, slots := 0, locals := 43 } : Room) (mPc D T ad μ [.ref (ad 0), .int j, .int i]) (QcRead (bI (isC h j && (isC h i && decide (j ≠ i))))) 0 0 (fun _ => False) := by
  have h8 := hB.many8
  have h3 := hB.strike3
  have h6 := hB.alarms6
  refine mR_intro [.ref (ad 0), .int j, .int i] (by decide) rfl (Nat.le_of_ble_eq_true rfl) ?_
  intro pg en s0 mi below meth cd ls C hr hlk hml hP hl
  have hx := C.1
  have hb := C.2.1
  have hown := C.2.2.1
  have hts := C.2.2.2.1
  have hl : lv_has ls 3 [(0, .ref (ad 0)), (1, .int j), (2, .int i)] := hl
  refine lv_aload_n hx hb dX2_arePair_0 rfl (lv_at hl 0 rfl) ?_
  refine lv_iload_n hx hb dX2_arePair_1 rfl (lv_at hl 1 rfl) ?_
  refine m_cR [.int j] C hml hl.1 hP (mX2_isClock l D T ad μ h hR hB j) (lw_V q954 q956 qs57 q71 q957) hdX2_isClock ⟨rfl, rfl⟩ ⟨Nat.le_of_ble_eq_true rfl, Nat.le_of_ble_eq_true rfl⟩ rfl (Nat.le_of_ble_eq_true rfl) dX2_arePair_2 ⟨Nat.zero_le _, Nat.zero_le _⟩ ?_
  refine lv_if_eq (tgt := 25) hx hb dX2_arePair_5 (by decide) (fun c_122 => ?_) (fun c_122 => ?_)
  · refine lv_iconst (v := 0) hx hb dX2_arePair_25 (by decide) ?_
    exact w_retZ hx hb hlk hr dX2_arePair_26 (by rw [bI_eq0.mp c_122]; rfl)
  · refine lv_aload_n hx hb dX2_arePair_8 rfl (lv_at hl 0 rfl) ?_
    refine lv_iload_n hx hb dX2_arePair_9 rfl (lv_at hl 2 rfl) ?_
    refine m_cR [.int i] C hml hl.1 hP (mX2_isClock l D T ad μ h hR hB i) (lw_V q954 q956 qs57 q71 q957) hdX2_isClock ⟨rfl, rfl⟩ ⟨Nat.le_of_ble_eq_true rfl, Nat.le_of_ble_eq_true rfl⟩ rfl (Nat.le_of_ble_eq_true rfl) dX2_arePair_10 ⟨Nat.zero_le _, Nat.zero_le _⟩ ?_
    refine lv_if_eq (tgt := 25) hx hb dX2_arePair_13 (by decide) (fun c_123 => ?_) (fun c_123 => ?_)
    · refine lv_iconst (v := 0) hx hb dX2_arePair_25 (by decide) ?_
      exact w_retZ hx hb hlk hr dX2_arePair_26 (by rw [bI_ne0.mp c_122, bI_eq0.mp c_123]; rfl)
    · refine lv_iload_n hx hb dX2_arePair_16 rfl (lv_at hl 1 rfl) ?_
      refine lv_iload_n hx hb dX2_arePair_17 rfl (lv_at hl 2 rfl) ?_
      refine lv_icmp_eq (tgt := 25) hx hb dX2_arePair_18 (by decide) (fun c_124 => ?_) (fun c_124 => ?_)
      · refine lv_iconst (v := 0) hx hb dX2_arePair_25 (by decide) ?_
        exact w_retZ hx hb hlk hr dX2_arePair_26 (by rw [bI_ne0.mp c_122, bI_ne0.mp c_123, decide_eq_false (fun q => q c_124)]; rfl)
      · refine lv_iconst (v := 1) hx hb dX2_arePair_21 (by decide) ?_
        refine lv_goto (tgt := 26) hx hb dX2_arePair_22 (by decide) ?_
        exact w_retZ hx hb hlk hr dX2_arePair_26 (by rw [bI_ne0.mp c_122, bI_ne0.mp c_123, decide_eq_true c_124]; rfl)

theorem hdX2_wrongEntry : yX2_wrongEntry.cls = "LiarClocksModel" ∧ yX2_wrongEntry.cls ≠ "java/lang/invoke/MethodHandle" ∧ yX2_wrongEntry.cls ≠ "java/lang/invoke/VarHandle" ∧ (parseMethodDescriptor yX2_wrongEntry.desc).map (fun d => d.parameters.length) = some 0 := by decide +kernel
set_option maxHeartbeats 4000000 in
/-- wrongEntry -/
theorem mX2_wrongEntry (l : Launch) (D : va_G) (T : Nat → ClassId) (ad : Nat → Nat) (μ : Nat → Nat → Int32) (h : Vw) (hR : Rp (μ 1) 0 h) (hB : HB h) (n : Nat) (hn : μ 0 8 = nI n) (hn20 : n ≤ 20) : Met l yX2_wrongEntry (ws_ yX2_wrongEntry cX2_wrongEntry 2 (some .int)) ({ frames := 2, cells := 0, slots := 0, locals := 43 } : Room) (mPc D T ad μ [.ref (ad 0)]) (QcRead (wrongS h (μ 3) (μ 4) n)) 0 0 (fun _ => False) := by
  have h8 := hB.many8
  have h3 := hB.strike3
  have h6 := hB.alarms6
  refine mR_intro [.ref (ad 0)] (by decide) rfl (Nat.le_of_ble_eq_true rfl) ?_
  intro pg en s0 mi below meth cd ls C hr hlk hml hP hl
  have hx := C.1
  have hb := C.2.1
  have hown := C.2.2.1
  have hts := C.2.2.2.1
  have hl : lv_has ls 2 [(0, .ref (ad 0))] := hl
  refine lv_iconst (v := nI 0) hx hb dX2_wrongEntry_0 (by decide) ?_
  refine lv_istore_n (lv' := [(1, .int (nI 0)), (0, .ref (ad 0))]) hx hb dX2_wrongEntry_1 rfl hl (by decide) rfl (fun ls hl => ?_)
  refine w_upF n 2 2 (fun i => [(0, .ref (ad 0)), (1, .int (nI i))]) (fun i => ∀ k, k < i → wrS h (μ 3) (μ 4) k = false) ?_ ?_ 0 (Nat.zero_le _) _ (lv_sub hl [1, 0] rfl) (fun k hk => absurd hk (Nat.not_lt_zero k))
  · intro i ls hi_i hl hF ih_i
    have hl : lv_has ls 2 [(0, .ref (ad 0)), (1, .int (nI i))] := hl
    refine lv_iload_n hx hb dX2_wrongEntry_2 rfl (lv_at hl 1 rfl) ?_
    refine lv_aload_n hx hb dX2_wrongEntry_3 rfl (lv_at hl 0 rfl) ?_
    refine mg_written C hP dX2_wrongEntry_4 ?_
    refine w_eqi (y := nI (n)) (hn) ?_
    refine w_icmpN_ge (tgt := 51) hx hb dX2_wrongEntry_7 (by decide) (by omega) (by omega) (fun c_125 => ?_) (fun c_125 => ?_)
    · exact absurd c_125 (by omega)
    · refine lv_aload_n hx hb dX2_wrongEntry_10 rfl (lv_at hl 0 rfl) ?_
      refine lv_aload_n hx hb dX2_wrongEntry_11 rfl (lv_at hl 0 rfl) ?_
      refine mg_bookOf C hP dX2_wrongEntry_12 ?_
      refine lv_iload_n hx hb dX2_wrongEntry_15 rfl (lv_at hl 1 rfl) ?_
      refine m_ald3 C hP (by omega) dX2_wrongEntry_16 ?_
      refine m_cR [.int (μ 3 (i))] C hml hl.1 hP (mX2_isClock l D T ad μ h hR hB (μ 3 (i))) (lw_V q954 q956 qs57 q71 q957) hdX2_isClock ⟨rfl, rfl⟩ ⟨Nat.le_of_ble_eq_true rfl, Nat.le_of_ble_eq_true rfl⟩ rfl (Nat.le_of_ble_eq_true rfl) dX2_wrongEntry_17 ⟨Nat.zero_le _, Nat.zero_le _⟩ ?_
      refine lv_if_eq (tgt := 43) hx hb dX2_wrongEntry_20 (by decide) (fun c_126 => ?_) (fun c_126 => ?_)
      · refine lv_iload_n hx hb dX2_wrongEntry_43 rfl (lv_at hl 1 rfl) ?_
        exact w_retR hx hb hlk hr dX2_wrongEntry_44 (by
              have hw : wrS h (μ 3) (μ 4) i = true := by unfold wrS; rw [bI_eq0.mp c_126]; rfl
              unfold wrongS; rw [first_some hi_i hw hF, if_pos hi_i])
      · have hic := bI_ne0.mp c_126
        obtain ⟨c, hc, ec⟩ := isC_spec hic
        refine lv_aload_n hx hb dX2_wrongEntry_23 rfl (lv_at hl 0 rfl) ?_
        refine lv_iconst (v := nI 0) hx hb dX2_wrongEntry_24 (by decide) ?_
        refine lv_aload_n hx hb dX2_wrongEntry_25 rfl (lv_at hl 0 rfl) ?_
        refine mg_bookOf C hP dX2_wrongEntry_26 ?_
        refine lv_iload_n hx hb dX2_wrongEntry_29 rfl (lv_at hl 1 rfl) ?_
        refine m_ald3 C hP (by omega) dX2_wrongEntry_30 ?_
        refine w_eqi ec ?_
        refine m_cR [.int (nI 0), .int (nI c)] C hml hl.1 hP (mX2_aim l D T ad μ h 0 c hR (by omega) (by omega)) (lw_V q903 q905 qs45 q71 q906) hdX2_aim ⟨rfl, rfl⟩ ⟨Nat.le_of_ble_eq_true rfl, Nat.le_of_ble_eq_true rfl⟩ rfl (Nat.le_of_ble_eq_true rfl) dX2_wrongEntry_31 ⟨Nat.zero_le _, Nat.zero_le _⟩ ?_
        refine lv_aload_n hx hb dX2_wrongEntry_34 rfl (lv_at hl 0 rfl) ?_
        refine mg_bookAim C hP dX2_wrongEntry_35 ?_
        refine lv_iload_n hx hb dX2_wrongEntry_38 rfl (lv_at hl 1 rfl) ?_
        refine m_ald4 C hP (by omega) dX2_wrongEntry_39 ?_
        refine lv_icmp_eq (tgt := 45) hx hb dX2_wrongEntry_40 (by decide) (fun c_127 => ?_) (fun c_127 => ?_)
        · refine lv_iinc (v := nI (i + 1)) (lv' := [(1, .int (nI (i + 1))), (0, .ref (ad 0))]) hx hb dX2_wrongEntry_45 hl (k := 1) rfl (w_inc _ _) (by decide) rfl (fun ls hl => ?_)
          refine lv_goto (tgt := 2) hx hb dX2_wrongEntry_48 (by decide) ?_
          refine ih_i _ (lv_sub hl [1, 0] rfl) ?_
          intro k hk
          by_cases hki : k = i
          · subst hki; unfold wrS; rw [hic, ec, nI_clamp (by omega), decide_eq_true c_127]; rfl
          · exact hF k (by omega)
        · refine lv_iload_n hx hb dX2_wrongEntry_43 rfl (lv_at hl 1 rfl) ?_
          exact w_retR hx hb hlk hr dX2_wrongEntry_44 (by
                have hw : wrS h (μ 3) (μ 4) i = true := by unfold wrS; rw [hic, ec, nI_clamp (by omega), decide_eq_false c_127]; rfl
                unfold wrongS; rw [first_some hi_i hw hF, if_pos hi_i])
  · intro ls hl hF
    have hl : lv_has ls 2 [(0, .ref (ad 0)), (1, .int (nI n))] := hl
    refine lv_iload_n hx hb dX2_wrongEntry_2 rfl (lv_at hl 1 rfl) ?_
    refine lv_aload_n hx hb dX2_wrongEntry_3 rfl (lv_at hl 0 rfl) ?_
    refine mg_written C hP dX2_wrongEntry_4 ?_
    refine w_eqi (y := nI (n)) (hn) ?_
    refine w_icmpN_ge (tgt := 51) hx hb dX2_wrongEntry_7 (by decide) (by omega) (by omega) (fun c_128 => ?_) (fun c_128 => ?_)
    · refine lv_iconst (v := -1) hx hb dX2_wrongEntry_51 (by decide) ?_
      exact w_retR hx hb hlk hr dX2_wrongEntry_52 (by unfold wrongS; rw [if_neg (first_none hF)])
    · exact absurd c_128 (by omega)

theorem hdX2_worst : yX2_worst.cls = "LiarClocksModel" ∧ yX2_worst.cls ≠ "java/lang/invoke/MethodHandle" ∧ yX2_worst.cls ≠ "java/lang/invoke/VarHandle" ∧ (parseMethodDescriptor yX2_worst.desc).map (fun d => d.parameters.length) = some 0 := by decide +kernel
set_option maxHeartbeats 4000000 in
/-- worst -/
theorem mX2_worst (l : Launch) (D : va_G) (T : Nat → ClassId) (ad : Nat → Nat) (μ : Nat → Nat → Int32) (h : Vw) (hR : Rp (μ 1) 0 h) (hB : HB h) (B : Int) (hA : HA h B) (hB0 : B ≤ 400000000) (hB1 : 0 ≤ B) : ∀ sz, Met l yX2_worst (ws_ yX2_worst cX2_worst 7 (some .int)) ({ frames := 3, cells := 0, slots := 0, locals := 69 } : Room) (mPs D T ad μ [.ref (ad 0)] sz) (mQ D T ad (fun r μ' => r = some (.int (worstS h)) ∧ ∀ q, q ≠ 5 → μ' q = μ q)) 0 0 (gA 7 ad sz) := by
  have h8 := hB.many8
  have h3 := hB.strike3
  have h6 := hB.alarms6
  refine mM_intro [.ref (ad 0)] (by decide) rfl (Nat.le_of_ble_eq_true rfl) ?_
  intro pg en s0 mi below meth cd ls C hr hlk hml hP hS hl
  have hx := C.1
  have hb := C.2.1
  have hown := C.2.2.1
  have hts := C.2.2.2.1
  have hl : lv_has ls 7 [(0, .ref (ad 0))] := hl
  refine lv_iconst (v := nI 0) hx hb dX2_worst_0 (by decide) ?_
  refine lv_istore_n (lv' := [(1, .int (nI 0)), (0, .ref (ad 0))]) hx hb dX2_worst_1 rfl hl (by decide) rfl (fun ls hl => ?_)
  refine lv_iconst (v := nI 0) hx hb dX2_worst_2 (by decide) ?_
  refine lv_istore_n (lv' := [(2, .int (nI 0)), (1, .int (nI 0)), (0, .ref (ad 0))]) hx hb dX2_worst_3 rfl hl (by decide) rfl (fun ls hl => ?_)
  refine lv_iconst (v := nI 0) hx hb dX2_worst_4 (by decide) ?_
  refine lv_istore_n (lv' := [(3, .int (nI 0)), (2, .int (nI 0)), (1, .int (nI 0)), (0, .ref (ad 0))]) hx hb dX2_worst_5 rfl hl (by decide) rfl (fun ls hl => ?_)
  refine w_up (nM h) 6 7 (fun i => [(0, .ref (ad 0)), (1, .int (nI (fa_cnt (trS h) i))), (2, .int (nI 0)), (3, .int (nI i))]) ?_ ?_ 0 (Nat.zero_le _) _ (lv_sub hl [3, 2, 1, 0] rfl)
  · intro i ls hi_i hl ih_i
    have hl : lv_has ls 7 [(0, .ref (ad 0)), (1, .int (nI (fa_cnt (trS h) i))), (2, .int (nI 0)), (3, .int (nI i))] := hl
    refine lv_iload_n hx hb dX2_worst_6 rfl (lv_at hl 3 rfl) ?_
    refine lv_aload_n hx hb dX2_worst_7 rfl (lv_at hl 0 rfl) ?_
    refine mg_w C hP dX2_worst_8 ?_
    refine lv_iconst (v := nI 0) hx hb dX2_worst_11 (by decide) ?_
    refine m_ald1 C hP (by omega) dX2_worst_12 ?_
    refine w_eqi (rp_many hR (by omega)) ?_
    refine w_eqi (hB.many) ?_
    refine w_icmpN_ge (tgt := 39) hx hb dX2_worst_13 (by decide) (by omega) (by omega) (fun c_129 => ?_) (fun c_129 => ?_)
    · exact absurd c_129 (by omega)
    · refine lv_iload_n hx hb dX2_worst_16 rfl (lv_at hl 1 rfl) ?_
      refine lv_aload_n hx hb dX2_worst_17 rfl (lv_at hl 0 rfl) ?_
      refine lv_iconst (v := nI 0) hx hb dX2_worst_18 (by decide) ?_
      refine lv_iload_n hx hb dX2_worst_19 rfl (lv_at hl 3 rfl) ?_
      refine m_cR [.int (nI 0), .int (nI i)] C hml hl.1 hP (mX2_isTrue l D T ad μ h 0 i hR (by omega) (by omega)) (lw_V q895 q897 qs43 q71 q898) hdX2_isTrue ⟨rfl, rfl⟩ ⟨Nat.le_of_ble_eq_true rfl, Nat.le_of_ble_eq_true rfl⟩ rfl (Nat.le_of_ble_eq_true rfl) dX2_worst_20 ⟨Nat.zero_le _, Nat.zero_le _⟩ ?_
      refine w_join (α := Int32) (fun v_130 => v_130 = bI (trS h i)) (fun v_130 => F0 mi 31 ls (.int v_130 :: .int (nI (fa_cnt (trS h) i)) :: [])) (fun v_130 hv_130 => ?_) (fun hJv_130 => ?_)
      · subst hv_130
        refine lv_iadd hx hb dX2_worst_31 ?_
        refine w_eqi bI_cnt ?_
        refine lv_istore_n (lv' := [(1, .int (nI (fa_cnt (trS h) (i + 1)))), (0, .ref (ad 0)), (2, .int (nI 0)), (3, .int (nI i))]) hx hb dX2_worst_32 rfl hl (by decide) rfl (fun ls hl => ?_)
        refine lv_iinc (v := nI (i + 1)) (lv' := [(3, .int (nI (i + 1))), (1, .int (nI (fa_cnt (trS h) (i + 1)))), (0, .ref (ad 0)), (2, .int (nI 0))]) hx hb dX2_worst_33 hl (k := 3) rfl (w_inc _ _) (by decide) rfl (fun ls hl => ?_)
        refine lv_goto (tgt := 6) hx hb dX2_worst_36 (by decide) ?_
        refine ih_i _ ?_
        show lv_has ls 7 [(0, .ref (ad 0)), (1, .int (nI (fa_cnt (trS h) (i + 1)))), (2, .int (nI 0)), (3, .int (nI (i + 1)))]
        exact lv_sub hl [2, 1, 3, 0] rfl
      · refine lv_if_eq (tgt := 30) hx hb dX2_worst_23 (by decide) (fun c_131 => ?_) (fun c_131 => ?_)
        · refine lv_iconst (v := 0) hx hb dX2_worst_30 (by decide) ?_
          exact hJv_130 _ (by rw [bI_eq0.mp c_131]; rfl)
        · refine lv_iconst (v := 1) hx hb dX2_worst_26 (by decide) ?_
          refine lv_goto (tgt := 31) hx hb dX2_worst_27 (by decide) ?_
          exact hJv_130 _ (by rw [bI_ne0.mp c_131]; rfl)
  · intro ls hl
    have hl : lv_has ls 7 [(0, .ref (ad 0)), (1, .int (nI (fa_cnt (trS h) (nM h)))), (2, .int (nI 0)), (3, .int (nI (nM h)))] := hl
    refine lv_iload_n hx hb dX2_worst_6 rfl (lv_at hl 3 rfl) ?_
    refine lv_aload_n hx hb dX2_worst_7 rfl (lv_at hl 0 rfl) ?_
    refine mg_w C hP dX2_worst_8 ?_
    refine lv_iconst (v := nI 0) hx hb dX2_worst_11 (by decide) ?_
    refine m_ald1 C hP (by omega) dX2_worst_12 ?_
    refine w_eqi (rp_many hR (by omega)) ?_
    refine w_eqi (hB.many) ?_
    refine w_icmpN_ge (tgt := 39) hx hb dX2_worst_13 (by decide) (by omega) (by omega) (fun c_132 => ?_) (fun c_132 => ?_)
    · have hc8 : fa_cnt (trS h) (nM h) ≤ 8 := cnt_le8 h8
      have hl8 : fa_cnt (lrS h) (nM h) ≤ 8 := cnt_le8 h8
      refine lv_iload_n hx hb dX2_worst_39 rfl (lv_at hl 1 rfl) ?_
      refine lv_iconst (v := nI 2) hx hb dX2_worst_40 (by decide) ?_
      refine w_icmpN_ge (tgt := 54) hx hb dX2_worst_41 (by decide) (by omega) (by omega) (fun c_133 => ?_) (fun c_133 => ?_)
      · have hn2 : ¬ fa_cnt (trS h) (nM h) < 2 := by omega
        refine lv_aload_n hx hb dX2_worst_54 rfl (lv_at hl 0 rfl) ?_
        refine lv_iconst (v := nI 0) hx hb dX2_worst_55 (by decide) ?_
        refine lv_aload_n hx hb dX2_worst_56 rfl (lv_at hl 0 rfl) ?_
        refine mg_w C hP dX2_worst_57 ?_
        refine lv_iconst (v := nI 0) hx hb dX2_worst_60 (by decide) ?_
        refine m_ald1 C hP (by omega) dX2_worst_61 ?_
        refine w_eqi (rp_many hR (by omega)) ?_
        refine w_eqi (hB.many) ?_
        refine m_cR [.int (nI 0), .int (nI (nM h))] C hml hl.1 hP (mX2_allStruck l D T ad μ h 0 hR hB (by omega) (nM h) (by omega)) (lw_V q911 q913 qs47 q71 q914) hdX2_allStruck ⟨rfl, rfl⟩ ⟨Nat.le_of_ble_eq_true rfl, Nat.le_of_ble_eq_true rfl⟩ rfl (Nat.le_of_ble_eq_true rfl) dX2_worst_62 ⟨Nat.zero_le _, Nat.zero_le _⟩ ?_
        refine lv_if_eq (tgt := 74) hx hb dX2_worst_65 (by decide) (fun c_135 => ?_) (fun c_135 => ?_)
        · have hns : ¬ nM h ≤ 2 * nF h := of_decide_eq_false (bI_eq0.mp c_135)
          refine lv_aload_n hx hb dX2_worst_74 rfl (lv_at hl 0 rfl) ?_
          refine m_cR [] C hml hl.1 hP (mX2_liars l D T ad μ h hR hB) (lw_V q915 q917 qs48 q71 q918) hdX2_liars ⟨rfl, rfl⟩ ⟨Nat.le_of_ble_eq_true rfl, Nat.le_of_ble_eq_true rfl⟩ rfl (Nat.le_of_ble_eq_true rfl) dX2_worst_75 ⟨Nat.zero_le _, Nat.zero_le _⟩ ?_
          refine lv_aload_n hx hb dX2_worst_78 rfl (lv_at hl 0 rfl) ?_
          refine mg_w C hP dX2_worst_79 ?_
          refine lv_iconst (v := nI 1) hx hb dX2_worst_82 (by decide) ?_
          refine m_ald1 C hP (by omega) dX2_worst_83 ?_
          refine w_eqi (rp_strike hR (by omega)) ?_
          refine w_eqi (hB.strike) ?_
          refine w_icmpN_le (tgt := 90) hx hb dX2_worst_84 (by decide) (by omega) (by omega) (fun c_136 => ?_) (fun c_136 => ?_)
          · refine lv_iconst (v := nI 0) hx hb dX2_worst_90 (by decide) ?_
            refine lv_istore_n (lv' := [(3, .int (nI 0)), (0, .ref (ad 0)), (1, .int (nI (fa_cnt (trS h) (nM h)))), (2, .int (nI 0))]) hx hb dX2_worst_91 rfl hl (by decide) rfl (fun ls hl => ?_)
            refine w_upM (α := Nat → Nat → Int32) (nM h) 92 7 (gA 7 ad s0.heap.size) s0.heap (fun i μ2 => [(0, .ref (ad 0)), (2, .int (wAll h i)), (3, .int (nI i))]) (fun i μ2 H => mW D T ad μ2 H ∧ ∀ q, q ≠ 5 → μ2 q = μ q) ?_ ?_ 0 (Nat.zero_le _) μ (lv_sub hl [1, 3, 0] rfl) ⟨hP, fun _ _ => rfl⟩ hS
            · intro i μ2 ls H locs hi_i hl hW hS ih_i
              have hl : lv_has ls 7 [(0, .ref (ad 0)), (2, .int (wAll h i)), (3, .int (nI i))] := hl
              obtain ⟨hP, hoth⟩ := hW
              have hR2 : Rp (μ2 1) 0 h := by rw [hoth 1 (by decide)]; exact hR
              refine lv_iload_n hx hb dX2_worst_92 rfl (lv_at hl 2 rfl) ?_
              refine lv_aload_n hx hb dX2_worst_93 rfl (lv_at hl 0 rfl) ?_
              refine mg_w C hP dX2_worst_94 ?_
              refine lv_iconst (v := nI 0) hx hb dX2_worst_97 (by decide) ?_
              refine m_ald1 C hP (by omega) dX2_worst_98 ?_
              refine w_eqi (rp_many hR2 (by omega)) ?_
              refine w_eqi (hB.many) ?_
              refine w_icmpN_ge (tgt := 200) hx hb dX2_worst_99 (by decide) (by omega) (by omega) (fun c_137 => ?_) (fun c_137 => ?_)
              · exact absurd c_137 (by omega)
              · refine lv_iconst (v := nI 0) hx hb dX2_worst_102 (by decide) ?_
                refine lv_istore (lv' := [(4, .int (nI 0)), (0, .ref (ad 0)), (2, .int (wAll h i)), (3, .int (nI i))]) hx hb dX2_worst_103 hl (by decide) rfl (fun ls hl => ?_)
                refine w_upM (α := Nat → Nat → Int32) (nM h) 105 7 (gA 7 ad s0.heap.size) s0.heap (fun k μ3 => [(0, .ref (ad 0)), (2, .int (wRow h i (wAll h i) k)), (3, .int (nI i)), (4, .int (nI k))]) (fun k μ3 H => mW D T ad μ3 H ∧ ∀ q, q ≠ 5 → μ3 q = μ q) ?_ ?_ 0 (Nat.zero_le _) μ2 (lv_sub hl [1, 2, 3, 0] rfl) ⟨hP, hoth⟩ hS
                · intro k μ3 ls H locs hi_k hl hW hS ih_k
                  have hl : lv_has ls 7 [(0, .ref (ad 0)), (2, .int (wRow h i (wAll h i) k)), (3, .int (nI i)), (4, .int (nI k))] := hl
                  obtain ⟨hP, hoth3⟩ := hW
                  have hR3 : Rp (μ3 1) 0 h := by rw [hoth3 1 (by decide)]; exact hR
                  refine lv_iload hx hb dX2_worst_105 (lv_at hl 3 rfl) ?_
                  refine lv_aload_n hx hb dX2_worst_107 rfl (lv_at hl 0 rfl) ?_
                  refine mg_w C hP dX2_worst_108 ?_
                  refine lv_iconst (v := nI 0) hx hb dX2_worst_111 (by decide) ?_
                  refine m_ald1 C hP (by omega) dX2_worst_112 ?_
                  refine w_eqi (rp_many hR3 (by omega)) ?_
                  refine w_eqi (hB.many) ?_
                  refine w_icmpN_ge (tgt := 194) hx hb dX2_worst_113 (by decide) (by omega) (by omega) (fun c_138 => ?_) (fun c_138 => ?_)
                  · exact absurd c_138 (by omega)
                  · refine w_join (α := Int32) (fun v_139 => v_139 = bI (areS h i k)) (fun v_139 => F0 mi 146 ls (.int v_139 :: [])) (fun v_139 hv_139 => ?_) (fun hJv_139 => ?_)
                    · subst hv_139
                      refine lv_istore (lv' := [(5, .int (bI (areS h i k))), (0, .ref (ad 0)), (2, .int (wRow h i (wAll h i) k)), (3, .int (nI i)), (4, .int (nI k))]) hx hb dX2_worst_146 hl (by decide) rfl (fun ls hl => ?_)
                      refine lv_iload hx hb dX2_worst_148 (lv_at hl 0 rfl) ?_
                      refine lv_if_eq (tgt := 172) hx hb dX2_worst_150 (by decide) (fun c_143 => ?_) (fun c_143 => ?_)
                      · have har : ¬ areS h i k = true := by rw [bI_eq0.mp c_143]; decide
                        have hge := wRow_ge (h := h) (i := i) (wAll_ge (h := h) i) k
                        refine lv_iconst (v := nI 0) hx hb dX2_worst_172 (by decide) ?_
                        refine lv_istore (lv' := [(6, .int (nI 0)), (5, .int (bI (areS h i k))), (0, .ref (ad 0)), (2, .int (wRow h i (wAll h i) k)), (3, .int (nI i)), (4, .int (nI k))]) hx hb dX2_worst_173 hl (by decide) rfl (fun ls hl => ?_)
                        refine lv_iload hx hb dX2_worst_175 (lv_at hl 0 rfl) ?_
                        refine lv_iload_n hx hb dX2_worst_177 rfl (lv_at hl 3 rfl) ?_
                        refine lv_icmp_le (tgt := 186) hx hb dX2_worst_178 (by decide) (fun c_144 => ?_) (fun c_144 => ?_)
                        · refine lv_iload_n hx hb dX2_worst_186 rfl (lv_at hl 3 rfl) ?_
                          refine lv_istore_n (lv' := [(2, .int (wRow h i (wAll h i) k)), (6, .int (nI 0)), (5, .int (bI (areS h i k))), (0, .ref (ad 0)), (3, .int (nI i)), (4, .int (nI k))]) hx hb dX2_worst_187 rfl hl (by decide) rfl (fun ls hl => ?_)
                          refine lv_iinc (v := nI (k + 1)) (lv' := [(4, .int (nI (k + 1))), (2, .int (wRow h i (wAll h i) k)), (6, .int (nI 0)), (5, .int (bI (areS h i k))), (0, .ref (ad 0)), (3, .int (nI i))]) hx hb dX2_worst_188 hl (k := 5) rfl (w_inc _ _) (by decide) rfl (fun ls hl => ?_)
                          refine lv_goto (tgt := 105) hx hb dX2_worst_191 (by decide) ?_
                          refine ih_k μ3 _ _ _ ?_ ⟨hP, hoth3⟩ hS
                          show lv_has ls 7 [(0, .ref (ad 0)), (2, .int (wRow h i (wAll h i) (k + 1))), (3, .int (nI i)), (4, .int (nI (k + 1)))]
                          rw [show wRow h i (wAll h i) (k + 1) = wRow h i (wAll h i) k from if_neg har]
                          exact lv_sub hl [4, 1, 5, 0] rfl
                        · exact absurd (Int32.not_lt.mp hge) c_144
                      · have har : areS h i k = true := bI_ne0.mp c_143
                        refine lv_aload_n hx hb dX2_worst_153 rfl (lv_at hl 1 rfl) ?_
                        refine lv_iload_n hx hb dX2_worst_154 rfl (lv_at hl 3 rfl) ?_
                        refine lv_ldc hx hb hown (hts _ q924) dX2_worst_155 ?_
                        refine m_cM [.int (nI i), .int 500000000] C hml hl.1 hP hS (mX2_extreme l D T ad μ3 h hR3 hB B hA hB0 hB1 (by omega) i (by omega) 500000000 (by decide)) (lw_V q925 q927 qs50 q71 q928) hdX2_extreme ⟨rfl, rfl⟩ ⟨Nat.le_of_ble_eq_true rfl, Nat.le_of_ble_eq_true rfl⟩ rfl (Nat.le_of_ble_eq_true rfl) dX2_worst_157 ⟨Nat.zero_le _, Nat.zero_le _⟩ (fun v_145 μ_146 H locs hp_147 hP hS => ?_)
                        obtain ⟨rfl, ho_148⟩ := hp_147
                        have hR_149 : Rp (μ_146 1) 0 h := by rw [ho_148 1 (by decide)]; exact hR3
                        refine lv_aload_n hx hb dX2_worst_160 rfl (lv_at hl 1 rfl) ?_
                        refine lv_iload hx hb dX2_worst_161 (lv_at hl 4 rfl) ?_
                        refine lv_ldc hx hb hown (hts _ q941) dX2_worst_163 ?_
                        refine m_cM [.int (nI k), .int ((-500000000))] C hml hl.1 hP hS (mX2_extreme l D T ad μ_146 h hR_149 hB B hA hB0 hB1 (by omega) k (by omega) (-500000000) (by decide)) (lw_V q925 q927 qs50 q71 q928) hdX2_extreme ⟨rfl, rfl⟩ ⟨Nat.le_of_ble_eq_true rfl, Nat.le_of_ble_eq_true rfl⟩ rfl (Nat.le_of_ble_eq_true rfl) dX2_worst_165 ⟨Nat.zero_le _, Nat.zero_le _⟩ (fun v_150 μ_151 H locs hp_152 hP hS => ?_)
                        obtain ⟨rfl, ho_153⟩ := hp_152
                        have hR_154 : Rp (μ_151 1) 0 h := by rw [ho_153 1 (by decide)]; exact hR_149
                        refine lv_isub hx hb dX2_worst_168 ?_
                        refine lv_goto (tgt := 173) hx hb dX2_worst_169 (by decide) ?_
                        refine lv_istore (lv' := [(6, .int ((extS h i 500000000) - (extS h k (-500000000)))), (5, .int (bI (areS h i k))), (0, .ref (ad 0)), (2, .int (wRow h i (wAll h i) k)), (3, .int (nI i)), (4, .int (nI k))]) hx hb dX2_worst_173 hl (by decide) rfl (fun ls hl => ?_)
                        refine lv_iload hx hb dX2_worst_175 (lv_at hl 0 rfl) ?_
                        refine lv_iload_n hx hb dX2_worst_177 rfl (lv_at hl 3 rfl) ?_
                        refine lv_icmp_le (tgt := 186) hx hb dX2_worst_178 (by decide) (fun c_155 => ?_) (fun c_155 => ?_)
                        · refine lv_iload_n hx hb dX2_worst_186 rfl (lv_at hl 3 rfl) ?_
                          refine lv_istore_n (lv' := [(2, .int (wRow h i (wAll h i) k)), (6, .int ((extS h i 500000000) - (extS h k (-500000000)))), (5, .int (bI (areS h i k))), (0, .ref (ad 0)), (3, .int (nI i)), (4, .int (nI k))]) hx hb dX2_worst_187 rfl hl (by decide) rfl (fun ls hl => ?_)
                          refine lv_iinc (v := nI (k + 1)) (lv' := [(4, .int (nI (k + 1))), (2, .int (wRow h i (wAll h i) k)), (6, .int ((extS h i 500000000) - (extS h k (-500000000)))), (5, .int (bI (areS h i k))), (0, .ref (ad 0)), (3, .int (nI i))]) hx hb dX2_worst_188 hl (k := 5) rfl (w_inc _ _) (by decide) rfl (fun ls hl => ?_)
                          refine lv_goto (tgt := 105) hx hb dX2_worst_191 (by decide) ?_
                          refine ih_k μ_151 _ _ _ ?_ ⟨hP, fun q hq => by rw [ho_153 q hq, ho_148 q hq]; exact hoth3 q hq⟩ hS
                          show lv_has ls 7 [(0, .ref (ad 0)), (2, .int (wRow h i (wAll h i) (k + 1))), (3, .int (nI i)), (4, .int (nI (k + 1)))]
                          rw [show wRow h i (wAll h i) (k + 1) = wRow h i (wAll h i) k from (if_pos har).trans (if_neg (Int32.not_lt.mpr c_155))]
                          exact lv_sub hl [4, 1, 5, 0] rfl
                        · refine lv_iload hx hb dX2_worst_181 (lv_at hl 0 rfl) ?_
                          refine lv_goto (tgt := 187) hx hb dX2_worst_183 (by decide) ?_
                          refine lv_istore_n (lv' := [(2, .int ((extS h i 500000000) - (extS h k (-500000000)))), (6, .int ((extS h i 500000000) - (extS h k (-500000000)))), (5, .int (bI (areS h i k))), (0, .ref (ad 0)), (3, .int (nI i)), (4, .int (nI k))]) hx hb dX2_worst_187 rfl hl (by decide) rfl (fun ls hl => ?_)
                          refine lv_iinc (v := nI (k + 1)) (lv' := [(4, .int (nI (k + 1))), (2, .int ((extS h i 500000000) - (extS h k (-500000000)))), (6, .int ((extS h i 500000000) - (extS h k (-500000000)))), (5, .int (bI (areS h i k))), (0, .ref (ad 0)), (3, .int (nI i))]) hx hb dX2_worst_188 hl (k := 5) rfl (w_inc _ _) (by decide) rfl (fun ls hl => ?_)
                          refine lv_goto (tgt := 105) hx hb dX2_worst_191 (by decide) ?_
                          refine ih_k μ_151 _ _ _ ?_ ⟨hP, fun q hq => by rw [ho_153 q hq, ho_148 q hq]; exact hoth3 q hq⟩ hS
                          show lv_has ls 7 [(0, .ref (ad 0)), (2, .int (wRow h i (wAll h i) (k + 1))), (3, .int (nI i)), (4, .int (nI (k + 1)))]
                          rw [show wRow h i (wAll h i) (k + 1) = (extS h i 500000000 - extS h k (-500000000)) from (if_pos har).trans (if_pos (Int32.not_le.mp c_155))]
                          exact lv_sub hl [4, 1, 5, 0] rfl
                    · refine lv_iload_n hx hb dX2_worst_116 rfl (lv_at hl 2 rfl) ?_
                      refine lv_iload hx hb dX2_worst_117 (lv_at hl 3 rfl) ?_
                      refine w_icmpN_eq (tgt := 145) hx hb dX2_worst_119 (by decide) (by omega) (by omega) (fun c_140 => ?_) (fun c_140 => ?_)
                      · refine lv_iconst (v := 0) hx hb dX2_worst_145 (by decide) ?_
                        exact hJv_139 _ (by unfold areS; rw [decide_eq_false (fun q => q c_140)]; rfl)
                      · refine lv_aload_n hx hb dX2_worst_122 rfl (lv_at hl 0 rfl) ?_
                        refine lv_iconst (v := nI 0) hx hb dX2_worst_123 (by decide) ?_
                        refine lv_iload_n hx hb dX2_worst_124 rfl (lv_at hl 2 rfl) ?_
                        refine m_cR [.int (nI 0), .int (nI i)] C hml hl.1 hP (mX2_isTrue l D T ad μ3 h 0 i hR3 (by omega) (by omega)) (lw_V q895 q897 qs43 q71 q898) hdX2_isTrue ⟨rfl, rfl⟩ ⟨Nat.le_of_ble_eq_true rfl, Nat.le_of_ble_eq_true rfl⟩ rfl (Nat.le_of_ble_eq_true rfl) dX2_worst_125 ⟨Nat.zero_le _, Nat.zero_le _⟩ ?_
                        refine lv_if_eq (tgt := 145) hx hb dX2_worst_128 (by decide) (fun c_141 => ?_) (fun c_141 => ?_)
                        · refine lv_iconst (v := 0) hx hb dX2_worst_145 (by decide) ?_
                          exact hJv_139 _ (by unfold areS; rw [decide_eq_true c_140, bI_eq0.mp c_141]; rfl)
                        · refine lv_aload_n hx hb dX2_worst_131 rfl (lv_at hl 0 rfl) ?_
                          refine lv_iconst (v := nI 0) hx hb dX2_worst_132 (by decide) ?_
                          refine lv_iload hx hb dX2_worst_133 (lv_at hl 3 rfl) ?_
                          refine m_cR [.int (nI 0), .int (nI k)] C hml hl.1 hP (mX2_isTrue l D T ad μ3 h 0 k hR3 (by omega) (by omega)) (lw_V q895 q897 qs43 q71 q898) hdX2_isTrue ⟨rfl, rfl⟩ ⟨Nat.le_of_ble_eq_true rfl, Nat.le_of_ble_eq_true rfl⟩ rfl (Nat.le_of_ble_eq_true rfl) dX2_worst_135 ⟨Nat.zero_le _, Nat.zero_le _⟩ ?_
                          refine lv_if_eq (tgt := 145) hx hb dX2_worst_138 (by decide) (fun c_142 => ?_) (fun c_142 => ?_)
                          · refine lv_iconst (v := 0) hx hb dX2_worst_145 (by decide) ?_
                            exact hJv_139 _ (by unfold areS; rw [decide_eq_true c_140, bI_ne0.mp c_141, bI_eq0.mp c_142]; rfl)
                          · refine lv_iconst (v := 1) hx hb dX2_worst_141 (by decide) ?_
                            refine lv_goto (tgt := 146) hx hb dX2_worst_142 (by decide) ?_
                            exact hJv_139 _ (by unfold areS; rw [decide_eq_true c_140, bI_ne0.mp c_141, bI_ne0.mp c_142]; rfl)
                · intro μ3 ls H locs hl hW hS
                  have hl : lv_has ls 7 [(0, .ref (ad 0)), (2, .int (wRow h i (wAll h i) (nM h))), (3, .int (nI i)), (4, .int (nI (nM h)))] := hl
                  obtain ⟨hP, hoth3⟩ := hW
                  have hR3 : Rp (μ3 1) 0 h := by rw [hoth3 1 (by decide)]; exact hR
                  refine lv_iload hx hb dX2_worst_105 (lv_at hl 3 rfl) ?_
                  refine lv_aload_n hx hb dX2_worst_107 rfl (lv_at hl 0 rfl) ?_
                  refine mg_w C hP dX2_worst_108 ?_
                  refine lv_iconst (v := nI 0) hx hb dX2_worst_111 (by decide) ?_
                  refine m_ald1 C hP (by omega) dX2_worst_112 ?_
                  refine w_eqi (rp_many hR3 (by omega)) ?_
                  refine w_eqi (hB.many) ?_
                  refine w_icmpN_ge (tgt := 194) hx hb dX2_worst_113 (by decide) (by omega) (by omega) (fun c_156 => ?_) (fun c_156 => ?_)
                  · refine lv_iinc (v := nI (i + 1)) (lv' := [(3, .int (nI (i + 1))), (0, .ref (ad 0)), (2, .int (wRow h i (wAll h i) (nM h))), (4, .int (nI (nM h)))]) hx hb dX2_worst_194 hl (k := 2) rfl (w_inc _ _) (by decide) rfl (fun ls hl => ?_)
                    refine lv_goto (tgt := 92) hx hb dX2_worst_197 (by decide) ?_
                    refine ih_i μ3 _ _ _ ?_ ⟨hP, hoth3⟩ hS
                    show lv_has ls 7 [(0, .ref (ad 0)), (2, .int (wAll h (i + 1))), (3, .int (nI (i + 1)))]
                    exact lv_sub hl [1, 2, 0] rfl
                  · exact absurd c_156 (by omega)
            · intro μ2 ls H locs hl hW hS
              have hl : lv_has ls 7 [(0, .ref (ad 0)), (2, .int (wAll h (nM h))), (3, .int (nI (nM h)))] := hl
              obtain ⟨hP, hoth⟩ := hW
              have hR2 : Rp (μ2 1) 0 h := by rw [hoth 1 (by decide)]; exact hR
              refine lv_iload_n hx hb dX2_worst_92 rfl (lv_at hl 2 rfl) ?_
              refine lv_aload_n hx hb dX2_worst_93 rfl (lv_at hl 0 rfl) ?_
              refine mg_w C hP dX2_worst_94 ?_
              refine lv_iconst (v := nI 0) hx hb dX2_worst_97 (by decide) ?_
              refine m_ald1 C hP (by omega) dX2_worst_98 ?_
              refine w_eqi (rp_many hR2 (by omega)) ?_
              refine w_eqi (hB.many) ?_
              refine w_icmpN_ge (tgt := 200) hx hb dX2_worst_99 (by decide) (by omega) (by omega) (fun c_157 => ?_) (fun c_157 => ?_)
              · refine lv_iload_n hx hb dX2_worst_200 rfl (lv_at hl 1 rfl) ?_
                exact mM_retI C hlk hr hS hP dX2_worst_201 ⟨by unfold worstS; rw [if_neg hn2, if_neg hns, if_neg (by omega)], hoth⟩
              · exact absurd c_157 (by omega)
          · refine lv_ldc hx hb hown (hts _ q923) dX2_worst_87 ?_
            exact mM_retI C hlk hr hS hP dX2_worst_89 ⟨by unfold worstS; rw [if_neg hn2, if_neg hns, if_pos c_136], fun _ _ => rfl⟩
        · refine lv_aload_n hx hb dX2_worst_68 rfl (lv_at hl 0 rfl) ?_
          refine lv_iconst (v := nI 0) hx hb dX2_worst_69 (by decide) ?_
          refine m_cR [.int (nI 0)] C hml hl.1 hP (mX2_apart l D T ad μ h 0 hR hB (by omega)) (lw_V q899 q901 qs44 q71 q902) hdX2_apart ⟨rfl, rfl⟩ ⟨Nat.le_of_ble_eq_true rfl, Nat.le_of_ble_eq_true rfl⟩ rfl (Nat.le_of_ble_eq_true rfl) dX2_worst_70 ⟨Nat.zero_le _, Nat.zero_le _⟩ ?_
          exact mM_retI C hlk hr hS hP dX2_worst_73 ⟨by unfold worstS; rw [if_neg hn2, if_pos (of_decide_eq_true (bI_ne0.mp c_135))], fun _ _ => rfl⟩
      · refine lv_iload_n hx hb dX2_worst_44 rfl (lv_at hl 1 rfl) ?_
        refine w_ifN_ne (tgt := 52) hx hb dX2_worst_45 (by decide) (by omega) (fun c_134 => ?_) (fun c_134 => ?_)
        · refine lv_iconst (v := nI 0) hx hb dX2_worst_52 (by decide) ?_
          exact mM_retI C hlk hr hS hP dX2_worst_53 ⟨by unfold worstS; rw [if_pos c_133, if_neg (by omega)]; rfl, fun _ _ => rfl⟩
        · refine lv_iconst (v := -1) hx hb dX2_worst_48 (by decide) ?_
          refine lv_goto (tgt := 53) hx hb dX2_worst_49 (by decide) ?_
          exact mM_retI C hlk hr hS hP dX2_worst_53 ⟨by unfold worstS; rw [if_pos c_133, if_pos c_134], fun _ _ => rfl⟩
    · exact absurd c_132 (by omega)

theorem hdX2_farthest : yX2_farthest.cls = "LiarClocksModel" ∧ yX2_farthest.cls ≠ "java/lang/invoke/MethodHandle" ∧ yX2_farthest.cls ≠ "java/lang/invoke/VarHandle" ∧ (parseMethodDescriptor yX2_farthest.desc).map (fun d => d.parameters.length) = some 2 := by decide +kernel
set_option maxHeartbeats 4000000 in
/-- farthest -/
theorem mX2_farthest (l : Launch) (D : va_G) (T : Nat → ClassId) (ad : Nat → Nat) (μ : Nat → Nat → Int32) (h : Vw) (hR : Rp (μ 1) 0 h) (hB : HB h) (B : Int) (hA : HA h B) (hB0 : B ≤ 400000000) (hB1 : 0 ≤ B) (j : Nat) (hj : j < nM h) (i : Nat) (hi : i < nM h) : ∀ sz, Met l yX2_farthest (ws_ yX2_farthest cX2_farthest 9 (some .int)) ({ frames := 3, cells := 0, slots := 0, locals := 69 } : Room) (mPs D T ad μ [.ref (ad 0), .int (nI j), .int (nI i)] sz) (mQ D T ad (fun r μ' => r = some (.int (farthestS h j i)) ∧ (∀ q, q < 3840 → μ' 1 q = μ 1 q) ∧ ∀ q, q ≠ 1 → q ≠ 5 → μ' q = μ q)) 0 0 (gA 7 ad sz) := by
  have h8 := hB.many8
  have h3 := hB.strike3
  have h6 := hB.alarms6
  refine mM_intro [.ref (ad 0), .int (nI j), .int (nI i)] (by decide) rfl (Nat.le_of_ble_eq_true rfl) ?_
  intro pg en s0 mi below meth cd ls C hr hlk hml hP hS hl
  have hx := C.1
  have hb := C.2.1
  have hown := C.2.2.1
  have hts := C.2.2.2.1
  have hl : lv_has ls 9 [(0, .ref (ad 0)), (1, .int (nI j)), (2, .int (nI i))] := hl
  refine lv_aload_n hx hb dX2_farthest_0 rfl (lv_at hl 0 rfl) ?_
  refine lv_iconst (v := nI 0) hx hb dX2_farthest_1 (by decide) ?_
  refine lv_iload_n hx hb dX2_farthest_2 rfl (lv_at hl 2 rfl) ?_
  refine m_cR [.int (nI 0), .int (nI i)] C hml hl.1 hP (mX2_isTrue l D T ad μ h 0 i hR (by omega) (by omega)) (lw_V q895 q897 qs43 q71 q898) hdX2_isTrue ⟨rfl, rfl⟩ ⟨Nat.le_of_ble_eq_true rfl, Nat.le_of_ble_eq_true rfl⟩ rfl (Nat.le_of_ble_eq_true rfl) dX2_farthest_3 ⟨Nat.zero_le _, Nat.zero_le _⟩ ?_
  refine lv_if_eq (tgt := 18) hx hb dX2_farthest_6 (by decide) (fun c_158 => ?_) (fun c_158 => ?_)
  · refine lv_iconst (v := -1) hx hb dX2_farthest_18 (by decide) ?_
    exact mM_retI C hlk hr hS hP dX2_farthest_19 ⟨by unfold farthestS; rw [if_neg (fun q => by rw [bI_eq0.mp c_158] at q; cases q.1)], fun _ _ => rfl, fun _ _ _ => rfl⟩
  · refine lv_aload_n hx hb dX2_farthest_9 rfl (lv_at hl 0 rfl) ?_
    refine lv_iconst (v := nI 0) hx hb dX2_farthest_10 (by decide) ?_
    refine lv_iload_n hx hb dX2_farthest_11 rfl (lv_at hl 1 rfl) ?_
    refine m_cR [.int (nI 0), .int (nI j)] C hml hl.1 hP (mX2_isLiar l D T ad μ h 0 j hR (by omega) (by omega)) (lw_V q919 q921 qs49 q71 q922) hdX2_isLiar ⟨rfl, rfl⟩ ⟨Nat.le_of_ble_eq_true rfl, Nat.le_of_ble_eq_true rfl⟩ rfl (Nat.le_of_ble_eq_true rfl) dX2_farthest_12 ⟨Nat.zero_le _, Nat.zero_le _⟩ ?_
    refine lv_if_ne (tgt := 20) hx hb dX2_farthest_15 (by decide) (fun c_159 => ?_) (fun c_159 => ?_)
    · have hbo : trS h i = true ∧ lrS h j = true := ⟨bI_ne0.mp c_158, bI_ne0.mp c_159⟩
      refine lv_bipush (v := nI 107) hx hb dX2_farthest_20 (by decide) ?_
      refine lv_bipush (v := nI 8) hx hb dX2_farthest_22 (by decide) ?_
      refine lv_iload_n hx hb dX2_farthest_24 rfl (lv_at hl 1 rfl) ?_
      refine w_imulN hx hb dX2_farthest_25 ?_
      refine w_iaddN hx hb dX2_farthest_26 ?_
      refine lv_iload_n hx hb dX2_farthest_27 rfl (lv_at hl 2 rfl) ?_
      refine w_iaddN hx hb dX2_farthest_28 ?_
      refine lv_istore_n (lv' := [(3, .int (nI (107 + 8 * j + i))), (0, .ref (ad 0)), (1, .int (nI j)), (2, .int (nI i))]) hx hb dX2_farthest_29 rfl hl (by decide) rfl (fun ls hl => ?_)
      refine lv_aload_n hx hb dX2_farthest_30 rfl (lv_at hl 1 rfl) ?_
      refine mg_w C hP dX2_farthest_31 ?_
      refine lv_iload_n hx hb dX2_farthest_34 rfl (lv_at hl 0 rfl) ?_
      refine m_ald1 C hP (by omega) dX2_farthest_35 ?_
      refine w_eqi (rp_6 hR (8 * j + i) (by omega) (by omega)) ?_
      refine lv_istore (lv' := [(4, .int (h 6 (8 * j + i))), (3, .int (nI (107 + 8 * j + i))), (0, .ref (ad 0)), (1, .int (nI j)), (2, .int (nI i))]) hx hb dX2_farthest_36 hl (by decide) rfl (fun ls hl => ?_)
      refine lv_iconst (v := nI 0) hx hb dX2_farthest_38 (by decide) ?_
      refine lv_istore (lv' := [(5, .int (nI 0)), (4, .int (h 6 (8 * j + i))), (3, .int (nI (107 + 8 * j + i))), (0, .ref (ad 0)), (1, .int (nI j)), (2, .int (nI i))]) hx hb dX2_farthest_39 hl (by decide) rfl (fun ls hl => ?_)
      refine lv_iconst (v := -1) hx hb dX2_farthest_41 (by decide) ?_
      refine lv_istore (lv' := [(6, .int ((-1))), (5, .int (nI 0)), (4, .int (h 6 (8 * j + i))), (3, .int (nI (107 + 8 * j + i))), (0, .ref (ad 0)), (1, .int (nI j)), (2, .int (nI i))]) hx hb dX2_farthest_42 hl (by decide) rfl (fun ls hl => ?_)
      refine lv_iconst (v := nI 0) hx hb dX2_farthest_44 (by decide) ?_
      refine lv_istore (lv' := [(7, .int (nI 0)), (6, .int ((-1))), (5, .int (nI 0)), (4, .int (h 6 (8 * j + i))), (3, .int (nI (107 + 8 * j + i))), (0, .ref (ad 0)), (1, .int (nI j)), (2, .int (nI i))]) hx hb dX2_farthest_45 hl (by decide) rfl (fun ls hl => ?_)
      refine w_upM (α := Nat → Nat → Int32) (3) 47 9 (gA 7 ad s0.heap.size) s0.heap (fun k μ2 => [(0, .ref (ad 0)), (1, .int (nI j)), (2, .int (nI i)), (3, .int (nI (107 + 8 * j + i))), (4, .int (h 6 (8 * j + i))), (5, .int (fbS h j i k)), (6, .int (fmS h j i k)), (7, .int (nI k))]) (fun k μ2 H => mW D T ad μ2 H ∧ (∀ q, q ≠ 107 + 8 * j + i → μ2 1 q = μ 1 q) ∧ ∀ q, q ≠ 1 → q ≠ 5 → μ2 q = μ q) ?_ ?_ 0 (Nat.zero_le _) μ (lv_sub hl [5, 6, 7, 4, 3, 2, 1, 0] rfl) ⟨hP, fun _ _ => rfl, fun _ _ _ => rfl⟩ hS
      · intro k μ2 ls H locs hi_k hl hW hS ih_k
        have hl : lv_has ls 9 [(0, .ref (ad 0)), (1, .int (nI j)), (2, .int (nI i)), (3, .int (nI (107 + 8 * j + i))), (4, .int (h 6 (8 * j + i))), (5, .int (fbS h j i k)), (6, .int (fmS h j i k)), (7, .int (nI k))] := hl
        obtain ⟨hP, hk1, hoth⟩ := hW
        refine lv_iload hx hb dX2_farthest_47 (lv_at hl 7 rfl) ?_
        refine lv_iconst (v := nI 3) hx hb dX2_farthest_49 (by decide) ?_
        refine w_icmpN_ge (tgt := 143) hx hb dX2_farthest_50 (by decide) (by omega) (by omega) (fun c_160 => ?_) (fun c_160 => ?_)
        · exact absurd c_160 (by omega)
        · refine lv_aload_n hx hb dX2_farthest_53 rfl (lv_at hl 0 rfl) ?_
          refine mg_w C hP dX2_farthest_54 ?_
          refine lv_iload_n hx hb dX2_farthest_57 rfl (lv_at hl 3 rfl) ?_
          refine lv_sipush (v := nI 9999) hx hb dX2_farthest_58 (by decide) ?_
          refine lv_iload hx hb dX2_farthest_61 (lv_at hl 7 rfl) ?_
          refine lv_iconst (v := nI 1) hx hb dX2_farthest_63 (by decide) ?_
          refine lv_isub hx hb dX2_farthest_64 ?_
          refine lv_imul hx hb dX2_farthest_65 ?_
          refine m_ast1 C hP hS (by omega) dX2_farthest_66 (fun H locs hP hS => ?_)
          obtain ⟨μ_161, eμ_162⟩ : ∃ y9, y9 = mset μ2 1 (107 + 8 * j + i) ((nI (9999)) * ((nI (k)) - (nI (1)))) := ⟨_, rfl⟩
          rw [← eμ_162] at hP
          have hRn : Rp (μ_161 1) 0 (mset h 6 (8 * j + i) (lieV k)) := by
            rw [eμ_162, mset_row]
            have := rp_up6 hR (8 * j + i) (lieV k) (k := 107 + 8 * j + i) (by omega) (by omega)
            refine this.kept (fun q _ _ => ?_)
            by_cases hq : q = 107 + 8 * j + i
            · rw [hq, pk_us, pk_us]; rfl
            · rw [pk_un hq, pk_un hq]; exact hk1 q hq
          have hvb := lieV_bd k (by omega)
          obtain ⟨hk, ehk⟩ : ∃ y, y = mset h 6 (8 * j + i) (lieV k) := ⟨_, rfl⟩
          rw [← ehk] at hRn
          have hBk : HB hk := by rw [ehk]; exact HB_set6 hB
          have hAk : HA hk B := by rw [ehk]; exact HA_set6 hA hvb
          have hMk : nM hk = nM h := by rw [ehk]; exact nM_set6
          have hak : ∀ c, aimS hk c = aimS h c := fun c => by rw [ehk]; exact aimS_set6
          refine lv_aload_n hx hb dX2_farthest_67 rfl (lv_at hl 0 rfl) ?_
          refine lv_iconst (v := nI 0) hx hb dX2_farthest_68 (by decide) ?_
          refine lv_iload_n hx hb dX2_farthest_69 rfl (lv_at hl 2 rfl) ?_
          refine m_cM [.int (nI 0), .int (nI i)] C hml hl.1 hP hS (mX2_middleOf l D T ad μ_161 hk 0 hRn hBk (by omega) B hAk hB0 hB1 i (by omega)) (lw_V q964 q966 qs58 q71 q967) hdX2_middleOf ⟨rfl, rfl⟩ ⟨Nat.le_of_ble_eq_true rfl, Nat.le_of_ble_eq_true rfl⟩ rfl (Nat.le_of_ble_eq_true rfl) dX2_farthest_70 ⟨Nat.zero_le _, Nat.zero_le _⟩ (fun v_163 μ_164 H locs hp_165 hP hS => ?_)
          obtain ⟨rfl, ho_166⟩ := hp_165
          have hR_167 : Rp (μ_164 1) 0 hk := by rw [ho_166 1 (by decide)]; exact hRn
          refine lv_aload_n hx hb dX2_farthest_73 rfl (lv_at hl 0 rfl) ?_
          refine lv_iconst (v := nI 0) hx hb dX2_farthest_74 (by decide) ?_
          refine lv_iload_n hx hb dX2_farthest_75 rfl (lv_at hl 2 rfl) ?_
          refine m_cR [.int (nI 0), .int (nI i)] C hml hl.1 hP (mX2_aim l D T ad μ_164 hk 0 i hR_167 (by omega) (by omega)) (lw_V q903 q905 qs45 q71 q906) hdX2_aim ⟨rfl, rfl⟩ ⟨Nat.le_of_ble_eq_true rfl, Nat.le_of_ble_eq_true rfl⟩ rfl (Nat.le_of_ble_eq_true rfl) dX2_farthest_76 ⟨Nat.zero_le _, Nat.zero_le _⟩ ?_
          refine w_eqi (hak i) ?_
          refine lv_isub hx hb dX2_farthest_79 ?_
          refine lv_istore (lv' := [(8, .int ((midOfS hk i) - (aimS h i))), (0, .ref (ad 0)), (1, .int (nI j)), (2, .int (nI i)), (3, .int (nI (107 + 8 * j + i))), (4, .int (h 6 (8 * j + i))), (5, .int (fbS h j i k)), (6, .int (fmS h j i k)), (7, .int (nI k))]) hx hb dX2_farthest_80 hl (by decide) rfl (fun ls hl => ?_)
          refine w_join (α := Int32) (fun v_168 => v_168 = offS h j i (lieV k)) (fun v_168 => F0 mi 95 ls (.int v_168 :: [])) (fun v_168 hv_168 => ?_) (fun hJv_168 => ?_)
          · subst hv_168
            refine lv_istore (lv' := [(8, .int (offS h j i (lieV k))), (0, .ref (ad 0)), (1, .int (nI j)), (2, .int (nI i)), (3, .int (nI (107 + 8 * j + i))), (4, .int (h 6 (8 * j + i))), (5, .int (fbS h j i k)), (6, .int (fmS h j i k)), (7, .int (nI k))]) hx hb dX2_farthest_95 hl (by decide) rfl (fun ls hl => ?_)
            refine lv_iload hx hb dX2_farthest_97 (lv_at hl 0 rfl) ?_
            refine lv_iload hx hb dX2_farthest_99 (lv_at hl 7 rfl) ?_
            refine lv_icmp_le (tgt := 117) hx hb dX2_farthest_101 (by decide) (fun c_170 => ?_) (fun c_170 => ?_)
            · refine lv_iload hx hb dX2_farthest_117 (lv_at hl 6 rfl) ?_
              refine lv_istore (lv' := [(5, .int (fbS h j i k)), (8, .int (offS h j i (lieV k))), (0, .ref (ad 0)), (1, .int (nI j)), (2, .int (nI i)), (3, .int (nI (107 + 8 * j + i))), (4, .int (h 6 (8 * j + i))), (6, .int (fmS h j i k)), (7, .int (nI k))]) hx hb dX2_farthest_119 hl (by decide) rfl (fun ls hl => ?_)
              refine lv_iload hx hb dX2_farthest_121 (lv_at hl 1 rfl) ?_
              refine lv_iload hx hb dX2_farthest_123 (lv_at hl 7 rfl) ?_
              refine lv_icmp_le (tgt := 133) hx hb dX2_farthest_125 (by decide) (fun c_171 => ?_) (fun c_171 => ?_)
              · refine lv_iload hx hb dX2_farthest_133 (lv_at hl 7 rfl) ?_
                refine lv_istore (lv' := [(6, .int (fmS h j i k)), (5, .int (fbS h j i k)), (8, .int (offS h j i (lieV k))), (0, .ref (ad 0)), (1, .int (nI j)), (2, .int (nI i)), (3, .int (nI (107 + 8 * j + i))), (4, .int (h 6 (8 * j + i))), (7, .int (nI k))]) hx hb dX2_farthest_135 hl (by decide) rfl (fun ls hl => ?_)
                refine lv_iinc (v := nI (k + 1)) (lv' := [(7, .int (nI (k + 1))), (6, .int (fmS h j i k)), (5, .int (fbS h j i k)), (8, .int (offS h j i (lieV k))), (0, .ref (ad 0)), (1, .int (nI j)), (2, .int (nI i)), (3, .int (nI (107 + 8 * j + i))), (4, .int (h 6 (8 * j + i)))]) hx hb dX2_farthest_137 hl (k := 8) rfl (w_inc _ _) (by decide) rfl (fun ls hl => ?_)
                refine lv_goto (tgt := 47) hx hb dX2_farthest_140 (by decide) ?_
                refine ih_k μ_164 _ _ _ ?_ ⟨hP, ?_, ?_⟩ hS
                · show lv_has ls 9 [(0, .ref (ad 0)), (1, .int (nI j)), (2, .int (nI i)), (3, .int (nI (107 + 8 * j + i))), (4, .int (h 6 (8 * j + i))), (5, .int (fbS h j i (k + 1))), (6, .int (fmS h j i (k + 1))), (7, .int (nI (k + 1)))]
                  rw [show fbS h j i (k + 1) = fbS h j i k from if_neg (Int32.not_lt.mpr c_170)]
                  rw [show fmS h j i (k + 1) = fmS h j i k from if_neg (Int32.not_lt.mpr c_171)]
                  exact lv_sub hl [4, 5, 6, 7, 8, 2, 1, 0] rfl
                · intro q hq
                  rw [ho_166 1 (by decide), eμ_162, mset_ne (Or.inr hq)]; exact hk1 q hq
                · intro q h1 h5
                  rw [ho_166 q h5, eμ_162, mset_oth h1]; exact hoth q h1 h5
              · exact absurd c_170 c_171
            · refine lv_aload_n hx hb dX2_farthest_104 rfl (lv_at hl 1 rfl) ?_
              refine mg_w C hP dX2_farthest_105 ?_
              refine lv_iload_n hx hb dX2_farthest_108 rfl (lv_at hl 4 rfl) ?_
              refine m_ald1 C hP (by omega) dX2_farthest_109 ?_
              refine w_eqi (show μ_164 1 (107 + 8 * j + i) = lieV k by rw [ho_166 1 (by decide), eμ_162, mset_self]; rfl) ?_
              refine lv_sipush (v := nI 9999) hx hb dX2_farthest_110 (by decide) ?_
              refine lv_iadd hx hb dX2_farthest_113 ?_
              refine lv_goto (tgt := 119) hx hb dX2_farthest_114 (by decide) ?_
              refine lv_istore (lv' := [(5, .int ((lieV k) + (nI (9999)))), (8, .int (offS h j i (lieV k))), (0, .ref (ad 0)), (1, .int (nI j)), (2, .int (nI i)), (3, .int (nI (107 + 8 * j + i))), (4, .int (h 6 (8 * j + i))), (6, .int (fmS h j i k)), (7, .int (nI k))]) hx hb dX2_farthest_119 hl (by decide) rfl (fun ls hl => ?_)
              refine lv_iload hx hb dX2_farthest_121 (lv_at hl 1 rfl) ?_
              refine lv_iload hx hb dX2_farthest_123 (lv_at hl 7 rfl) ?_
              refine lv_icmp_le (tgt := 133) hx hb dX2_farthest_125 (by decide) (fun c_172 => ?_) (fun c_172 => ?_)
              · exact absurd c_172 c_170
              · refine lv_iload hx hb dX2_farthest_128 (lv_at hl 1 rfl) ?_
                refine lv_goto (tgt := 135) hx hb dX2_farthest_130 (by decide) ?_
                refine lv_istore (lv' := [(6, .int (offS h j i (lieV k))), (5, .int ((lieV k) + (nI (9999)))), (8, .int (offS h j i (lieV k))), (0, .ref (ad 0)), (1, .int (nI j)), (2, .int (nI i)), (3, .int (nI (107 + 8 * j + i))), (4, .int (h 6 (8 * j + i))), (7, .int (nI k))]) hx hb dX2_farthest_135 hl (by decide) rfl (fun ls hl => ?_)
                refine lv_iinc (v := nI (k + 1)) (lv' := [(7, .int (nI (k + 1))), (6, .int (offS h j i (lieV k))), (5, .int ((lieV k) + (nI (9999)))), (8, .int (offS h j i (lieV k))), (0, .ref (ad 0)), (1, .int (nI j)), (2, .int (nI i)), (3, .int (nI (107 + 8 * j + i))), (4, .int (h 6 (8 * j + i)))]) hx hb dX2_farthest_137 hl (k := 8) rfl (w_inc _ _) (by decide) rfl (fun ls hl => ?_)
                refine lv_goto (tgt := 47) hx hb dX2_farthest_140 (by decide) ?_
                refine ih_k μ_164 _ _ _ ?_ ⟨hP, ?_, ?_⟩ hS
                · show lv_has ls 9 [(0, .ref (ad 0)), (1, .int (nI j)), (2, .int (nI i)), (3, .int (nI (107 + 8 * j + i))), (4, .int (h 6 (8 * j + i))), (5, .int (fbS h j i (k + 1))), (6, .int (fmS h j i (k + 1))), (7, .int (nI (k + 1)))]
                  rw [show fbS h j i (k + 1) = lieV k + nI 9999 from if_pos (Int32.not_le.mp c_170)]
                  rw [show fmS h j i (k + 1) = offS h j i (lieV k) from if_pos (Int32.not_le.mp c_172)]
                  exact lv_sub hl [4, 5, 6, 7, 8, 2, 1, 0] rfl
                · intro q hq
                  rw [ho_166 1 (by decide), eμ_162, mset_ne (Or.inr hq)]; exact hk1 q hq
                · intro q h1 h5
                  rw [ho_166 q h5, eμ_162, mset_oth h1]; exact hoth q h1 h5
          · refine lv_iload hx hb dX2_farthest_82 (lv_at hl 0 rfl) ?_
            refine lv_if_ge (tgt := 93) hx hb dX2_farthest_84 (by decide) (fun c_169 => ?_) (fun c_169 => ?_)
            · refine lv_iload hx hb dX2_farthest_93 (lv_at hl 0 rfl) ?_
              exact hJv_168 _ (by unfold offS absS; rw [← ehk, if_neg (Int32.not_lt.mpr c_169)])
            · refine lv_iload hx hb dX2_farthest_87 (lv_at hl 0 rfl) ?_
              refine lv_ineg hx hb dX2_farthest_89 ?_
              refine lv_goto (tgt := 95) hx hb dX2_farthest_90 (by decide) ?_
              exact hJv_168 _ (by unfold offS absS; rw [← ehk, if_pos (Int32.not_le.mp c_169)])
      · intro μ2 ls H locs hl hW hS
        have hl : lv_has ls 9 [(0, .ref (ad 0)), (1, .int (nI j)), (2, .int (nI i)), (3, .int (nI (107 + 8 * j + i))), (4, .int (h 6 (8 * j + i))), (5, .int (fbS h j i 3)), (6, .int (fmS h j i 3)), (7, .int (nI 3))] := hl
        obtain ⟨hP, hk1, hoth⟩ := hW
        refine lv_iload hx hb dX2_farthest_47 (lv_at hl 7 rfl) ?_
        refine lv_iconst (v := nI 3) hx hb dX2_farthest_49 (by decide) ?_
        refine w_icmpN_ge (tgt := 143) hx hb dX2_farthest_50 (by decide) (by omega) (by omega) (fun c_173 => ?_) (fun c_173 => ?_)
        · refine lv_aload_n hx hb dX2_farthest_143 rfl (lv_at hl 0 rfl) ?_
          refine mg_w C hP dX2_farthest_144 ?_
          refine lv_iload_n hx hb dX2_farthest_147 rfl (lv_at hl 3 rfl) ?_
          refine lv_iload hx hb dX2_farthest_148 (lv_at hl 4 rfl) ?_
          refine m_ast1 C hP hS (by omega) dX2_farthest_150 (fun H locs hP hS => ?_)
          obtain ⟨μ_174, eμ_175⟩ : ∃ y9, y9 = mset μ2 1 (107 + 8 * j + i) (h 6 (8 * j + i)) := ⟨_, rfl⟩
          rw [← eμ_175] at hP
          refine lv_iload hx hb dX2_farthest_151 (lv_at hl 5 rfl) ?_
          exact mM_retI C hlk hr hS hP dX2_farthest_153 ⟨by unfold farthestS; rw [if_pos hbo], fun q hq => by
                rw [eμ_175]
                by_cases hqb : q = 107 + 8 * j + i
                · rw [hqb, mset_self, ← rp_6 hR (8 * j + i) (k := 107 + 8 * j + i) (by omega) (by omega)]
                · rw [mset_ne (Or.inr hqb)]; exact hk1 q hqb, fun q h1 h5 => by rw [eμ_175, mset_oth h1]; exact hoth q h1 h5⟩
        · exact absurd c_173 (by omega)
    · refine lv_iconst (v := -1) hx hb dX2_farthest_18 (by decide) ?_
      exact mM_retI C hlk hr hS hP dX2_farthest_19 ⟨by unfold farthestS; rw [if_neg (fun q => by rw [bI_eq0.mp c_159] at q; cases q.2)], fun _ _ => rfl, fun _ _ _ => rfl⟩

