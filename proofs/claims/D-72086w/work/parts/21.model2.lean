/-! THE MODEL: what is heard, the order, the middle, a round -/
set_option maxRecDepth 100000
theorem hdX2_isClock : yX2_isClock.cls = "LiarClocksModel" ∧ yX2_isClock.cls ≠ "java/lang/invoke/MethodHandle" ∧ yX2_isClock.cls ≠ "java/lang/invoke/VarHandle" ∧ (parseMethodDescriptor yX2_isClock.desc).map (fun d => d.parameters.length) = some 1 := by decide +kernel
set_option maxHeartbeats 4000000 in
/-- isClock -/
theorem mX2_isClock (l : Launch) (D : va_G) (T : Nat → ClassId) (ad : Nat → Nat) (μ : Nat → Nat → Int32) (h : Vw) (hR : Rp (μ 1) 0 h) (hB : HB h) (c : Int32) : Met l yX2_isClock (ws_ yX2_isClock cX2_isClock 2 (some .boolean)) ({ frames := 1, cells := 0, slots := 0, locals := 22 } : Room) (mPc D T ad μ [.ref (ad 0), .int c]) (QcRead (bI (isC h c))) 0 0 (fun _ => False) := by
  have h8 := hB.many8
  have h3 := hB.strike3
  have h6 := hB.alarms6
  refine mR_intro [.ref (ad 0), .int c] (by decide) rfl (Nat.le_of_ble_eq_true rfl) ?_
  intro pg en s0 mi below meth cd ls C hr hlk hml hP hl
  have hx := C.1
  have hb := C.2.1
  have hown := C.2.2.1
  have hts := C.2.2.2.1
  have hl : lv_has ls 2 [(0, .ref (ad 0)), (1, .int c)] := hl
  refine lv_iload_n hx hb dX2_isClock_0 rfl (lv_at hl 1 rfl) ?_
  refine lv_iconst (v := nI 0) hx hb dX2_isClock_1 (by decide) ?_
  refine lv_aload_n hx hb dX2_isClock_2 rfl (lv_at hl 0 rfl) ?_
  refine mg_w C hP dX2_isClock_3 ?_
  refine lv_iconst (v := nI 0) hx hb dX2_isClock_6 (by decide) ?_
  refine m_ald1 C hP (by omega) dX2_isClock_7 ?_
  refine w_eqi (rp_many hR (by omega)) ?_
  refine w_eqi (hB.many) ?_
  refine lv_iconst (v := nI 1) hx hb dX2_isClock_8 (by decide) ?_
  refine lv_isub hx hb dX2_isClock_9 ?_
  refine m_cS [.int c, .int (nI 0), .int ((nI (nM h)) - (nI (1)))] C hml hl.1 (mX2_in l c (nI (0)) ((nI (nM h)) - (nI (1)))) (lw_S q842 q843 q71 q844) hdX2_in.2 ⟨rfl, rfl⟩ ⟨Nat.le_of_ble_eq_true rfl, Nat.le_of_ble_eq_true rfl⟩ rfl (Nat.le_of_ble_eq_true rfl) dX2_isClock_10 ⟨Nat.zero_le _, Nat.zero_le _⟩ ?_
  exact w_retZ hx hb hlk hr dX2_isClock_13 (by rw [isC_in hB])

theorem hdX2_allStruck : yX2_allStruck.cls = "LiarClocksModel" ∧ yX2_allStruck.cls ≠ "java/lang/invoke/MethodHandle" ∧ yX2_allStruck.cls ≠ "java/lang/invoke/VarHandle" ∧ (parseMethodDescriptor yX2_allStruck.desc).map (fun d => d.parameters.length) = some 2 := by decide +kernel
set_option maxHeartbeats 4000000 in
/-- allStruck -/
theorem mX2_allStruck (l : Launch) (D : va_G) (T : Nat → ClassId) (ad : Nat → Nat) (μ : Nat → Nat → Int32) (h : Vw) (x : Nat) (hR : Rp (μ 1) x h) (hB : HB h) (hx0 : x ≤ 3648) (m : Nat) (hm : m ≤ 8) : Met l yX2_allStruck (ws_ yX2_allStruck cX2_allStruck 3 (some .boolean)) ({ frames := 0, cells := 0, slots := 0, locals := 0 } : Room) (mPc D T ad μ [.ref (ad 0), .int (nI x), .int (nI m)]) (QcRead (bI (decide (m ≤ 2 * nF h)))) 0 0 (fun _ => False) := by
  have h8 := hB.many8
  have h3 := hB.strike3
  have h6 := hB.alarms6
  refine mR_intro [.ref (ad 0), .int (nI x), .int (nI m)] (by decide) rfl (Nat.le_of_ble_eq_true rfl) ?_
  intro pg en s0 mi below meth cd ls C hr hlk hml hP hl
  have hx := C.1
  have hb := C.2.1
  have hown := C.2.2.1
  have hts := C.2.2.2.1
  have hl : lv_has ls 3 [(0, .ref (ad 0)), (1, .int (nI x)), (2, .int (nI m))] := hl
  refine lv_iconst (v := nI 2) hx hb dX2_allStruck_0 (by decide) ?_
  refine lv_aload_n hx hb dX2_allStruck_1 rfl (lv_at hl 0 rfl) ?_
  refine mg_w C hP dX2_allStruck_2 ?_
  refine lv_iload_n hx hb dX2_allStruck_5 rfl (lv_at hl 1 rfl) ?_
  refine lv_iconst (v := nI 1) hx hb dX2_allStruck_6 (by decide) ?_
  refine w_iaddN hx hb dX2_allStruck_7 ?_
  refine m_ald1 C hP (by omega) dX2_allStruck_8 ?_
  refine w_eqi (rp_strike hR (by omega)) ?_
  refine w_eqi (hB.strike) ?_
  refine w_imulN hx hb dX2_allStruck_9 ?_
  refine lv_iload_n hx hb dX2_allStruck_10 rfl (lv_at hl 2 rfl) ?_
  refine w_icmpN_lt (tgt := 18) hx hb dX2_allStruck_11 (by decide) (by omega) (by omega) (fun c_7 => ?_) (fun c_7 => ?_)
  · refine lv_iconst (v := 0) hx hb dX2_allStruck_18 (by decide) ?_
    exact w_retZ hx hb hlk hr dX2_allStruck_19 (by rw [decide_eq_false (show ¬ m ≤ 2 * nF h by omega)]; rfl)
  · refine lv_iconst (v := 1) hx hb dX2_allStruck_14 (by decide) ?_
    refine lv_goto (tgt := 19) hx hb dX2_allStruck_15 (by decide) ?_
    exact w_retZ hx hb hlk hr dX2_allStruck_19 (by rw [decide_eq_true (show m ≤ 2 * nF h by omega)]; rfl)

theorem hdX2_heardOf : yX2_heardOf.cls = "LiarClocksModel" ∧ yX2_heardOf.cls ≠ "java/lang/invoke/MethodHandle" ∧ yX2_heardOf.cls ≠ "java/lang/invoke/VarHandle" ∧ (parseMethodDescriptor yX2_heardOf.desc).map (fun d => d.parameters.length) = some 3 := by decide +kernel
set_option maxHeartbeats 4000000 in
/-- heardOf -/
theorem mX2_heardOf (l : Launch) (D : va_G) (T : Nat → ClassId) (ad : Nat → Nat) (μ : Nat → Nat → Int32) (h : Vw) (x : Nat) (hR : Rp (μ 1) x h) (hB : HB h) (hx0 : x ≤ 3648) (j i : Nat) (hj : j < 8) (hi : i < 8) : Met l yX2_heardOf (ws_ yX2_heardOf cX2_heardOf 5 (some .int)) ({ frames := 1, cells := 0, slots := 0, locals := 22 } : Room) (mPc D T ad μ [.ref (ad 0), .int (nI x), .int (nI j), .int (nI i)]) (QcRead (heardS h i j)) 0 0 (fun _ => False) := by
  have h8 := hB.many8
  have h3 := hB.strike3
  have h6 := hB.alarms6
  refine mR_intro [.ref (ad 0), .int (nI x), .int (nI j), .int (nI i)] (by decide) rfl (Nat.le_of_ble_eq_true rfl) ?_
  intro pg en s0 mi below meth cd ls C hr hlk hml hP hl
  have hx := C.1
  have hb := C.2.1
  have hown := C.2.2.1
  have hts := C.2.2.2.1
  have hl : lv_has ls 5 [(0, .ref (ad 0)), (1, .int (nI x)), (2, .int (nI j)), (3, .int (nI i))] := hl
  refine lv_iload_n hx hb dX2_heardOf_0 rfl (lv_at hl 2 rfl) ?_
  refine lv_iload_n hx hb dX2_heardOf_1 rfl (lv_at hl 3 rfl) ?_
  refine w_icmpN_eq (tgt := 20) hx hb dX2_heardOf_2 (by decide) (by omega) (by omega) (fun c_8 => ?_) (fun c_8 => ?_)
  · refine lv_aload_n hx hb dX2_heardOf_20 rfl (lv_at hl 0 rfl) ?_
    refine lv_iload_n hx hb dX2_heardOf_21 rfl (lv_at hl 1 rfl) ?_
    refine lv_iload_n hx hb dX2_heardOf_22 rfl (lv_at hl 3 rfl) ?_
    refine m_cR [.int (nI x), .int (nI i)] C hml hl.1 hP (mX2_aim l D T ad μ h x i hR (by omega) (by omega)) (lw_V q903 q905 qs45 q71 q906) hdX2_aim ⟨rfl, rfl⟩ ⟨Nat.le_of_ble_eq_true rfl, Nat.le_of_ble_eq_true rfl⟩ rfl (Nat.le_of_ble_eq_true rfl) dX2_heardOf_23 ⟨Nat.zero_le _, Nat.zero_le _⟩ ?_
    exact w_retR hx hb hlk hr dX2_heardOf_26 (by unfold heardS; rw [if_pos (Or.inl c_8)])
  · refine lv_aload_n hx hb dX2_heardOf_5 rfl (lv_at hl 0 rfl) ?_
    refine mg_w C hP dX2_heardOf_6 ?_
    refine lv_iload_n hx hb dX2_heardOf_9 rfl (lv_at hl 1 rfl) ?_
    refine lv_bipush (v := nI 35) hx hb dX2_heardOf_10 (by decide) ?_
    refine w_iaddN hx hb dX2_heardOf_12 ?_
    refine lv_iload_n hx hb dX2_heardOf_13 rfl (lv_at hl 2 rfl) ?_
    refine w_iaddN hx hb dX2_heardOf_14 ?_
    refine m_ald1 C hP (by omega) dX2_heardOf_15 ?_
    refine w_eqi (rp_5 hR (j) (by omega) (by omega)) ?_
    refine lv_iconst (v := 1) hx hb dX2_heardOf_16 (by decide) ?_
    refine lv_icmp_ne (tgt := 27) hx hb dX2_heardOf_17 (by decide) (fun c_9 => ?_) (fun c_9 => ?_)
    · refine lv_bipush (v := nI 8) hx hb dX2_heardOf_27 (by decide) ?_
      refine lv_iload_n hx hb dX2_heardOf_29 rfl (lv_at hl 2 rfl) ?_
      refine w_imulN hx hb dX2_heardOf_30 ?_
      refine lv_iload_n hx hb dX2_heardOf_31 rfl (lv_at hl 3 rfl) ?_
      refine w_iaddN hx hb dX2_heardOf_32 ?_
      refine lv_istore (lv' := [(4, .int (nI (8 * j + i))), (0, .ref (ad 0)), (1, .int (nI x)), (2, .int (nI j)), (3, .int (nI i))]) hx hb dX2_heardOf_33 hl (by decide) rfl (fun ls hl => ?_)
      refine lv_aload_n hx hb dX2_heardOf_35 rfl (lv_at hl 1 rfl) ?_
      refine mg_w C hP dX2_heardOf_36 ?_
      refine lv_iload_n hx hb dX2_heardOf_39 rfl (lv_at hl 2 rfl) ?_
      refine lv_bipush (v := nI 27) hx hb dX2_heardOf_40 (by decide) ?_
      refine w_iaddN hx hb dX2_heardOf_42 ?_
      refine lv_iload_n hx hb dX2_heardOf_43 rfl (lv_at hl 3 rfl) ?_
      refine w_iaddN hx hb dX2_heardOf_44 ?_
      refine m_ald1 C hP (by omega) dX2_heardOf_45 ?_
      refine w_eqi (rp_4 hR (j) (by omega) (by omega)) ?_
      refine lv_iconst (v := 1) hx hb dX2_heardOf_46 (by decide) ?_
      refine lv_icmp_ne (tgt := 72) hx hb dX2_heardOf_47 (by decide) (fun c_10 => ?_) (fun c_10 => ?_)
      · refine lv_aload_n hx hb dX2_heardOf_72 rfl (lv_at hl 1 rfl) ?_
        refine lv_iload_n hx hb dX2_heardOf_73 rfl (lv_at hl 2 rfl) ?_
        refine lv_iload_n hx hb dX2_heardOf_74 rfl (lv_at hl 3 rfl) ?_
        refine m_cR [.int (nI x), .int (nI j)] C hml hl.1 hP (mX2_aim l D T ad μ h x j hR (by omega) (by omega)) (lw_V q903 q905 qs45 q71 q906) hdX2_aim ⟨rfl, rfl⟩ ⟨Nat.le_of_ble_eq_true rfl, Nat.le_of_ble_eq_true rfl⟩ rfl (Nat.le_of_ble_eq_true rfl) dX2_heardOf_75 ⟨Nat.zero_le _, Nat.zero_le _⟩ ?_
        refine lv_aload_n hx hb dX2_heardOf_78 rfl (lv_at hl 1 rfl) ?_
        refine mg_w C hP dX2_heardOf_79 ?_
        refine lv_iload_n hx hb dX2_heardOf_82 rfl (lv_at hl 2 rfl) ?_
        refine lv_bipush (v := nI 43) hx hb dX2_heardOf_83 (by decide) ?_
        refine w_iaddN hx hb dX2_heardOf_85 ?_
        refine lv_iload hx hb dX2_heardOf_86 (lv_at hl 0 rfl) ?_
        refine w_iaddN hx hb dX2_heardOf_88 ?_
        refine m_ald1 C hP (by omega) dX2_heardOf_89 ?_
        refine w_eqi (rp_7 hR (8 * j + i) (by omega) (by omega)) ?_
        refine lv_iadd hx hb dX2_heardOf_90 ?_
        exact w_retR hx hb hlk hr dX2_heardOf_91 (by unfold heardS; rw [if_neg (fun q => q.elim c_8 c_9), if_neg c_10])
      · refine lv_aload_n hx hb dX2_heardOf_50 rfl (lv_at hl 1 rfl) ?_
        refine lv_iload_n hx hb dX2_heardOf_51 rfl (lv_at hl 2 rfl) ?_
        refine lv_iload_n hx hb dX2_heardOf_52 rfl (lv_at hl 4 rfl) ?_
        refine m_cR [.int (nI x), .int (nI i)] C hml hl.1 hP (mX2_aim l D T ad μ h x i hR (by omega) (by omega)) (lw_V q903 q905 qs45 q71 q906) hdX2_aim ⟨rfl, rfl⟩ ⟨Nat.le_of_ble_eq_true rfl, Nat.le_of_ble_eq_true rfl⟩ rfl (Nat.le_of_ble_eq_true rfl) dX2_heardOf_53 ⟨Nat.zero_le _, Nat.zero_le _⟩ ?_
        refine lv_aload_n hx hb dX2_heardOf_56 rfl (lv_at hl 1 rfl) ?_
        refine mg_w C hP dX2_heardOf_57 ?_
        refine lv_iload_n hx hb dX2_heardOf_60 rfl (lv_at hl 2 rfl) ?_
        refine lv_bipush (v := nI 107) hx hb dX2_heardOf_61 (by decide) ?_
        refine w_iaddN hx hb dX2_heardOf_63 ?_
        refine lv_iload hx hb dX2_heardOf_64 (lv_at hl 0 rfl) ?_
        refine w_iaddN hx hb dX2_heardOf_66 ?_
        refine m_ald1 C hP (by omega) dX2_heardOf_67 ?_
        refine w_eqi (rp_6 hR (8 * j + i) (by omega) (by omega)) ?_
        refine lv_iadd hx hb dX2_heardOf_68 ?_
        refine lv_goto (tgt := 91) hx hb dX2_heardOf_69 (by decide) ?_
        exact w_retR hx hb hlk hr dX2_heardOf_91 (by unfold heardS; rw [if_neg (fun q => q.elim c_8 c_9), if_pos c_10])
    · refine lv_aload_n hx hb dX2_heardOf_20 rfl (lv_at hl 0 rfl) ?_
      refine lv_iload_n hx hb dX2_heardOf_21 rfl (lv_at hl 1 rfl) ?_
      refine lv_iload_n hx hb dX2_heardOf_22 rfl (lv_at hl 3 rfl) ?_
      refine m_cR [.int (nI x), .int (nI i)] C hml hl.1 hP (mX2_aim l D T ad μ h x i hR (by omega) (by omega)) (lw_V q903 q905 qs45 q71 q906) hdX2_aim ⟨rfl, rfl⟩ ⟨Nat.le_of_ble_eq_true rfl, Nat.le_of_ble_eq_true rfl⟩ rfl (Nat.le_of_ble_eq_true rfl) dX2_heardOf_23 ⟨Nat.zero_le _, Nat.zero_le _⟩ ?_
      exact w_retR hx hb hlk hr dX2_heardOf_26 (by unfold heardS; rw [if_pos (Or.inr c_9)])

theorem hdX2_put : yX2_put.cls = "LiarClocksModel" ∧ yX2_put.cls ≠ "java/lang/invoke/MethodHandle" ∧ yX2_put.cls ≠ "java/lang/invoke/VarHandle" ∧ (parseMethodDescriptor yX2_put.desc).map (fun d => d.parameters.length) = some 2 := by decide +kernel
set_option maxHeartbeats 4000000 in
/-- put -/
theorem mX2_put (l : Launch) (D : va_G) (T : Nat → ClassId) (ad : Nat → Nat) (μ : Nat → Nat → Int32) (m : Nat) (v : Int32) (hm : m < 8) : ∀ sz, Met l yX2_put (ws_ yX2_put cX2_put 4 none) ({ frames := 0, cells := 0, slots := 0, locals := 0 } : Room) (mPs D T ad μ [.ref (ad 0), .int (nI m), .int v] sz) (mQ D T ad (fun r μ' => r = none ∧ μ' 5 = insS (μ 5) m v ∧ ∀ j, j ≠ 5 → μ' j = μ j)) 0 0 (gA 7 ad sz) := by
  refine mM_intro [.ref (ad 0), .int (nI m), .int v] (by decide) rfl (Nat.le_of_ble_eq_true rfl) ?_
  intro pg en s0 mi below meth cd ls C hr hlk hml hP hS hl
  have hx := C.1
  have hb := C.2.1
  have hown := C.2.2.1
  have hts := C.2.2.2.1
  have hl : lv_has ls 4 [(0, .ref (ad 0)), (1, .int (nI m)), (2, .int v)] := hl
  refine lv_iload_n hx hb dX2_put_0 rfl (lv_at hl 1 rfl) ?_
  refine lv_istore_n (lv' := [(3, .int (nI m)), (0, .ref (ad 0)), (1, .int (nI m)), (2, .int v)]) hx hb dX2_put_1 rfl hl (by decide) rfl (fun ls hl => ?_)
  refine w_msM (α := Nat × (Nat → Nat → Int32)) 2 4 (gA 7 ad s0.heap.size) s0.heap (fun x => [(0, .ref (ad 0)), (1, .int (nI m)), (2, .int v), (3, .int (nI (x.1)))]) (fun n x H => n = x.1 ∧ mW D T ad x.2 H ∧ x.1 ≤ m ∧ insS (x.2 5) x.1 v = insS (μ 5) m v ∧ ∀ j, j ≠ 5 → x.2 j = μ j) ?_ m (m, μ) (lv_sub hl [1, 2, 3, 0] rfl) ⟨rfl, hP, Nat.le_refl m, rfl, fun _ _ => rfl⟩ hS
  rintro n ⟨k, μk⟩ ls H locs hl ⟨hn, hP, hkm, hins, hoth⟩ hS ih
  have hn : n = k := hn
  subst n
  dsimp only at hl hP hkm hins hoth ih
  have hl : lv_has ls 4 [(0, .ref (ad 0)), (1, .int (nI m)), (2, .int v), (3, .int (nI k))] := hl
  refine lv_iload_n hx hb dX2_put_2 rfl (lv_at hl 3 rfl) ?_
  refine w_ifN_le (tgt := 38) hx hb dX2_put_3 (by decide) (by omega) (fun c_11 => ?_) (fun c_11 => ?_)
  · subst c_11
    refine lv_aload_n hx hb dX2_put_38 rfl (lv_at hl 0 rfl) ?_
    refine mg_order C hP dX2_put_39 ?_
    refine lv_iload_n hx hb dX2_put_42 rfl (lv_at hl 3 rfl) ?_
    refine lv_iload_n hx hb dX2_put_43 rfl (lv_at hl 2 rfl) ?_
    refine m_ast5 C hP hS (by omega) dX2_put_44 (fun H locs hP hS => ?_)
    obtain ⟨μ_12, eμ_13⟩ : ∃ y9, y9 = mset μk 5 (0) v := ⟨_, rfl⟩
    rw [← eμ_13] at hP
    exact mM_retV C hlk hr hS hP dX2_put_45 ⟨rfl, by
          rw [eμ_13, mset_row, ← hins]; rfl, fun j hj => by
          rw [eμ_13, mset_oth hj, hoth j hj]⟩
  · obtain ⟨k, rfl⟩ : ∃ k2, k = k2 + 1 := ⟨k - 1, by omega⟩
    refine lv_aload_n hx hb dX2_put_6 rfl (lv_at hl 0 rfl) ?_
    refine mg_order C hP dX2_put_7 ?_
    refine lv_iload_n hx hb dX2_put_10 rfl (lv_at hl 3 rfl) ?_
    refine lv_iconst (v := nI 1) hx hb dX2_put_11 (by decide) ?_
    refine w_isubN hx hb dX2_put_12 (by omega) ?_
    refine m_ald5 C hP (by omega) dX2_put_13 ?_
    refine lv_iload_n hx hb dX2_put_14 rfl (lv_at hl 2 rfl) ?_
    refine lv_icmp_le (tgt := 38) hx hb dX2_put_15 (by decide) (fun c_14 => ?_) (fun c_14 => ?_)
    · refine lv_aload_n hx hb dX2_put_38 rfl (lv_at hl 0 rfl) ?_
      refine mg_order C hP dX2_put_39 ?_
      refine lv_iload_n hx hb dX2_put_42 rfl (lv_at hl 3 rfl) ?_
      refine lv_iload_n hx hb dX2_put_43 rfl (lv_at hl 2 rfl) ?_
      refine m_ast5 C hP hS (by omega) dX2_put_44 (fun H locs hP hS => ?_)
      obtain ⟨μ_15, eμ_16⟩ : ∃ y9, y9 = mset μk 5 (k + 1) v := ⟨_, rfl⟩
      rw [← eμ_16] at hP
      exact mM_retV C hlk hr hS hP dX2_put_45 ⟨rfl, by
            rw [eμ_16, mset_row, ← hins]; unfold insS; rw [if_neg (by rw [show k + 1 - 1 = k from rfl] at c_14; exact Int32.not_lt.mpr c_14)], fun j hj => by
            rw [eμ_16, mset_oth hj, hoth j hj]⟩
    · refine lv_aload_n hx hb dX2_put_18 rfl (lv_at hl 0 rfl) ?_
      refine mg_order C hP dX2_put_19 ?_
      refine lv_iload_n hx hb dX2_put_22 rfl (lv_at hl 3 rfl) ?_
      refine lv_aload_n hx hb dX2_put_23 rfl (lv_at hl 0 rfl) ?_
      refine mg_order C hP dX2_put_24 ?_
      refine lv_iload_n hx hb dX2_put_27 rfl (lv_at hl 3 rfl) ?_
      refine lv_iconst (v := nI 1) hx hb dX2_put_28 (by decide) ?_
      refine w_isubN hx hb dX2_put_29 (by omega) ?_
      refine m_ald5 C hP (by omega) dX2_put_30 ?_
      refine m_ast5 C hP hS (by omega) dX2_put_31 (fun H locs hP hS => ?_)
      obtain ⟨μ_17, eμ_18⟩ : ∃ y9, y9 = mset μk 5 (k + 1) (μk 5 (k + 1 - 1)) := ⟨_, rfl⟩
      rw [← eμ_18] at hP
      refine lv_iinc (v := nI (k + 1 - 1)) (lv' := [(3, .int (nI (k + 1 - 1))), (0, .ref (ad 0)), (1, .int (nI m)), (2, .int v)]) hx hb dX2_put_32 hl (k := 3) rfl (w_dec (by omega)) (by decide) rfl (fun ls hl => ?_)
      refine lv_goto (tgt := 2) hx hb dX2_put_35 (by decide) ?_
      refine ih k (k, μ_17) _ _ _ (Nat.lt_succ_self k) (lv_sub hl [1, 2, 3, 0] rfl) ⟨rfl, hP, by show k ≤ m; omega, ?_, ?_⟩ hS
      · show insS (μ_17 5) k v = _
        rw [← hins, eμ_18, mset_row]
        show _ = insS (μk 5) (k + 1) v
        conv => rhs; unfold insS
        rw [if_pos (by rw [show k + 1 - 1 = k from rfl] at c_14; exact Int32.not_le.mp c_14)]; rfl
      · intro j hj
        show μ_17 j = μ j
        rw [eμ_18, mset_oth hj, hoth j hj]

theorem hdX2_middle : yX2_middle.cls = "LiarClocksModel" ∧ yX2_middle.cls ≠ "java/lang/invoke/MethodHandle" ∧ yX2_middle.cls ≠ "java/lang/invoke/VarHandle" ∧ (parseMethodDescriptor yX2_middle.desc).map (fun d => d.parameters.length) = some 2 := by decide +kernel
set_option maxHeartbeats 4000000 in
/-- middle -/
theorem mX2_middle (l : Launch) (D : va_G) (T : Nat → ClassId) (ad : Nat → Nat) (μ : Nat → Nat → Int32) (h : Vw) (x : Nat) (hR : Rp (μ 1) x h) (hB : HB h) (hx0 : x ≤ 3648) (m : Nat) (hm : m ≤ 8) (hst : 2 * nF h < m) (hs : -2147483647 < (μ 5 (nF h) + μ 5 (m - 1 - nF h)).toInt) : Met l yX2_middle (ws_ yX2_middle cX2_middle 4 (some .int)) ({ frames := 0, cells := 0, slots := 0, locals := 0 } : Room) (mPc D T ad μ [.ref (ad 0), .int (nI x), .int (nI m)]) (QcRead (midS (μ 5) (nF h) m)) 0 0 (fun _ => False) := by
  have h8 := hB.many8
  have h3 := hB.strike3
  have h6 := hB.alarms6
  refine mR_intro [.ref (ad 0), .int (nI x), .int (nI m)] (by decide) rfl (Nat.le_of_ble_eq_true rfl) ?_
  intro pg en s0 mi below meth cd ls C hr hlk hml hP hl
  have hx := C.1
  have hb := C.2.1
  have hown := C.2.2.1
  have hts := C.2.2.2.1
  have hl : lv_has ls 4 [(0, .ref (ad 0)), (1, .int (nI x)), (2, .int (nI m))] := hl
  refine lv_aload_n hx hb dX2_middle_0 rfl (lv_at hl 0 rfl) ?_
  refine mg_order C hP dX2_middle_1 ?_
  refine lv_aload_n hx hb dX2_middle_4 rfl (lv_at hl 0 rfl) ?_
  refine mg_w C hP dX2_middle_5 ?_
  refine lv_iload_n hx hb dX2_middle_8 rfl (lv_at hl 1 rfl) ?_
  refine lv_iconst (v := nI 1) hx hb dX2_middle_9 (by decide) ?_
  refine w_iaddN hx hb dX2_middle_10 ?_
  refine m_ald1 C hP (by omega) dX2_middle_11 ?_
  refine w_eqi (rp_strike hR (by omega)) ?_
  refine w_eqi (hB.strike) ?_
  refine m_ald5 C hP (by omega) dX2_middle_12 ?_
  refine lv_aload_n hx hb dX2_middle_13 rfl (lv_at hl 0 rfl) ?_
  refine mg_order C hP dX2_middle_14 ?_
  refine lv_iload_n hx hb dX2_middle_17 rfl (lv_at hl 2 rfl) ?_
  refine lv_iconst (v := nI 1) hx hb dX2_middle_18 (by decide) ?_
  refine w_isubN hx hb dX2_middle_19 (by omega) ?_
  refine lv_aload_n hx hb dX2_middle_20 rfl (lv_at hl 0 rfl) ?_
  refine mg_w C hP dX2_middle_21 ?_
  refine lv_iload_n hx hb dX2_middle_24 rfl (lv_at hl 1 rfl) ?_
  refine lv_iconst (v := nI 1) hx hb dX2_middle_25 (by decide) ?_
  refine w_iaddN hx hb dX2_middle_26 ?_
  refine m_ald1 C hP (by omega) dX2_middle_27 ?_
  refine w_eqi (rp_strike hR (by omega)) ?_
  refine w_eqi (hB.strike) ?_
  refine w_isubN hx hb dX2_middle_28 (by omega) ?_
  refine m_ald5 C hP (by omega) dX2_middle_29 ?_
  refine lv_iadd hx hb dX2_middle_30 ?_
  refine lv_istore_n (lv' := [(3, .int ((μ 5 (nF h)) + (μ 5 ((m - 1) - (nF h))))), (0, .ref (ad 0)), (1, .int (nI x)), (2, .int (nI m))]) hx hb dX2_middle_31 rfl hl (by decide) rfl (fun ls hl => ?_)
  refine lv_iload_n hx hb dX2_middle_32 rfl (lv_at hl 0 rfl) ?_
  refine lv_if_lt (tgt := 42) hx hb dX2_middle_33 (by decide) (fun c_19 => ?_) (fun c_19 => ?_)
  · refine lv_iconst (v := nI 1) hx hb dX2_middle_42 (by decide) ?_
    refine lv_iload_n hx hb dX2_middle_43 rfl (lv_at hl 0 rfl) ?_
    refine lv_isub hx hb dX2_middle_44 ?_
    refine lv_iconst (v := nI 2) hx hb dX2_middle_45 (by decide) ?_
    refine lv_idiv hx hb dX2_middle_46 (by decide) ?_
    refine lv_ineg hx hb dX2_middle_47 ?_
    exact w_retR hx hb hlk hr dX2_middle_48 (half_neg c_19 hs)
  · refine lv_iload_n hx hb dX2_middle_36 rfl (lv_at hl 0 rfl) ?_
    refine lv_iconst (v := nI 2) hx hb dX2_middle_37 (by decide) ?_
    refine lv_idiv hx hb dX2_middle_38 (by decide) ?_
    refine lv_goto (tgt := 48) hx hb dX2_middle_39 (by decide) ?_
    exact w_retR hx hb hlk hr dX2_middle_48 (half_pos c_19)

theorem hdX2_middleOf : yX2_middleOf.cls = "LiarClocksModel" ∧ yX2_middleOf.cls ≠ "java/lang/invoke/MethodHandle" ∧ yX2_middleOf.cls ≠ "java/lang/invoke/VarHandle" ∧ (parseMethodDescriptor yX2_middleOf.desc).map (fun d => d.parameters.length) = some 2 := by decide +kernel
set_option maxHeartbeats 4000000 in
/-- middleOf -/
theorem mX2_middleOf (l : Launch) (D : va_G) (T : Nat → ClassId) (ad : Nat → Nat) (μ : Nat → Nat → Int32) (h : Vw) (x : Nat) (hR : Rp (μ 1) x h) (hB : HB h) (hx0 : x ≤ 3648) (B : Int) (hA : HA h B) (hB0 : B ≤ 400000000) (hB1 : 0 ≤ B) (i : Nat) (hi : i < nM h) : ∀ sz, Met l yX2_middleOf (ws_ yX2_middleOf cX2_middleOf 4 (some .int)) ({ frames := 2, cells := 0, slots := 0, locals := 46 } : Room) (mPs D T ad μ [.ref (ad 0), .int (nI x), .int (nI i)] sz) (mQ D T ad (fun r μ' => r = some (.int (midOfS h i)) ∧ ∀ q, q ≠ 5 → μ' q = μ q)) 0 0 (gA 7 ad sz) := by
  have h8 := hB.many8
  have h3 := hB.strike3
  have h6 := hB.alarms6
  refine mM_intro [.ref (ad 0), .int (nI x), .int (nI i)] (by decide) rfl (Nat.le_of_ble_eq_true rfl) ?_
  intro pg en s0 mi below meth cd ls C hr hlk hml hP hS hl
  have hx := C.1
  have hb := C.2.1
  have hown := C.2.2.1
  have hts := C.2.2.2.1
  have hl : lv_has ls 4 [(0, .ref (ad 0)), (1, .int (nI x)), (2, .int (nI i))] := hl
  refine lv_aload_n hx hb dX2_middleOf_0 rfl (lv_at hl 0 rfl) ?_
  refine lv_iload_n hx hb dX2_middleOf_1 rfl (lv_at hl 1 rfl) ?_
  refine lv_aload_n hx hb dX2_middleOf_2 rfl (lv_at hl 0 rfl) ?_
  refine mg_w C hP dX2_middleOf_3 ?_
  refine lv_iload_n hx hb dX2_middleOf_6 rfl (lv_at hl 1 rfl) ?_
  refine m_ald1 C hP (by omega) dX2_middleOf_7 ?_
  refine w_eqi (rp_many hR (by omega)) ?_
  refine w_eqi (hB.many) ?_
  refine m_cR [.int (nI x), .int (nI (nM h))] C hml hl.1 hP (mX2_allStruck l D T ad μ h x hR hB (by omega) (nM h) (by omega)) (lw_V q911 q913 qs47 q71 q914) hdX2_allStruck ⟨rfl, rfl⟩ ⟨Nat.le_of_ble_eq_true rfl, Nat.le_of_ble_eq_true rfl⟩ rfl (Nat.le_of_ble_eq_true rfl) dX2_middleOf_8 ⟨Nat.zero_le _, Nat.zero_le _⟩ ?_
  refine lv_if_eq (tgt := 21) hx hb dX2_middleOf_11 (by decide) (fun c_20 => ?_) (fun c_20 => ?_)
  · have hns : ¬ nM h ≤ 2 * nF h := of_decide_eq_false (bI_eq0.mp c_20)
    refine lv_iconst (v := nI 0) hx hb dX2_middleOf_21 (by decide) ?_
    refine lv_istore_n (lv' := [(3, .int (nI 0)), (0, .ref (ad 0)), (1, .int (nI x)), (2, .int (nI i))]) hx hb dX2_middleOf_22 rfl hl (by decide) rfl (fun ls hl => ?_)
    refine w_upM (α := Nat → Nat → Int32) (nM h) 23 4 (gA 7 ad s0.heap.size) s0.heap (fun j μ2 => [(0, .ref (ad 0)), (1, .int (nI x)), (2, .int (nI i)), (3, .int (nI j))]) (fun j μ2 H => mW D T ad μ2 H ∧ (∀ k, k < j → μ2 5 k = ordS (heardS h i) j k) ∧ ∀ q, q ≠ 5 → μ2 q = μ q) ?_ ?_ 0 (Nat.zero_le _) μ (lv_sub hl [1, 2, 3, 0] rfl) ⟨hP, fun k hk => absurd hk (Nat.not_lt_zero k), fun _ _ => rfl⟩ hS
    · intro j μ2 ls H locs hi_j hl hW hS ih_j
      have hl : lv_has ls 4 [(0, .ref (ad 0)), (1, .int (nI x)), (2, .int (nI i)), (3, .int (nI j))] := hl
      obtain ⟨hP, hord, hoth⟩ := hW
      have hR2 : Rp (μ2 1) x h := by rw [hoth 1 (by decide)]; exact hR
      refine lv_iload_n hx hb dX2_middleOf_23 rfl (lv_at hl 3 rfl) ?_
      refine lv_aload_n hx hb dX2_middleOf_24 rfl (lv_at hl 0 rfl) ?_
      refine mg_w C hP dX2_middleOf_25 ?_
      refine lv_iload_n hx hb dX2_middleOf_28 rfl (lv_at hl 1 rfl) ?_
      refine m_ald1 C hP (by omega) dX2_middleOf_29 ?_
      refine w_eqi (rp_many hR2 (by omega)) ?_
      refine w_eqi (hB.many) ?_
      refine w_icmpN_ge (tgt := 51) hx hb dX2_middleOf_30 (by decide) (by omega) (by omega) (fun c_21 => ?_) (fun c_21 => ?_)
      · exact absurd c_21 (by omega)
      · refine lv_aload_n hx hb dX2_middleOf_33 rfl (lv_at hl 0 rfl) ?_
        refine lv_iload_n hx hb dX2_middleOf_34 rfl (lv_at hl 3 rfl) ?_
        refine lv_aload_n hx hb dX2_middleOf_35 rfl (lv_at hl 0 rfl) ?_
        refine lv_iload_n hx hb dX2_middleOf_36 rfl (lv_at hl 1 rfl) ?_
        refine lv_iload_n hx hb dX2_middleOf_37 rfl (lv_at hl 3 rfl) ?_
        refine lv_iload_n hx hb dX2_middleOf_38 rfl (lv_at hl 2 rfl) ?_
        refine m_cR [.int (nI x), .int (nI j), .int (nI i)] C hml hl.1 hP (mX2_heardOf l D T ad μ2 h x hR2 hB (by omega) j i (by omega) (by omega)) (lw_V q929 q931 qs51 q71 q932) hdX2_heardOf ⟨rfl, rfl⟩ ⟨Nat.le_of_ble_eq_true rfl, Nat.le_of_ble_eq_true rfl⟩ rfl (Nat.le_of_ble_eq_true rfl) dX2_middleOf_39 ⟨Nat.zero_le _, Nat.zero_le _⟩ ?_
        refine m_cM [.int (nI j), .int (heardS h i j)] C hml hl.1 hP hS (mX2_put l D T ad μ2 j (heardS h i j) (by omega)) (lw_V q933 q935 qs52 q71 q936) hdX2_put ⟨rfl, rfl⟩ ⟨Nat.le_of_ble_eq_true rfl, Nat.le_of_ble_eq_true rfl⟩ rfl (Nat.le_of_ble_eq_true rfl) dX2_middleOf_42 ⟨Nat.zero_le _, Nat.zero_le _⟩ (fun v_22 μ_23 H locs hp_24 hP hS => ?_)
        obtain ⟨rfl, h5_25, ho_26⟩ := hp_24
        have hR_27 : Rp (μ_23 1) x h := by rw [ho_26 1 (by decide)]; exact hR2
        refine lv_iinc (v := nI (j + 1)) (lv' := [(3, .int (nI (j + 1))), (0, .ref (ad 0)), (1, .int (nI x)), (2, .int (nI i))]) hx hb dX2_middleOf_45 hl (k := 3) rfl (w_inc _ _) (by decide) rfl (fun ls hl => ?_)
        refine lv_goto (tgt := 23) hx hb dX2_middleOf_48 (by decide) ?_
        refine ih_j μ_23 _ _ _ ?_ ⟨hP, ?_, ?_⟩ hS
        · exact lv_sub hl [1, 2, 3, 0] rfl
        · intro k hk
          rw [h5_25]
          exact insS_congr _ j _ _ hord k (by omega)
        · intro q hq
          rw [ho_26 q hq, hoth q hq]
    · intro μ2 ls H locs hl hW hS
      have hl : lv_has ls 4 [(0, .ref (ad 0)), (1, .int (nI x)), (2, .int (nI i)), (3, .int (nI (nM h)))] := hl
      obtain ⟨hP, hord, hoth⟩ := hW
      have hR2 : Rp (μ2 1) x h := by rw [hoth 1 (by decide)]; exact hR
      refine lv_iload_n hx hb dX2_middleOf_23 rfl (lv_at hl 3 rfl) ?_
      refine lv_aload_n hx hb dX2_middleOf_24 rfl (lv_at hl 0 rfl) ?_
      refine mg_w C hP dX2_middleOf_25 ?_
      refine lv_iload_n hx hb dX2_middleOf_28 rfl (lv_at hl 1 rfl) ?_
      refine m_ald1 C hP (by omega) dX2_middleOf_29 ?_
      refine w_eqi (rp_many hR2 (by omega)) ?_
      refine w_eqi (hB.many) ?_
      refine w_icmpN_ge (tgt := 51) hx hb dX2_middleOf_30 (by decide) (by omega) (by omega) (fun c_28 => ?_) (fun c_28 => ?_)
      · have hbd := midS_bd (f := μ2 5) (st := nF h) (m := nM h) (L := -(B + 9999)) (U := B + 9999) (fun k hk => by rw [hord k hk]; exact ordS_all (P := fun v => -(B + 9999) ≤ v.toInt ∧ v.toInt ≤ B + 9999) (val := heardS h i) (nM h) (fun j hj => heardS_bd hA hB0 h8 hi hj) k hk) (by omega) (by omega) (by omega)
        refine lv_aload_n hx hb dX2_middleOf_51 rfl (lv_at hl 0 rfl) ?_
        refine lv_iload_n hx hb dX2_middleOf_52 rfl (lv_at hl 1 rfl) ?_
        refine lv_aload_n hx hb dX2_middleOf_53 rfl (lv_at hl 0 rfl) ?_
        refine mg_w C hP dX2_middleOf_54 ?_
        refine lv_iload_n hx hb dX2_middleOf_57 rfl (lv_at hl 1 rfl) ?_
        refine m_ald1 C hP (by omega) dX2_middleOf_58 ?_
        refine w_eqi (rp_many hR2 (by omega)) ?_
        refine w_eqi (hB.many) ?_
        refine m_cR [.int (nI x), .int (nI (nM h))] C hml hl.1 hP (mX2_middle l D T ad μ2 h x hR2 hB (by omega) (nM h) (by omega) (by omega) hbd.1) (lw_V q937 q939 qs53 q71 q940) hdX2_middle ⟨rfl, rfl⟩ ⟨Nat.le_of_ble_eq_true rfl, Nat.le_of_ble_eq_true rfl⟩ rfl (Nat.le_of_ble_eq_true rfl) dX2_middleOf_59 ⟨Nat.zero_le _, Nat.zero_le _⟩ ?_
        exact mM_retI C hlk hr hS hP dX2_middleOf_62 ⟨by unfold midOfS; rw [if_neg hns, midS_congr hord (by omega)], hoth⟩
      · exact absurd c_28 (by omega)
  · have hst : nM h ≤ 2 * nF h := of_decide_eq_true (bI_ne0.mp c_20)
    refine lv_aload_n hx hb dX2_middleOf_14 rfl (lv_at hl 0 rfl) ?_
    refine lv_iload_n hx hb dX2_middleOf_15 rfl (lv_at hl 1 rfl) ?_
    refine lv_iload_n hx hb dX2_middleOf_16 rfl (lv_at hl 2 rfl) ?_
    refine m_cR [.int (nI x), .int (nI i)] C hml hl.1 hP (mX2_aim l D T ad μ h x i hR (by omega) (by omega)) (lw_V q903 q905 qs45 q71 q906) hdX2_aim ⟨rfl, rfl⟩ ⟨Nat.le_of_ble_eq_true rfl, Nat.le_of_ble_eq_true rfl⟩ rfl (Nat.le_of_ble_eq_true rfl) dX2_middleOf_17 ⟨Nat.zero_le _, Nat.zero_le _⟩ ?_
    exact mM_retI C hlk hr hS hP dX2_middleOf_20 ⟨by unfold midOfS; rw [if_pos hst], fun _ _ => rfl⟩

theorem hdX2_roundIn : yX2_roundIn.cls = "LiarClocksModel" ∧ yX2_roundIn.cls ≠ "java/lang/invoke/MethodHandle" ∧ yX2_roundIn.cls ≠ "java/lang/invoke/VarHandle" ∧ (parseMethodDescriptor yX2_roundIn.desc).map (fun d => d.parameters.length) = some 1 := by decide +kernel
set_option maxHeartbeats 4000000 in
/-- roundIn -/
theorem mX2_roundIn (l : Launch) (D : va_G) (T : Nat → ClassId) (ad : Nat → Nat) (μ : Nat → Nat → Int32) (h : Vw) (x : Nat) (hR : Rp (μ 1) x h) (hB : HB h) (hx0 : x ≤ 3648) (B : Int) (hA : HA h B) (hB0 : B ≤ 400000000) (hB1 : 0 ≤ B) : ∀ sz, Met l yX2_roundIn (ws_ yX2_roundIn cX2_roundIn 3 none) ({ frames := 3, cells := 0, slots := 0, locals := 69 } : Room) (mPs D T ad μ [.ref (ad 0), .int (nI x)] sz) (mQ D T ad (fun r μ' => r = none ∧ Rp (μ' 1) x (roundS h) ∧ (∀ k, (k < x + 19 ∨ x + 27 ≤ k) → μ' 1 k = μ 1 k) ∧ ∀ q, q ≠ 1 → q ≠ 5 → q ≠ 6 → μ' q = μ q)) 0 0 (gA 7 ad sz) := by
  have h8 := hB.many8
  have h3 := hB.strike3
  have h6 := hB.alarms6
  refine mM_intro [.ref (ad 0), .int (nI x)] (by decide) rfl (Nat.le_of_ble_eq_true rfl) ?_
  intro pg en s0 mi below meth cd ls C hr hlk hml hP hS hl
  have hx := C.1
  have hb := C.2.1
  have hown := C.2.2.1
  have hts := C.2.2.2.1
  have hl : lv_has ls 3 [(0, .ref (ad 0)), (1, .int (nI x))] := hl
  refine lv_iconst (v := nI 0) hx hb dX2_roundIn_0 (by decide) ?_
  refine lv_istore_n (lv' := [(2, .int (nI 0)), (0, .ref (ad 0)), (1, .int (nI x))]) hx hb dX2_roundIn_1 rfl hl (by decide) rfl (fun ls hl => ?_)
  refine w_upM (α := Nat → Nat → Int32) (nM h) 2 3 (gA 7 ad s0.heap.size) s0.heap (fun i μ2 => [(0, .ref (ad 0)), (1, .int (nI x)), (2, .int (nI i))]) (fun i μ2 H => mW D T ad μ2 H ∧ (∀ k, k < i → μ2 6 k = nextS h k) ∧ ∀ q, q ≠ 5 → q ≠ 6 → μ2 q = μ q) ?_ ?_ 0 (Nat.zero_le _) μ (lv_sub hl [1, 2, 0] rfl) ⟨hP, fun k hk => absurd hk (Nat.not_lt_zero k), fun _ _ _ => rfl⟩ hS
  · intro i μ2 ls H locs hi_i hl hW hS ih_i
    have hl : lv_has ls 3 [(0, .ref (ad 0)), (1, .int (nI x)), (2, .int (nI i))] := hl
    obtain ⟨hP, hnx, hoth⟩ := hW
    have hR2 : Rp (μ2 1) x h := by rw [hoth 1 (by decide) (by decide)]; exact hR
    refine lv_iload_n hx hb dX2_roundIn_2 rfl (lv_at hl 2 rfl) ?_
    refine lv_aload_n hx hb dX2_roundIn_3 rfl (lv_at hl 0 rfl) ?_
    refine mg_w C hP dX2_roundIn_4 ?_
    refine lv_iload_n hx hb dX2_roundIn_7 rfl (lv_at hl 1 rfl) ?_
    refine m_ald1 C hP (by omega) dX2_roundIn_8 ?_
    refine w_eqi (rp_many hR2 (by omega)) ?_
    refine w_eqi (hB.many) ?_
    refine w_icmpN_ge (tgt := 64) hx hb dX2_roundIn_9 (by decide) (by omega) (by omega) (fun c_29 => ?_) (fun c_29 => ?_)
    · exact absurd c_29 (by omega)
    · refine lv_aload_n hx hb dX2_roundIn_12 rfl (lv_at hl 0 rfl) ?_
      refine mg_next C hP dX2_roundIn_13 ?_
      refine lv_iload_n hx hb dX2_roundIn_16 rfl (lv_at hl 2 rfl) ?_
      refine lv_aload_n hx hb dX2_roundIn_17 rfl (lv_at hl 0 rfl) ?_
      refine lv_iload_n hx hb dX2_roundIn_18 rfl (lv_at hl 1 rfl) ?_
      refine lv_iload_n hx hb dX2_roundIn_19 rfl (lv_at hl 2 rfl) ?_
      refine m_cR [.int (nI x), .int (nI i)] C hml hl.1 hP (mX2_isTrue l D T ad μ2 h x i hR2 (by omega) (by omega)) (lw_V q895 q897 qs43 q71 q898) hdX2_isTrue ⟨rfl, rfl⟩ ⟨Nat.le_of_ble_eq_true rfl, Nat.le_of_ble_eq_true rfl⟩ rfl (Nat.le_of_ble_eq_true rfl) dX2_roundIn_20 ⟨Nat.zero_le _, Nat.zero_le _⟩ ?_
      refine lv_if_eq (tgt := 46) hx hb dX2_roundIn_23 (by decide) (fun c_30 => ?_) (fun c_30 => ?_)
      · have htr : ¬ trS h i = true := by rw [bI_eq0.mp c_30]; decide
        refine lv_aload_n hx hb dX2_roundIn_46 rfl (lv_at hl 0 rfl) ?_
        refine mg_w C hP dX2_roundIn_47 ?_
        refine lv_iload_n hx hb dX2_roundIn_50 rfl (lv_at hl 1 rfl) ?_
        refine lv_bipush (v := nI 19) hx hb dX2_roundIn_51 (by decide) ?_
        refine w_iaddN hx hb dX2_roundIn_53 ?_
        refine lv_iload_n hx hb dX2_roundIn_54 rfl (lv_at hl 2 rfl) ?_
        refine w_iaddN hx hb dX2_roundIn_55 ?_
        refine m_ald1 C hP (by omega) dX2_roundIn_56 ?_
        refine w_eqi (rp_3 hR2 (i) (by omega) (by omega)) ?_
        refine m_ast6 C hP hS (by omega) dX2_roundIn_57 (fun H locs hP hS => ?_)
        obtain ⟨μ_31, eμ_32⟩ : ∃ y9, y9 = mset μ2 6 (i) (h 3 i) := ⟨_, rfl⟩
        rw [← eμ_32] at hP
        have hR_33 : Rp (μ_31 1) x h := by rw [eμ_32, mset_oth (by decide)]; exact hR2
        refine lv_iinc (v := nI (i + 1)) (lv' := [(2, .int (nI (i + 1))), (0, .ref (ad 0)), (1, .int (nI x))]) hx hb dX2_roundIn_58 hl (k := 2) rfl (w_inc _ _) (by decide) rfl (fun ls hl => ?_)
        refine lv_goto (tgt := 2) hx hb dX2_roundIn_61 (by decide) ?_
        refine ih_i μ_31 _ _ _ (lv_sub hl [1, 2, 0] rfl) ⟨hP, ?_, ?_⟩ hS
        · intro k hk
          rw [eμ_32]
          by_cases hki : k = i
          · subst hki
            rw [mset_self]; unfold nextS; rw [if_neg htr]
          · rw [mset_ne (Or.inr hki)]; exact hnx k (by omega)
        · intro q h5 h6
          rw [eμ_32, mset_oth h6]; exact hoth q h5 h6
      · have htr : trS h i = true := bI_ne0.mp c_30
        refine lv_aload_n hx hb dX2_roundIn_26 rfl (lv_at hl 0 rfl) ?_
        refine lv_iload_n hx hb dX2_roundIn_27 rfl (lv_at hl 1 rfl) ?_
        refine lv_iload_n hx hb dX2_roundIn_28 rfl (lv_at hl 2 rfl) ?_
        refine m_cM [.int (nI x), .int (nI i)] C hml hl.1 hP hS (mX2_middleOf l D T ad μ2 h x hR2 hB (by omega) B hA hB0 hB1 i (by omega)) (lw_V q964 q966 qs58 q71 q967) hdX2_middleOf ⟨rfl, rfl⟩ ⟨Nat.le_of_ble_eq_true rfl, Nat.le_of_ble_eq_true rfl⟩ rfl (Nat.le_of_ble_eq_true rfl) dX2_roundIn_29 ⟨Nat.zero_le _, Nat.zero_le _⟩ (fun v_34 μ_35 H locs hp_36 hP hS => ?_)
        obtain ⟨rfl, ho_37⟩ := hp_36
        have hR_38 : Rp (μ_35 1) x h := by rw [ho_37 1 (by decide)]; exact hR2
        refine lv_aload_n hx hb dX2_roundIn_32 rfl (lv_at hl 0 rfl) ?_
        refine mg_w C hP dX2_roundIn_33 ?_
        refine lv_iload_n hx hb dX2_roundIn_36 rfl (lv_at hl 1 rfl) ?_
        refine lv_iconst (v := nI 3) hx hb dX2_roundIn_37 (by decide) ?_
        refine w_iaddN hx hb dX2_roundIn_38 ?_
        refine lv_iload_n hx hb dX2_roundIn_39 rfl (lv_at hl 2 rfl) ?_
        refine w_iaddN hx hb dX2_roundIn_40 ?_
        refine m_ald1 C hP (by omega) dX2_roundIn_41 ?_
        refine w_eqi (rp_1 hR_38 (i) (by omega) (by omega)) ?_
        refine lv_isub hx hb dX2_roundIn_42 ?_
        refine lv_goto (tgt := 57) hx hb dX2_roundIn_43 (by decide) ?_
        refine m_ast6 C hP hS (by omega) dX2_roundIn_57 (fun H locs hP hS => ?_)
        obtain ⟨μ_39, eμ_40⟩ : ∃ y9, y9 = mset μ_35 6 (i) ((midOfS h i) - (h 1 i)) := ⟨_, rfl⟩
        rw [← eμ_40] at hP
        have hR_41 : Rp (μ_39 1) x h := by rw [eμ_40, mset_oth (by decide)]; exact hR_38
        refine lv_iinc (v := nI (i + 1)) (lv' := [(2, .int (nI (i + 1))), (0, .ref (ad 0)), (1, .int (nI x))]) hx hb dX2_roundIn_58 hl (k := 2) rfl (w_inc _ _) (by decide) rfl (fun ls hl => ?_)
        refine lv_goto (tgt := 2) hx hb dX2_roundIn_61 (by decide) ?_
        refine ih_i μ_39 _ _ _ (lv_sub hl [1, 2, 0] rfl) ⟨hP, ?_, ?_⟩ hS
        · intro k hk
          rw [eμ_40]
          by_cases hki : k = i
          · subst hki
            rw [mset_self]; unfold nextS; rw [if_pos htr]
          · rw [mset_ne (Or.inr hki), ho_37 6 (by decide)]; exact hnx k (by omega)
        · intro q h5 h6
          rw [eμ_40, mset_oth h6, ho_37 q h5]; exact hoth q h5 h6
  · intro μ2 ls H locs hl hW hS
    have hl : lv_has ls 3 [(0, .ref (ad 0)), (1, .int (nI x)), (2, .int (nI (nM h)))] := hl
    obtain ⟨hP, hnx, hoth⟩ := hW
    have hR2 : Rp (μ2 1) x h := by rw [hoth 1 (by decide) (by decide)]; exact hR
    refine lv_iload_n hx hb dX2_roundIn_2 rfl (lv_at hl 2 rfl) ?_
    refine lv_aload_n hx hb dX2_roundIn_3 rfl (lv_at hl 0 rfl) ?_
    refine mg_w C hP dX2_roundIn_4 ?_
    refine lv_iload_n hx hb dX2_roundIn_7 rfl (lv_at hl 1 rfl) ?_
    refine m_ald1 C hP (by omega) dX2_roundIn_8 ?_
    refine w_eqi (rp_many hR2 (by omega)) ?_
    refine w_eqi (hB.many) ?_
    refine w_icmpN_ge (tgt := 64) hx hb dX2_roundIn_9 (by decide) (by omega) (by omega) (fun c_42 => ?_) (fun c_42 => ?_)
    · refine lv_iconst (v := nI 0) hx hb dX2_roundIn_64 (by decide) ?_
      refine lv_istore_n (lv' := [(2, .int (nI 0)), (0, .ref (ad 0)), (1, .int (nI x))]) hx hb dX2_roundIn_65 rfl hl (by decide) rfl (fun ls hl => ?_)
      refine w_upM (α := Nat → Nat → Int32) (nM h) 66 3 (gA 7 ad s0.heap.size) s0.heap (fun i μ3 => [(0, .ref (ad 0)), (1, .int (nI x)), (2, .int (nI i))]) (fun i μ3 H => mW D T ad μ3 H ∧ Rp (μ3 1) x (hfil h 3 (nextS h) i) ∧ μ3 6 = μ2 6 ∧ (∀ k, (k < x + 19 ∨ x + 27 ≤ k) → μ3 1 k = μ 1 k) ∧ ∀ q, q ≠ 1 → q ≠ 5 → q ≠ 6 → μ3 q = μ q) ?_ ?_ 0 (Nat.zero_le _) μ2 (lv_sub hl [1, 2, 0] rfl) ⟨hP, by rw [hfil_0]; exact hR2, rfl, fun k _ => by rw [hoth 1 (by decide) (by decide)], fun q _ h5 h6 => hoth q h5 h6⟩ hS
      · intro i μ3 ls H locs hi_i hl hW hS ih_i
        have hl : lv_has ls 3 [(0, .ref (ad 0)), (1, .int (nI x)), (2, .int (nI i))] := hl
        obtain ⟨hP, hR3, h6e, hk1, hoth3⟩ := hW
        refine lv_iload_n hx hb dX2_roundIn_66 rfl (lv_at hl 2 rfl) ?_
        refine lv_aload_n hx hb dX2_roundIn_67 rfl (lv_at hl 0 rfl) ?_
        refine mg_w C hP dX2_roundIn_68 ?_
        refine lv_iload_n hx hb dX2_roundIn_71 rfl (lv_at hl 1 rfl) ?_
        refine m_ald1 C hP (by omega) dX2_roundIn_72 ?_
        refine w_eqi (rp_many hR3 (by omega)) ?_
        refine w_eqi (hB.many) ?_
        refine w_icmpN_ge (tgt := 99) hx hb dX2_roundIn_73 (by decide) (by omega) (by omega) (fun c_43 => ?_) (fun c_43 => ?_)
        · exact absurd c_43 (by omega)
        · refine lv_aload_n hx hb dX2_roundIn_76 rfl (lv_at hl 0 rfl) ?_
          refine mg_w C hP dX2_roundIn_77 ?_
          refine lv_iload_n hx hb dX2_roundIn_80 rfl (lv_at hl 1 rfl) ?_
          refine lv_bipush (v := nI 19) hx hb dX2_roundIn_81 (by decide) ?_
          refine w_iaddN hx hb dX2_roundIn_83 ?_
          refine lv_iload_n hx hb dX2_roundIn_84 rfl (lv_at hl 2 rfl) ?_
          refine w_iaddN hx hb dX2_roundIn_85 ?_
          refine lv_aload_n hx hb dX2_roundIn_86 rfl (lv_at hl 0 rfl) ?_
          refine mg_next C hP dX2_roundIn_87 ?_
          refine lv_iload_n hx hb dX2_roundIn_90 rfl (lv_at hl 2 rfl) ?_
          refine m_ald6 C hP (by omega) dX2_roundIn_91 ?_
          refine m_ast1 C hP hS (by omega) dX2_roundIn_92 (fun H locs hP hS => ?_)
          obtain ⟨μ_44, eμ_45⟩ : ∃ y9, y9 = mset μ3 1 (x + 19 + i) (μ3 6 (i)) := ⟨_, rfl⟩
          rw [← eμ_45] at hP
          refine lv_iinc (v := nI (i + 1)) (lv' := [(2, .int (nI (i + 1))), (0, .ref (ad 0)), (1, .int (nI x))]) hx hb dX2_roundIn_93 hl (k := 2) rfl (w_inc _ _) (by decide) rfl (fun ls hl => ?_)
          refine lv_goto (tgt := 66) hx hb dX2_roundIn_96 (by decide) ?_
          refine ih_i μ_44 _ _ _ (lv_sub hl [1, 2, 0] rfl) ⟨hP, ?_, ?_, ?_, ?_⟩ hS
          · rw [eμ_45, mset_row, h6e, hnx i (by omega), ← hfil_succ]
            exact rp_up3 hR3 i _ (by omega) (by omega)
          · rw [eμ_45, mset_oth (by decide)]; exact h6e
          · intro k hk
            rw [eμ_45, mset_ne (by omega)]; exact hk1 k hk
          · intro q h1 h5 h6
            rw [eμ_45, mset_oth h1]; exact hoth3 q h1 h5 h6
      · intro μ3 ls H locs hl hW hS
        have hl : lv_has ls 3 [(0, .ref (ad 0)), (1, .int (nI x)), (2, .int (nI (nM h)))] := hl
        obtain ⟨hP, hR3, h6e, hk1, hoth3⟩ := hW
        refine lv_iload_n hx hb dX2_roundIn_66 rfl (lv_at hl 2 rfl) ?_
        refine lv_aload_n hx hb dX2_roundIn_67 rfl (lv_at hl 0 rfl) ?_
        refine mg_w C hP dX2_roundIn_68 ?_
        refine lv_iload_n hx hb dX2_roundIn_71 rfl (lv_at hl 1 rfl) ?_
        refine m_ald1 C hP (by omega) dX2_roundIn_72 ?_
        refine w_eqi (rp_many hR3 (by omega)) ?_
        refine w_eqi (hB.many) ?_
        refine w_icmpN_ge (tgt := 99) hx hb dX2_roundIn_73 (by decide) (by omega) (by omega) (fun c_46 => ?_) (fun c_46 => ?_)
        · exact mM_retV C hlk hr hS hP dX2_roundIn_99 ⟨rfl, hR3, hk1, hoth3⟩
        · exact absurd c_46 (by omega)
    · exact absurd c_42 (by omega)

