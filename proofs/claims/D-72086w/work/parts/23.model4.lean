/-! THE MODEL: apart, rows copied, a tick, the worst, the farthest -/
set_option maxRecDepth 100000
theorem hdX2_apart : yX2_apart.cls = "LiarClocksModel" ∧ yX2_apart.cls ≠ "java/lang/invoke/MethodHandle" ∧ yX2_apart.cls ≠ "java/lang/invoke/VarHandle" ∧ (parseMethodDescriptor yX2_apart.desc).map (fun d => d.parameters.length) = some 1 := by decide +kernel
set_option maxHeartbeats 4000000 in
/-- apart -/
theorem mX2_apart (l : Launch) (D : va_G) (T : Nat → ClassId) (ad : Nat → Nat) (μ : Nat → Nat → Int32) (h : Vw) (x : Nat) (hR : Rp (μ 1) x h) (hB : HB h) (hx0 : x ≤ 3648) : Met l yX2_apart (ws_ yX2_apart cX2_apart 5 (some .int)) ({ frames := 1, cells := 0, slots := 0, locals := 22 } : Room) (mPc D T ad μ [.ref (ad 0), .int (nI x)]) (QcRead (apS h)) 0 0 (fun _ => False) := by
  have h8 := hB.many8
  have h3 := hB.strike3
  have h6 := hB.alarms6
  refine mR_intro [.ref (ad 0), .int (nI x)] (by decide) rfl (Nat.le_of_ble_eq_true rfl) ?_
  intro pg en s0 mi below meth cd ls C hr hlk hml hP hl
  have hx := C.1
  have hb := C.2.1
  have hown := C.2.2.1
  have hts := C.2.2.2.1
  have hl : lv_has ls 5 [(0, .ref (ad 0)), (1, .int (nI x))] := hl
  refine lv_iconst (v := -1) hx hb dX2_apart_0 (by decide) ?_
  refine lv_istore_n (lv' := [(2, .int ((-1))), (0, .ref (ad 0)), (1, .int (nI x))]) hx hb dX2_apart_1 rfl hl (by decide) rfl (fun ls hl => ?_)
  refine lv_iconst (v := -1) hx hb dX2_apart_2 (by decide) ?_
  refine lv_istore_n (lv' := [(3, .int ((-1))), (2, .int ((-1))), (0, .ref (ad 0)), (1, .int (nI x))]) hx hb dX2_apart_3 rfl hl (by decide) rfl (fun ls hl => ?_)
  refine lv_iconst (v := nI 0) hx hb dX2_apart_4 (by decide) ?_
  refine lv_istore (lv' := [(4, .int (nI 0)), (3, .int ((-1))), (2, .int ((-1))), (0, .ref (ad 0)), (1, .int (nI x))]) hx hb dX2_apart_5 hl (by decide) rfl (fun ls hl => ?_)
  refine w_up (nM h) 7 5 (fun i => [(0, .ref (ad 0)), (1, .int (nI x)), (2, .int (liF h i)), (3, .int (moF h i)), (4, .int (nI i))]) ?_ ?_ 0 (Nat.zero_le _) _ (lv_sub hl [3, 4, 2, 1, 0] rfl)
  · intro i ls hi_i hl ih_i
    have hl : lv_has ls 5 [(0, .ref (ad 0)), (1, .int (nI x)), (2, .int (liF h i)), (3, .int (moF h i)), (4, .int (nI i))] := hl
    refine lv_iload hx hb dX2_apart_7 (lv_at hl 4 rfl) ?_
    refine lv_aload_n hx hb dX2_apart_9 rfl (lv_at hl 0 rfl) ?_
    refine mg_w C hP dX2_apart_10 ?_
    refine lv_iload_n hx hb dX2_apart_13 rfl (lv_at hl 1 rfl) ?_
    refine m_ald1 C hP (by omega) dX2_apart_14 ?_
    refine w_eqi (rp_many hR (by omega)) ?_
    refine w_eqi (hB.many) ?_
    refine w_icmpN_ge (tgt := 90) hx hb dX2_apart_15 (by decide) (by omega) (by omega) (fun c_87 => ?_) (fun c_87 => ?_)
    · exact absurd c_87 (by omega)
    · refine lv_aload_n hx hb dX2_apart_18 rfl (lv_at hl 0 rfl) ?_
      refine lv_iload_n hx hb dX2_apart_19 rfl (lv_at hl 1 rfl) ?_
      refine lv_iload hx hb dX2_apart_20 (lv_at hl 4 rfl) ?_
      refine m_cR [.int (nI x), .int (nI i)] C hml hl.1 hP (mX2_isTrue l D T ad μ h x i hR (by omega) (by omega)) (lw_V q895 q897 qs43 q71 q898) hdX2_isTrue ⟨rfl, rfl⟩ ⟨Nat.le_of_ble_eq_true rfl, Nat.le_of_ble_eq_true rfl⟩ rfl (Nat.le_of_ble_eq_true rfl) dX2_apart_22 ⟨Nat.zero_le _, Nat.zero_le _⟩ ?_
      refine lv_if_eq (tgt := 84) hx hb dX2_apart_25 (by decide) (fun c_88 => ?_) (fun c_88 => ?_)
      · have htr : ¬ trS h i = true := by rw [bI_eq0.mp c_88]; decide
        refine lv_iinc (v := nI (i + 1)) (lv' := [(4, .int (nI (i + 1))), (0, .ref (ad 0)), (1, .int (nI x)), (2, .int (liF h i)), (3, .int (moF h i))]) hx hb dX2_apart_84 hl (k := 4) rfl (w_inc _ _) (by decide) rfl (fun ls hl => ?_)
        refine lv_goto (tgt := 7) hx hb dX2_apart_87 (by decide) ?_
        refine ih_i _ ?_
        show lv_has ls 5 [(0, .ref (ad 0)), (1, .int (nI x)), (2, .int (liF h (i + 1))), (3, .int (moF h (i + 1))), (4, .int (nI (i + 1)))]
        rw [show liF h (i + 1) = liF h i from if_neg htr]
        rw [show moF h (i + 1) = moF h i from if_neg htr]
        exact lv_sub hl [1, 2, 3, 4, 0] rfl
      · have htr : trS h i = true := bI_ne0.mp c_88
        have hsp := ap_spec h i (by omega)
        refine w_join (α := Int32) (fun v_89 => v_89 = liN h i (liF h i)) (fun v_89 => F0 mi 55 ls (.int v_89 :: [])) (fun v_89 hv_89 => ?_) (fun hJv_89 => ?_)
        · subst hv_89
          refine lv_istore_n (lv' := [(2, .int (liN h i (liF h i))), (0, .ref (ad 0)), (1, .int (nI x)), (3, .int (moF h i)), (4, .int (nI i))]) hx hb dX2_apart_55 rfl hl (by decide) rfl (fun ls hl => ?_)
          refine w_join (α := Int32) (fun v_92 => v_92 = moN h i (moF h i)) (fun v_92 => F0 mi 83 ls (.int v_92 :: [])) (fun v_92 hv_92 => ?_) (fun hJv_92 => ?_)
          · subst hv_92
            refine lv_istore_n (lv' := [(3, .int (moN h i (moF h i))), (2, .int (liN h i (liF h i))), (0, .ref (ad 0)), (1, .int (nI x)), (4, .int (nI i))]) hx hb dX2_apart_83 rfl hl (by decide) rfl (fun ls hl => ?_)
            refine lv_iinc (v := nI (i + 1)) (lv' := [(4, .int (nI (i + 1))), (3, .int (moN h i (moF h i))), (2, .int (liN h i (liF h i))), (0, .ref (ad 0)), (1, .int (nI x))]) hx hb dX2_apart_84 hl (k := 4) rfl (w_inc _ _) (by decide) rfl (fun ls hl => ?_)
            refine lv_goto (tgt := 7) hx hb dX2_apart_87 (by decide) ?_
            refine ih_i _ ?_
            show lv_has ls 5 [(0, .ref (ad 0)), (1, .int (nI x)), (2, .int (liF h (i + 1))), (3, .int (moF h (i + 1))), (4, .int (nI (i + 1)))]
            rw [show liF h (i + 1) = liN h i (liF h i) from if_pos htr]
            rw [show moF h (i + 1) = moN h i (moF h i) from if_pos htr]
            exact lv_sub hl [3, 4, 2, 1, 0] rfl
          · refine lv_iload_n hx hb dX2_apart_56 rfl (lv_at hl 3 rfl) ?_
            refine lv_iconst (v := -1) hx hb dX2_apart_57 (by decide) ?_
            refine lv_icmp_eq (tgt := 77) hx hb dX2_apart_58 (by decide) (fun c_93 => ?_) (fun c_93 => ?_)
            · refine lv_iload hx hb dX2_apart_77 (lv_at hl 4 rfl) ?_
              refine lv_goto (tgt := 83) hx hb dX2_apart_79 (by decide) ?_
              exact hJv_92 _ (by unfold moN; rw [if_pos (Or.inl c_93)])
            · obtain ⟨a, b, ha, hbb, e1, e2, e3⟩ := hsp.resolve_left (fun q => c_93 q.2.2)
              rw [e2] at hl
              refine lv_aload_n hx hb dX2_apart_61 rfl (lv_at hl 1 rfl) ?_
              refine lv_iload_n hx hb dX2_apart_62 rfl (lv_at hl 2 rfl) ?_
              refine lv_iload hx hb dX2_apart_63 (lv_at hl 4 rfl) ?_
              refine m_cR [.int (nI x), .int (nI i)] C hml hl.1 hP (mX2_aim l D T ad μ h x i hR (by omega) (by omega)) (lw_V q903 q905 qs45 q71 q906) hdX2_aim ⟨rfl, rfl⟩ ⟨Nat.le_of_ble_eq_true rfl, Nat.le_of_ble_eq_true rfl⟩ rfl (Nat.le_of_ble_eq_true rfl) dX2_apart_65 ⟨Nat.zero_le _, Nat.zero_le _⟩ ?_
              refine lv_aload_n hx hb dX2_apart_68 rfl (lv_at hl 1 rfl) ?_
              refine lv_iload_n hx hb dX2_apart_69 rfl (lv_at hl 2 rfl) ?_
              refine lv_iload_n hx hb dX2_apart_70 rfl (lv_at hl 3 rfl) ?_
              refine m_cR [.int (nI x), .int (nI b)] C hml hl.1 hP (mX2_aim l D T ad μ h x b hR (by omega) (by omega)) (lw_V q903 q905 qs45 q71 q906) hdX2_aim ⟨rfl, rfl⟩ ⟨Nat.le_of_ble_eq_true rfl, Nat.le_of_ble_eq_true rfl⟩ rfl (Nat.le_of_ble_eq_true rfl) dX2_apart_71 ⟨Nat.zero_le _, Nat.zero_le _⟩ ?_
              refine lv_icmp_le (tgt := 82) hx hb dX2_apart_74 (by decide) (fun c_94 => ?_) (fun c_94 => ?_)
              · refine lv_iload_n hx hb dX2_apart_82 rfl (lv_at hl 3 rfl) ?_
                exact hJv_92 _ (by unfold moN; rw [e2, nI_clamp (n := b) (by omega), if_neg (fun q => q.elim (nI_ne_m1 (by omega)) (fun q => Int32.not_lt.mpr c_94 q))])
              · refine lv_iload hx hb dX2_apart_77 (lv_at hl 4 rfl) ?_
                refine lv_goto (tgt := 83) hx hb dX2_apart_79 (by decide) ?_
                exact hJv_92 _ (by unfold moN; rw [e2, nI_clamp (n := b) (by omega), if_pos (Or.inr (Int32.not_le.mp c_94))])
        · refine lv_iload_n hx hb dX2_apart_28 rfl (lv_at hl 2 rfl) ?_
          refine lv_iconst (v := -1) hx hb dX2_apart_29 (by decide) ?_
          refine lv_icmp_eq (tgt := 49) hx hb dX2_apart_30 (by decide) (fun c_90 => ?_) (fun c_90 => ?_)
          · refine lv_iload hx hb dX2_apart_49 (lv_at hl 4 rfl) ?_
            refine lv_goto (tgt := 55) hx hb dX2_apart_51 (by decide) ?_
            exact hJv_89 _ (by unfold liN; rw [if_pos (Or.inl c_90)])
          · obtain ⟨a, b, ha, hbb, e1, e2, e3⟩ := hsp.resolve_left (fun q => c_90 q.2.1)
            rw [e1] at hl
            refine lv_aload_n hx hb dX2_apart_33 rfl (lv_at hl 0 rfl) ?_
            refine lv_iload_n hx hb dX2_apart_34 rfl (lv_at hl 1 rfl) ?_
            refine lv_iload hx hb dX2_apart_35 (lv_at hl 4 rfl) ?_
            refine m_cR [.int (nI x), .int (nI i)] C hml hl.1 hP (mX2_aim l D T ad μ h x i hR (by omega) (by omega)) (lw_V q903 q905 qs45 q71 q906) hdX2_aim ⟨rfl, rfl⟩ ⟨Nat.le_of_ble_eq_true rfl, Nat.le_of_ble_eq_true rfl⟩ rfl (Nat.le_of_ble_eq_true rfl) dX2_apart_37 ⟨Nat.zero_le _, Nat.zero_le _⟩ ?_
            refine lv_aload_n hx hb dX2_apart_40 rfl (lv_at hl 0 rfl) ?_
            refine lv_iload_n hx hb dX2_apart_41 rfl (lv_at hl 1 rfl) ?_
            refine lv_iload_n hx hb dX2_apart_42 rfl (lv_at hl 2 rfl) ?_
            refine m_cR [.int (nI x), .int (nI a)] C hml hl.1 hP (mX2_aim l D T ad μ h x a hR (by omega) (by omega)) (lw_V q903 q905 qs45 q71 q906) hdX2_aim ⟨rfl, rfl⟩ ⟨Nat.le_of_ble_eq_true rfl, Nat.le_of_ble_eq_true rfl⟩ rfl (Nat.le_of_ble_eq_true rfl) dX2_apart_43 ⟨Nat.zero_le _, Nat.zero_le _⟩ ?_
            refine lv_icmp_ge (tgt := 54) hx hb dX2_apart_46 (by decide) (fun c_91 => ?_) (fun c_91 => ?_)
            · refine lv_iload_n hx hb dX2_apart_54 rfl (lv_at hl 2 rfl) ?_
              exact hJv_89 _ (by unfold liN; rw [e1, nI_clamp (n := a) (by omega), if_neg (fun q => q.elim (nI_ne_m1 (by omega)) (fun q => Int32.not_lt.mpr c_91 q))])
            · refine lv_iload hx hb dX2_apart_49 (lv_at hl 4 rfl) ?_
              refine lv_goto (tgt := 55) hx hb dX2_apart_51 (by decide) ?_
              exact hJv_89 _ (by unfold liN; rw [e1, nI_clamp (n := a) (by omega), if_pos (Or.inr (Int32.not_le.mp c_91))])
  · intro ls hl
    have hl : lv_has ls 5 [(0, .ref (ad 0)), (1, .int (nI x)), (2, .int (liF h (nM h))), (3, .int (moF h (nM h))), (4, .int (nI (nM h)))] := hl
    refine lv_iload hx hb dX2_apart_7 (lv_at hl 4 rfl) ?_
    refine lv_aload_n hx hb dX2_apart_9 rfl (lv_at hl 0 rfl) ?_
    refine mg_w C hP dX2_apart_10 ?_
    refine lv_iload_n hx hb dX2_apart_13 rfl (lv_at hl 1 rfl) ?_
    refine m_ald1 C hP (by omega) dX2_apart_14 ?_
    refine w_eqi (rp_many hR (by omega)) ?_
    refine w_eqi (hB.many) ?_
    refine w_icmpN_ge (tgt := 90) hx hb dX2_apart_15 (by decide) (by omega) (by omega) (fun c_95 => ?_) (fun c_95 => ?_)
    · have hsp := ap_spec h (nM h) (by omega)
      refine lv_iload_n hx hb dX2_apart_90 rfl (lv_at hl 2 rfl) ?_
      refine lv_iconst (v := -1) hx hb dX2_apart_91 (by decide) ?_
      refine lv_icmp_ne (tgt := 99) hx hb dX2_apart_92 (by decide) (fun c_96 => ?_) (fun c_96 => ?_)
      · obtain ⟨a, b, ha, hbb, e1, e2, e3⟩ := hsp.resolve_left (fun q => c_96 q.2.1)
        rw [e1, e2] at hl
        refine lv_aload_n hx hb dX2_apart_99 rfl (lv_at hl 0 rfl) ?_
        refine lv_iload_n hx hb dX2_apart_100 rfl (lv_at hl 1 rfl) ?_
        refine lv_iload_n hx hb dX2_apart_101 rfl (lv_at hl 3 rfl) ?_
        refine m_cR [.int (nI x), .int (nI b)] C hml hl.1 hP (mX2_aim l D T ad μ h x b hR (by omega) (by omega)) (lw_V q903 q905 qs45 q71 q906) hdX2_aim ⟨rfl, rfl⟩ ⟨Nat.le_of_ble_eq_true rfl, Nat.le_of_ble_eq_true rfl⟩ rfl (Nat.le_of_ble_eq_true rfl) dX2_apart_102 ⟨Nat.zero_le _, Nat.zero_le _⟩ ?_
        refine lv_aload_n hx hb dX2_apart_105 rfl (lv_at hl 0 rfl) ?_
        refine lv_iload_n hx hb dX2_apart_106 rfl (lv_at hl 1 rfl) ?_
        refine lv_iload_n hx hb dX2_apart_107 rfl (lv_at hl 2 rfl) ?_
        refine m_cR [.int (nI x), .int (nI a)] C hml hl.1 hP (mX2_aim l D T ad μ h x a hR (by omega) (by omega)) (lw_V q903 q905 qs45 q71 q906) hdX2_aim ⟨rfl, rfl⟩ ⟨Nat.le_of_ble_eq_true rfl, Nat.le_of_ble_eq_true rfl⟩ rfl (Nat.le_of_ble_eq_true rfl) dX2_apart_108 ⟨Nat.zero_le _, Nat.zero_le _⟩ ?_
        refine lv_isub hx hb dX2_apart_111 ?_
        exact w_retR hx hb hlk hr dX2_apart_112 (by unfold apS; rw [e3])
      · refine lv_iconst (v := -1) hx hb dX2_apart_95 (by decide) ?_
        refine lv_goto (tgt := 112) hx hb dX2_apart_96 (by decide) ?_
        exact w_retR hx hb hlk hr dX2_apart_112 (by
              unfold apS
              rcases hsp with q | ⟨a, b, ha, hbb, e1, e2, e3⟩
              · rw [q.1]
              · exact absurd (e1.symm.trans c_96) (nI_ne_m1 (by omega)))
    · exact absurd c_95 (by omega)

theorem hdX2_copyRow : yX2_copyRow.cls = "LiarClocksModel" ∧ yX2_copyRow.cls ≠ "java/lang/invoke/MethodHandle" ∧ yX2_copyRow.cls ≠ "java/lang/invoke/VarHandle" ∧ (parseMethodDescriptor yX2_copyRow.desc).map (fun d => d.parameters.length) = some 2 := by decide +kernel
set_option maxHeartbeats 4000000 in
/-- copyRow -/
theorem mX2_copyRow (l : Launch) (D : va_G) (T : Nat → ClassId) (ad : Nat → Nat) (μ : Nat → Nat → Int32) (x y : Nat) (hx0 : x ≤ 3648) (hy0 : y ≤ 3648) (hxy : x + 192 ≤ y ∨ y + 192 ≤ x) : ∀ sz, Met l yX2_copyRow (ws_ yX2_copyRow cX2_copyRow 4 none) ({ frames := 0, cells := 0, slots := 0, locals := 0 } : Room) (mPs D T ad μ [.ref (ad 0), .int (nI x), .int (nI y)] sz) (mQ D T ad (fun r μ' => r = none ∧ (∀ k, k < 192 → μ' 1 (y + k) = μ 1 (x + k)) ∧ (∀ k, (k < y ∨ y + 192 ≤ k) → μ' 1 k = μ 1 k) ∧ ∀ q, q ≠ 1 → μ' q = μ q)) 0 0 (gA 7 ad sz) := by
  refine mM_intro [.ref (ad 0), .int (nI x), .int (nI y)] (by decide) rfl (Nat.le_of_ble_eq_true rfl) ?_
  intro pg en s0 mi below meth cd ls C hr hlk hml hP hS hl
  have hx := C.1
  have hb := C.2.1
  have hown := C.2.2.1
  have hts := C.2.2.2.1
  have hl : lv_has ls 4 [(0, .ref (ad 0)), (1, .int (nI x)), (2, .int (nI y))] := hl
  refine lv_iconst (v := nI 0) hx hb dX2_copyRow_0 (by decide) ?_
  refine lv_istore_n (lv' := [(3, .int (nI 0)), (0, .ref (ad 0)), (1, .int (nI x)), (2, .int (nI y))]) hx hb dX2_copyRow_1 rfl hl (by decide) rfl (fun ls hl => ?_)
  refine w_upM (α := Nat → Nat → Int32) (192) 2 4 (gA 7 ad s0.heap.size) s0.heap (fun i μ2 => [(0, .ref (ad 0)), (1, .int (nI x)), (2, .int (nI y)), (3, .int (nI i))]) (fun i μ2 H => mW D T ad μ2 H ∧ (∀ k, k < i → μ2 1 (y + k) = μ 1 (x + k)) ∧ (∀ k, (k < y ∨ y + i ≤ k) → μ2 1 k = μ 1 k) ∧ ∀ q, q ≠ 1 → μ2 q = μ q) ?_ ?_ 0 (by omega) μ (lv_sub hl [1, 2, 3, 0] rfl) ⟨hP, fun k hk => absurd hk (Nat.not_lt_zero k), fun _ _ => rfl, fun _ _ => rfl⟩ hS
  · intro i μ2 ls H locs hi_i hl hW hS ih_i
    have hl : lv_has ls 4 [(0, .ref (ad 0)), (1, .int (nI x)), (2, .int (nI y)), (3, .int (nI i))] := hl
    obtain ⟨hP, hcp, hk1, hoth⟩ := hW
    refine lv_iload_n hx hb dX2_copyRow_2 rfl (lv_at hl 3 rfl) ?_
    refine lv_sipush (v := nI 192) hx hb dX2_copyRow_3 (by decide) ?_
    refine w_icmpN_ge (tgt := 31) hx hb dX2_copyRow_6 (by decide) (by omega) (by omega) (fun c_97 => ?_) (fun c_97 => ?_)
    · exact absurd c_97 (by omega)
    · refine lv_aload_n hx hb dX2_copyRow_9 rfl (lv_at hl 0 rfl) ?_
      refine mg_w C hP dX2_copyRow_10 ?_
      refine lv_iload_n hx hb dX2_copyRow_13 rfl (lv_at hl 2 rfl) ?_
      refine lv_iload_n hx hb dX2_copyRow_14 rfl (lv_at hl 3 rfl) ?_
      refine w_iaddN hx hb dX2_copyRow_15 ?_
      refine lv_aload_n hx hb dX2_copyRow_16 rfl (lv_at hl 0 rfl) ?_
      refine mg_w C hP dX2_copyRow_17 ?_
      refine lv_iload_n hx hb dX2_copyRow_20 rfl (lv_at hl 1 rfl) ?_
      refine lv_iload_n hx hb dX2_copyRow_21 rfl (lv_at hl 3 rfl) ?_
      refine w_iaddN hx hb dX2_copyRow_22 ?_
      refine m_ald1 C hP (by omega) dX2_copyRow_23 ?_
      refine m_ast1 C hP hS (by omega) dX2_copyRow_24 (fun H locs hP hS => ?_)
      obtain ⟨μ_98, eμ_99⟩ : ∃ y9, y9 = mset μ2 1 (y + i) (μ2 1 (x + i)) := ⟨_, rfl⟩
      rw [← eμ_99] at hP
      refine lv_iinc (v := nI (i + 1)) (lv' := [(3, .int (nI (i + 1))), (0, .ref (ad 0)), (1, .int (nI x)), (2, .int (nI y))]) hx hb dX2_copyRow_25 hl (k := 3) rfl (w_inc _ _) (by decide) rfl (fun ls hl => ?_)
      refine lv_goto (tgt := 2) hx hb dX2_copyRow_28 (by decide) ?_
      refine ih_i μ_98 _ _ _ (lv_sub hl [1, 2, 3, 0] rfl) ⟨hP, ?_, ?_, ?_⟩ hS
      · intro k hk
        rw [eμ_99]
        by_cases hki : k = i
        · subst hki
          rw [mset_self]; exact hk1 _ (by omega)
        · rw [mset_ne (by omega)]; exact hcp k (by omega)
      · intro k hk
        rw [eμ_99, mset_ne (by omega)]; exact hk1 k (by omega)
      · intro q hq
        rw [eμ_99, mset_oth hq]; exact hoth q hq
  · intro μ2 ls H locs hl hW hS
    have hl : lv_has ls 4 [(0, .ref (ad 0)), (1, .int (nI x)), (2, .int (nI y)), (3, .int (nI 192))] := hl
    obtain ⟨hP, hcp, hk1, hoth⟩ := hW
    refine lv_iload_n hx hb dX2_copyRow_2 rfl (lv_at hl 3 rfl) ?_
    refine lv_sipush (v := nI 192) hx hb dX2_copyRow_3 (by decide) ?_
    refine w_icmpN_ge (tgt := 31) hx hb dX2_copyRow_6 (by decide) (by omega) (by omega) (fun c_100 => ?_) (fun c_100 => ?_)
    · exact mM_retV C hlk hr hS hP dX2_copyRow_31 ⟨rfl, hcp, hk1, hoth⟩
    · exact absurd c_100 (by omega)

theorem hdX2_tickOne : yX2_tickOne.cls = "LiarClocksModel" ∧ yX2_tickOne.cls ≠ "java/lang/invoke/MethodHandle" ∧ yX2_tickOne.cls ≠ "java/lang/invoke/VarHandle" ∧ (parseMethodDescriptor yX2_tickOne.desc).map (fun d => d.parameters.length) = some 0 := by decide +kernel
set_option maxHeartbeats 4000000 in
/-- tickOne -/
theorem mX2_tickOne (l : Launch) (D : va_G) (T : Nat → ClassId) (ad : Nat → Nat) (μ : Nat → Nat → Int32) (h : Vw) (hR : Rp (μ 1) 0 h) (hB : HB h) (hC : HC h) : ∀ sz, Met l yX2_tickOne (ws_ yX2_tickOne cX2_tickOne 3 none) ({ frames := 0, cells := 0, slots := 0, locals := 0 } : Room) (mPs D T ad μ [.ref (ad 0)] sz) (mQ D T ad (fun r μ' => r = none ∧ Rp (μ' 1) 0 (tickS h) ∧ (∀ k, 191 ≤ k → μ' 1 k = μ 1 k) ∧ ∀ q, q ≠ 1 → μ' q = μ q)) 0 0 (gA 7 ad sz) := by
  have h8 := hB.many8
  have h3 := hB.strike3
  have h6 := hB.alarms6
  refine mM_intro [.ref (ad 0)] (by decide) rfl (Nat.le_of_ble_eq_true rfl) ?_
  intro pg en s0 mi below meth cd ls C hr hlk hml hP hS hl
  have hx := C.1
  have hb := C.2.1
  have hown := C.2.2.1
  have hts := C.2.2.2.1
  have hl : lv_has ls 3 [(0, .ref (ad 0))] := hl
  refine lv_iconst (v := nI 0) hx hb dX2_tickOne_0 (by decide) ?_
  refine lv_istore_n (lv' := [(1, .int (nI 0)), (0, .ref (ad 0))]) hx hb dX2_tickOne_1 rfl hl (by decide) rfl (fun ls hl => ?_)
  refine w_upM (α := Nat → Nat → Int32) (nM h) 2 3 (gA 7 ad s0.heap.size) s0.heap (fun i μ2 => [(0, .ref (ad 0)), (1, .int (nI i))]) (fun i μ2 H => mW D T ad μ2 H ∧ Rp (μ2 1) 0 (goS h i) ∧ (∀ k, 191 ≤ k → μ2 1 k = μ 1 k) ∧ ∀ q, q ≠ 1 → μ2 q = μ q) ?_ ?_ 0 (by omega) μ (lv_sub hl [1, 0] rfl) ⟨hP, by rw [goS_0]; exact hR, fun _ _ => rfl, fun _ _ => rfl⟩ hS
  · intro i μ2 ls H locs hi_i hl hW hS ih_i
    have hl : lv_has ls 3 [(0, .ref (ad 0)), (1, .int (nI i))] := hl
    obtain ⟨hP, hR2, hk1, hoth⟩ := hW
    refine lv_iload_n hx hb dX2_tickOne_2 rfl (lv_at hl 1 rfl) ?_
    refine lv_aload_n hx hb dX2_tickOne_3 rfl (lv_at hl 0 rfl) ?_
    refine mg_w C hP dX2_tickOne_4 ?_
    refine lv_iconst (v := nI 0) hx hb dX2_tickOne_7 (by decide) ?_
    refine m_ald1 C hP (by omega) dX2_tickOne_8 ?_
    refine w_eqi (rp_many hR2 (by omega)) ?_
    refine w_eqi (y := nI (nM h)) ((goS_oth (by decide) (by decide)).trans hB.many) ?_
    refine w_icmpN_ge (tgt := 131) hx hb dX2_tickOne_9 (by decide) (by omega) (by omega) (fun c_101 => ?_) (fun c_101 => ?_)
    · exact absurd c_101 (by omega)
    · refine lv_aload_n hx hb dX2_tickOne_12 rfl (lv_at hl 0 rfl) ?_
      refine mg_w C hP dX2_tickOne_13 ?_
      refine lv_bipush (v := nI 35) hx hb dX2_tickOne_16 (by decide) ?_
      refine lv_iload_n hx hb dX2_tickOne_18 rfl (lv_at hl 1 rfl) ?_
      refine w_iaddN hx hb dX2_tickOne_19 ?_
      refine m_ald1 C hP (by omega) dX2_tickOne_20 ?_
      refine w_eqi (rp_5 hR2 (i) (by omega) (by omega)) ?_
      refine w_eqi (y := h 5 i) (goS_ge (Nat.le_refl i)) ?_
      refine lv_if_ne (tgt := 125) hx hb dX2_tickOne_21 (by decide) (fun c_102 => ?_) (fun c_102 => ?_)
      · refine lv_iinc (v := nI (i + 1)) (lv' := [(1, .int (nI (i + 1))), (0, .ref (ad 0))]) hx hb dX2_tickOne_125 hl (k := 1) rfl (w_inc _ _) (by decide) rfl (fun ls hl => ?_)
        refine lv_goto (tgt := 2) hx hb dX2_tickOne_128 (by decide) ?_
        refine ih_i μ2 _ _ _ (lv_sub hl [1, 0] rfl) ⟨hP, by rw [goS_skip c_102]; exact hR2, hk1, hoth⟩ hS
      · refine w_join (α := Int32) (fun v_103 => v_103 = moreS h i) (fun v_103 => F0 mi 89 ls (.int v_103 :: [])) (fun v_103 hv_103 => ?_) (fun hJv_103 => ?_)
        · subst hv_103
          refine lv_istore_n (lv' := [(2, .int (moreS h i)), (0, .ref (ad 0)), (1, .int (nI i))]) hx hb dX2_tickOne_89 rfl hl (by decide) rfl (fun ls hl => ?_)
          refine lv_aload_n hx hb dX2_tickOne_90 rfl (lv_at hl 1 rfl) ?_
          refine mg_w C hP dX2_tickOne_91 ?_
          refine lv_iconst (v := nI 3) hx hb dX2_tickOne_94 (by decide) ?_
          refine lv_iload_n hx hb dX2_tickOne_95 rfl (lv_at hl 2 rfl) ?_
          refine w_iaddN hx hb dX2_tickOne_96 ?_
          refine lv_dup2_11 hx hb dX2_tickOne_97 rfl rfl ?_
          refine m_ald1 C hP (by omega) dX2_tickOne_98 ?_
          refine w_eqi (rp_1 hR2 (i) (by omega) (by omega)) ?_
          refine w_eqi (y := h 1 i) (goS_ge (Nat.le_refl i)) ?_
          refine lv_aload_n hx hb dX2_tickOne_99 rfl (lv_at hl 1 rfl) ?_
          refine mg_w C hP dX2_tickOne_100 ?_
          refine lv_bipush (v := nI 11) hx hb dX2_tickOne_103 (by decide) ?_
          refine lv_iload_n hx hb dX2_tickOne_105 rfl (lv_at hl 2 rfl) ?_
          refine w_iaddN hx hb dX2_tickOne_106 ?_
          refine m_ald1 C hP (by omega) dX2_tickOne_107 ?_
          refine w_eqi (rp_2 hR2 (i) (by omega) (by omega)) ?_
          refine w_eqi (y := h 2 i) (goS_ge (Nat.le_refl i)) ?_
          refine lv_iload_n hx hb dX2_tickOne_108 rfl (lv_at hl 0 rfl) ?_
          refine lv_iadd hx hb dX2_tickOne_109 ?_
          refine lv_iadd hx hb dX2_tickOne_110 ?_
          refine m_ast1 C hP hS (by omega) dX2_tickOne_111 (fun H locs hP hS => ?_)
          obtain ⟨μ_106, eμ_107⟩ : ∃ y9, y9 = mset μ2 1 (3 + i) ((h 1 i) + ((h 2 i) + (moreS h i))) := ⟨_, rfl⟩
          rw [← eμ_107] at hP
          have hR3 : Rp (μ_106 1) 0 (mset (goS h i) 1 i (h 1 i + (h 2 i + moreS h i))) := by rw [eμ_107, mset_row]; exact rp_up1 hR2 i _ (by omega) (by omega)
          refine lv_aload_n hx hb dX2_tickOne_112 rfl (lv_at hl 1 rfl) ?_
          refine mg_w C hP dX2_tickOne_113 ?_
          refine lv_bipush (v := nI 19) hx hb dX2_tickOne_116 (by decide) ?_
          refine lv_iload_n hx hb dX2_tickOne_118 rfl (lv_at hl 2 rfl) ?_
          refine w_iaddN hx hb dX2_tickOne_119 ?_
          refine lv_dup2_11 hx hb dX2_tickOne_120 rfl rfl ?_
          refine m_ald1 C hP (by omega) dX2_tickOne_121 ?_
          refine w_eqi (rp_3 hR3 (i) (by omega) (by omega)) ?_
          refine w_eqi (y := h 3 i) ((mset_ne (Or.inl (by decide))).trans (goS_ge (Nat.le_refl i))) ?_
          refine lv_iload_n hx hb dX2_tickOne_122 rfl (lv_at hl 0 rfl) ?_
          refine lv_isub hx hb dX2_tickOne_123 ?_
          refine m_ast1 C hP hS (by omega) dX2_tickOne_124 (fun H locs hP hS => ?_)
          obtain ⟨μ_108, eμ_109⟩ : ∃ y9, y9 = mset μ_106 1 (19 + i) ((h 3 i) - (moreS h i)) := ⟨_, rfl⟩
          rw [← eμ_109] at hP
          refine lv_iinc (v := nI (i + 1)) (lv' := [(1, .int (nI (i + 1))), (2, .int (moreS h i)), (0, .ref (ad 0))]) hx hb dX2_tickOne_125 hl (k := 2) rfl (w_inc _ _) (by decide) rfl (fun ls hl => ?_)
          refine lv_goto (tgt := 2) hx hb dX2_tickOne_128 (by decide) ?_
          refine ih_i μ_108 _ _ _ (lv_sub hl [2, 0] rfl) ⟨hP, ?_, ?_, ?_⟩ hS
          · rw [eμ_109, mset_row, ← goS_step c_102]
            exact rp_up3 hR3 i _ (by omega) (by omega)
          · intro k hk
            rw [eμ_109, mset_ne (by omega), eμ_107, mset_ne (by omega)]; exact hk1 k hk
          · intro q hq
            rw [eμ_109, mset_oth hq, eμ_107, mset_oth hq]; exact hoth q hq
        · refine lv_aload_n hx hb dX2_tickOne_24 rfl (lv_at hl 0 rfl) ?_
          refine mg_w C hP dX2_tickOne_25 ?_
          refine lv_bipush (v := nI 19) hx hb dX2_tickOne_28 (by decide) ?_
          refine lv_iload_n hx hb dX2_tickOne_30 rfl (lv_at hl 1 rfl) ?_
          refine w_iaddN hx hb dX2_tickOne_31 ?_
          refine m_ald1 C hP (by omega) dX2_tickOne_32 ?_
          refine w_eqi (rp_3 hR2 (i) (by omega) (by omega)) ?_
          refine w_eqi (y := h 3 i) (goS_ge (Nat.le_refl i)) ?_
          refine lv_aload_n hx hb dX2_tickOne_33 rfl (lv_at hl 0 rfl) ?_
          refine mg_w C hP dX2_tickOne_34 ?_
          refine lv_iconst (v := nI 2) hx hb dX2_tickOne_37 (by decide) ?_
          refine m_ald1 C hP (by omega) dX2_tickOne_38 ?_
          refine w_eqi (rp_step hR2 (by omega)) ?_
          refine w_eqi (y := h 0 2) (goS_oth (by decide) (by decide)) ?_
          refine lv_icmp_le (tgt := 51) hx hb dX2_tickOne_39 (by decide) (fun c_104 => ?_) (fun c_104 => ?_)
          · refine lv_aload_n hx hb dX2_tickOne_51 rfl (lv_at hl 0 rfl) ?_
            refine mg_w C hP dX2_tickOne_52 ?_
            refine lv_bipush (v := nI 19) hx hb dX2_tickOne_55 (by decide) ?_
            refine lv_iload_n hx hb dX2_tickOne_57 rfl (lv_at hl 1 rfl) ?_
            refine w_iaddN hx hb dX2_tickOne_58 ?_
            refine m_ald1 C hP (by omega) dX2_tickOne_59 ?_
            refine w_eqi (rp_3 hR2 (i) (by omega) (by omega)) ?_
            refine w_eqi (y := h 3 i) (goS_ge (Nat.le_refl i)) ?_
            refine lv_aload_n hx hb dX2_tickOne_60 rfl (lv_at hl 0 rfl) ?_
            refine mg_w C hP dX2_tickOne_61 ?_
            refine lv_iconst (v := nI 2) hx hb dX2_tickOne_64 (by decide) ?_
            refine m_ald1 C hP (by omega) dX2_tickOne_65 ?_
            refine w_eqi (rp_step hR2 (by omega)) ?_
            refine w_eqi (y := h 0 2) (goS_oth (by decide) (by decide)) ?_
            refine lv_ineg hx hb dX2_tickOne_66 ?_
            refine lv_icmp_ge (tgt := 80) hx hb dX2_tickOne_67 (by decide) (fun c_105 => ?_) (fun c_105 => ?_)
            · refine lv_aload_n hx hb dX2_tickOne_80 rfl (lv_at hl 0 rfl) ?_
              refine mg_w C hP dX2_tickOne_81 ?_
              refine lv_bipush (v := nI 19) hx hb dX2_tickOne_84 (by decide) ?_
              refine lv_iload_n hx hb dX2_tickOne_86 rfl (lv_at hl 1 rfl) ?_
              refine w_iaddN hx hb dX2_tickOne_87 ?_
              refine m_ald1 C hP (by omega) dX2_tickOne_88 ?_
              refine w_eqi (rp_3 hR2 (i) (by omega) (by omega)) ?_
              refine w_eqi (y := h 3 i) (goS_ge (Nat.le_refl i)) ?_
              exact hJv_103 _ (by unfold moreS; rw [if_neg (Int32.not_lt.mpr c_104), if_neg (Int32.not_lt.mpr c_105)])
            · refine lv_aload_n hx hb dX2_tickOne_70 rfl (lv_at hl 0 rfl) ?_
              refine mg_w C hP dX2_tickOne_71 ?_
              refine lv_iconst (v := nI 2) hx hb dX2_tickOne_74 (by decide) ?_
              refine m_ald1 C hP (by omega) dX2_tickOne_75 ?_
              refine w_eqi (rp_step hR2 (by omega)) ?_
              refine w_eqi (y := h 0 2) (goS_oth (by decide) (by decide)) ?_
              refine lv_ineg hx hb dX2_tickOne_76 ?_
              refine lv_goto (tgt := 89) hx hb dX2_tickOne_77 (by decide) ?_
              exact hJv_103 _ (by unfold moreS; rw [if_neg (Int32.not_lt.mpr c_104), if_pos (Int32.not_le.mp c_105)])
          · refine lv_aload_n hx hb dX2_tickOne_42 rfl (lv_at hl 0 rfl) ?_
            refine mg_w C hP dX2_tickOne_43 ?_
            refine lv_iconst (v := nI 2) hx hb dX2_tickOne_46 (by decide) ?_
            refine m_ald1 C hP (by omega) dX2_tickOne_47 ?_
            refine w_eqi (rp_step hR2 (by omega)) ?_
            refine w_eqi (y := h 0 2) (goS_oth (by decide) (by decide)) ?_
            refine lv_goto (tgt := 89) hx hb dX2_tickOne_48 (by decide) ?_
            exact hJv_103 _ (by unfold moreS; rw [if_pos (Int32.not_le.mp c_104)])
  · intro μ2 ls H locs hl hW hS
    have hl : lv_has ls 3 [(0, .ref (ad 0)), (1, .int (nI (nM h)))] := hl
    obtain ⟨hP, hR2, hk1, hoth⟩ := hW
    refine lv_iload_n hx hb dX2_tickOne_2 rfl (lv_at hl 1 rfl) ?_
    refine lv_aload_n hx hb dX2_tickOne_3 rfl (lv_at hl 0 rfl) ?_
    refine mg_w C hP dX2_tickOne_4 ?_
    refine lv_iconst (v := nI 0) hx hb dX2_tickOne_7 (by decide) ?_
    refine m_ald1 C hP (by omega) dX2_tickOne_8 ?_
    refine w_eqi (rp_many hR2 (by omega)) ?_
    refine w_eqi (y := nI (nM h)) ((goS_oth (by decide) (by decide)).trans hB.many) ?_
    refine w_icmpN_ge (tgt := 131) hx hb dX2_tickOne_9 (by decide) (by omega) (by omega) (fun c_110 => ?_) (fun c_110 => ?_)
    · have hone : nI 1 = 1 := rfl
      refine lv_aload_n hx hb dX2_tickOne_131 rfl (lv_at hl 0 rfl) ?_
      refine mg_w C hP dX2_tickOne_132 ?_
      refine lv_sipush (v := nI 190) hx hb dX2_tickOne_135 (by decide) ?_
      refine lv_dup2_11 hx hb dX2_tickOne_138 rfl rfl ?_
      refine m_ald1 C hP (by omega) dX2_tickOne_139 ?_
      refine w_eqi (rp_times hR2 (by omega)) ?_
      refine w_eqi (y := h 0 14) (goS_oth (by decide) (by decide)) ?_
      refine lv_iconst (v := nI 1) hx hb dX2_tickOne_140 (by decide) ?_
      refine lv_iadd hx hb dX2_tickOne_141 ?_
      refine m_ast1 C hP hS (by omega) dX2_tickOne_142 (fun H locs hP hS => ?_)
      obtain ⟨μ_111, eμ_112⟩ : ∃ y9, y9 = mset μ2 1 (190) ((h 0 14) + (nI (1))) := ⟨_, rfl⟩
      rw [← eμ_112] at hP
      obtain ⟨h2, eh2⟩ : ∃ y, y = tmS (goS h (nM h)) := ⟨_, rfl⟩
      have hR3 : Rp (μ_111 1) 0 h2 := by
        rw [eμ_112, mset_row, eh2]; unfold tmS
        rw [goS_oth (by decide) (by decide)]
        exact rp_up014 hR2 _ (by omega)
      have t_oth : ∀ f c, f ≠ 0 → f ≠ 1 → f ≠ 3 → h2 f c = h f c := fun f c n0 n1 n3 => by rw [eh2]; unfold tmS; rw [mset_oth n0, goS_oth n1 n3]
      have t_al : h2 0 10 = nI (nA h) := by rw [eh2]; unfold tmS; rw [mset_ne (by decide), goS_oth (by decide) (by decide)]; exact hB.alarms
      have t_1 : ∀ q, ¬ h 5 q = 0 → h2 1 q = h 1 q := fun q hq => by rw [eh2]; unfold tmS; rw [mset_oth (by decide)]; unfold goS; rw [if_neg (fun z => hq z.2.2), if_neg (by omega)]
      refine lv_iconst (v := nI 0) hx hb dX2_tickOne_143 (by decide) ?_
      refine lv_istore_n (lv' := [(1, .int (nI 0)), (0, .ref (ad 0))]) hx hb dX2_tickOne_144 rfl hl (by decide) rfl (fun ls hl => ?_)
      refine w_upM (α := Nat → Nat → Int32) (nA h) 145 3 (gA 7 ad s0.heap.size) s0.heap (fun a μ4 => [(0, .ref (ad 0)), (1, .int (nI a))]) (fun a μ4 H => mW D T ad μ4 H ∧ Rp (μ4 1) 0 (rgS h2 a) ∧ (∀ k, 191 ≤ k → μ4 1 k = μ 1 k) ∧ ∀ q, q ≠ 1 → μ4 q = μ q) ?_ ?_ 0 (by omega) μ_111 (lv_sub hl [1, 0] rfl) ⟨hP, by rw [rgS_0]; exact hR3, fun k hk => by rw [eμ_112, mset_ne (by omega)]; exact hk1 k hk, fun q hq => by rw [eμ_112, mset_oth hq]; exact hoth q hq⟩ hS
      · intro a μ4 ls H locs hi_a hl hW hS ih_a
        have hl : lv_has ls 3 [(0, .ref (ad 0)), (1, .int (nI a))] := hl
        obtain ⟨hP, hR4, hk4, hoth4⟩ := hW
        obtain ⟨q, hq, eq⟩ := hB.of (a := a) (by omega)
        have e8 : (h2 8 a).toNatClampNeg = q := by rw [t_oth 8 a (by decide) (by decide) (by decide), eq]; exact nI_clamp (by omega)
        refine lv_iload_n hx hb dX2_tickOne_145 rfl (lv_at hl 1 rfl) ?_
        refine lv_aload_n hx hb dX2_tickOne_146 rfl (lv_at hl 0 rfl) ?_
        refine mg_w C hP dX2_tickOne_147 ?_
        refine lv_sipush (v := nI 171) hx hb dX2_tickOne_150 (by decide) ?_
        refine m_ald1 C hP (by omega) dX2_tickOne_153 ?_
        refine w_eqi (rp_alarms hR4 (by omega)) ?_
        refine w_eqi (y := nI (nA h)) ((rgS_oth (Or.inl (by decide))).trans t_al) ?_
        refine w_icmpN_ge (tgt := 248) hx hb dX2_tickOne_154 (by decide) (by omega) (by omega) (fun c_113 => ?_) (fun c_113 => ?_)
        · exact absurd c_113 (by omega)
        · refine w_join (α := Int32) (fun v_114 => v_114 = bI (decide (h 5 q = 0) && decide (h2 9 a ≤ h2 1 q))) (fun v_114 => F0 mi 213 ls (.int v_114 :: [])) (fun v_114 hv_114 => ?_) (fun hJv_114 => ?_)
          · subst hv_114
            refine lv_istore_n (lv' := [(2, .int (bI (decide (h 5 q = 0) && decide (h2 9 a ≤ h2 1 q)))), (0, .ref (ad 0)), (1, .int (nI a))]) hx hb dX2_tickOne_213 rfl hl (by decide) rfl (fun ls hl => ?_)
            refine lv_aload_n hx hb dX2_tickOne_214 rfl (lv_at hl 1 rfl) ?_
            refine mg_w C hP dX2_tickOne_215 ?_
            refine lv_sipush (v := nI 184) hx hb dX2_tickOne_218 (by decide) ?_
            refine lv_iload_n hx hb dX2_tickOne_221 rfl (lv_at hl 2 rfl) ?_
            refine w_iaddN hx hb dX2_tickOne_222 ?_
            refine lv_iload_n hx hb dX2_tickOne_223 rfl (lv_at hl 0 rfl) ?_
            refine w_join (α := Int32) (fun v_117 => v_117 = if h2 9 a ≤ h2 1 (h2 8 a).toNatClampNeg then 1 else h2 10 a) (fun v_117 => F0 mi 241 ls (.int v_117 :: .int (nI (184 + a)) :: .ref (ad 1) :: [])) (fun v_117 hv_117 => ?_) (fun hJv_117 => ?_)
            · refine m_ast1 C hP hS (by omega) dX2_tickOne_241 (fun H locs hP hS => ?_)
              obtain ⟨μ_119, eμ_120⟩ : ∃ y9, y9 = mset μ4 1 (184 + a) v_117 := ⟨_, rfl⟩
              rw [← eμ_120] at hP
              refine lv_iinc (v := nI (a + 1)) (lv' := [(1, .int (nI (a + 1))), (2, .int (bI (decide (h 5 q = 0) && decide (h2 9 a ≤ h2 1 q)))), (0, .ref (ad 0))]) hx hb dX2_tickOne_242 hl (k := 2) rfl (w_inc _ _) (by decide) rfl (fun ls hl => ?_)
              refine lv_goto (tgt := 145) hx hb dX2_tickOne_245 (by decide) ?_
              refine ih_a μ_119 _ _ _ (lv_sub hl [2, 0] rfl) ⟨hP, ?_, ?_, ?_⟩ hS
              · rw [eμ_120, mset_row, ← rgS_step hv_117]
                exact rp_up10 hR4 a _ (by omega) (by omega)
              · intro k hk
                rw [eμ_120, mset_ne (by omega)]; exact hk4 k hk
              · intro q hq
                rw [eμ_120, mset_oth hq]; exact hoth4 q hq
            · refine lv_if_eq (tgt := 231) hx hb dX2_tickOne_224 (by decide) (fun c_118 => ?_) (fun c_118 => ?_)
              · refine lv_aload_n hx hb dX2_tickOne_231 rfl (lv_at hl 1 rfl) ?_
                refine mg_w C hP dX2_tickOne_232 ?_
                refine lv_sipush (v := nI 184) hx hb dX2_tickOne_235 (by decide) ?_
                refine lv_iload_n hx hb dX2_tickOne_238 rfl (lv_at hl 2 rfl) ?_
                refine w_iaddN hx hb dX2_tickOne_239 ?_
                refine m_ald1 C hP (by omega) dX2_tickOne_240 ?_
                refine w_eqi (rp_10 hR4 (a) (by omega) (by omega)) ?_
                refine w_eqi (y := h2 10 a) (rgS_oth (Or.inr (Nat.le_refl a))) ?_
                exact hJv_117 _ (by
                      rw [e8]
                      split
                      · rename_i hle
                        have h5 : ¬ h 5 q = 0 := fun z => by
                          have := bI_eq0.mp c_118
                          rw [decide_eq_true z, decide_eq_true hle] at this
                          cases this
                        rw [t_1 q h5, t_oth 9 a (by decide) (by decide) (by decide)] at hle
                        rw [t_oth 10 a (by decide) (by decide) (by decide)]
                        exact hC a (by omega) (by rw [eq, nI_clamp (by omega)]; exact hle)
                      · rfl)
              · refine lv_iconst (v := 1) hx hb dX2_tickOne_227 (by decide) ?_
                refine lv_goto (tgt := 241) hx hb dX2_tickOne_228 (by decide) ?_
                exact hJv_117 _ (by
                      have := bI_ne0.mp c_118
                      simp only [Bool.and_eq_true, decide_eq_true_eq] at this
                      rw [e8, if_pos this.2])
          · refine lv_aload_n hx hb dX2_tickOne_157 rfl (lv_at hl 0 rfl) ?_
            refine mg_w C hP dX2_tickOne_158 ?_
            refine lv_bipush (v := nI 35) hx hb dX2_tickOne_161 (by decide) ?_
            refine lv_aload_n hx hb dX2_tickOne_163 rfl (lv_at hl 0 rfl) ?_
            refine mg_w C hP dX2_tickOne_164 ?_
            refine lv_sipush (v := nI 172) hx hb dX2_tickOne_167 (by decide) ?_
            refine lv_iload_n hx hb dX2_tickOne_170 rfl (lv_at hl 1 rfl) ?_
            refine w_iaddN hx hb dX2_tickOne_171 ?_
            refine m_ald1 C hP (by omega) dX2_tickOne_172 ?_
            refine w_eqi (rp_8 hR4 (a) (by omega) (by omega)) ?_
            refine w_eqi (y := nI (q)) ((rgS_oth (Or.inl (by decide))).trans ((t_oth 8 a (by decide) (by decide) (by decide)).trans eq)) ?_
            refine w_iaddN hx hb dX2_tickOne_173 ?_
            refine m_ald1 C hP (by omega) dX2_tickOne_174 ?_
            refine w_eqi (rp_5 hR4 (q) (by omega) (by omega)) ?_
            refine w_eqi (y := h 5 q) ((rgS_oth (Or.inl (by decide))).trans (t_oth 5 q (by decide) (by decide) (by decide))) ?_
            refine lv_if_ne (tgt := 212) hx hb dX2_tickOne_175 (by decide) (fun c_115 => ?_) (fun c_115 => ?_)
            · refine lv_iconst (v := 0) hx hb dX2_tickOne_212 (by decide) ?_
              exact hJv_114 _ (by rw [decide_eq_false c_115]; rfl)
            · refine lv_aload_n hx hb dX2_tickOne_178 rfl (lv_at hl 0 rfl) ?_
              refine mg_w C hP dX2_tickOne_179 ?_
              refine lv_iconst (v := nI 3) hx hb dX2_tickOne_182 (by decide) ?_
              refine lv_aload_n hx hb dX2_tickOne_183 rfl (lv_at hl 0 rfl) ?_
              refine mg_w C hP dX2_tickOne_184 ?_
              refine lv_sipush (v := nI 172) hx hb dX2_tickOne_187 (by decide) ?_
              refine lv_iload_n hx hb dX2_tickOne_190 rfl (lv_at hl 1 rfl) ?_
              refine w_iaddN hx hb dX2_tickOne_191 ?_
              refine m_ald1 C hP (by omega) dX2_tickOne_192 ?_
              refine w_eqi (rp_8 hR4 (a) (by omega) (by omega)) ?_
              refine w_eqi (y := nI (q)) ((rgS_oth (Or.inl (by decide))).trans ((t_oth 8 a (by decide) (by decide) (by decide)).trans eq)) ?_
              refine w_iaddN hx hb dX2_tickOne_193 ?_
              refine m_ald1 C hP (by omega) dX2_tickOne_194 ?_
              refine w_eqi (rp_1 hR4 (q) (by omega) (by omega)) ?_
              refine w_eqi (y := h2 1 q) (rgS_oth (Or.inl (by decide))) ?_
              refine lv_aload_n hx hb dX2_tickOne_195 rfl (lv_at hl 0 rfl) ?_
              refine mg_w C hP dX2_tickOne_196 ?_
              refine lv_sipush (v := nI 178) hx hb dX2_tickOne_199 (by decide) ?_
              refine lv_iload_n hx hb dX2_tickOne_202 rfl (lv_at hl 1 rfl) ?_
              refine w_iaddN hx hb dX2_tickOne_203 ?_
              refine m_ald1 C hP (by omega) dX2_tickOne_204 ?_
              refine w_eqi (rp_9 hR4 (a) (by omega) (by omega)) ?_
              refine w_eqi (y := h2 9 a) (rgS_oth (Or.inl (by decide))) ?_
              refine lv_icmp_lt (tgt := 212) hx hb dX2_tickOne_205 (by decide) (fun c_116 => ?_) (fun c_116 => ?_)
              · refine lv_iconst (v := 0) hx hb dX2_tickOne_212 (by decide) ?_
                exact hJv_114 _ (by rw [decide_eq_true c_115, decide_eq_false (Int32.not_le.mpr c_116)]; rfl)
              · refine lv_iconst (v := 1) hx hb dX2_tickOne_208 (by decide) ?_
                refine lv_goto (tgt := 213) hx hb dX2_tickOne_209 (by decide) ?_
                exact hJv_114 _ (by rw [decide_eq_true c_115, decide_eq_true (Int32.not_lt.mp c_116)]; rfl)
      · intro μ4 ls H locs hl hW hS
        have hl : lv_has ls 3 [(0, .ref (ad 0)), (1, .int (nI (nA h)))] := hl
        obtain ⟨hP, hR4, hk4, hoth4⟩ := hW
        refine lv_iload_n hx hb dX2_tickOne_145 rfl (lv_at hl 1 rfl) ?_
        refine lv_aload_n hx hb dX2_tickOne_146 rfl (lv_at hl 0 rfl) ?_
        refine mg_w C hP dX2_tickOne_147 ?_
        refine lv_sipush (v := nI 171) hx hb dX2_tickOne_150 (by decide) ?_
        refine m_ald1 C hP (by omega) dX2_tickOne_153 ?_
        refine w_eqi (rp_alarms hR4 (by omega)) ?_
        refine w_eqi (y := nI (nA h)) ((rgS_oth (Or.inl (by decide))).trans t_al) ?_
        refine w_icmpN_ge (tgt := 248) hx hb dX2_tickOne_154 (by decide) (by omega) (by omega) (fun c_121 => ?_) (fun c_121 => ?_)
        · exact mM_retV C hlk hr hS hP dX2_tickOne_248 ⟨rfl, by unfold tickS; rw [← eh2]; exact hR4, hk4, hoth4⟩
        · exact absurd c_121 (by omega)
    · exact absurd c_110 (by omega)

