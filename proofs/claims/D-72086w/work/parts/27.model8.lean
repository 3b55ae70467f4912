/-! THE MODEL: join, chance, the past, trials, images -/
set_option maxRecDepth 100000
theorem hdX2_join : yX2_join.cls = "LiarClocksModel" ∧ yX2_join.cls ≠ "java/lang/invoke/MethodHandle" ∧ yX2_join.cls ≠ "java/lang/invoke/VarHandle" ∧ (parseMethodDescriptor yX2_join.desc).map (fun d => d.parameters.length) = some 1 := by decide +kernel
set_option maxHeartbeats 4000000 in
/-- join -/
theorem mX2_join (l : Launch) (D : va_G) (T : Nat → ClassId) (ad : Nat → Nat) (μ : Nat → Nat → Int32) (a : Ab) (B : Int) (hM : MS μ a) (hI : AI a B) (hB0 : B ≤ 400000000) (hB1 : 0 ≤ B) (c : Int32) : ∀ sz, Met l yX2_join (ws_ yX2_join cX2_join 5 (some .int)) ({ frames := 2, cells := 0, slots := 0, locals := 46 } : Room) (mPs D T ad μ [.ref (ad 0), .int c] sz) (mQ D T ad (fun r μ' => r = some (.int (joinQ a c).1) ∧ MS μ' (joinQ a c).2)) 0 0 (gA 7 ad sz) := by
  have hR := hM.r
  have hB := hI.1.1
  have hA := hI.1.2.2.1
  have h8 := hB.many8
  have h3 := hB.strike3
  have h6 := hB.alarms6
  refine mM_intro [.ref (ad 0), .int c] (by decide) rfl (Nat.le_of_ble_eq_true rfl) ?_
  intro pg en s0 mi below meth cd ls C hr hlk hml hP hS hl
  have hx := C.1
  have hb := C.2.1
  have hown := C.2.2.1
  have hts := C.2.2.2.1
  have hl : lv_has ls 5 [(0, .ref (ad 0)), (1, .int c)] := hl
  have k16 := hM.kn16
  have t200 := hM.tn200
  have b20 := hM.bn20
  have hC := hI.1.2.1
  refine lv_aload_n hx hb dX2_join_0 rfl (lv_at hl 0 rfl) ?_
  refine lv_iload_n hx hb dX2_join_1 rfl (lv_at hl 1 rfl) ?_
  refine m_cR [.int c] C hml hl.1 hP (mX2_isClock l D T ad μ (aH a) hR hB c) (lw_V q954 q956 qs57 q71 q957) hdX2_isClock ⟨rfl, rfl⟩ ⟨Nat.le_of_ble_eq_true rfl, Nat.le_of_ble_eq_true rfl⟩ rfl (Nat.le_of_ble_eq_true rfl) dX2_join_2 ⟨Nat.zero_le _, Nat.zero_le _⟩ ?_
  refine lv_if_ne (tgt := 11) hx hb dX2_join_5 (by decide) (fun c_317 => ?_) (fun c_317 => ?_)
  · have hic : isC (aH a) c = true := bI_ne0.mp c_317
    obtain ⟨k, hk, ek⟩ := isC_spec hic
    subst ek
    have clk : (nI k).toNatClampNeg = k := nI_clamp (by omega)
    refine lv_iconst (v := nI 0) hx hb dX2_join_11 (by decide) ?_
    refine lv_istore_n (lv' := [(2, .int (nI 0)), (0, .ref (ad 0)), (1, .int (nI k))]) hx hb dX2_join_12 rfl hl (by decide) rfl (fun ls hl => ?_)
    refine lv_iconst (v := nI 0) hx hb dX2_join_13 (by decide) ?_
    refine lv_istore_n (lv' := [(3, .int (nI 0)), (2, .int (nI 0)), (0, .ref (ad 0)), (1, .int (nI k))]) hx hb dX2_join_14 rfl hl (by decide) rfl (fun ls hl => ?_)
    refine w_upM (α := Nat → Nat → Int32) (nM (aH a)) 15 5 (gA 7 ad s0.heap.size) s0.heap (fun j μ2 => [(0, .ref (ad 0)), (1, .int (nI k)), (2, .int (nI (fa_cnt (fun k => decide (aH a 5 k = 0)) j))), (3, .int (nI j))]) (fun j μ2 H => mW D T ad μ2 H ∧ (∀ q, q < fa_cnt (fun k => decide (aH a 5 k = 0)) j → μ2 5 q = jnS (aH a) k j q) ∧ ∀ q, q ≠ 5 → μ2 q = μ q) ?_ ?_ 0 (by omega) μ (lv_sub hl [2, 3, 1, 0] rfl) ⟨hP, fun q hq => absurd hq (Nat.not_lt_zero q), fun _ _ => rfl⟩ hS
    · intro j μ2 ls H locs hi_j hl hW hS ih_j
      have hl : lv_has ls 5 [(0, .ref (ad 0)), (1, .int (nI k)), (2, .int (nI (fa_cnt (fun k => decide (aH a 5 k = 0)) j))), (3, .int (nI j))] := hl
      obtain ⟨hP, hord, hoth⟩ := hW
      have hR2 : Rp (μ2 1) 0 (aH a) := by rw [hoth 1 (by decide)]; exact hR
      have hcl : fa_cnt (fun k => decide (aH a 5 k = 0)) j ≤ j := fa_cnt_le _ _
      refine lv_iload_n hx hb dX2_join_15 rfl (lv_at hl 3 rfl) ?_
      refine lv_aload_n hx hb dX2_join_16 rfl (lv_at hl 0 rfl) ?_
      refine mg_w C hP dX2_join_17 ?_
      refine lv_iconst (v := nI 0) hx hb dX2_join_20 (by decide) ?_
      refine m_ald1 C hP (by omega) dX2_join_21 ?_
      refine w_eqi (rp_many hR2 (by omega)) ?_
      refine w_eqi (hB.many) ?_
      refine w_icmpN_ge (tgt := 58) hx hb dX2_join_22 (by decide) (by omega) (by omega) (fun c_318 => ?_) (fun c_318 => ?_)
      · exact absurd c_318 (by omega)
      · refine lv_aload_n hx hb dX2_join_25 rfl (lv_at hl 0 rfl) ?_
        refine mg_w C hP dX2_join_26 ?_
        refine lv_bipush (v := nI 35) hx hb dX2_join_29 (by decide) ?_
        refine lv_iload_n hx hb dX2_join_31 rfl (lv_at hl 3 rfl) ?_
        refine w_iaddN hx hb dX2_join_32 ?_
        refine m_ald1 C hP (by omega) dX2_join_33 ?_
        refine w_eqi (rp_5 hR2 (j) (by omega) (by omega)) ?_
        refine lv_if_ne (tgt := 52) hx hb dX2_join_34 (by decide) (fun c_319 => ?_) (fun c_319 => ?_)
        · refine lv_iinc (v := nI (j + 1)) (lv' := [(3, .int (nI (j + 1))), (0, .ref (ad 0)), (1, .int (nI k)), (2, .int (nI (fa_cnt (fun k => decide (aH a 5 k = 0)) j)))]) hx hb dX2_join_52 hl (k := 3) rfl (w_inc _ _) (by decide) rfl (fun ls hl => ?_)
          refine lv_goto (tgt := 15) hx hb dX2_join_55 (by decide) ?_
          have ecn : fa_cnt (fun k => decide (aH a 5 k = 0)) (j + 1) = fa_cnt (fun k => decide (aH a 5 k = 0)) j := fa_cnt_no (p := (fun k => decide (aH a 5 k = 0))) (decide_eq_false c_319)
          have ejn : jnS (aH a) k (j + 1) = jnS (aH a) k j := if_neg c_319
          refine ih_j μ2 _ _ _ ?_ ⟨hP, ?_, hoth⟩ hS
          · show lv_has ls 5 [(0, .ref (ad 0)), (1, .int (nI k)), (2, .int (nI (fa_cnt (fun k => decide (aH a 5 k = 0)) (j + 1)))), (3, .int (nI (j + 1)))]
            rw [ecn]; exact lv_sub hl [1, 2, 3, 0] rfl
          · rw [ecn, ejn]; exact hord
        · refine lv_aload_n hx hb dX2_join_37 rfl (lv_at hl 0 rfl) ?_
          refine lv_iload_n hx hb dX2_join_38 rfl (lv_at hl 2 rfl) ?_
          refine lv_aload_n hx hb dX2_join_39 rfl (lv_at hl 0 rfl) ?_
          refine lv_iconst (v := nI 0) hx hb dX2_join_40 (by decide) ?_
          refine lv_iload_n hx hb dX2_join_41 rfl (lv_at hl 3 rfl) ?_
          refine lv_iload_n hx hb dX2_join_42 rfl (lv_at hl 1 rfl) ?_
          refine m_cR [.int (nI 0), .int (nI j), .int (nI k)] C hml hl.1 hP (mX2_heardOf l D T ad μ2 (aH a) 0 hR2 hB (by omega) j k (by omega) (by omega)) (lw_V q929 q931 qs51 q71 q932) hdX2_heardOf ⟨rfl, rfl⟩ ⟨Nat.le_of_ble_eq_true rfl, Nat.le_of_ble_eq_true rfl⟩ rfl (Nat.le_of_ble_eq_true rfl) dX2_join_43 ⟨Nat.zero_le _, Nat.zero_le _⟩ ?_
          refine m_cM [.int (nI (fa_cnt (fun k => decide (aH a 5 k = 0)) j)), .int (heardS (aH a) k j)] C hml hl.1 hP hS (mX2_put l D T ad μ2 (fa_cnt (fun k => decide (aH a 5 k = 0)) j) (heardS (aH a) k j) (by omega)) (lw_V q933 q935 qs52 q71 q936) hdX2_put ⟨rfl, rfl⟩ ⟨Nat.le_of_ble_eq_true rfl, Nat.le_of_ble_eq_true rfl⟩ rfl (Nat.le_of_ble_eq_true rfl) dX2_join_46 ⟨Nat.zero_le _, Nat.zero_le _⟩ (fun v_320 μ_321 H locs hp_322 hP hS => ?_)
          obtain ⟨rfl, h5_323, ho_324⟩ := hp_322
          have hR_325 : Rp (μ_321 1) 0 (aH a) := by rw [ho_324 1 (by decide)]; exact hR2
          refine lv_iinc (v := nI (fa_cnt (fun k => decide (aH a 5 k = 0)) j + 1)) (lv' := [(2, .int (nI (fa_cnt (fun k => decide (aH a 5 k = 0)) j + 1))), (0, .ref (ad 0)), (1, .int (nI k)), (3, .int (nI j))]) hx hb dX2_join_49 hl (k := 2) rfl (w_inc _ _) (by decide) rfl (fun ls hl => ?_)
          refine lv_iinc (v := nI (j + 1)) (lv' := [(3, .int (nI (j + 1))), (2, .int (nI (fa_cnt (fun k => decide (aH a 5 k = 0)) j + 1))), (0, .ref (ad 0)), (1, .int (nI k))]) hx hb dX2_join_52 hl (k := 3) rfl (w_inc _ _) (by decide) rfl (fun ls hl => ?_)
          refine lv_goto (tgt := 15) hx hb dX2_join_55 (by decide) ?_
          have ecn : fa_cnt (fun k => decide (aH a 5 k = 0)) (j + 1) = fa_cnt (fun k => decide (aH a 5 k = 0)) j + 1 := fa_cnt_yes (p := (fun k => decide (aH a 5 k = 0))) (decide_eq_true c_319)
          have ejn : jnS (aH a) k (j + 1) = insS (jnS (aH a) k j) (fa_cnt (fun k => decide (aH a 5 k = 0)) j) (heardS (aH a) k j) := if_pos c_319
          refine ih_j μ_321 _ _ _ ?_ ⟨hP, ?_, ?_⟩ hS
          · show lv_has ls 5 [(0, .ref (ad 0)), (1, .int (nI k)), (2, .int (nI (fa_cnt (fun k => decide (aH a 5 k = 0)) (j + 1)))), (3, .int (nI (j + 1)))]
            rw [ecn]; exact lv_sub hl [2, 3, 1, 0] rfl
          · rw [ecn, ejn]
            intro q hq
            rw [h5_323]; exact insS_congr _ _ _ _ hord q (by omega)
          · intro q hq
            rw [ho_324 q hq, hoth q hq]
    · intro μ2 ls H locs hl hW hS
      have hl : lv_has ls 5 [(0, .ref (ad 0)), (1, .int (nI k)), (2, .int (nI (fa_cnt (fun k => decide (aH a 5 k = 0)) (nM (aH a))))), (3, .int (nI (nM (aH a))))] := hl
      obtain ⟨hP, hord, hoth⟩ := hW
      have hR2 : Rp (μ2 1) 0 (aH a) := by rw [hoth 1 (by decide)]; exact hR
      have hg8 : goN (aH a) ≤ 8 := cnt_le8 h8
      have egn : fa_cnt (fun k => decide (aH a 5 k = 0)) (nM (aH a)) = goN (aH a) := rfl
      rw [egn] at hl hord
      have hM2 : MS μ2 a := hM.o5 hoth
      refine lv_iload_n hx hb dX2_join_15 rfl (lv_at hl 3 rfl) ?_
      refine lv_aload_n hx hb dX2_join_16 rfl (lv_at hl 0 rfl) ?_
      refine mg_w C hP dX2_join_17 ?_
      refine lv_iconst (v := nI 0) hx hb dX2_join_20 (by decide) ?_
      refine m_ald1 C hP (by omega) dX2_join_21 ?_
      refine w_eqi (rp_many hR2 (by omega)) ?_
      refine w_eqi (hB.many) ?_
      refine w_icmpN_ge (tgt := 58) hx hb dX2_join_22 (by decide) (by omega) (by omega) (fun c_326 => ?_) (fun c_326 => ?_)
      · refine lv_aload_n hx hb dX2_join_58 rfl (lv_at hl 0 rfl) ?_
        refine mg_w C hP dX2_join_59 ?_
        refine lv_bipush (v := nI 35) hx hb dX2_join_62 (by decide) ?_
        refine lv_iload_n hx hb dX2_join_64 rfl (lv_at hl 1 rfl) ?_
        refine w_iaddN hx hb dX2_join_65 ?_
        refine m_ald1 C hP (by omega) dX2_join_66 ?_
        refine w_eqi (rp_5 hR2 (k) (by omega) (by omega)) ?_
        refine lv_if_eq (tgt := 84) hx hb dX2_join_67 (by decide) (fun c_327 => ?_) (fun c_327 => ?_)
        · refine lv_ldc hx hb hown (hts _ q1028) dX2_join_84 ?_
          exact mM_retI C hlk hr hS hP dX2_join_86 ⟨by unfold joinQ; rw [if_pos hic, clk, if_pos (Or.inl c_327)], by unfold joinQ; rw [if_pos hic, clk, if_pos (Or.inl c_327)]; exact hM2⟩
        · refine lv_iload_n hx hb dX2_join_70 rfl (lv_at hl 2 rfl) ?_
          refine lv_iconst (v := nI 2) hx hb dX2_join_71 (by decide) ?_
          refine lv_aload_n hx hb dX2_join_72 rfl (lv_at hl 0 rfl) ?_
          refine mg_w C hP dX2_join_73 ?_
          refine lv_iconst (v := nI 1) hx hb dX2_join_76 (by decide) ?_
          refine m_ald1 C hP (by omega) dX2_join_77 ?_
          refine w_eqi (rp_strike hR2 (by omega)) ?_
          refine w_eqi (hB.strike) ?_
          refine w_imulN hx hb dX2_join_78 ?_
          refine lv_iconst (v := nI 1) hx hb dX2_join_79 (by decide) ?_
          refine w_iaddN hx hb dX2_join_80 ?_
          refine w_icmpN_ge (tgt := 87) hx hb dX2_join_81 (by decide) (by omega) (by omega) (fun c_328 => ?_) (fun c_328 => ?_)
          · have hng : ¬ goN (aH a) < 2 * nF (aH a) + 1 := by omega
            have hcond : ¬ (aH a 5 k = 0 ∨ goN (aH a) < 2 * nF (aH a) + 1) := fun q => q.elim c_327 hng
            have hbd := joinAt_bd hA hB0 hB1 h8 (c := k) (by omega) hng
            refine lv_aload_n hx hb dX2_join_87 rfl (lv_at hl 0 rfl) ?_
            refine m_cM [] C hml hl.1 hP hS (mX2_remember l D T ad μ2 a hM2) (lw_V q992 q994 qs62 q71 q995) hdX2_remember ⟨rfl, rfl⟩ ⟨Nat.le_of_ble_eq_true rfl, Nat.le_of_ble_eq_true rfl⟩ rfl (Nat.le_of_ble_eq_true rfl) dX2_join_88 ⟨Nat.zero_le _, Nat.zero_le _⟩ (fun v_329 μ_330 H locs hp_331 hP hS => ?_)
            obtain ⟨rfl, hM_332o, hM_332⟩ := hp_331
            have hR_333 : Rp (μ_330 1) 0 (aH a) := hM_332.r
            have hor5 : ∀ q, q < goN (aH a) → μ_330 5 q = jnS (aH a) k (nM (aH a)) q := fun q hq => by rw [hM_332o 5 (by decide) (by decide)]; exact hord q hq
            refine lv_aload_n hx hb dX2_join_91 rfl (lv_at hl 0 rfl) ?_
            refine mg_w C hP dX2_join_92 ?_
            refine lv_iconst (v := nI 3) hx hb dX2_join_95 (by decide) ?_
            refine lv_iload_n hx hb dX2_join_96 rfl (lv_at hl 1 rfl) ?_
            refine w_iaddN hx hb dX2_join_97 ?_
            refine lv_aload_n hx hb dX2_join_98 rfl (lv_at hl 0 rfl) ?_
            refine lv_iconst (v := nI 0) hx hb dX2_join_99 (by decide) ?_
            refine lv_iload_n hx hb dX2_join_100 rfl (lv_at hl 2 rfl) ?_
            refine m_cR [.int (nI 0), .int (nI (goN (aH a)))] C hml hl.1 hP (mX2_middle l D T ad μ_330 (aH a) 0 hR_333 hB (by omega) (goN (aH a)) (by omega) (by omega) (by rw [hor5 _ (by omega), hor5 _ (by omega)]; exact hbd.1)) (lw_V q937 q939 qs53 q71 q940) hdX2_middle ⟨rfl, rfl⟩ ⟨Nat.le_of_ble_eq_true rfl, Nat.le_of_ble_eq_true rfl⟩ rfl (Nat.le_of_ble_eq_true rfl) dX2_join_101 ⟨Nat.zero_le _, Nat.zero_le _⟩ ?_
            refine w_eqi (y := joinAt (aH a) k) (midS_congr hor5 (by omega)) ?_
            refine m_ast1 C hP hS (by omega) dX2_join_104 (fun H locs hP hS => ?_)
            obtain ⟨μ_334, eμ_335⟩ : ∃ y9, y9 = mset μ_330 1 (3 + k) (joinAt (aH a) k) := ⟨_, rfl⟩
            rw [← eμ_335] at hP
            have hRa : Rp (μ_334 1) 0 (mset (aH a) 1 k (joinAt (aH a) k)) := by rw [eμ_335, mset_row]; exact rp_up1 hR_333 k _ (by omega) (by omega)
            refine lv_aload_n hx hb dX2_join_105 rfl (lv_at hl 0 rfl) ?_
            refine mg_w C hP dX2_join_106 ?_
            refine lv_bipush (v := nI 19) hx hb dX2_join_109 (by decide) ?_
            refine lv_iload_n hx hb dX2_join_111 rfl (lv_at hl 1 rfl) ?_
            refine w_iaddN hx hb dX2_join_112 ?_
            refine lv_iconst (v := nI 0) hx hb dX2_join_113 (by decide) ?_
            refine m_ast1 C hP hS (by omega) dX2_join_114 (fun H locs hP hS => ?_)
            obtain ⟨μ_336, eμ_337⟩ : ∃ y9, y9 = mset μ_334 1 (19 + k) (nI (0)) := ⟨_, rfl⟩
            rw [← eμ_337] at hP
            have hRb : Rp (μ_336 1) 0 (mset (mset (aH a) 1 k (joinAt (aH a) k)) 3 k 0) := by rw [eμ_337, mset_row]; exact rp_up3 hRa k _ (by omega) (by omega)
            refine lv_aload_n hx hb dX2_join_115 rfl (lv_at hl 0 rfl) ?_
            refine mg_w C hP dX2_join_116 ?_
            refine lv_bipush (v := nI 35) hx hb dX2_join_119 (by decide) ?_
            refine lv_iload_n hx hb dX2_join_121 rfl (lv_at hl 1 rfl) ?_
            refine w_iaddN hx hb dX2_join_122 ?_
            refine lv_iconst (v := nI 0) hx hb dX2_join_123 (by decide) ?_
            refine m_ast1 C hP hS (by omega) dX2_join_124 (fun H locs hP hS => ?_)
            obtain ⟨μ_338, eμ_339⟩ : ∃ y9, y9 = mset μ_336 1 (35 + k) (nI (0)) := ⟨_, rfl⟩
            rw [← eμ_339] at hP
            obtain ⟨h2, eh2⟩ : ∃ y, y = joinH (aH a) k := ⟨_, rfl⟩
            have hRc : Rp (μ_338 1) 0 h2 := by rw [eμ_339, mset_row, eh2]; exact rp_up5 hRb k _ (by omega) (by omega)
            have q9 : ∀ j, j ≠ 1 → μ_338 j = μ_330 j := fun j j1 => by rw [eμ_339, mset_oth j1, eμ_337, mset_oth j1, eμ_335, mset_oth j1]
            have q1 : ∀ k, 190 < k → μ_338 1 k = μ_330 1 k := fun k hk => by rw [eμ_339, mset_ne (Or.inr (by omega)), eμ_337, mset_ne (Or.inr (by omega)), eμ_335, mset_ne (Or.inr (by omega))]
            have t_oth : ∀ f c, f ≠ 1 → f ≠ 3 → f ≠ 5 → h2 f c = aH a f c := fun f c n1 n3 n5 => by rw [eh2]; exact jn_oth n1 n3 n5
            have t_al : h2 0 10 = nI (nA (aH a)) := by rw [t_oth 0 10 (by decide) (by decide) (by decide)]; exact hB.alarms
            have t_1 : ∀ q, q ≠ k → h2 1 q = aH a 1 q := fun q hq => by rw [eh2]; unfold joinH; rw [mset_oth (by decide), mset_oth (by decide), mset_ne (Or.inr hq)]
            have t_k : h2 1 k = joinAt (aH a) k := by rw [eh2]; unfold joinH; rw [mset_oth (by decide), mset_oth (by decide), mset_self]
            refine lv_iconst (v := nI 0) hx hb dX2_join_125 (by decide) ?_
            refine lv_istore_n (lv' := [(3, .int (nI 0)), (0, .ref (ad 0)), (1, .int (nI k)), (2, .int (nI (goN (aH a))))]) hx hb dX2_join_126 rfl hl (by decide) rfl (fun ls hl => ?_)
            refine w_upM (α := Nat → Nat → Int32) (nA (aH a)) 127 5 (gA 7 ad s0.heap.size) s0.heap (fun u μ5 => [(0, .ref (ad 0)), (1, .int (nI k)), (3, .int (nI u))]) (fun u μ5 H => mW D T ad μ5 H ∧ Rp (μ5 1) 0 (rgS h2 u) ∧ (∀ k, 190 < k → μ5 1 k = μ_330 1 k) ∧ ∀ q, q ≠ 1 → μ5 q = μ_330 q) ?_ ?_ 0 (by omega) μ_338 (lv_sub hl [1, 2, 0] rfl) ⟨hP, by rw [rgS_0]; exact hRc, q1, q9⟩ hS
            · intro u μ5 ls H locs hi_u hl hW hS ih_u
              have hl : lv_has ls 5 [(0, .ref (ad 0)), (1, .int (nI k)), (3, .int (nI u))] := hl
              obtain ⟨hP, hR4, hk4, hoth4⟩ := hW
              obtain ⟨q, hq, eq⟩ := hB.of (a := u) (by omega)
              have e8 : (h2 8 u).toNatClampNeg = q := by rw [t_oth 8 u (by decide) (by decide) (by decide), eq]; exact nI_clamp (by omega)
              refine lv_iload_n hx hb dX2_join_127 rfl (lv_at hl 2 rfl) ?_
              refine lv_aload_n hx hb dX2_join_128 rfl (lv_at hl 0 rfl) ?_
              refine mg_w C hP dX2_join_129 ?_
              refine lv_sipush (v := nI 171) hx hb dX2_join_132 (by decide) ?_
              refine m_ald1 C hP (by omega) dX2_join_135 ?_
              refine w_eqi (rp_alarms hR4 (by omega)) ?_
              refine w_eqi (y := nI (nA (aH a))) ((rgS_oth (Or.inl (by decide))).trans t_al) ?_
              refine w_icmpN_ge (tgt := 216) hx hb dX2_join_136 (by decide) (by omega) (by omega) (fun c_340 => ?_) (fun c_340 => ?_)
              · exact absurd c_340 (by omega)
              · refine w_join (α := Int32) (fun v_341 => v_341 = bI (decide (q = k) && decide (h2 9 u ≤ h2 1 k))) (fun v_341 => F0 mi 179 ls (.int v_341 :: [])) (fun v_341 hv_341 => ?_) (fun hJv_341 => ?_)
                · subst hv_341
                  refine lv_istore (lv' := [(4, .int (bI (decide (q = k) && decide (h2 9 u ≤ h2 1 k)))), (0, .ref (ad 0)), (1, .int (nI k)), (3, .int (nI u))]) hx hb dX2_join_179 hl (by decide) rfl (fun ls hl => ?_)
                  refine lv_aload_n hx hb dX2_join_181 rfl (lv_at hl 1 rfl) ?_
                  refine mg_w C hP dX2_join_182 ?_
                  refine lv_sipush (v := nI 184) hx hb dX2_join_185 (by decide) ?_
                  refine lv_iload_n hx hb dX2_join_188 rfl (lv_at hl 3 rfl) ?_
                  refine w_iaddN hx hb dX2_join_189 ?_
                  refine lv_iload hx hb dX2_join_190 (lv_at hl 0 rfl) ?_
                  refine w_join (α := Int32) (fun v_344 => v_344 = if h2 9 u ≤ h2 1 (h2 8 u).toNatClampNeg then 1 else h2 10 u) (fun v_344 => F0 mi 209 ls (.int v_344 :: .int (nI (184 + u)) :: .ref (ad 1) :: [])) (fun v_344 hv_344 => ?_) (fun hJv_344 => ?_)
                  · refine m_ast1 C hP hS (by omega) dX2_join_209 (fun H locs hP hS => ?_)
                    obtain ⟨μ_346, eμ_347⟩ : ∃ y9, y9 = mset μ5 1 (184 + u) v_344 := ⟨_, rfl⟩
                    rw [← eμ_347] at hP
                    refine lv_iinc (v := nI (u + 1)) (lv' := [(3, .int (nI (u + 1))), (4, .int (bI (decide (q = k) && decide (h2 9 u ≤ h2 1 k)))), (0, .ref (ad 0)), (1, .int (nI k))]) hx hb dX2_join_210 hl (k := 3) rfl (w_inc _ _) (by decide) rfl (fun ls hl => ?_)
                    refine lv_goto (tgt := 127) hx hb dX2_join_213 (by decide) ?_
                    refine ih_u μ_346 _ _ _ (lv_sub hl [2, 3, 0] rfl) ⟨hP, ?_, ?_, ?_⟩ hS
                    · rw [eμ_347, mset_row, ← rgS_step hv_344]
                      exact rp_up10 hR4 u _ (by omega) (by omega)
                    · intro k hk
                      rw [eμ_347, mset_ne (Or.inr (by omega))]; exact hk4 k hk
                    · intro q hq
                      rw [eμ_347, mset_oth hq]; exact hoth4 q hq
                  · refine lv_if_eq (tgt := 199) hx hb dX2_join_192 (by decide) (fun c_345 => ?_) (fun c_345 => ?_)
                    · refine lv_aload_n hx hb dX2_join_199 rfl (lv_at hl 1 rfl) ?_
                      refine mg_w C hP dX2_join_200 ?_
                      refine lv_sipush (v := nI 184) hx hb dX2_join_203 (by decide) ?_
                      refine lv_iload_n hx hb dX2_join_206 rfl (lv_at hl 3 rfl) ?_
                      refine w_iaddN hx hb dX2_join_207 ?_
                      refine m_ald1 C hP (by omega) dX2_join_208 ?_
                      refine w_eqi (rp_10 hR4 (u) (by omega) (by omega)) ?_
                      refine w_eqi (y := h2 10 u) (rgS_oth (Or.inr (Nat.le_refl u))) ?_
                      exact hJv_344 _ (by
                            rw [e8]
                            split
                            · rename_i hle
                              have hqk : q ≠ k := fun z => by
                                have := bI_eq0.mp c_345
                                rw [decide_eq_true z, decide_eq_true (show h2 9 u ≤ h2 1 k from z ▸ hle)] at this
                                cases this
                              rw [t_1 q hqk, t_oth 9 u (by decide) (by decide) (by decide)] at hle
                              rw [t_oth 10 u (by decide) (by decide) (by decide)]
                              exact hC u (by omega) (by rw [eq, nI_clamp (by omega)]; exact hle)
                            · rfl)
                    · refine lv_iconst (v := 1) hx hb dX2_join_195 (by decide) ?_
                      refine lv_goto (tgt := 209) hx hb dX2_join_196 (by decide) ?_
                      exact hJv_344 _ (by
                            have := bI_ne0.mp c_345
                            simp only [Bool.and_eq_true, decide_eq_true_eq] at this
                            rw [e8, this.1, if_pos this.2])
                · refine lv_aload_n hx hb dX2_join_139 rfl (lv_at hl 0 rfl) ?_
                  refine mg_w C hP dX2_join_140 ?_
                  refine lv_sipush (v := nI 172) hx hb dX2_join_143 (by decide) ?_
                  refine lv_iload_n hx hb dX2_join_146 rfl (lv_at hl 2 rfl) ?_
                  refine w_iaddN hx hb dX2_join_147 ?_
                  refine m_ald1 C hP (by omega) dX2_join_148 ?_
                  refine w_eqi (rp_8 hR4 (u) (by omega) (by omega)) ?_
                  refine w_eqi (y := nI (q)) ((rgS_oth (Or.inl (by decide))).trans ((t_oth 8 u (by decide) (by decide) (by decide)).trans eq)) ?_
                  refine lv_iload_n hx hb dX2_join_149 rfl (lv_at hl 1 rfl) ?_
                  refine w_icmpN_ne (tgt := 178) hx hb dX2_join_150 (by decide) (by omega) (by omega) (fun c_342 => ?_) (fun c_342 => ?_)
                  · refine lv_iconst (v := 0) hx hb dX2_join_178 (by decide) ?_
                    exact hJv_341 _ (by rw [decide_eq_false c_342]; rfl)
                  · refine lv_aload_n hx hb dX2_join_153 rfl (lv_at hl 0 rfl) ?_
                    refine mg_w C hP dX2_join_154 ?_
                    refine lv_iconst (v := nI 3) hx hb dX2_join_157 (by decide) ?_
                    refine lv_iload_n hx hb dX2_join_158 rfl (lv_at hl 1 rfl) ?_
                    refine w_iaddN hx hb dX2_join_159 ?_
                    refine m_ald1 C hP (by omega) dX2_join_160 ?_
                    refine w_eqi (rp_1 hR4 (k) (by omega) (by omega)) ?_
                    refine w_eqi (y := h2 1 k) ((rgS_oth (Or.inl (by decide)))) ?_
                    refine lv_aload_n hx hb dX2_join_161 rfl (lv_at hl 0 rfl) ?_
                    refine mg_w C hP dX2_join_162 ?_
                    refine lv_sipush (v := nI 178) hx hb dX2_join_165 (by decide) ?_
                    refine lv_iload_n hx hb dX2_join_168 rfl (lv_at hl 2 rfl) ?_
                    refine w_iaddN hx hb dX2_join_169 ?_
                    refine m_ald1 C hP (by omega) dX2_join_170 ?_
                    refine w_eqi (rp_9 hR4 (u) (by omega) (by omega)) ?_
                    refine w_eqi (y := h2 9 u) ((rgS_oth (Or.inl (by decide)))) ?_
                    refine lv_icmp_lt (tgt := 178) hx hb dX2_join_171 (by decide) (fun c_343 => ?_) (fun c_343 => ?_)
                    · refine lv_iconst (v := 0) hx hb dX2_join_178 (by decide) ?_
                      exact hJv_341 _ (by rw [decide_eq_true c_342, decide_eq_false (Int32.not_le.mpr c_343)]; rfl)
                    · refine lv_iconst (v := 1) hx hb dX2_join_174 (by decide) ?_
                      refine lv_goto (tgt := 179) hx hb dX2_join_175 (by decide) ?_
                      exact hJv_341 _ (by rw [decide_eq_true c_342, decide_eq_true (Int32.not_lt.mp c_343)]; rfl)
            · intro μ5 ls H locs hl hW hS
              have hl : lv_has ls 5 [(0, .ref (ad 0)), (1, .int (nI k)), (3, .int (nI (nA (aH a))))] := hl
              obtain ⟨hP, hR4, hk4, hoth4⟩ := hW
              refine lv_iload_n hx hb dX2_join_127 rfl (lv_at hl 2 rfl) ?_
              refine lv_aload_n hx hb dX2_join_128 rfl (lv_at hl 0 rfl) ?_
              refine mg_w C hP dX2_join_129 ?_
              refine lv_sipush (v := nI 171) hx hb dX2_join_132 (by decide) ?_
              refine m_ald1 C hP (by omega) dX2_join_135 ?_
              refine w_eqi (rp_alarms hR4 (by omega)) ?_
              refine w_eqi (y := nI (nA (aH a))) ((rgS_oth (Or.inl (by decide))).trans t_al) ?_
              refine w_icmpN_ge (tgt := 216) hx hb dX2_join_136 (by decide) (by omega) (by omega) (fun c_348 => ?_) (fun c_348 => ?_)
              · refine lv_aload_n hx hb dX2_join_216 rfl (lv_at hl 0 rfl) ?_
                refine mg_w C hP dX2_join_217 ?_
                refine lv_iconst (v := nI 3) hx hb dX2_join_220 (by decide) ?_
                refine lv_iload_n hx hb dX2_join_221 rfl (lv_at hl 1 rfl) ?_
                refine w_iaddN hx hb dX2_join_222 ?_
                refine m_ald1 C hP (by omega) dX2_join_223 ?_
                refine w_eqi (rp_1 hR4 (k) (by omega) (by omega)) ?_
                refine w_eqi (y := joinAt (aH a) k) ((rgS_oth (Or.inl (by decide))).trans t_k) ?_
                exact mM_retI C hlk hr hS hP dX2_join_224 ⟨by unfold joinQ; rw [if_pos hic, clk, if_neg hcond], by unfold joinQ; rw [if_pos hic, clk, if_neg hcond]; exact MS.row0 (hh := rgS (joinH (aH a) k) (nA (aH a))) hM_332 (hoth4 0 (by decide)) (fun k h1 h2 => hk4 k (by omega)) (hoth4 2 (by decide)) (hoth4 3 (by decide)) (hoth4 4 (by decide)) (by rw [← eh2]; exact hR4) (by rw [hk4 191 (by omega)]; exact hM_332.sd)⟩
              · exact absurd c_348 (by omega)
          · refine lv_ldc hx hb hown (hts _ q1028) dX2_join_84 ?_
            exact mM_retI C hlk hr hS hP dX2_join_86 ⟨by unfold joinQ; rw [if_pos hic, clk, if_pos (Or.inr c_328)], by unfold joinQ; rw [if_pos hic, clk, if_pos (Or.inr c_328)]; exact hM2⟩
      · exact absurd c_326 (by omega)
  · have hic : ¬ isC (aH a) c = true := by rw [bI_eq0.mp c_317]; decide
    refine lv_ldc hx hb hown (hts _ q962) dX2_join_8 ?_
    exact mM_retI C hlk hr hS hP dX2_join_10 ⟨by unfold joinQ; rw [if_neg hic], by unfold joinQ; rw [if_neg hic]; exact hM⟩

theorem draw_long {sd : Nat} (h : sd < 2 ^ 31) : (nI sd).toInt64 * 1103515245 + 12345 - ((nI sd).toInt64 * 1103515245 + 12345) / 2147483648 * 2147483648 = lN (drawN sd) := by
  have e1 : (1103515245 : Int64) = lN 1103515245 := rfl
  have e2 : (12345 : Int64) = lN 12345 := rfl
  have e3 : (2147483648 : Int64) = lN 2147483648 := rfl
  rw [nI_l h, e1, e2, e3, lN_mul, lN_add, pk_lRem (by omega) (by omega) (by omega)]
  rfl
theorem hdX2_draw : yX2_draw.cls = "LiarClocksModel" ∧ yX2_draw.cls ≠ "java/lang/invoke/MethodHandle" ∧ yX2_draw.cls ≠ "java/lang/invoke/VarHandle" ∧ (parseMethodDescriptor yX2_draw.desc).map (fun d => d.parameters.length) = some 1 := by decide +kernel
set_option maxHeartbeats 4000000 in
/-- draw -/
theorem mX2_draw (l : Launch) (D : va_G) (T : Nat → ClassId) (ad : Nat → Nat) (μ : Nat → Nat → Int32) (sd : Nat) (hsd : sd < 2 ^ 31) (hs : μ 1 191 = nI sd) (n : Nat) (hn0 : 0 < n) (hn1 : n < 2 ^ 31) : ∀ sz, Met l yX2_draw (ws_ yX2_draw cX2_draw 4 (some .int)) ({ frames := 0, cells := 0, slots := 0, locals := 0 } : Room) (mPs D T ad μ [.ref (ad 0), .int (nI n)] sz) (mQ D T ad (fun r μ' => r = some (.int (nI (drawV (drawN sd) n))) ∧ μ' 1 191 = nI (drawN sd) ∧ (∀ k, k ≠ 191 → μ' 1 k = μ 1 k) ∧ ∀ q, q ≠ 1 → μ' q = μ q)) 0 0 (gA 7 ad sz) := by
  refine mM_intro [.ref (ad 0), .int (nI n)] (by decide) rfl (Nat.le_of_ble_eq_true rfl) ?_
  intro pg en s0 mi below meth cd ls C hr hlk hml hP hS hl
  have hx := C.1
  have hb := C.2.1
  have hown := C.2.2.1
  have hts := C.2.2.2.1
  have hl : lv_has ls 4 [(0, .ref (ad 0)), (1, .int (nI n))] := hl
  refine lv_aload_n hx hb dX2_draw_0 rfl (lv_at hl 0 rfl) ?_
  refine mg_w C hP dX2_draw_1 ?_
  refine lv_sipush (v := nI 191) hx hb dX2_draw_4 (by decide) ?_
  refine m_ald1 C hP (by omega) dX2_draw_7 ?_
  refine w_eqi hs ?_
  refine lv_i2l (v := (nI (sd)).toInt64) hx hb dX2_draw_8 rfl ?_
  refine lv_ldc2 hx hb hown (hts _ q1050) dX2_draw_9 ?_
  refine lv_lmul hx hb dX2_draw_12 ?_
  refine lv_ldc2 hx hb hown (hts _ q1051) dX2_draw_13 ?_
  refine lv_ladd hx hb dX2_draw_16 ?_
  refine lv_ldc2 hx hb hown (hts _ q1052) dX2_draw_17 ?_
  refine lv_lrem hx hb dX2_draw_20 (by decide) ?_
  refine w_eql (y := lN (drawN sd)) (draw_long hsd) ?_
  refine lv_lstore_n (lv' := [(2, .long (lN (drawN sd))), (0, .ref (ad 0)), (1, .int (nI n))]) hx hb dX2_draw_21 rfl hl (by decide) rfl (fun ls hl => ?_)
  refine lv_aload_n hx hb dX2_draw_22 rfl (lv_at hl 1 rfl) ?_
  refine mg_w C hP dX2_draw_23 ?_
  refine lv_sipush (v := nI 191) hx hb dX2_draw_26 (by decide) ?_
  refine lv_lload_n hx hb dX2_draw_29 rfl (lv_at hl 0 rfl) ?_
  refine lv_l2i (v := (lN (drawN sd)).toInt32) hx hb dX2_draw_30 rfl ?_
  refine w_eqi (y := nI (drawN sd)) (lN_i _) ?_
  refine m_ast1 C hP hS (by omega) dX2_draw_31 (fun H locs hP hS => ?_)
  obtain ⟨μ_349, eμ_350⟩ : ∃ y9, y9 = mset μ 1 (191) (nI (drawN sd)) := ⟨_, rfl⟩
  rw [← eμ_350] at hP
  have hdl := drawN_lt sd
  refine lv_aload_n hx hb dX2_draw_32 rfl (lv_at hl 1 rfl) ?_
  refine mg_w C hP dX2_draw_33 ?_
  refine lv_sipush (v := nI 191) hx hb dX2_draw_36 (by decide) ?_
  refine m_ald1 C hP (by omega) dX2_draw_39 ?_
  refine w_eqi (y := nI (drawN sd)) (by rw [eμ_350, mset_self]) ?_
  refine lv_ldc hx hb hown (hts _ q1053) dX2_draw_40 ?_
  refine lv_idiv hx hb dX2_draw_42 (by decide) ?_
  refine w_eqi (y := nI (drawN sd / 65536)) (pk_div (a := drawN sd) (d := 65536) (by omega) (by decide) (by decide)) ?_
  refine lv_iload_n hx hb dX2_draw_43 rfl (lv_at hl 2 rfl) ?_
  refine lv_irem hx hb dX2_draw_44 (nI_ne0 hn0 hn1) ?_
  refine w_eqi (y := nI (drawV (drawN sd) n)) (pk_rem (a := drawN sd / 65536) (by omega) hn0 hn1) ?_
  exact mM_retI C hlk hr hS hP dX2_draw_45 ⟨rfl, by rw [eμ_350, mset_self], fun k hk => by rw [eμ_350, mset_ne (Or.inr hk)], fun q hq => by rw [eμ_350, mset_oth hq]⟩

theorem hdX2_time : yX2_time.cls = "LiarClocksModel" ∧ yX2_time.cls ≠ "java/lang/invoke/MethodHandle" ∧ yX2_time.cls ≠ "java/lang/invoke/VarHandle" ∧ (parseMethodDescriptor yX2_time.desc).map (fun d => d.parameters.length) = some 0 := by decide +kernel
set_option maxHeartbeats 4000000 in
/-- time -/
theorem mX2_time (l : Launch) (D : va_G) (T : Nat → ClassId) (ad : Nat → Nat) (μ : Nat → Nat → Int32) (a : Ab) (B : Int) (hM : MS μ a) (hI : AI a B) (hB0 : B ≤ 400000000) (hB1 : 0 ≤ B) (hpos : 0 < nM (aH a)) : ∀ sz, Met l yX2_time (ws_ yX2_time cX2_time 6 none) ({ frames := 4, cells := 0, slots := 0, locals := 91 } : Room) (mPs D T ad μ [.ref (ad 0)] sz) (mQ D T ad (fun r μ' => r = none ∧ MS μ' (chanceS a))) 0 0 (gA 7 ad sz) := by
  have hR := hM.r
  have hB := hI.1.1
  have hA := hI.1.2.2.1
  have h8 := hB.many8
  have h3 := hB.strike3
  have h6 := hB.alarms6
  refine mM_intro [.ref (ad 0)] (by decide) rfl (Nat.le_of_ble_eq_true rfl) ?_
  intro pg en s0 mi below meth cd ls C hr hlk hml hP hS hl
  have hx := C.1
  have hb := C.2.1
  have hown := C.2.2.1
  have hts := C.2.2.2.1
  have hl : lv_has ls 6 [(0, .ref (ad 0))] := hl
  obtain ⟨sd, hsd, esd, esn⟩ := seed_nat hI.2.2.2
  have hC := hI.1.2.1
  refine lv_aload_n hx hb dX2_time_0 rfl (lv_at hl 0 rfl) ?_
  refine lv_aload_n hx hb dX2_time_1 rfl (lv_at hl 0 rfl) ?_
  refine mg_w C hP dX2_time_2 ?_
  refine lv_iconst (v := nI 0) hx hb dX2_time_5 (by decide) ?_
  refine m_ald1 C hP (by omega) dX2_time_6 ?_
  refine w_eqi (rp_many hR (by omega)) ?_
  refine w_eqi (hB.many) ?_
  refine m_cM [.int (nI (nM (aH a)))] C hml hl.1 hP hS (mX2_draw l D T ad μ sd hsd (hM.sd.trans esd) (nM (aH a)) (by omega) (by omega)) (lw_V q1046 q1048 qs67 q71 q1049) hdX2_draw ⟨rfl, rfl⟩ ⟨Nat.le_of_ble_eq_true rfl, Nat.le_of_ble_eq_true rfl⟩ rfl (Nat.le_of_ble_eq_true rfl) dX2_time_7 ⟨Nat.zero_le _, Nat.zero_le _⟩ (fun v_351 μ_352 H locs hp_353 hP hS => ?_)
  obtain ⟨rfl, dr_354s, dr_354k, dr_354o⟩ := hp_353
  obtain ⟨s_355, es_355⟩ : ∃ y, y = drawN sd := ⟨_, rfl⟩
  have hs_355 : s_355 < 2 ^ 31 := by rw [es_355]; exact drawN_lt _
  rw [← es_355] at dr_354s
  refine w_eqi (y := nI (drawV s_355 (nM (aH a)))) (by rw [es_355]) ?_
  have hR_356 : Rp (μ_352 1) 0 (aH a) := hR.kept (fun k _ hk => dr_354k k (by omega))
  refine lv_istore_n (lv' := [(1, .int (nI (drawV s_355 (nM (aH a))))), (0, .ref (ad 0))]) hx hb dX2_time_10 rfl hl (by decide) rfl (fun ls hl => ?_)
  refine lv_aload_n hx hb dX2_time_11 rfl (lv_at hl 1 rfl) ?_
  refine lv_aload_n hx hb dX2_time_12 rfl (lv_at hl 1 rfl) ?_
  refine mg_w C hP dX2_time_13 ?_
  refine lv_iconst (v := nI 0) hx hb dX2_time_16 (by decide) ?_
  refine m_ald1 C hP (by omega) dX2_time_17 ?_
  refine w_eqi (rp_many hR_356 (by omega)) ?_
  refine w_eqi (hB.many) ?_
  refine m_cM [.int (nI (nM (aH a)))] C hml hl.1 hP hS (mX2_draw l D T ad μ_352 s_355 hs_355 dr_354s (nM (aH a)) (by omega) (by omega)) (lw_V q1046 q1048 qs67 q71 q1049) hdX2_draw ⟨rfl, rfl⟩ ⟨Nat.le_of_ble_eq_true rfl, Nat.le_of_ble_eq_true rfl⟩ rfl (Nat.le_of_ble_eq_true rfl) dX2_time_18 ⟨Nat.zero_le _, Nat.zero_le _⟩ (fun v_357 μ_358 H locs hp_359 hP hS => ?_)
  obtain ⟨rfl, dr_360s, dr_360k, dr_360o⟩ := hp_359
  obtain ⟨s_361, es_361⟩ : ∃ y, y = drawN s_355 := ⟨_, rfl⟩
  have hs_361 : s_361 < 2 ^ 31 := by rw [es_361]; exact drawN_lt _
  rw [← es_361] at dr_360s
  refine w_eqi (y := nI (drawV s_361 (nM (aH a)))) (by rw [es_361]) ?_
  have hR_362 : Rp (μ_358 1) 0 (aH a) := hR_356.kept (fun k _ hk => dr_360k k (by omega))
  refine lv_istore_n (lv' := [(2, .int (nI (drawV s_361 (nM (aH a))))), (1, .int (nI (drawV s_355 (nM (aH a))))), (0, .ref (ad 0))]) hx hb dX2_time_21 rfl hl (by decide) rfl (fun ls hl => ?_)
  refine lv_aload_n hx hb dX2_time_22 rfl (lv_at hl 2 rfl) ?_
  refine lv_sipush (v := nI 2001) hx hb dX2_time_23 (by decide) ?_
  refine m_cM [.int (nI 2001)] C hml hl.1 hP hS (mX2_draw l D T ad μ_358 s_361 hs_361 dr_360s 2001 (by omega) (by omega)) (lw_V q1046 q1048 qs67 q71 q1049) hdX2_draw ⟨rfl, rfl⟩ ⟨Nat.le_of_ble_eq_true rfl, Nat.le_of_ble_eq_true rfl⟩ rfl (Nat.le_of_ble_eq_true rfl) dX2_time_26 ⟨Nat.zero_le _, Nat.zero_le _⟩ (fun v_363 μ_364 H locs hp_365 hP hS => ?_)
  obtain ⟨rfl, dr_366s, dr_366k, dr_366o⟩ := hp_365
  obtain ⟨s_367, es_367⟩ : ∃ y, y = drawN s_361 := ⟨_, rfl⟩
  have hs_367 : s_367 < 2 ^ 31 := by rw [es_367]; exact drawN_lt _
  rw [← es_367] at dr_366s
  refine w_eqi (y := nI (drawV s_367 2001)) (by rw [es_367]) ?_
  have hR_368 : Rp (μ_364 1) 0 (aH a) := hR_362.kept (fun k _ hk => dr_366k k (by omega))
  refine lv_sipush (v := nI 1000) hx hb dX2_time_29 (by decide) ?_
  refine lv_isub hx hb dX2_time_32 ?_
  refine lv_istore_n (lv' := [(3, .int ((nI (drawV s_367 2001)) - (nI (1000)))), (2, .int (nI (drawV s_361 (nM (aH a))))), (1, .int (nI (drawV s_355 (nM (aH a))))), (0, .ref (ad 0))]) hx hb dX2_time_33 rfl hl (by decide) rfl (fun ls hl => ?_)
  refine lv_aload_n hx hb dX2_time_34 rfl (lv_at hl 3 rfl) ?_
  refine lv_bipush (v := nI 41) hx hb dX2_time_35 (by decide) ?_
  refine m_cM [.int (nI 41)] C hml hl.1 hP hS (mX2_draw l D T ad μ_364 s_367 hs_367 dr_366s 41 (by omega) (by omega)) (lw_V q1046 q1048 qs67 q71 q1049) hdX2_draw ⟨rfl, rfl⟩ ⟨Nat.le_of_ble_eq_true rfl, Nat.le_of_ble_eq_true rfl⟩ rfl (Nat.le_of_ble_eq_true rfl) dX2_time_37 ⟨Nat.zero_le _, Nat.zero_le _⟩ (fun v_369 μ_370 H locs hp_371 hP hS => ?_)
  obtain ⟨rfl, dr_372s, dr_372k, dr_372o⟩ := hp_371
  obtain ⟨s_373, es_373⟩ : ∃ y, y = drawN s_367 := ⟨_, rfl⟩
  have hs_373 : s_373 < 2 ^ 31 := by rw [es_373]; exact drawN_lt _
  rw [← es_373] at dr_372s
  refine w_eqi (y := nI (drawV s_373 41)) (by rw [es_373]) ?_
  have hR_374 : Rp (μ_370 1) 0 (aH a) := hR_368.kept (fun k _ hk => dr_372k k (by omega))
  refine lv_bipush (v := nI 20) hx hb dX2_time_40 (by decide) ?_
  refine lv_isub hx hb dX2_time_42 ?_
  refine lv_istore (lv' := [(4, .int ((nI (drawV s_373 41)) - (nI (20)))), (3, .int ((nI (drawV s_367 2001)) - (nI (1000)))), (2, .int (nI (drawV s_361 (nM (aH a))))), (1, .int (nI (drawV s_355 (nM (aH a))))), (0, .ref (ad 0))]) hx hb dX2_time_43 hl (by decide) rfl (fun ls hl => ?_)
  refine lv_aload_n hx hb dX2_time_45 rfl (lv_at hl 4 rfl) ?_
  refine lv_iconst (v := nI 3) hx hb dX2_time_46 (by decide) ?_
  refine m_cM [.int (nI 3)] C hml hl.1 hP hS (mX2_draw l D T ad μ_370 s_373 hs_373 dr_372s 3 (by omega) (by omega)) (lw_V q1046 q1048 qs67 q71 q1049) hdX2_draw ⟨rfl, rfl⟩ ⟨Nat.le_of_ble_eq_true rfl, Nat.le_of_ble_eq_true rfl⟩ rfl (Nat.le_of_ble_eq_true rfl) dX2_time_47 ⟨Nat.zero_le _, Nat.zero_le _⟩ (fun v_375 μ_376 H locs hp_377 hP hS => ?_)
  obtain ⟨rfl, dr_378s, dr_378k, dr_378o⟩ := hp_377
  obtain ⟨s_379, es_379⟩ : ∃ y, y = drawN s_373 := ⟨_, rfl⟩
  have hs_379 : s_379 < 2 ^ 31 := by rw [es_379]; exact drawN_lt _
  rw [← es_379] at dr_378s
  refine w_eqi (y := nI (drawV s_379 3)) (by rw [es_379]) ?_
  have hR_380 : Rp (μ_376 1) 0 (aH a) := hR_374.kept (fun k _ hk => dr_378k k (by omega))
  refine lv_istore (lv' := [(5, .int (nI (drawV s_379 3))), (4, .int ((nI (drawV s_373 41)) - (nI (20)))), (3, .int ((nI (drawV s_367 2001)) - (nI (1000)))), (2, .int (nI (drawV s_361 (nM (aH a))))), (1, .int (nI (drawV s_355 (nM (aH a))))), (0, .ref (ad 0))]) hx hb dX2_time_50 hl (by decide) rfl (fun ls hl => ?_)
  have b1 : drawV s_355 (nM (aH a)) < nM (aH a) := Nat.mod_lt _ hpos
  have b2 : drawV s_361 (nM (aH a)) < nM (aH a) := Nat.mod_lt _ hpos
  have b5 : drawV s_379 3 < 3 := Nat.mod_lt _ (by decide)
  have ko : ∀ k, k ≠ 191 → μ_376 1 k = μ 1 k := fun k hk => by rw [dr_378k k hk, dr_372k k hk, dr_366k k hk, dr_360k k hk, dr_354k k hk]
  have oo : ∀ q, q ≠ 1 → μ_376 q = μ q := fun q hq => by rw [dr_378o q hq, dr_372o q hq, dr_366o q hq, dr_360o q hq, dr_354o q hq]
  have hg1 := HG_ch1 hI.1 s_355 s_361 s_367 s_373
  have hch : ∀ x, x = chanceH (aH a) s_355 s_361 s_367 s_373 s_379 → ∀ μx : Nat → Nat → Int32, μx 0 = μ 0 → (∀ k, 192 ≤ k → k < 3648 → μx 1 k = μ 1 k) → μx 2 = μ 2 → μx 3 = μ 3 → μx 4 = μ 4 → Rp (μx 1) 0 x → μx 1 191 = nI s_379 → MS μx (chanceS a) := by
    intro x ex μx z0 z1 z2 z3 z4 zr zs
    have := MS.row0 hM z0 z1 z2 z3 z4 zr zs
    rw [ex, es_379, es_373, es_367, es_361, es_355, ← esn] at this
    exact this
  refine lv_iload_n hx hb dX2_time_52 rfl (lv_at hl 4 rfl) ?_
  refine lv_iload_n hx hb dX2_time_53 rfl (lv_at hl 3 rfl) ?_
  refine w_icmpN_eq (tgt := 88) hx hb dX2_time_54 (by decide) (by omega) (by omega) (fun c_381 => ?_) (fun c_381 => ?_)
  · have hRx : Rp (μ_376 1) 0 (chH1 (aH a) s_355 s_361 s_367 s_373) := by
      unfold chH1
      rw [if_neg (fun q => q c_381)]; exact hR_380
    refine lv_iload hx hb dX2_time_88 (lv_at hl 0 rfl) ?_
    refine w_ifN_ne (tgt := 101) hx hb dX2_time_90 (by decide) (by omega) (fun c_382 => ?_) (fun c_382 => ?_)
    · refine lv_aload_n hx hb dX2_time_101 rfl (lv_at hl 5 rfl) ?_
      refine m_cM [] C hml hl.1 hP hS (mX2_tickOne l D T ad μ_376 (chH1 (aH a) s_355 s_361 s_367 s_373) hRx hg1.1 hg1.2.1) (lw_V q996 q998 qs63 q71 q999) hdX2_tickOne ⟨rfl, rfl⟩ ⟨Nat.le_of_ble_eq_true rfl, Nat.le_of_ble_eq_true rfl⟩ rfl (Nat.le_of_ble_eq_true rfl) dX2_time_102 ⟨Nat.zero_le _, Nat.zero_le _⟩ (fun v_387 μ_388 H locs hp_389 hP hS => ?_)
      obtain ⟨rfl, tk_390a, tk_390b, tk_390c⟩ := hp_389
      exact mM_retV C hlk hr hS hP dX2_time_105 ⟨rfl, hch _ (by rw [chanceH_eq, if_neg (by omega)]) _ (by rw [tk_390c 0 (by decide)]; exact oo 0 (by decide)) (fun k h1 h2 => by rw [tk_390b k (by omega)]; exact ko k (by omega)) (by rw [tk_390c 2 (by decide)]; exact oo 2 (by decide)) (by rw [tk_390c 3 (by decide)]; exact oo 3 (by decide)) (by rw [tk_390c 4 (by decide)]; exact oo 4 (by decide)) tk_390a (by rw [tk_390b 191 (by omega)]; exact dr_378s)⟩
    · refine lv_aload_n hx hb dX2_time_93 rfl (lv_at hl 5 rfl) ?_
      refine lv_iconst (v := nI 0) hx hb dX2_time_94 (by decide) ?_
      refine m_cM [.int (nI 0)] C hml hl.1 hP hS (mX2_roundIn l D T ad μ_376 (chH1 (aH a) s_355 s_361 s_367 s_373) 0 hRx hg1.1 (by omega) B hg1.2.2.1 hB0 hB1) (lw_V q1004 q1006 qs64 q71 q1007) hdX2_roundIn ⟨rfl, rfl⟩ ⟨Nat.le_of_ble_eq_true rfl, Nat.le_of_ble_eq_true rfl⟩ rfl (Nat.le_of_ble_eq_true rfl) dX2_time_95 ⟨Nat.zero_le _, Nat.zero_le _⟩ (fun v_383 μ_384 H locs hp_385 hP hS => ?_)
      obtain ⟨rfl, rd_386a, rd_386b, rd_386c⟩ := hp_385
      refine lv_goto (tgt := 105) hx hb dX2_time_98 (by decide) ?_
      exact mM_retV C hlk hr hS hP dX2_time_105 ⟨rfl, hch _ (by rw [chanceH_eq, if_pos c_382]) _ (by rw [rd_386c 0 (by decide) (by decide) (by decide)]; exact oo 0 (by decide)) (fun k h1 h2 => by rw [rd_386b k (by omega)]; exact ko k (by omega)) (by rw [rd_386c 2 (by decide) (by decide) (by decide)]; exact oo 2 (by decide)) (by rw [rd_386c 3 (by decide) (by decide) (by decide)]; exact oo 3 (by decide)) (by rw [rd_386c 4 (by decide) (by decide) (by decide)]; exact oo 4 (by decide)) rd_386a (by rw [rd_386b 191 (by omega)]; exact dr_378s)⟩
  · refine lv_aload_n hx hb dX2_time_57 rfl (lv_at hl 5 rfl) ?_
    refine mg_w C hP dX2_time_58 ?_
    refine lv_bipush (v := nI 107) hx hb dX2_time_61 (by decide) ?_
    refine lv_bipush (v := nI 8) hx hb dX2_time_63 (by decide) ?_
    refine lv_iload_n hx hb dX2_time_65 rfl (lv_at hl 4 rfl) ?_
    refine w_imulN hx hb dX2_time_66 ?_
    refine w_iaddN hx hb dX2_time_67 ?_
    refine lv_iload_n hx hb dX2_time_68 rfl (lv_at hl 3 rfl) ?_
    refine w_iaddN hx hb dX2_time_69 ?_
    refine lv_iload_n hx hb dX2_time_70 rfl (lv_at hl 2 rfl) ?_
    refine m_ast1 C hP hS (by omega) dX2_time_71 (fun H locs hP hS => ?_)
    obtain ⟨μ_391, eμ_392⟩ : ∃ y9, y9 = mset μ_376 1 (107 + (8 * (drawV s_355 (nM (aH a)))) + (drawV s_361 (nM (aH a)))) ((nI (drawV s_367 2001)) - (nI (1000))) := ⟨_, rfl⟩
    rw [← eμ_392] at hP
    refine lv_aload_n hx hb dX2_time_72 rfl (lv_at hl 5 rfl) ?_
    refine mg_w C hP dX2_time_73 ?_
    refine lv_bipush (v := nI 43) hx hb dX2_time_76 (by decide) ?_
    refine lv_bipush (v := nI 8) hx hb dX2_time_78 (by decide) ?_
    refine lv_iload_n hx hb dX2_time_80 rfl (lv_at hl 4 rfl) ?_
    refine w_imulN hx hb dX2_time_81 ?_
    refine w_iaddN hx hb dX2_time_82 ?_
    refine lv_iload_n hx hb dX2_time_83 rfl (lv_at hl 3 rfl) ?_
    refine w_iaddN hx hb dX2_time_84 ?_
    refine lv_iload hx hb dX2_time_85 (lv_at hl 1 rfl) ?_
    refine m_ast1 C hP hS (by omega) dX2_time_87 (fun H locs hP hS => ?_)
    obtain ⟨μ_393, eμ_394⟩ : ∃ y9, y9 = mset μ_391 1 (43 + (8 * (drawV s_355 (nM (aH a)))) + (drawV s_361 (nM (aH a)))) ((nI (drawV s_373 41)) - (nI (20))) := ⟨_, rfl⟩
    rw [← eμ_394] at hP
    have ko2 : ∀ k, 190 < k → μ_393 1 k = μ_376 1 k := fun k hk => by rw [eμ_394, mset_ne (Or.inr (by omega)), eμ_392, mset_ne (Or.inr (by omega))]
    have ko3 : ∀ k, 192 ≤ k → μ_393 1 k = μ 1 k := fun k hk => by rw [ko2 k (by omega)]; exact ko k (by omega)
    have oo2 : ∀ q, q ≠ 1 → μ_393 q = μ q := fun q hq => by rw [eμ_394, mset_oth hq, eμ_392, mset_oth hq]; exact oo q hq
    have hRx : Rp (μ_393 1) 0 (chH1 (aH a) s_355 s_361 s_367 s_373) := by
      unfold chH1
      rw [if_pos c_381, eμ_394, mset_row, eμ_392, mset_row]
      exact rp_up7 (rp_up6 hR_380 (8 * drawV s_355 (nM (aH a)) + drawV s_361 (nM (aH a))) _ (by omega) (by omega)) (8 * drawV s_355 (nM (aH a)) + drawV s_361 (nM (aH a))) _ (by omega) (by omega)
    refine lv_iload hx hb dX2_time_88 (lv_at hl 0 rfl) ?_
    refine w_ifN_ne (tgt := 101) hx hb dX2_time_90 (by decide) (by omega) (fun c_395 => ?_) (fun c_395 => ?_)
    · refine lv_aload_n hx hb dX2_time_101 rfl (lv_at hl 5 rfl) ?_
      refine m_cM [] C hml hl.1 hP hS (mX2_tickOne l D T ad μ_393 (chH1 (aH a) s_355 s_361 s_367 s_373) hRx hg1.1 hg1.2.1) (lw_V q996 q998 qs63 q71 q999) hdX2_tickOne ⟨rfl, rfl⟩ ⟨Nat.le_of_ble_eq_true rfl, Nat.le_of_ble_eq_true rfl⟩ rfl (Nat.le_of_ble_eq_true rfl) dX2_time_102 ⟨Nat.zero_le _, Nat.zero_le _⟩ (fun v_400 μ_401 H locs hp_402 hP hS => ?_)
      obtain ⟨rfl, tk_403a, tk_403b, tk_403c⟩ := hp_402
      exact mM_retV C hlk hr hS hP dX2_time_105 ⟨rfl, hch _ (by rw [chanceH_eq, if_neg (by omega)]) _ (by rw [tk_403c 0 (by decide)]; exact oo2 0 (by decide)) (fun k h1 h2 => by rw [tk_403b k (by omega)]; exact ko3 k (by omega)) (by rw [tk_403c 2 (by decide)]; exact oo2 2 (by decide)) (by rw [tk_403c 3 (by decide)]; exact oo2 3 (by decide)) (by rw [tk_403c 4 (by decide)]; exact oo2 4 (by decide)) tk_403a (by rw [tk_403b 191 (by omega)]; exact (ko2 191 (by omega)).trans dr_378s)⟩
    · refine lv_aload_n hx hb dX2_time_93 rfl (lv_at hl 5 rfl) ?_
      refine lv_iconst (v := nI 0) hx hb dX2_time_94 (by decide) ?_
      refine m_cM [.int (nI 0)] C hml hl.1 hP hS (mX2_roundIn l D T ad μ_393 (chH1 (aH a) s_355 s_361 s_367 s_373) 0 hRx hg1.1 (by omega) B hg1.2.2.1 hB0 hB1) (lw_V q1004 q1006 qs64 q71 q1007) hdX2_roundIn ⟨rfl, rfl⟩ ⟨Nat.le_of_ble_eq_true rfl, Nat.le_of_ble_eq_true rfl⟩ rfl (Nat.le_of_ble_eq_true rfl) dX2_time_95 ⟨Nat.zero_le _, Nat.zero_le _⟩ (fun v_396 μ_397 H locs hp_398 hP hS => ?_)
      obtain ⟨rfl, rd_399a, rd_399b, rd_399c⟩ := hp_398
      refine lv_goto (tgt := 105) hx hb dX2_time_98 (by decide) ?_
      exact mM_retV C hlk hr hS hP dX2_time_105 ⟨rfl, hch _ (by rw [chanceH_eq, if_pos c_395]) _ (by rw [rd_399c 0 (by decide) (by decide) (by decide)]; exact oo2 0 (by decide)) (fun k h1 h2 => by rw [rd_399b k (by omega)]; exact ko3 k (by omega)) (by rw [rd_399c 2 (by decide) (by decide) (by decide)]; exact oo2 2 (by decide)) (by rw [rd_399c 3 (by decide) (by decide) (by decide)]; exact oo2 3 (by decide)) (by rw [rd_399c 4 (by decide) (by decide) (by decide)]; exact oo2 4 (by decide)) rd_399a (by rw [rd_399b 191 (by omega)]; exact (ko2 191 (by omega)).trans dr_378s)⟩

theorem hdX2_drift : yX2_drift.cls = "LiarClocksModel" ∧ yX2_drift.cls ≠ "java/lang/invoke/MethodHandle" ∧ yX2_drift.cls ≠ "java/lang/invoke/VarHandle" ∧ (parseMethodDescriptor yX2_drift.desc).map (fun d => d.parameters.length) = some 1 := by decide +kernel
set_option maxHeartbeats 4000000 in
/-- drift -/
theorem mX2_drift (l : Launch) (D : va_G) (T : Nat → ClassId) (ad : Nat → Nat) (μ : Nat → Nat → Int32) (a : Ab) (B : Int) (hM : MS μ a) (hI : AI a B) (hB0 : B ≤ 400000000) (hB1 : 0 ≤ B) (hB2 : B + 160000 ≤ 400000000) (x : Int32) : ∀ sz, Met l yX2_drift (ws_ yX2_drift cX2_drift 3 (some .int)) ({ frames := 5, cells := 0, slots := 0, locals := 116 } : Room) (mPs D T ad μ [.ref (ad 0), .int x] sz) (mQ D T ad (fun r μ' => r = some (.int (driftQ a x).1) ∧ MS μ' (driftQ a x).2)) 0 0 (gA 7 ad sz) := by
  have hR := hM.r
  have hB := hI.1.1
  have hA := hI.1.2.2.1
  have h8 := hB.many8
  have h3 := hB.strike3
  have h6 := hB.alarms6
  refine mM_intro [.ref (ad 0), .int x] (by decide) rfl (Nat.le_of_ble_eq_true rfl) ?_
  intro pg en s0 mi below meth cd ls C hr hlk hml hP hS hl
  have hx := C.1
  have hb := C.2.1
  have hown := C.2.2.1
  have hts := C.2.2.2.1
  have hl : lv_has ls 3 [(0, .ref (ad 0)), (1, .int x)] := hl
  have k16 := hM.kn16
  have t200 := hM.tn200
  have b20 := hM.bn20
  refine lv_iload_n hx hb dX2_drift_0 rfl (lv_at hl 1 rfl) ?_
  refine lv_iconst (v := nI 1) hx hb dX2_drift_1 (by decide) ?_
  refine lv_bipush (v := nI 16) hx hb dX2_drift_2 (by decide) ?_
  refine m_cS [.int x, .int (nI 1), .int (nI 16)] C hml hl.1 (mX2_in l x (nI (1)) (nI (16))) (lw_S q842 q843 q71 q844) hdX2_in.2 ⟨rfl, rfl⟩ ⟨Nat.le_of_ble_eq_true rfl, Nat.le_of_ble_eq_true rfl⟩ rfl (Nat.le_of_ble_eq_true rfl) dX2_drift_4 ⟨Nat.zero_le _, Nat.zero_le _⟩ ?_
  refine lv_if_ne (tgt := 13) hx hb dX2_drift_7 (by decide) (fun c_404 => ?_) (fun c_404 => ?_)
  · have hin : inB x 1 16 = true := (inB_in (v := x) (lo := nI 1) (hi := nI 16) (l := 1) (u := 16) (by decide) (by decide)) ▸ bI_ne0.mp c_404
    obtain ⟨n, n_1, n_2, en⟩ := inB_nat (lo := 1) (hi := 16) hin
    subst en
    have cln : (nI n).toNatClampNeg = n := nI_clamp (by omega)
    have hdi : ∀ i, i ≤ n → AI (drS i a) (B + 9999 * (i : Int)) ∧ aKn (drS i a) ≤ 16 ∧ nM (aH (drS i a)) = nM (aH a) := fun i hi => AI_drift hI hB1 k16 i (by omega)
    rcases Nat.eq_zero_or_pos (nM (aH a)) with hz | hpos
    · have eDr : driftQ a (nI n) = (apS (aH a), a) := by unfold driftQ; rw [if_pos hin]; dsimp only; rw [if_pos hz]
      refine lv_iconst (v := nI 0) hx hb dX2_drift_13 (by decide) ?_
      refine lv_istore_n (lv' := [(2, .int (nI 0)), (0, .ref (ad 0)), (1, .int (nI n))]) hx hb dX2_drift_14 rfl hl (by decide) rfl (fun ls hl => ?_)
      refine lv_iload_n hx hb dX2_drift_15 rfl (lv_at hl 0 rfl) ?_
      refine lv_iload_n hx hb dX2_drift_16 rfl (lv_at hl 2 rfl) ?_
      refine w_icmpN_ge (tgt := 43) hx hb dX2_drift_17 (by decide) (by omega) (by omega) (fun c_405 => ?_) (fun c_405 => ?_)
      · exact absurd c_405 (by omega)
      · refine lv_aload_n hx hb dX2_drift_20 rfl (lv_at hl 1 rfl) ?_
        refine mg_w C hP dX2_drift_21 ?_
        refine lv_iconst (v := nI 0) hx hb dX2_drift_24 (by decide) ?_
        refine m_ald1 C hP (by omega) dX2_drift_25 ?_
        refine w_eqi (rp_many hR (by omega)) ?_
        refine w_eqi (hB.many) ?_
        refine w_ifN_le (tgt := 43) hx hb dX2_drift_26 (by decide) (by omega) (fun c_406 => ?_) (fun c_406 => ?_)
        · refine lv_aload_n hx hb dX2_drift_43 rfl (lv_at hl 1 rfl) ?_
          refine lv_iconst (v := nI 0) hx hb dX2_drift_44 (by decide) ?_
          refine m_cR [.int (nI 0)] C hml hl.1 hP (mX2_apart l D T ad μ (aH a) 0 hR hB (by omega)) (lw_V q899 q901 qs44 q71 q902) hdX2_apart ⟨rfl, rfl⟩ ⟨Nat.le_of_ble_eq_true rfl, Nat.le_of_ble_eq_true rfl⟩ rfl (Nat.le_of_ble_eq_true rfl) dX2_drift_45 ⟨Nat.zero_le _, Nat.zero_le _⟩ ?_
          exact mM_retI C hlk hr hS hP dX2_drift_48 ⟨by rw [eDr], by rw [eDr]; exact hM⟩
        · exact absurd c_406 (by omega)
    · have eDr : driftQ a (nI n) = (apS (aH (drS n a)), drS n a) := by unfold driftQ; rw [if_pos hin, cln]; dsimp only; rw [if_neg (by omega)]; rfl
      refine lv_iconst (v := nI 0) hx hb dX2_drift_13 (by decide) ?_
      refine lv_istore_n (lv' := [(2, .int (nI 0)), (0, .ref (ad 0)), (1, .int (nI n))]) hx hb dX2_drift_14 rfl hl (by decide) rfl (fun ls hl => ?_)
      refine w_upM (α := Nat → Nat → Int32) (n) 15 3 (gA 7 ad s0.heap.size) s0.heap (fun i μ2 => [(0, .ref (ad 0)), (1, .int (nI n)), (2, .int (nI i))]) (fun i μ2 H => mW D T ad μ2 H ∧ MS μ2 (drS i a)) ?_ ?_ 0 (by omega) μ (lv_sub hl [1, 2, 0] rfl) ⟨hP, hM⟩ hS
      · intro i μ2 ls H locs hi_i hl hW hS ih_i
        have hl : lv_has ls 3 [(0, .ref (ad 0)), (1, .int (nI n)), (2, .int (nI i))] := hl
        obtain ⟨hP, hM2⟩ := hW
        obtain ⟨hdI, hdk, hdM⟩ := hdi i (by omega)
        have hRi := hM2.r
        have hBi := hdI.1.1
        have hrI := AI_rem hdI hdk
        refine lv_iload_n hx hb dX2_drift_15 rfl (lv_at hl 2 rfl) ?_
        refine lv_iload_n hx hb dX2_drift_16 rfl (lv_at hl 1 rfl) ?_
        refine w_icmpN_ge (tgt := 43) hx hb dX2_drift_17 (by decide) (by omega) (by omega) (fun c_407 => ?_) (fun c_407 => ?_)
        · exact absurd c_407 (by omega)
        · refine lv_aload_n hx hb dX2_drift_20 rfl (lv_at hl 0 rfl) ?_
          refine mg_w C hP dX2_drift_21 ?_
          refine lv_iconst (v := nI 0) hx hb dX2_drift_24 (by decide) ?_
          refine m_ald1 C hP (by omega) dX2_drift_25 ?_
          refine w_eqi (rp_many hRi (by omega)) ?_
          refine w_eqi (hBi.many.trans (congrArg nI hdM)) ?_
          refine w_ifN_le (tgt := 43) hx hb dX2_drift_26 (by decide) (by omega) (fun c_408 => ?_) (fun c_408 => ?_)
          · exact absurd c_408 (by omega)
          · refine lv_aload_n hx hb dX2_drift_29 rfl (lv_at hl 0 rfl) ?_
            refine m_cM [] C hml hl.1 hP hS (mX2_remember l D T ad μ2 (drS i a) hM2) (lw_V q992 q994 qs62 q71 q995) hdX2_remember ⟨rfl, rfl⟩ ⟨Nat.le_of_ble_eq_true rfl, Nat.le_of_ble_eq_true rfl⟩ rfl (Nat.le_of_ble_eq_true rfl) dX2_drift_30 ⟨Nat.zero_le _, Nat.zero_le _⟩ (fun v_409 μ_410 H locs hp_411 hP hS => ?_)
            obtain ⟨rfl, hM_412o, hM_412⟩ := hp_411
            refine lv_aload_n hx hb dX2_drift_33 rfl (lv_at hl 0 rfl) ?_
            refine m_cM [] C hml hl.1 hP hS (mX2_time l D T ad μ_410 (remS (drS i a)) (B + 9999 * (i : Int)) hM_412 hrI (by omega) (by omega) (show 0 < nM (aH (drS i a)) by omega)) (lw_V q1042 q1044 qs66 q71 q1045) hdX2_time ⟨rfl, rfl⟩ ⟨Nat.le_of_ble_eq_true rfl, Nat.le_of_ble_eq_true rfl⟩ rfl (Nat.le_of_ble_eq_true rfl) dX2_drift_34 ⟨Nat.zero_le _, Nat.zero_le _⟩ (fun v_413 μ_414 H locs hp_415 hP hS => ?_)
            obtain ⟨rfl, hM_416⟩ := hp_415
            refine lv_iinc (v := nI (i + 1)) (lv' := [(2, .int (nI (i + 1))), (0, .ref (ad 0)), (1, .int (nI n))]) hx hb dX2_drift_37 hl (k := 2) rfl (w_inc _ _) (by decide) rfl (fun ls hl => ?_)
            refine lv_goto (tgt := 15) hx hb dX2_drift_40 (by decide) ?_
            exact ih_i μ_414 _ _ _ (lv_sub hl [1, 2, 0] rfl) ⟨hP, by rw [drS_succ]; exact hM_416⟩ hS
      · intro μ2 ls H locs hl hW hS
        have hl : lv_has ls 3 [(0, .ref (ad 0)), (1, .int (nI n)), (2, .int (nI n))] := hl
        obtain ⟨hP, hM2⟩ := hW
        obtain ⟨hdI, hdk, hdM⟩ := hdi n (by omega)
        have hRi := hM2.r
        have hBi := hdI.1.1
        refine lv_iload_n hx hb dX2_drift_15 rfl (lv_at hl 2 rfl) ?_
        refine lv_iload_n hx hb dX2_drift_16 rfl (lv_at hl 1 rfl) ?_
        refine w_icmpN_ge (tgt := 43) hx hb dX2_drift_17 (by decide) (by omega) (by omega) (fun c_417 => ?_) (fun c_417 => ?_)
        · refine lv_aload_n hx hb dX2_drift_43 rfl (lv_at hl 0 rfl) ?_
          refine lv_iconst (v := nI 0) hx hb dX2_drift_44 (by decide) ?_
          refine m_cR [.int (nI 0)] C hml hl.1 hP (mX2_apart l D T ad μ2 (aH (drS n a)) 0 hRi hBi (by omega)) (lw_V q899 q901 qs44 q71 q902) hdX2_apart ⟨rfl, rfl⟩ ⟨Nat.le_of_ble_eq_true rfl, Nat.le_of_ble_eq_true rfl⟩ rfl (Nat.le_of_ble_eq_true rfl) dX2_drift_45 ⟨Nat.zero_le _, Nat.zero_le _⟩ ?_
          exact mM_retI C hlk hr hS hP dX2_drift_48 ⟨by rw [eDr], by rw [eDr]; exact hM2⟩
        · exact absurd c_417 (by omega)
  · have hin : ¬ inB x 1 16 = true := by rw [← (inB_in (v := x) (lo := nI 1) (hi := nI 16) (l := 1) (u := 16) (by decide) (by decide)), bI_eq0.mp c_404]; decide
    refine lv_ldc hx hb hown (hts _ q845) dX2_drift_10 ?_
    exact mM_retI C hlk hr hS hP dX2_drift_12 ⟨by unfold driftQ; rw [if_neg hin], by unfold driftQ; rw [if_neg hin]; exact hM⟩

theorem hdX2_undo : yX2_undo.cls = "LiarClocksModel" ∧ yX2_undo.cls ≠ "java/lang/invoke/MethodHandle" ∧ yX2_undo.cls ≠ "java/lang/invoke/VarHandle" ∧ (parseMethodDescriptor yX2_undo.desc).map (fun d => d.parameters.length) = some 1 := by decide +kernel
set_option maxHeartbeats 4000000 in
/-- undo -/
theorem mX2_undo (l : Launch) (D : va_G) (T : Nat → ClassId) (ad : Nat → Nat) (μ : Nat → Nat → Int32) (a : Ab) (B : Int) (hM : MS μ a) (hI : AI a B) (hB0 : B ≤ 400000000) (hB1 : 0 ≤ B) (x : Int32) : ∀ sz, Met l yX2_undo (ws_ yX2_undo cX2_undo 3 (some .int)) ({ frames := 1, cells := 0, slots := 0, locals := 23 } : Room) (mPs D T ad μ [.ref (ad 0), .int x] sz) (mQ D T ad (fun r μ' => r = some (.int (undoQ a x).1) ∧ MS μ' (undoQ a x).2)) 0 0 (gA 7 ad sz) := by
  have hR := hM.r
  have hB := hI.1.1
  have hA := hI.1.2.2.1
  have h8 := hB.many8
  have h3 := hB.strike3
  have h6 := hB.alarms6
  refine mM_intro [.ref (ad 0), .int x] (by decide) rfl (Nat.le_of_ble_eq_true rfl) ?_
  intro pg en s0 mi below meth cd ls C hr hlk hml hP hS hl
  have hx := C.1
  have hb := C.2.1
  have hown := C.2.2.1
  have hts := C.2.2.2.1
  have hl : lv_has ls 3 [(0, .ref (ad 0)), (1, .int x)] := hl
  have k16 := hM.kn16
  have t200 := hM.tn200
  have b20 := hM.bn20
  refine lv_iload_n hx hb dX2_undo_0 rfl (lv_at hl 1 rfl) ?_
  refine lv_iconst (v := nI 1) hx hb dX2_undo_1 (by decide) ?_
  refine lv_bipush (v := nI 16) hx hb dX2_undo_2 (by decide) ?_
  refine m_cS [.int x, .int (nI 1), .int (nI 16)] C hml hl.1 (mX2_in l x (nI (1)) (nI (16))) (lw_S q842 q843 q71 q844) hdX2_in.2 ⟨rfl, rfl⟩ ⟨Nat.le_of_ble_eq_true rfl, Nat.le_of_ble_eq_true rfl⟩ rfl (Nat.le_of_ble_eq_true rfl) dX2_undo_4 ⟨Nat.zero_le _, Nat.zero_le _⟩ ?_
  refine lv_if_ne (tgt := 13) hx hb dX2_undo_7 (by decide) (fun c_418 => ?_) (fun c_418 => ?_)
  · have hin : inB x 1 16 = true := (inB_in (v := x) (lo := nI 1) (hi := nI 16) (l := 1) (u := 16) (by decide) (by decide)) ▸ bI_ne0.mp c_418
    obtain ⟨n, n_1, n_2, en⟩ := inB_nat (lo := 1) (hi := 16) hin
    subst en
    have cln : (nI n).toNatClampNeg = n := nI_clamp (by omega)
    refine lv_iload_n hx hb dX2_undo_13 rfl (lv_at hl 1 rfl) ?_
    refine lv_aload_n hx hb dX2_undo_14 rfl (lv_at hl 0 rfl) ?_
    refine mg_known C hP dX2_undo_15 ?_
    refine w_eqi (y := nI (aKn a)) (hM.kn) ?_
    refine w_icmpN_le (tgt := 24) hx hb dX2_undo_18 (by decide) (by omega) (by omega) (fun c_419 => ?_) (fun c_419 => ?_)
    · have hnl : ¬ aKn a < n := by omega
      refine lv_aload_n hx hb dX2_undo_24 rfl (lv_at hl 0 rfl) ?_
      refine mg_w C hP dX2_undo_25 ?_
      refine lv_sipush (v := nI 191) hx hb dX2_undo_28 (by decide) ?_
      refine m_ald1 C hP (by omega) dX2_undo_31 ?_
      refine lv_istore_n (lv' := [(2, .int (μ 1 (191))), (0, .ref (ad 0)), (1, .int (nI n))]) hx hb dX2_undo_32 rfl hl (by decide) rfl (fun ls hl => ?_)
      refine lv_aload_n hx hb dX2_undo_33 rfl (lv_at hl 1 rfl) ?_
      refine lv_dup hx hb dX2_undo_34 rfl ?_
      refine mg_known C hP dX2_undo_35 ?_
      refine w_eqi (y := nI (aKn a)) (hM.kn) ?_
      refine lv_iload_n hx hb dX2_undo_38 rfl (lv_at hl 2 rfl) ?_
      refine w_isubN hx hb dX2_undo_39 (by omega) ?_
      refine mp_known C hP hS dX2_undo_40 (fun H locs hP hS => ?_)
      obtain ⟨μ_420, eμ_421⟩ : ∃ y9, y9 = mset μ 0 1 (nI (aKn a - n)) := ⟨_, rfl⟩
      rw [← eμ_421] at hP
      have hR_422 : Rp (μ_420 1) 0 (aH a) := by rw [eμ_421, mset_oth (by decide)]; exact hR
      refine lv_aload_n hx hb dX2_undo_43 rfl (lv_at hl 1 rfl) ?_
      refine lv_sipush (v := nI 192) hx hb dX2_undo_44 (by decide) ?_
      refine lv_aload_n hx hb dX2_undo_47 rfl (lv_at hl 1 rfl) ?_
      refine mg_known C hP dX2_undo_48 ?_
      refine w_eqi (y := nI (aKn a - n)) (by rw [eμ_421, mset_self]) ?_
      refine lv_iconst (v := nI 1) hx hb dX2_undo_51 (by decide) ?_
      refine w_iaddN hx hb dX2_undo_52 ?_
      refine w_imulN hx hb dX2_undo_53 ?_
      refine lv_iconst (v := nI 0) hx hb dX2_undo_54 (by decide) ?_
      refine m_cM [.int (nI (192 * (aKn a - n + 1))), .int (nI 0)] C hml hl.1 hP hS (mX2_copyRow l D T ad μ_420 (192 * (aKn a - n + 1)) 0 (by omega) (by omega) (by omega)) (lw_V q879 q881 qs41 q71 q882) hdX2_copyRow ⟨rfl, rfl⟩ ⟨Nat.le_of_ble_eq_true rfl, Nat.le_of_ble_eq_true rfl⟩ rfl (Nat.le_of_ble_eq_true rfl) dX2_undo_55 ⟨Nat.zero_le _, Nat.zero_le _⟩ (fun v_423 μ_424 H locs hp_425 hP hS => ?_)
      obtain ⟨rfl, cp_426a, cp_426b, cp_426c⟩ := hp_425
      have hRn : Rp (μ_424 1) 0 (aPs a (n - 1)) := by
        have := hM.ps (k := n - 1) (by omega)
        rw [show aKn a - (n - 1) = aKn a - n + 1 by omega] at this
        refine this.copy (fun j hj => ?_)
        rw [cp_426a j (by omega), eμ_421, mset_oth (by decide)]
      refine lv_aload_n hx hb dX2_undo_58 rfl (lv_at hl 1 rfl) ?_
      refine mg_w C hP dX2_undo_59 ?_
      refine lv_sipush (v := nI 191) hx hb dX2_undo_62 (by decide) ?_
      refine lv_iload_n hx hb dX2_undo_65 rfl (lv_at hl 0 rfl) ?_
      refine m_ast1 C hP hS (by omega) dX2_undo_66 (fun H locs hP hS => ?_)
      obtain ⟨μ_427, eμ_428⟩ : ∃ y9, y9 = mset μ_424 1 (191) (μ 1 (191)) := ⟨_, rfl⟩
      rw [← eμ_428] at hP
      have hR3 : Rp (μ_427 1) 0 (aPs a (n - 1)) := by rw [eμ_428, mset_row]; exact hRn.off (Or.inr (by omega))
      refine lv_aload_n hx hb dX2_undo_67 rfl (lv_at hl 1 rfl) ?_
      refine mg_w C hP dX2_undo_68 ?_
      refine lv_sipush (v := nI 190) hx hb dX2_undo_71 (by decide) ?_
      refine m_ald1 C hP (by omega) dX2_undo_74 ?_
      refine w_eqi (rp_times hR3 (by omega)) ?_
      exact mM_retI C hlk hr hS hP dX2_undo_75 ⟨by unfold undoQ; rw [if_pos hin, cln, if_neg hnl], by
            unfold undoQ; rw [if_pos hin, cln, if_neg hnl]
            have q : ∀ j, j ≠ 0 → j ≠ 1 → μ_427 j = μ j := fun j j0 j1 => by rw [eμ_428, mset_oth j1, cp_426c j j1, eμ_421, mset_oth j0]
            have q0 : ∀ j, j ≠ 1 → μ_427 0 j = μ 0 j := fun j j1 => by rw [eμ_428, mset_oth (by decide), cp_426c 0 (by decide), eμ_421, mset_ne (Or.inr j1)]
            have kf : ∀ j, 192 ≤ j → μ_427 1 j = μ 1 j := fun j hj => by rw [eμ_428, mset_ne (Or.inr (by omega)), cp_426b j (by omega), eμ_421, mset_oth (by decide)]
            refine ⟨⟨hR3, by rw [eμ_428, mset_self]; exact hM.sd⟩, ⟨by rw [eμ_428, mset_oth (by decide), cp_426c 0 (by decide), eμ_421, mset_self], by show aKn a - n ≤ 16; omega, fun k hk => ?_⟩, ⟨by rw [q0 2 (by decide)]; exact hM.kp, fun i hi hk => ?_⟩, ⟨by rw [q0 4 (by decide)]; exact hM.tn, hM.tn200, fun j hj => by rw [q 2 (by decide) (by decide)]; exact hM.tx hj⟩, by rw [q0 5 (by decide)]; exact hM.ft, ⟨by rw [q0 8 (by decide)]; exact hM.bn, hM.bn20, fun j hj => by rw [q 3 (by decide) (by decide), q 4 (by decide) (by decide)]; exact hM.bk hj⟩⟩
            · have hk : k < aKn a - n := hk
              show Rp (μ_427 1) (192 * (aKn a - n - k)) (aPs a (k + n))
              have := hM.ps (k := k + n) (by omega)
              rw [show aKn a - (k + n) = aKn a - n - k by omega] at this
              exact this.kept (fun j hj _ => kf j (by omega))
            · have := hM.im hi hk
              exact ⟨this.1.kept (fun j hj _ => kf j (by omega)), by rw [kf _ (by omega)]; exact this.2⟩⟩
    · refine lv_ldc hx hb hown (hts _ q1028) dX2_undo_21 ?_
      exact mM_retI C hlk hr hS hP dX2_undo_23 ⟨by unfold undoQ; rw [if_pos hin, cln, if_pos c_419], by unfold undoQ; rw [if_pos hin, cln, if_pos c_419]; exact hM⟩
  · have hin : ¬ inB x 1 16 = true := by rw [← (inB_in (v := x) (lo := nI 1) (hi := nI 16) (l := 1) (u := 16) (by decide) (by decide)), bI_eq0.mp c_418]; decide
    refine lv_ldc hx hb hown (hts _ q845) dX2_undo_10 ?_
    exact mM_retI C hlk hr hS hP dX2_undo_12 ⟨by unfold undoQ; rw [if_neg hin], by unfold undoQ; rw [if_neg hin]; exact hM⟩

theorem hdX2_behind : yX2_behind.cls = "LiarClocksModel" ∧ yX2_behind.cls ≠ "java/lang/invoke/MethodHandle" ∧ yX2_behind.cls ≠ "java/lang/invoke/VarHandle" ∧ (parseMethodDescriptor yX2_behind.desc).map (fun d => d.parameters.length) = some 1 := by decide +kernel
set_option maxHeartbeats 4000000 in
/-- behind -/
theorem mX2_behind (l : Launch) (D : va_G) (T : Nat → ClassId) (ad : Nat → Nat) (μ : Nat → Nat → Int32) (a : Ab) (B : Int) (hM : MS μ a) (hI : AI a B) (hB0 : B ≤ 400000000) (hB1 : 0 ≤ B) (hB2 : B + 210000 ≤ 400000000) (x : Int32) : ∀ sz, Met l yX2_behind (ws_ yX2_behind cX2_behind 3 (some .int)) ({ frames := 4, cells := 0, slots := 0, locals := 91 } : Room) (mPs D T ad μ [.ref (ad 0), .int x] sz) (mQ D T ad (fun r μ' => r = some (.int (behindQ (aH a) x)) ∧ MS μ' a)) 0 0 (gA 7 ad sz) := by
  have hR := hM.r
  have hB := hI.1.1
  have hA := hI.1.2.2.1
  have h8 := hB.many8
  have h3 := hB.strike3
  have h6 := hB.alarms6
  refine mM_intro [.ref (ad 0), .int x] (by decide) rfl (Nat.le_of_ble_eq_true rfl) ?_
  intro pg en s0 mi below meth cd ls C hr hlk hml hP hS hl
  have hx := C.1
  have hb := C.2.1
  have hown := C.2.2.1
  have hts := C.2.2.2.1
  have hl : lv_has ls 3 [(0, .ref (ad 0)), (1, .int x)] := hl
  have k16 := hM.kn16
  have t200 := hM.tn200
  have b20 := hM.bn20
  refine lv_iload_n hx hb dX2_behind_0 rfl (lv_at hl 1 rfl) ?_
  refine lv_iconst (v := nI 0) hx hb dX2_behind_1 (by decide) ?_
  refine lv_bipush (v := nI 20) hx hb dX2_behind_2 (by decide) ?_
  refine m_cS [.int x, .int (nI 0), .int (nI 20)] C hml hl.1 (mX2_in l x (nI (0)) (nI (20))) (lw_S q842 q843 q71 q844) hdX2_in.2 ⟨rfl, rfl⟩ ⟨Nat.le_of_ble_eq_true rfl, Nat.le_of_ble_eq_true rfl⟩ rfl (Nat.le_of_ble_eq_true rfl) dX2_behind_4 ⟨Nat.zero_le _, Nat.zero_le _⟩ ?_
  refine lv_if_ne (tgt := 13) hx hb dX2_behind_7 (by decide) (fun c_429 => ?_) (fun c_429 => ?_)
  · have hin : inB x 0 20 = true := (inB_in (v := x) (lo := nI 0) (hi := nI 20) (l := 0) (u := 20) (by decide) (by decide)) ▸ bI_ne0.mp c_429
    obtain ⟨n, n_1, n_2, en⟩ := inB_nat (lo := 0) (hi := 20) hin
    subst en
    have cln : (nI n).toNatClampNeg = n := nI_clamp (by omega)
    have hgi : ∀ i, i ≤ n → HG (iterS roundS i (aH a)) (B + 9999 * (i : Int)) := fun i hi => HG_rounds hI.1 hB1 i (by omega)
    refine lv_aload_n hx hb dX2_behind_13 rfl (lv_at hl 0 rfl) ?_
    refine lv_iconst (v := nI 0) hx hb dX2_behind_14 (by decide) ?_
    refine lv_sipush (v := nI 3648) hx hb dX2_behind_15 (by decide) ?_
    refine m_cM [.int (nI 0), .int (nI 3648)] C hml hl.1 hP hS (mX2_copyRow l D T ad μ 0 3648 (by omega) (by omega) (by omega)) (lw_V q879 q881 qs41 q71 q882) hdX2_copyRow ⟨rfl, rfl⟩ ⟨Nat.le_of_ble_eq_true rfl, Nat.le_of_ble_eq_true rfl⟩ rfl (Nat.le_of_ble_eq_true rfl) dX2_behind_18 ⟨Nat.zero_le _, Nat.zero_le _⟩ (fun v_430 μ_431 H locs hp_432 hP hS => ?_)
    obtain ⟨rfl, cp_433a, cp_433b, cp_433c⟩ := hp_432
    refine lv_iconst (v := nI 0) hx hb dX2_behind_21 (by decide) ?_
    refine lv_istore_n (lv' := [(2, .int (nI 0)), (0, .ref (ad 0)), (1, .int (nI n))]) hx hb dX2_behind_22 rfl hl (by decide) rfl (fun ls hl => ?_)
    refine w_upM (α := Nat → Nat → Int32) (n) 23 3 (gA 7 ad s0.heap.size) s0.heap (fun i μ2 => [(0, .ref (ad 0)), (1, .int (nI n)), (2, .int (nI i))]) (fun i μ2 H => mW D T ad μ2 H ∧ Rp (μ2 1) 3648 (iterS roundS i (aH a)) ∧ (∀ k, k < 3648 → μ2 1 k = μ 1 k) ∧ ∀ q, q ≠ 1 → q ≠ 5 → q ≠ 6 → μ2 q = μ q) ?_ ?_ 0 (by omega) μ_431 (lv_sub hl [1, 2, 0] rfl) ⟨hP, hR.copy (fun k hk => by have := cp_433a k (by omega); rw [Nat.zero_add] at this ⊢; exact this), fun k hk => cp_433b k (by omega), fun q h1 _ _ => cp_433c q h1⟩ hS
    · intro i μ2 ls H locs hi_i hl hW hS ih_i
      have hl : lv_has ls 3 [(0, .ref (ad 0)), (1, .int (nI n)), (2, .int (nI i))] := hl
      obtain ⟨hP, hR2, hk2, hoth⟩ := hW
      have hg := hgi i (by omega)
      refine lv_iload_n hx hb dX2_behind_23 rfl (lv_at hl 2 rfl) ?_
      refine lv_iload_n hx hb dX2_behind_24 rfl (lv_at hl 1 rfl) ?_
      refine w_icmpN_ge (tgt := 41) hx hb dX2_behind_25 (by decide) (by omega) (by omega) (fun c_434 => ?_) (fun c_434 => ?_)
      · exact absurd c_434 (by omega)
      · refine lv_aload_n hx hb dX2_behind_28 rfl (lv_at hl 0 rfl) ?_
        refine lv_sipush (v := nI 3648) hx hb dX2_behind_29 (by decide) ?_
        refine m_cM [.int (nI 3648)] C hml hl.1 hP hS (mX2_roundIn l D T ad μ2 (iterS roundS i (aH a)) 3648 hR2 hg.1 (by omega) (B + 9999 * (i : Int)) hg.2.2.1 (by omega) (by omega)) (lw_V q1004 q1006 qs64 q71 q1007) hdX2_roundIn ⟨rfl, rfl⟩ ⟨Nat.le_of_ble_eq_true rfl, Nat.le_of_ble_eq_true rfl⟩ rfl (Nat.le_of_ble_eq_true rfl) dX2_behind_32 ⟨Nat.zero_le _, Nat.zero_le _⟩ (fun v_435 μ_436 H locs hp_437 hP hS => ?_)
        obtain ⟨rfl, rd_438a, rd_438b, rd_438c⟩ := hp_437
        refine lv_iinc (v := nI (i + 1)) (lv' := [(2, .int (nI (i + 1))), (0, .ref (ad 0)), (1, .int (nI n))]) hx hb dX2_behind_35 hl (k := 2) rfl (w_inc _ _) (by decide) rfl (fun ls hl => ?_)
        refine lv_goto (tgt := 23) hx hb dX2_behind_38 (by decide) ?_
        exact ih_i μ_436 _ _ _ (lv_sub hl [1, 2, 0] rfl) ⟨hP, rd_438a, fun k hk => by rw [rd_438b k (by omega)]; exact hk2 k hk, fun q h1 h5 h6 => by rw [rd_438c q h1 h5 h6]; exact hoth q h1 h5 h6⟩ hS
    · intro μ2 ls H locs hl hW hS
      have hl : lv_has ls 3 [(0, .ref (ad 0)), (1, .int (nI n)), (2, .int (nI n))] := hl
      obtain ⟨hP, hR2, hk2, hoth⟩ := hW
      have hg := hgi n (by omega)
      refine lv_iload_n hx hb dX2_behind_23 rfl (lv_at hl 2 rfl) ?_
      refine lv_iload_n hx hb dX2_behind_24 rfl (lv_at hl 1 rfl) ?_
      refine w_icmpN_ge (tgt := 41) hx hb dX2_behind_25 (by decide) (by omega) (by omega) (fun c_439 => ?_) (fun c_439 => ?_)
      · refine lv_aload_n hx hb dX2_behind_41 rfl (lv_at hl 0 rfl) ?_
        refine lv_sipush (v := nI 3648) hx hb dX2_behind_42 (by decide) ?_
        refine m_cR [.int (nI 3648)] C hml hl.1 hP (mX2_apart l D T ad μ2 (iterS roundS n (aH a)) 3648 hR2 hg.1 (by omega)) (lw_V q899 q901 qs44 q71 q902) hdX2_apart ⟨rfl, rfl⟩ ⟨Nat.le_of_ble_eq_true rfl, Nat.le_of_ble_eq_true rfl⟩ rfl (Nat.le_of_ble_eq_true rfl) dX2_behind_45 ⟨Nat.zero_le _, Nat.zero_le _⟩ ?_
        exact mM_retI C hlk hr hS hP dX2_behind_48 ⟨by unfold behindQ; rw [if_pos hin, cln], hM.same (hoth 0 (by decide) (by decide) (by decide)) hk2 (hoth 2 (by decide) (by decide) (by decide)) (hoth 3 (by decide) (by decide) (by decide)) (hoth 4 (by decide) (by decide) (by decide))⟩
      · exact absurd c_439 (by omega)
  · have hin : ¬ inB x 0 20 = true := by rw [← (inB_in (v := x) (lo := nI 0) (hi := nI 20) (l := 0) (u := 20) (by decide) (by decide)), bI_eq0.mp c_429]; decide
    refine lv_ldc hx hb hown (hts _ q845) dX2_behind_10 ?_
    exact mM_retI C hlk hr hS hP dX2_behind_12 ⟨by unfold behindQ; rw [if_neg hin], hM⟩

theorem hdX2_within : yX2_within.cls = "LiarClocksModel" ∧ yX2_within.cls ≠ "java/lang/invoke/MethodHandle" ∧ yX2_within.cls ≠ "java/lang/invoke/VarHandle" ∧ (parseMethodDescriptor yX2_within.desc).map (fun d => d.parameters.length) = some 1 := by decide +kernel
set_option maxHeartbeats 4000000 in
/-- within -/
theorem mX2_within (l : Launch) (D : va_G) (T : Nat → ClassId) (ad : Nat → Nat) (μ : Nat → Nat → Int32) (a : Ab) (B : Int) (hM : MS μ a) (hI : AI a B) (hB0 : B ≤ 400000000) (hB1 : 0 ≤ B) (hB2 : B + 210000 ≤ 400000000) (y : Int32) : ∀ sz, Met l yX2_within (ws_ yX2_within cX2_within 4 (some .int)) ({ frames := 5, cells := 0, slots := 0, locals := 113 } : Room) (mPs D T ad μ [.ref (ad 0), .int y] sz) (mQ D T ad (fun r μ' => r = some (.int (withinQ (aH a) y)) ∧ MS μ' a)) 0 0 (gA 7 ad sz) := by
  have hR := hM.r
  have hB := hI.1.1
  have hA := hI.1.2.2.1
  have h8 := hB.many8
  have h3 := hB.strike3
  have h6 := hB.alarms6
  refine mM_intro [.ref (ad 0), .int y] (by decide) rfl (Nat.le_of_ble_eq_true rfl) ?_
  intro pg en s0 mi below meth cd ls C hr hlk hml hP hS hl
  have hx := C.1
  have hb := C.2.1
  have hown := C.2.2.1
  have hts := C.2.2.2.1
  have hl : lv_has ls 4 [(0, .ref (ad 0)), (1, .int y)] := hl
  have k16 := hM.kn16
  have t200 := hM.tn200
  have b20 := hM.bn20
  refine lv_iload_n hx hb dX2_within_0 rfl (lv_at hl 1 rfl) ?_
  refine lv_iconst (v := nI 0) hx hb dX2_within_1 (by decide) ?_
  refine lv_sipush (v := nI 9999) hx hb dX2_within_2 (by decide) ?_
  refine m_cS [.int y, .int (nI 0), .int (nI 9999)] C hml hl.1 (mX2_in l y (nI (0)) (nI (9999))) (lw_S q842 q843 q71 q844) hdX2_in.2 ⟨rfl, rfl⟩ ⟨Nat.le_of_ble_eq_true rfl, Nat.le_of_ble_eq_true rfl⟩ rfl (Nat.le_of_ble_eq_true rfl) dX2_within_5 ⟨Nat.zero_le _, Nat.zero_le _⟩ ?_
  refine lv_if_ne (tgt := 14) hx hb dX2_within_8 (by decide) (fun c_440 => ?_) (fun c_440 => ?_)
  · have hin : inB y 0 9999 = true := (inB_in (v := y) (lo := nI 0) (hi := nI 9999) (l := 0) (u := 9999) (by decide) (by decide)) ▸ bI_ne0.mp c_440
    refine lv_iconst (v := nI 0) hx hb dX2_within_14 (by decide) ?_
    refine lv_istore_n (lv' := [(2, .int (nI 0)), (0, .ref (ad 0)), (1, .int y)]) hx hb dX2_within_15 rfl hl (by decide) rfl (fun ls hl => ?_)
    refine w_upM (α := Nat → Nat → Int32) (21) 16 4 (gA 7 ad s0.heap.size) s0.heap (fun i μ2 => [(0, .ref (ad 0)), (1, .int y), (2, .int (nI i))]) (fun i μ2 H => mW D T ad μ2 H ∧ MS μ2 a ∧ ∀ k, k < i → wiB (aH a) y k = false) ?_ ?_ 0 (by omega) μ (lv_sub hl [1, 2, 0] rfl) ⟨hP, hM, fun k hk => absurd hk (Nat.not_lt_zero k)⟩ hS
    · intro i μ2 ls H locs hi_i hl hW hS ih_i
      have hl : lv_has ls 4 [(0, .ref (ad 0)), (1, .int y), (2, .int (nI i))] := hl
      obtain ⟨hP, hM2, hno⟩ := hW
      refine lv_iload_n hx hb dX2_within_16 rfl (lv_at hl 2 rfl) ?_
      refine lv_bipush (v := nI 20) hx hb dX2_within_17 (by decide) ?_
      refine w_icmpN_gt (tgt := 46) hx hb dX2_within_19 (by decide) (by omega) (by omega) (fun c_441 => ?_) (fun c_441 => ?_)
      · exact absurd c_441 (by omega)
      · refine lv_aload_n hx hb dX2_within_22 rfl (lv_at hl 0 rfl) ?_
        refine lv_iload_n hx hb dX2_within_23 rfl (lv_at hl 2 rfl) ?_
        refine m_cM [.int (nI i)] C hml hl.1 hP hS (mX2_behind l D T ad μ2 a B hM2 hI hB0 hB1 hB2 (nI (i))) (lw_V q1066 q1059 q1060 q71 q1061) hdX2_behind ⟨rfl, rfl⟩ ⟨Nat.le_of_ble_eq_true rfl, Nat.le_of_ble_eq_true rfl⟩ rfl (Nat.le_of_ble_eq_true rfl) dX2_within_24 ⟨Nat.zero_le _, Nat.zero_le _⟩ (fun v_442 μ_443 H locs hp_444 hP hS => ?_)
        obtain ⟨rfl, hM_445⟩ := hp_444
        refine w_eqi (y := apS (iterS roundS i (aH a))) (by unfold behindQ; rw [if_pos (show inB (nI i) 0 20 = true by unfold inB; rw [nI_toInt (by omega)]; simp only [Bool.and_eq_true, decide_eq_true_eq]; omega), nI_clamp (by omega)]) ?_
        refine lv_istore_n (lv' := [(3, .int (apS (iterS roundS i (aH a)))), (0, .ref (ad 0)), (1, .int y), (2, .int (nI i))]) hx hb dX2_within_27 rfl hl (by decide) rfl (fun ls hl => ?_)
        refine lv_iload_n hx hb dX2_within_28 rfl (lv_at hl 0 rfl) ?_
        refine lv_iconst (v := -1) hx hb dX2_within_29 (by decide) ?_
        refine lv_icmp_eq (tgt := 40) hx hb dX2_within_30 (by decide) (fun c_446 => ?_) (fun c_446 => ?_)
        · refine lv_iinc (v := nI (i + 1)) (lv' := [(2, .int (nI (i + 1))), (3, .int (apS (iterS roundS i (aH a)))), (0, .ref (ad 0)), (1, .int y)]) hx hb dX2_within_40 hl (k := 3) rfl (w_inc _ _) (by decide) rfl (fun ls hl => ?_)
          refine lv_goto (tgt := 16) hx hb dX2_within_43 (by decide) ?_
          refine ih_i μ_443 _ _ _ (lv_sub hl [2, 3, 0] rfl) ⟨hP, hM_445, ?_⟩ hS
          intro k hk
          by_cases hki : k = i
          · subst hki; unfold wiB; rw [decide_eq_false (fun q => q c_446)]; rfl
          · exact hno k (by omega)
        · refine lv_iload_n hx hb dX2_within_33 rfl (lv_at hl 0 rfl) ?_
          refine lv_iload_n hx hb dX2_within_34 rfl (lv_at hl 2 rfl) ?_
          refine lv_icmp_gt (tgt := 40) hx hb dX2_within_35 (by decide) (fun c_447 => ?_) (fun c_447 => ?_)
          · refine lv_iinc (v := nI (i + 1)) (lv' := [(2, .int (nI (i + 1))), (3, .int (apS (iterS roundS i (aH a)))), (0, .ref (ad 0)), (1, .int y)]) hx hb dX2_within_40 hl (k := 3) rfl (w_inc _ _) (by decide) rfl (fun ls hl => ?_)
            refine lv_goto (tgt := 16) hx hb dX2_within_43 (by decide) ?_
            refine ih_i μ_443 _ _ _ (lv_sub hl [2, 3, 0] rfl) ⟨hP, hM_445, ?_⟩ hS
            intro k hk
            by_cases hki : k = i
            · subst hki; unfold wiB; rw [decide_eq_false (Int32.not_le.mpr c_447)]; exact Bool.and_false _
            · exact hno k (by omega)
          · refine lv_iload_n hx hb dX2_within_38 rfl (lv_at hl 3 rfl) ?_
            exact mM_retI C hlk hr hS hP dX2_within_39 ⟨by
                  have hw : wiB (aH a) y i = true := by unfold wiB; rw [decide_eq_true c_446, decide_eq_true (Int32.not_lt.mp c_447)]; rfl
                  unfold withinQ; rw [if_pos hin, first_some (n := 21) (by omega) hw hno, if_pos (by omega)], hM_445⟩
    · intro μ2 ls H locs hl hW hS
      have hl : lv_has ls 4 [(0, .ref (ad 0)), (1, .int y), (2, .int (nI 21))] := hl
      obtain ⟨hP, hM2, hno⟩ := hW
      refine lv_iload_n hx hb dX2_within_16 rfl (lv_at hl 2 rfl) ?_
      refine lv_bipush (v := nI 20) hx hb dX2_within_17 (by decide) ?_
      refine w_icmpN_gt (tgt := 46) hx hb dX2_within_19 (by decide) (by omega) (by omega) (fun c_448 => ?_) (fun c_448 => ?_)
      · refine lv_iconst (v := -1) hx hb dX2_within_46 (by decide) ?_
        exact mM_retI C hlk hr hS hP dX2_within_47 ⟨by unfold withinQ; rw [if_pos hin, if_neg (first_none hno)], hM2⟩
      · exact absurd c_448 (by omega)
  · have hin : ¬ inB y 0 9999 = true := by rw [← (inB_in (v := y) (lo := nI 0) (hi := nI 9999) (l := 0) (u := 9999) (by decide) (by decide)), bI_eq0.mp c_440]; decide
    refine lv_ldc hx hb hown (hts _ q845) dX2_within_11 ?_
    exact mM_retI C hlk hr hS hP dX2_within_13 ⟨by unfold withinQ; rw [if_neg hin], hM⟩

theorem hdX2_has : yX2_has.cls = "LiarClocksModel" ∧ yX2_has.cls ≠ "java/lang/invoke/MethodHandle" ∧ yX2_has.cls ≠ "java/lang/invoke/VarHandle" ∧ (parseMethodDescriptor yX2_has.desc).map (fun d => d.parameters.length) = some 2 := by decide +kernel
set_option maxHeartbeats 4000000 in
/-- has -/
theorem mX2_has (l : Launch) (z k : Int32) : Met l yX2_has (ws_ yX2_has cX2_has 2 (some .boolean)) ({ frames := 0, cells := 0, slots := 0, locals := 0 } : Room) (fun v9 _ => v9 = ([.int z, .int k] : List Value).toArray) (QcRead (bI (decide ((z >>> (k &&& 31)) &&& 1 = 1)))) 0 0 (fun _ => False) := by
  refine sR_intro [.int z, .int k] (by decide) (Nat.le_of_ble_eq_true rfl) ?_
  intro pg en s0 mi below meth cd ls hx hb hown hts hr hlk hml hl
  have hl : lv_has ls 2 [(0, .int z), (1, .int k)] := hl
  refine lv_iload_n hx hb dX2_has_0 rfl (lv_at hl 0 rfl) ?_
  refine lv_iload_n hx hb dX2_has_1 rfl (lv_at hl 1 rfl) ?_
  refine lv_ishr hx hb dX2_has_2 ?_
  refine lv_iconst (v := 1) hx hb dX2_has_3 (by decide) ?_
  refine lv_iand hx hb dX2_has_4 ?_
  refine lv_iconst (v := 1) hx hb dX2_has_5 (by decide) ?_
  refine lv_icmp_ne (tgt := 13) hx hb dX2_has_6 (by decide) (fun c_449 => ?_) (fun c_449 => ?_)
  · refine lv_iconst (v := 0) hx hb dX2_has_13 (by decide) ?_
    exact w_retZ hx hb hlk hr dX2_has_14 (by rw [decide_eq_false c_449]; rfl)
  · refine lv_iconst (v := 1) hx hb dX2_has_9 (by decide) ?_
    refine lv_goto (tgt := 14) hx hb dX2_has_10 (by decide) ?_
    exact w_retZ hx hb hlk hr dX2_has_14 (by rw [decide_eq_true c_449]; rfl)

theorem kp_has {k : Nat → Bool} : ∀ i, i < 2 → decide ((nI (kpN k) >>> (nI i &&& 31)) &&& 1 = 1) = k i := by
  intro i hi
  unfold kpN
  rcases (show i = 0 ∨ i = 1 by omega) with rfl | rfl
  · cases k 0 <;> cases k 1 <;> decide
  · cases k 0 <;> cases k 1 <;> decide
theorem kp_or {k : Nat → Bool} : ∀ i, i < 2 → nI (kpN k) ||| ((1 : Int32) <<< (nI i &&& 31)) = nI (kpN (fun j => if j = i then true else k j)) := by
  intro i hi
  unfold kpN
  rcases (show i = 0 ∨ i = 1 by omega) with rfl | rfl
  · simp only [if_true, show ¬ (1 = 0) by decide, if_false]
    cases k 0 <;> cases k 1 <;> decide
  · simp only [if_true, show ¬ (0 = 1) by decide, if_false]
    cases k 0 <;> cases k 1 <;> decide
theorem hdX2_keep : yX2_keep.cls = "LiarClocksModel" ∧ yX2_keep.cls ≠ "java/lang/invoke/MethodHandle" ∧ yX2_keep.cls ≠ "java/lang/invoke/VarHandle" ∧ (parseMethodDescriptor yX2_keep.desc).map (fun d => d.parameters.length) = some 1 := by decide +kernel
set_option maxHeartbeats 4000000 in
/-- keep -/
theorem mX2_keep (l : Launch) (D : va_G) (T : Nat → ClassId) (ad : Nat → Nat) (μ : Nat → Nat → Int32) (a : Ab) (B : Int) (hM : MS μ a) (hI : AI a B) (hB0 : B ≤ 400000000) (hB1 : 0 ≤ B) (x : Int32) : ∀ sz, Met l yX2_keep (ws_ yX2_keep cX2_keep 2 (some .int)) ({ frames := 1, cells := 0, slots := 0, locals := 23 } : Room) (mPs D T ad μ [.ref (ad 0), .int x] sz) (mQ D T ad (fun r μ' => r = some (.int (keepQ a x).1) ∧ MS μ' (keepQ a x).2)) 0 0 (gA 7 ad sz) := by
  have hR := hM.r
  have hB := hI.1.1
  have hA := hI.1.2.2.1
  have h8 := hB.many8
  have h3 := hB.strike3
  have h6 := hB.alarms6
  refine mM_intro [.ref (ad 0), .int x] (by decide) rfl (Nat.le_of_ble_eq_true rfl) ?_
  intro pg en s0 mi below meth cd ls C hr hlk hml hP hS hl
  have hx := C.1
  have hb := C.2.1
  have hown := C.2.2.1
  have hts := C.2.2.2.1
  have hl : lv_has ls 2 [(0, .ref (ad 0)), (1, .int x)] := hl
  have k16 := hM.kn16
  have t200 := hM.tn200
  have b20 := hM.bn20
  refine lv_iload_n hx hb dX2_keep_0 rfl (lv_at hl 1 rfl) ?_
  refine lv_iconst (v := nI 0) hx hb dX2_keep_1 (by decide) ?_
  refine lv_iconst (v := nI 1) hx hb dX2_keep_2 (by decide) ?_
  refine m_cS [.int x, .int (nI 0), .int (nI 1)] C hml hl.1 (mX2_in l x (nI (0)) (nI (1))) (lw_S q842 q843 q71 q844) hdX2_in.2 ⟨rfl, rfl⟩ ⟨Nat.le_of_ble_eq_true rfl, Nat.le_of_ble_eq_true rfl⟩ rfl (Nat.le_of_ble_eq_true rfl) dX2_keep_3 ⟨Nat.zero_le _, Nat.zero_le _⟩ ?_
  refine lv_if_ne (tgt := 12) hx hb dX2_keep_6 (by decide) (fun c_450 => ?_) (fun c_450 => ?_)
  · have hin : inB x 0 1 = true := (inB_in (v := x) (lo := nI 0) (hi := nI 1) (l := 0) (u := 1) (by decide) (by decide)) ▸ bI_ne0.mp c_450
    obtain ⟨i, i_1, i_2, ei⟩ := inB_nat (lo := 0) (hi := 1) hin
    subst ei
    have cli : (nI i).toNatClampNeg = i := nI_clamp (by omega)
    refine lv_aload_n hx hb dX2_keep_12 rfl (lv_at hl 0 rfl) ?_
    refine lv_iconst (v := nI 0) hx hb dX2_keep_13 (by decide) ?_
    refine lv_sipush (v := nI 3264) hx hb dX2_keep_14 (by decide) ?_
    refine lv_sipush (v := nI 192) hx hb dX2_keep_17 (by decide) ?_
    refine lv_iload_n hx hb dX2_keep_20 rfl (lv_at hl 1 rfl) ?_
    refine w_imulN hx hb dX2_keep_21 ?_
    refine w_iaddN hx hb dX2_keep_22 ?_
    refine m_cM [.int (nI 0), .int (nI (3264 + 192 * i))] C hml hl.1 hP hS (mX2_copyRow l D T ad μ 0 (3264 + 192 * i) (by omega) (by omega) (by omega)) (lw_V q879 q881 qs41 q71 q882) hdX2_copyRow ⟨rfl, rfl⟩ ⟨Nat.le_of_ble_eq_true rfl, Nat.le_of_ble_eq_true rfl⟩ rfl (Nat.le_of_ble_eq_true rfl) dX2_keep_23 ⟨Nat.zero_le _, Nat.zero_le _⟩ (fun v_451 μ_452 H locs hp_453 hP hS => ?_)
    obtain ⟨rfl, cp_454a, cp_454b, cp_454c⟩ := hp_453
    refine lv_aload_n hx hb dX2_keep_26 rfl (lv_at hl 0 rfl) ?_
    refine lv_dup hx hb dX2_keep_27 rfl ?_
    refine mg_kept C hP dX2_keep_28 ?_
    refine w_eqi (y := nI (kpN (aKp a))) (by rw [cp_454c 0 (by decide)]; exact hM.kp) ?_
    refine lv_iconst (v := 1) hx hb dX2_keep_31 (by decide) ?_
    refine lv_iload_n hx hb dX2_keep_32 rfl (lv_at hl 1 rfl) ?_
    refine lv_ishl hx hb dX2_keep_33 ?_
    refine lv_ior hx hb dX2_keep_34 ?_
    refine w_eqi (kp_or i (by omega)) ?_
    refine mp_kept C hP hS dX2_keep_35 (fun H locs hP hS => ?_)
    obtain ⟨μ_455, eμ_456⟩ : ∃ y9, y9 = mset μ_452 0 2 (nI (kpN (fun j => if j = i then true else aKp a j))) := ⟨_, rfl⟩
    rw [← eμ_456] at hP
    refine lv_aload_n hx hb dX2_keep_38 rfl (lv_at hl 0 rfl) ?_
    refine lv_iconst (v := nI 0) hx hb dX2_keep_39 (by decide) ?_
    refine mp_known C hP hS dX2_keep_40 (fun H locs hP hS => ?_)
    obtain ⟨μ_457, eμ_458⟩ : ∃ y9, y9 = mset μ_455 0 1 (nI (0)) := ⟨_, rfl⟩
    rw [← eμ_458] at hP
    refine lv_iconst (v := nI 1) hx hb dX2_keep_43 (by decide) ?_
    exact mM_retI C hlk hr hS hP dX2_keep_44 ⟨by unfold keepQ; rw [if_pos hin]; rfl, by
          unfold keepQ; rw [if_pos hin, cli]
          have q : ∀ j, j ≠ 0 → j ≠ 1 → μ_457 j = μ j := fun j j0 j1 => by rw [eμ_458, mset_oth j0, eμ_456, mset_oth j0, cp_454c j j1]
          have q0 : ∀ j, j ≠ 1 → j ≠ 2 → μ_457 0 j = μ 0 j := fun j j1 j2 => by rw [eμ_458, mset_ne (Or.inr j1), eμ_456, mset_ne (Or.inr j2), cp_454c 0 (by decide)]
          have q1 : μ_457 1 = μ_452 1 := by rw [eμ_458, mset_oth (by decide), eμ_456, mset_oth (by decide)]
          refine ⟨⟨by rw [q1]; exact hM.r.kept (fun k _ hk => cp_454b k (by omega)), by rw [q1, cp_454b 191 (by omega)]; exact hM.sd⟩, ⟨by rw [eμ_458, mset_self], Nat.zero_le _, fun k hk => absurd hk (Nat.not_lt_zero k)⟩, ⟨by rw [eμ_458, mset_ne (Or.inr (by decide)), eμ_456, mset_self], fun j hj hk => ?_⟩, ⟨by rw [q0 4 (by decide) (by decide)]; exact hM.tn, hM.tn200, fun j hj => by rw [q 2 (by decide) (by decide)]; exact hM.tx hj⟩, by rw [q0 5 (by decide) (by decide)]; exact hM.ft, ⟨by rw [q0 8 (by decide) (by decide)]; exact hM.bn, hM.bn20, fun j hj => by rw [q 3 (by decide) (by decide), q 4 (by decide) (by decide)]; exact hM.bk hj⟩⟩
          have hk : (if j = i then true else aKp a j) = true := hk
          show Rp (μ_457 1) (3264 + 192 * j) (if j = i then aH a else aIm a j) ∧ μ_457 1 (3264 + 192 * j + 191) = (if j = i then aSd a else aIs a j)
          rw [q1]
          by_cases e : j = i
          · rw [if_pos e, if_pos e, e]
            refine ⟨hM.r.copy (fun k hk => ?_), ?_⟩
            · have := cp_454a k (by omega)
              rw [Nat.zero_add] at this ⊢
              exact this
            · have := cp_454a 191 (by omega)
              rw [Nat.zero_add] at this
              rw [this]; exact hM.sd
          · rw [if_neg e] at hk
            rw [if_neg e, if_neg e]
            have := hM.im hj hk
            exact ⟨this.1.kept (fun k h1 h2 => cp_454b k (by omega)), by rw [cp_454b _ (by omega)]; exact this.2⟩⟩
  · have hin : ¬ inB x 0 1 = true := by rw [← (inB_in (v := x) (lo := nI 0) (hi := nI 1) (l := 0) (u := 1) (by decide) (by decide)), bI_eq0.mp c_450]; decide
    refine lv_ldc hx hb hown (hts _ q962) dX2_keep_9 ?_
    exact mM_retI C hlk hr hS hP dX2_keep_11 ⟨by unfold keepQ; rw [if_neg hin], by unfold keepQ; rw [if_neg hin]; exact hM⟩

theorem hdX2_goBack : yX2_goBack.cls = "LiarClocksModel" ∧ yX2_goBack.cls ≠ "java/lang/invoke/MethodHandle" ∧ yX2_goBack.cls ≠ "java/lang/invoke/VarHandle" ∧ (parseMethodDescriptor yX2_goBack.desc).map (fun d => d.parameters.length) = some 1 := by decide +kernel
set_option maxHeartbeats 4000000 in
/-- goBack -/
theorem mX2_goBack (l : Launch) (D : va_G) (T : Nat → ClassId) (ad : Nat → Nat) (μ : Nat → Nat → Int32) (a : Ab) (B : Int) (hM : MS μ a) (hI : AI a B) (hB0 : B ≤ 400000000) (hB1 : 0 ≤ B) (x : Int32) : ∀ sz, Met l yX2_goBack (ws_ yX2_goBack cX2_goBack 2 (some .int)) ({ frames := 1, cells := 0, slots := 0, locals := 23 } : Room) (mPs D T ad μ [.ref (ad 0), .int x] sz) (mQ D T ad (fun r μ' => r = some (.int (goBackQ a x).1) ∧ MS μ' (goBackQ a x).2)) 0 0 (gA 7 ad sz) := by
  have hR := hM.r
  have hB := hI.1.1
  have hA := hI.1.2.2.1
  have h8 := hB.many8
  have h3 := hB.strike3
  have h6 := hB.alarms6
  refine mM_intro [.ref (ad 0), .int x] (by decide) rfl (Nat.le_of_ble_eq_true rfl) ?_
  intro pg en s0 mi below meth cd ls C hr hlk hml hP hS hl
  have hx := C.1
  have hb := C.2.1
  have hown := C.2.2.1
  have hts := C.2.2.2.1
  have hl : lv_has ls 2 [(0, .ref (ad 0)), (1, .int x)] := hl
  have k16 := hM.kn16
  have t200 := hM.tn200
  have b20 := hM.bn20
  refine lv_iload_n hx hb dX2_goBack_0 rfl (lv_at hl 1 rfl) ?_
  refine lv_iconst (v := nI 0) hx hb dX2_goBack_1 (by decide) ?_
  refine lv_iconst (v := nI 1) hx hb dX2_goBack_2 (by decide) ?_
  refine m_cS [.int x, .int (nI 0), .int (nI 1)] C hml hl.1 (mX2_in l x (nI (0)) (nI (1))) (lw_S q842 q843 q71 q844) hdX2_in.2 ⟨rfl, rfl⟩ ⟨Nat.le_of_ble_eq_true rfl, Nat.le_of_ble_eq_true rfl⟩ rfl (Nat.le_of_ble_eq_true rfl) dX2_goBack_3 ⟨Nat.zero_le _, Nat.zero_le _⟩ ?_
  refine lv_if_ne (tgt := 12) hx hb dX2_goBack_6 (by decide) (fun c_459 => ?_) (fun c_459 => ?_)
  · have hin : inB x 0 1 = true := (inB_in (v := x) (lo := nI 0) (hi := nI 1) (l := 0) (u := 1) (by decide) (by decide)) ▸ bI_ne0.mp c_459
    obtain ⟨i, i_1, i_2, ei⟩ := inB_nat (lo := 0) (hi := 1) hin
    subst ei
    have cli : (nI i).toNatClampNeg = i := nI_clamp (by omega)
    refine lv_aload_n hx hb dX2_goBack_12 rfl (lv_at hl 0 rfl) ?_
    refine mg_kept C hP dX2_goBack_13 ?_
    refine w_eqi (y := nI (kpN (aKp a))) (hM.kp) ?_
    refine lv_iload_n hx hb dX2_goBack_16 rfl (lv_at hl 1 rfl) ?_
    refine m_cS [.int (nI (kpN (aKp a))), .int (nI i)] C hml hl.1 (mX2_has l (nI (kpN (aKp a))) (nI (i))) (lw_S q1087 q1088 q71 q1089) hdX2_has.2 ⟨rfl, rfl⟩ ⟨Nat.le_of_ble_eq_true rfl, Nat.le_of_ble_eq_true rfl⟩ rfl (Nat.le_of_ble_eq_true rfl) dX2_goBack_17 ⟨Nat.zero_le _, Nat.zero_le _⟩ ?_
    refine lv_if_ne (tgt := 26) hx hb dX2_goBack_20 (by decide) (fun c_460 => ?_) (fun c_460 => ?_)
    · have hk : aKp a i = true := by have := bI_ne0.mp c_460; rwa [kp_has i (by omega)] at this
      refine lv_aload_n hx hb dX2_goBack_26 rfl (lv_at hl 0 rfl) ?_
      refine lv_sipush (v := nI 3264) hx hb dX2_goBack_27 (by decide) ?_
      refine lv_sipush (v := nI 192) hx hb dX2_goBack_30 (by decide) ?_
      refine lv_iload_n hx hb dX2_goBack_33 rfl (lv_at hl 1 rfl) ?_
      refine w_imulN hx hb dX2_goBack_34 ?_
      refine w_iaddN hx hb dX2_goBack_35 ?_
      refine lv_iconst (v := nI 0) hx hb dX2_goBack_36 (by decide) ?_
      refine m_cM [.int (nI (3264 + 192 * i)), .int (nI 0)] C hml hl.1 hP hS (mX2_copyRow l D T ad μ (3264 + 192 * i) 0 (by omega) (by omega) (by omega)) (lw_V q879 q881 qs41 q71 q882) hdX2_copyRow ⟨rfl, rfl⟩ ⟨Nat.le_of_ble_eq_true rfl, Nat.le_of_ble_eq_true rfl⟩ rfl (Nat.le_of_ble_eq_true rfl) dX2_goBack_37 ⟨Nat.zero_le _, Nat.zero_le _⟩ (fun v_461 μ_462 H locs hp_463 hP hS => ?_)
      obtain ⟨rfl, cp_464a, cp_464b, cp_464c⟩ := hp_463
      refine lv_aload_n hx hb dX2_goBack_40 rfl (lv_at hl 0 rfl) ?_
      refine lv_iconst (v := nI 0) hx hb dX2_goBack_41 (by decide) ?_
      refine mp_known C hP hS dX2_goBack_42 (fun H locs hP hS => ?_)
      obtain ⟨μ_465, eμ_466⟩ : ∃ y9, y9 = mset μ_462 0 1 (nI (0)) := ⟨_, rfl⟩
      rw [← eμ_466] at hP
      refine lv_iconst (v := nI 1) hx hb dX2_goBack_45 (by decide) ?_
      exact mM_retI C hlk hr hS hP dX2_goBack_46 ⟨by unfold goBackQ; rw [if_pos hin, cli, if_pos hk]; rfl, by
            unfold goBackQ; rw [if_pos hin, cli, if_pos hk]
            have him := hM.im (i := i) (by omega) hk
            have q : ∀ j, j ≠ 0 → j ≠ 1 → μ_465 j = μ j := fun j j0 j1 => by rw [eμ_466, mset_oth j0, cp_464c j j1]
            have q0 : ∀ j, j ≠ 1 → μ_465 0 j = μ 0 j := fun j j1 => by rw [eμ_466, mset_ne (Or.inr j1), cp_464c 0 (by decide)]
            have q1 : μ_465 1 = μ_462 1 := by rw [eμ_466, mset_oth (by decide)]
            refine ⟨⟨by rw [q1]; exact him.1.copy (fun k hk => cp_464a k (by omega)), by rw [q1]; have := cp_464a 191 (by omega); rw [Nat.zero_add] at this; rw [this]; exact him.2⟩, ⟨by rw [eμ_466, mset_self], Nat.zero_le _, fun k hk => absurd hk (Nat.not_lt_zero k)⟩, ⟨by rw [q0 2 (by decide)]; exact hM.kp, fun j hj hkj => ?_⟩, ⟨by rw [q0 4 (by decide)]; exact hM.tn, hM.tn200, fun j hj => by rw [q 2 (by decide) (by decide)]; exact hM.tx hj⟩, by rw [q0 5 (by decide)]; exact hM.ft, ⟨by rw [q0 8 (by decide)]; exact hM.bn, hM.bn20, fun j hj => by rw [q 3 (by decide) (by decide), q 4 (by decide) (by decide)]; exact hM.bk hj⟩⟩
            rw [q1]
            have := hM.im hj hkj
            exact ⟨this.1.kept (fun k h1 h2 => cp_464b k (by omega)), by rw [cp_464b _ (by omega)]; exact this.2⟩⟩
    · have hnk : ¬ aKp a i = true := by have := bI_eq0.mp c_460; rw [kp_has i (by omega)] at this; rw [this]; decide
      refine lv_ldc hx hb hown (hts _ q1028) dX2_goBack_23 ?_
      exact mM_retI C hlk hr hS hP dX2_goBack_25 ⟨by unfold goBackQ; rw [if_pos hin, cli, if_neg hnk], by unfold goBackQ; rw [if_pos hin, cli, if_neg hnk]; exact hM⟩
  · have hin : ¬ inB x 0 1 = true := by rw [← (inB_in (v := x) (lo := nI 0) (hi := nI 1) (l := 0) (u := 1) (by decide) (by decide)), bI_eq0.mp c_459]; decide
    refine lv_ldc hx hb hown (hts _ q962) dX2_goBack_9 ?_
    exact mM_retI C hlk hr hS hP dX2_goBack_11 ⟨by unfold goBackQ; rw [if_neg hin], by unfold goBackQ; rw [if_neg hin]; exact hM⟩

