/-! THE MODEL: what is asked of it, text, book, seed -/
set_option maxRecDepth 100000
theorem hdX2_feed : yX2_feed.cls = "LiarClocksModel" ∧ yX2_feed.cls ≠ "java/lang/invoke/MethodHandle" ∧ yX2_feed.cls ≠ "java/lang/invoke/VarHandle" ∧ (parseMethodDescriptor yX2_feed.desc).map (fun d => d.parameters.length) = some 1 := by decide +kernel
set_option maxHeartbeats 4000000 in
/-- feed -/
theorem mX2_feed (l : Launch) (D : va_G) (T : Nat → ClassId) (ad : Nat → Nat) (μ : Nat → Nat → Int32) (a : Ab) (B : Int) (hM : MS μ a) (hI : AI a B) (hB0 : B ≤ 400000000) (hB1 : 0 ≤ B) (x : Int32) : ∀ sz, Met l yX2_feed (ws_ yX2_feed cX2_feed 2 (some .int)) ({ frames := 1, cells := 0, slots := 0, locals := 22 } : Room) (mPs D T ad μ [.ref (ad 0), .int x] sz) (mQ D T ad (fun r μ' => r = some (.int (feedQ a x).1) ∧ MS μ' (feedQ a x).2)) 0 0 (gA 7 ad sz) := by
  have hR := hM.r
  have hB := hI.1.1
  have hA := hI.1.2.2.1
  have h8 := hB.many8
  have h3 := hB.strike3
  have h6 := hB.alarms6
  refine mM_intro [.ref (ad 0), .int x] (by decide) rfl (Nat.le_of_ble_eq_true rfl) ?_
  intro pg en s0 mi below meth cd ls C hr hlk hml hP hS hl
  have hx := C.1
  have hb := C.2.1
  have hown := C.2.2.1
  have hts := C.2.2.2.1
  have hl : lv_has ls 2 [(0, .ref (ad 0)), (1, .int x)] := hl
  have k16 := hM.kn16
  have t200 := hM.tn200
  have b20 := hM.bn20
  refine lv_iload_n hx hb dX2_feed_0 rfl (lv_at hl 1 rfl) ?_
  refine lv_iconst (v := nI 0) hx hb dX2_feed_1 (by decide) ?_
  refine lv_sipush (v := nI 255) hx hb dX2_feed_2 (by decide) ?_
  refine m_cS [.int x, .int (nI 0), .int (nI 255)] C hml hl.1 (mX2_in l x (nI (0)) (nI (255))) (lw_S q842 q843 q71 q844) hdX2_in.2 ⟨rfl, rfl⟩ ⟨Nat.le_of_ble_eq_true rfl, Nat.le_of_ble_eq_true rfl⟩ rfl (Nat.le_of_ble_eq_true rfl) dX2_feed_5 ⟨Nat.zero_le _, Nat.zero_le _⟩ ?_
  refine lv_if_ne (tgt := 14) hx hb dX2_feed_8 (by decide) (fun c_176 => ?_) (fun c_176 => ?_)
  · have hin : inB x 0 255 = true := (inB_in (v := x) (lo := nI 0) (hi := nI 255) (l := 0) (u := 255) (by decide) (by decide)) ▸ bI_ne0.mp c_176
    obtain ⟨k, k_1, k_2, ek⟩ := inB_nat (lo := 0) (hi := 255) hin
    subst ek
    refine lv_aload_n hx hb dX2_feed_14 rfl (lv_at hl 0 rfl) ?_
    refine mg_size C hP dX2_feed_15 ?_
    refine w_eqi (y := nI (aTn a)) (hM.tn) ?_
    refine lv_sipush (v := nI 200) hx hb dX2_feed_18 (by decide) ?_
    refine w_icmpN_ne (tgt := 27) hx hb dX2_feed_21 (by decide) (by omega) (by omega) (fun c_177 => ?_) (fun c_177 => ?_)
    · refine lv_aload_n hx hb dX2_feed_27 rfl (lv_at hl 0 rfl) ?_
      refine mg_text C hP dX2_feed_28 ?_
      refine lv_aload_n hx hb dX2_feed_31 rfl (lv_at hl 0 rfl) ?_
      refine mg_size C hP dX2_feed_32 ?_
      refine w_eqi (y := nI (aTn a)) (hM.tn) ?_
      refine lv_iload_n hx hb dX2_feed_35 rfl (lv_at hl 1 rfl) ?_
      refine m_ast2 C hP hS (by omega) dX2_feed_36 (fun H locs hP hS => ?_)
      obtain ⟨μ_178, eμ_179⟩ : ∃ y9, y9 = mset μ 2 (aTn a) (nI (k)) := ⟨_, rfl⟩
      rw [← eμ_179] at hP
      have hR_180 : Rp (μ_178 1) 0 (aH a) := by rw [eμ_179, mset_oth (by decide)]; exact hR
      refine lv_aload_n hx hb dX2_feed_37 rfl (lv_at hl 0 rfl) ?_
      refine lv_dup hx hb dX2_feed_38 rfl ?_
      refine mg_size C hP dX2_feed_39 ?_
      refine w_eqi (y := nI (aTn a)) (by rw [eμ_179, mset_ne (Or.inl (by decide))]; exact (hM.tn)) ?_
      refine lv_iconst (v := nI 1) hx hb dX2_feed_42 (by decide) ?_
      refine w_iaddN hx hb dX2_feed_43 ?_
      refine mp_size C hP hS dX2_feed_44 (fun H locs hP hS => ?_)
      obtain ⟨μ_181, eμ_182⟩ : ∃ y9, y9 = mset μ_178 0 4 (nI (aTn a + 1)) := ⟨_, rfl⟩
      rw [← eμ_182] at hP
      have hR_183 : Rp (μ_181 1) 0 (aH a) := by rw [eμ_182, mset_oth (by decide)]; exact hR_180
      refine lv_aload_n hx hb dX2_feed_47 rfl (lv_at hl 0 rfl) ?_
      refine mg_size C hP dX2_feed_48 ?_
      refine w_eqi (y := nI (aTn a + 1)) (by rw [eμ_182, mset_self]) ?_
      exact mM_retI C hlk hr hS hP dX2_feed_51 ⟨by unfold feedQ; rw [if_pos hin, if_neg c_177], by
            unfold feedQ; rw [if_pos hin, if_neg c_177]
            have hck : (nI k).toNatClampNeg = k := nI_clamp (by omega)
            have q : ∀ j, j ≠ 0 → j ≠ 2 → μ_181 j = μ j := fun j j0 j2 => by rw [eμ_182, mset_oth j0, eμ_179, mset_oth j2]
            have q0 : ∀ j, j ≠ 4 → μ_181 0 j = μ 0 j := fun j j4 => by rw [eμ_182, mset_ne (Or.inr j4), eμ_179, mset_oth (by decide)]
            refine ⟨⟨by rw [q 1 (by decide) (by decide)]; exact hM.r, by rw [q 1 (by decide) (by decide)]; exact hM.sd⟩, ⟨by rw [q0 1 (by decide)]; exact hM.kn, hM.kn16, fun j hj => by rw [q 1 (by decide) (by decide)]; exact hM.ps hj⟩, ⟨by rw [q0 2 (by decide)]; exact hM.kp, fun i hi hk => by rw [q 1 (by decide) (by decide)]; exact hM.im hi hk⟩, ⟨by rw [eμ_182, mset_self], by show aTn a + 1 ≤ 200; omega, fun j hj => ?_⟩, by rw [q0 5 (by decide)]; exact hM.ft, ⟨by rw [q0 8 (by decide)]; exact hM.bn, hM.bn20, fun j hj => by rw [q 3 (by decide) (by decide), q 4 (by decide) (by decide)]; exact hM.bk hj⟩⟩
            have hj : j < aTn a + 1 := hj
            show μ_181 2 j = nI (if j = aTn a then (nI k).toNatClampNeg else aTx a j) ∧ (if j = aTn a then (nI k).toNatClampNeg else aTx a j) < 256
            rw [hck, eμ_182, mset_oth (by decide), eμ_179]
            by_cases e : j = aTn a
            · rw [if_pos e, e, mset_self]; exact ⟨rfl, by omega⟩
            · rw [if_neg e, mset_ne (Or.inr e)]; exact hM.tx (by omega)⟩
    · refine lv_ldc hx hb hown (hts _ q846) dX2_feed_24 ?_
      exact mM_retI C hlk hr hS hP dX2_feed_26 ⟨by unfold feedQ; rw [if_pos hin, if_pos c_177], by unfold feedQ; rw [if_pos hin, if_pos c_177]; exact hM⟩
  · have hin : ¬ inB x 0 255 = true := by rw [← (inB_in (v := x) (lo := nI 0) (hi := nI 255) (l := 0) (u := 255) (by decide) (by decide)), bI_eq0.mp c_176]; decide
    refine lv_ldc hx hb hown (hts _ q845) dX2_feed_11 ?_
    exact mM_retI C hlk hr hS hP dX2_feed_13 ⟨by unfold feedQ; rw [if_neg hin], by unfold feedQ; rw [if_neg hin]; exact hM⟩

theorem hdX2_fault : yX2_fault.cls = "LiarClocksModel" ∧ yX2_fault.cls ≠ "java/lang/invoke/MethodHandle" ∧ yX2_fault.cls ≠ "java/lang/invoke/VarHandle" ∧ (parseMethodDescriptor yX2_fault.desc).map (fun d => d.parameters.length) = some 0 := by decide +kernel
set_option maxHeartbeats 4000000 in
/-- fault -/
theorem mX2_fault (l : Launch) (D : va_G) (T : Nat → ClassId) (ad : Nat → Nat) (μ : Nat → Nat → Int32) (a : Ab) (B : Int) (hM : MS μ a) (hI : AI a B) (hB0 : B ≤ 400000000) (hB1 : 0 ≤ B)  : ∀ sz, Met l yX2_fault (ws_ yX2_fault cX2_fault 1 (some .int)) ({ frames := 0, cells := 0, slots := 0, locals := 0 } : Room) (mPs D T ad μ [.ref (ad 0)] sz) (mQ D T ad (fun r μ' => r = some (.int (aFt a)) ∧ MS μ' a)) 0 0 (gA 7 ad sz) := by
  have hR := hM.r
  have hB := hI.1.1
  have hA := hI.1.2.2.1
  have h8 := hB.many8
  have h3 := hB.strike3
  have h6 := hB.alarms6
  refine mM_intro [.ref (ad 0)] (by decide) rfl (Nat.le_of_ble_eq_true rfl) ?_
  intro pg en s0 mi below meth cd ls C hr hlk hml hP hS hl
  have hx := C.1
  have hb := C.2.1
  have hown := C.2.2.1
  have hts := C.2.2.2.1
  have hl : lv_has ls 1 [(0, .ref (ad 0))] := hl
  have k16 := hM.kn16
  have t200 := hM.tn200
  have b20 := hM.bn20
  refine lv_aload_n hx hb dX2_fault_0 rfl (lv_at hl 0 rfl) ?_
  refine mg_fault C hP dX2_fault_1 ?_
  exact mM_retI C hlk hr hS hP dX2_fault_4 ⟨by rw [hM.ft], hM⟩

theorem hdX2_told : yX2_told.cls = "LiarClocksModel" ∧ yX2_told.cls ≠ "java/lang/invoke/MethodHandle" ∧ yX2_told.cls ≠ "java/lang/invoke/VarHandle" ∧ (parseMethodDescriptor yX2_told.desc).map (fun d => d.parameters.length) = some 1 := by decide +kernel
set_option maxHeartbeats 4000000 in
/-- told -/
theorem mX2_told (l : Launch) (D : va_G) (T : Nat → ClassId) (ad : Nat → Nat) (μ : Nat → Nat → Int32) (a : Ab) (B : Int) (hM : MS μ a) (hI : AI a B) (hB0 : B ≤ 400000000) (hB1 : 0 ≤ B) (x : Int32) : ∀ sz, Met l yX2_told (ws_ yX2_told cX2_told 2 (some .int)) ({ frames := 4, cells := 0, slots := 0, locals := 95 } : Room) (mPs D T ad μ [.ref (ad 0), .int x] sz) (mQ D T ad (fun r μ' => r = some (.int (toldQ a x)) ∧ MS μ' a)) 0 0 (gA 7 ad sz) := by
  have hR := hM.r
  have hB := hI.1.1
  have hA := hI.1.2.2.1
  have h8 := hB.many8
  have h3 := hB.strike3
  have h6 := hB.alarms6
  refine mM_intro [.ref (ad 0), .int x] (by decide) rfl (Nat.le_of_ble_eq_true rfl) ?_
  intro pg en s0 mi below meth cd ls C hr hlk hml hP hS hl
  have hx := C.1
  have hb := C.2.1
  have hown := C.2.2.1
  have hts := C.2.2.2.1
  have hl : lv_has ls 2 [(0, .ref (ad 0)), (1, .int x)] := hl
  have k16 := hM.kn16
  have t200 := hM.tn200
  have b20 := hM.bn20
  refine lv_iload_n hx hb dX2_told_0 rfl (lv_at hl 1 rfl) ?_
  by_cases hs0 : x = 0
  · subst hs0
    refine lv_tableIn (off := 79) (tgt := 80) hx hb dX2_told_1 (by decide) (by decide) (by decide) (by decide) ?_
    refine lv_aload_n hx hb dX2_told_80 rfl (lv_at hl 0 rfl) ?_
    refine mg_w C hP dX2_told_81 ?_
    refine lv_iconst (v := nI 0) hx hb dX2_told_84 (by decide) ?_
    refine m_ald1 C hP (by omega) dX2_told_85 ?_
    refine w_eqi (rp_many hR (by omega)) ?_
    refine w_eqi (hB.many) ?_
    exact mM_retI C hlk hr hS hP dX2_told_86 ⟨by show some (Value.int (nI _)) = some (Value.int (aH a 0 0)); rw [hB.many], hM⟩
  · by_cases hs1 : x = 1
    · subst hs1
      refine lv_tableIn (off := 86) (tgt := 87) hx hb dX2_told_1 (by decide) (by decide) (by decide) (by decide) ?_
      refine lv_aload_n hx hb dX2_told_87 rfl (lv_at hl 0 rfl) ?_
      refine mg_w C hP dX2_told_88 ?_
      refine lv_iconst (v := nI 1) hx hb dX2_told_91 (by decide) ?_
      refine m_ald1 C hP (by omega) dX2_told_92 ?_
      refine w_eqi (rp_strike hR (by omega)) ?_
      refine w_eqi (hB.strike) ?_
      exact mM_retI C hlk hr hS hP dX2_told_93 ⟨by show some (Value.int (nI _)) = some (Value.int (aH a 0 1)); rw [hB.strike], hM⟩
    · by_cases hs2 : x = 2
      · subst hs2
        refine lv_tableIn (off := 93) (tgt := 94) hx hb dX2_told_1 (by decide) (by decide) (by decide) (by decide) ?_
        refine lv_aload_n hx hb dX2_told_94 rfl (lv_at hl 0 rfl) ?_
        refine mg_w C hP dX2_told_95 ?_
        refine lv_iconst (v := nI 2) hx hb dX2_told_98 (by decide) ?_
        refine m_ald1 C hP (by omega) dX2_told_99 ?_
        refine w_eqi (rp_step hR (by omega)) ?_
        exact mM_retI C hlk hr hS hP dX2_told_100 ⟨rfl, hM⟩
      · by_cases hs3 : x = 3
        · subst hs3
          refine lv_tableIn (off := 100) (tgt := 101) hx hb dX2_told_1 (by decide) (by decide) (by decide) (by decide) ?_
          refine lv_aload_n hx hb dX2_told_101 rfl (lv_at hl 0 rfl) ?_
          refine mg_size C hP dX2_told_102 ?_
          refine w_eqi (y := nI (aTn a)) (hM.tn) ?_
          exact mM_retI C hlk hr hS hP dX2_told_105 ⟨rfl, hM⟩
        · by_cases hs4 : x = 4
          · subst hs4
            refine lv_tableIn (off := 105) (tgt := 106) hx hb dX2_told_1 (by decide) (by decide) (by decide) (by decide) ?_
            have hl : lv_has ls 2 [(0, .ref (ad 0)), (1, .int (nI 4))] := hl
            refine lv_aload_n hx hb dX2_told_106 rfl (lv_at hl 0 rfl) ?_
            refine lv_iload_n hx hb dX2_told_107 rfl (lv_at hl 1 rfl) ?_
            refine m_cR [.int (nI 4)] C hml hl.1 hP (mX2_setOf l D T ad μ (aH a) hR hB 4 (by decide) (eq1 (aH a) 4) (fun c _ => ⟨fun _ => rfl, fun q => absurd q (by decide), fun q => absurd rfl q⟩)) (lw_V q891 q893 qs42 q71 q894) hdX2_setOf ⟨rfl, rfl⟩ ⟨Nat.le_of_ble_eq_true rfl, Nat.le_of_ble_eq_true rfl⟩ rfl (Nat.le_of_ble_eq_true rfl) dX2_told_108 ⟨Nat.zero_le _, Nat.zero_le _⟩ ?_
            exact mM_retI C hlk hr hS hP dX2_told_111 ⟨rfl, hM⟩
          · by_cases hs5 : x = 5
            · subst hs5
              refine lv_tableIn (off := 105) (tgt := 106) hx hb dX2_told_1 (by decide) (by decide) (by decide) (by decide) ?_
              have hl : lv_has ls 2 [(0, .ref (ad 0)), (1, .int (nI 5))] := hl
              refine lv_aload_n hx hb dX2_told_106 rfl (lv_at hl 0 rfl) ?_
              refine lv_iload_n hx hb dX2_told_107 rfl (lv_at hl 1 rfl) ?_
              refine m_cR [.int (nI 5)] C hml hl.1 hP (mX2_setOf l D T ad μ (aH a) hR hB 5 (by decide) (eq1 (aH a) 5) (fun c _ => ⟨fun q => absurd q (by decide), fun _ => rfl, fun _ q => absurd rfl q⟩)) (lw_V q891 q893 qs42 q71 q894) hdX2_setOf ⟨rfl, rfl⟩ ⟨Nat.le_of_ble_eq_true rfl, Nat.le_of_ble_eq_true rfl⟩ rfl (Nat.le_of_ble_eq_true rfl) dX2_told_108 ⟨Nat.zero_le _, Nat.zero_le _⟩ ?_
              exact mM_retI C hlk hr hS hP dX2_told_111 ⟨rfl, hM⟩
            · by_cases hs6 : x = 6
              · subst hs6
                refine lv_tableIn (off := 105) (tgt := 106) hx hb dX2_told_1 (by decide) (by decide) (by decide) (by decide) ?_
                have hl : lv_has ls 2 [(0, .ref (ad 0)), (1, .int (nI 6))] := hl
                refine lv_aload_n hx hb dX2_told_106 rfl (lv_at hl 0 rfl) ?_
                refine lv_iload_n hx hb dX2_told_107 rfl (lv_at hl 1 rfl) ?_
                refine m_cR [.int (nI 6)] C hml hl.1 hP (mX2_setOf l D T ad μ (aH a) hR hB 6 (by decide) (trS (aH a)) (fun c _ => ⟨fun q => absurd q (by decide), fun q => absurd q (by decide), fun _ _ => rfl⟩)) (lw_V q891 q893 qs42 q71 q894) hdX2_setOf ⟨rfl, rfl⟩ ⟨Nat.le_of_ble_eq_true rfl, Nat.le_of_ble_eq_true rfl⟩ rfl (Nat.le_of_ble_eq_true rfl) dX2_told_108 ⟨Nat.zero_le _, Nat.zero_le _⟩ ?_
                exact mM_retI C hlk hr hS hP dX2_told_111 ⟨rfl, hM⟩
              · by_cases hs7 : x = 7
                · subst hs7
                  refine lv_tableIn (off := 111) (tgt := 112) hx hb dX2_told_1 (by decide) (by decide) (by decide) (by decide) ?_
                  refine lv_aload_n hx hb dX2_told_112 rfl (lv_at hl 0 rfl) ?_
                  refine lv_iconst (v := nI 0) hx hb dX2_told_113 (by decide) ?_
                  refine m_cR [.int (nI 0)] C hml hl.1 hP (mX2_apart l D T ad μ (aH a) 0 hR hB (by omega)) (lw_V q899 q901 qs44 q71 q902) hdX2_apart ⟨rfl, rfl⟩ ⟨Nat.le_of_ble_eq_true rfl, Nat.le_of_ble_eq_true rfl⟩ rfl (Nat.le_of_ble_eq_true rfl) dX2_told_114 ⟨Nat.zero_le _, Nat.zero_le _⟩ ?_
                  exact mM_retI C hlk hr hS hP dX2_told_117 ⟨rfl, hM⟩
                · by_cases hs8 : x = 8
                  · subst hs8
                    refine lv_tableIn (off := 117) (tgt := 118) hx hb dX2_told_1 (by decide) (by decide) (by decide) (by decide) ?_
                    refine lv_aload_n hx hb dX2_told_118 rfl (lv_at hl 0 rfl) ?_
                    refine m_cM [] C hml hl.1 hP hS (mX2_worst l D T ad μ (aH a) hR hB B hA hB0 hB1) (lw_V q907 q909 qs46 q71 q910) hdX2_worst ⟨rfl, rfl⟩ ⟨Nat.le_of_ble_eq_true rfl, Nat.le_of_ble_eq_true rfl⟩ rfl (Nat.le_of_ble_eq_true rfl) dX2_told_119 ⟨Nat.zero_le _, Nat.zero_le _⟩ (fun v_184 μ_185 H locs hp_186 hP hS => ?_)
                    obtain ⟨rfl, ho_187⟩ := hp_186
                    have hR_188 : Rp (μ_185 1) 0 (aH a) := by rw [ho_187 1 (by decide)]; exact hR
                    exact mM_retI C hlk hr hS hP dX2_told_122 ⟨rfl, hM.o5 ho_187⟩
                  · by_cases hs9 : x = 9
                    · subst hs9
                      refine lv_tableIn (off := 122) (tgt := 123) hx hb dX2_told_1 (by decide) (by decide) (by decide) (by decide) ?_
                      refine lv_aload_n hx hb dX2_told_123 rfl (lv_at hl 0 rfl) ?_
                      refine m_cR [] C hml hl.1 hP (mX2_mayLie l D T ad μ (aH a) hR hB) (lw_V q942 q944 qs54 q71 q945) hdX2_mayLie ⟨rfl, rfl⟩ ⟨Nat.le_of_ble_eq_true rfl, Nat.le_of_ble_eq_true rfl⟩ rfl (Nat.le_of_ble_eq_true rfl) dX2_told_124 ⟨Nat.zero_le _, Nat.zero_le _⟩ ?_
                      exact mM_retI C hlk hr hS hP dX2_told_127 ⟨rfl, hM⟩
                    · by_cases hs10 : x = 10
                      · subst hs10
                        refine lv_tableIn (off := 127) (tgt := 128) hx hb dX2_told_1 (by decide) (by decide) (by decide) (by decide) ?_
                        refine lv_aload_n hx hb dX2_told_128 rfl (lv_at hl 0 rfl) ?_
                        refine mg_w C hP dX2_told_129 ?_
                        refine lv_sipush (v := nI 171) hx hb dX2_told_132 (by decide) ?_
                        refine m_ald1 C hP (by omega) dX2_told_135 ?_
                        refine w_eqi (rp_alarms hR (by omega)) ?_
                        refine w_eqi (hB.alarms) ?_
                        exact mM_retI C hlk hr hS hP dX2_told_136 ⟨by show some (Value.int (nI _)) = some (Value.int (aH a 0 10)); rw [hB.alarms], hM⟩
                      · by_cases hs11 : x = 11
                        · subst hs11
                          refine lv_tableIn (off := 136) (tgt := 137) hx hb dX2_told_1 (by decide) (by decide) (by decide) (by decide) ?_
                          refine lv_aload_n hx hb dX2_told_137 rfl (lv_at hl 0 rfl) ?_
                          refine m_cR [] C hml hl.1 hP (mX2_rungSet l D T ad μ (aH a) hR hB) (lw_V q946 q948 qs55 q71 q949) hdX2_rungSet ⟨rfl, rfl⟩ ⟨Nat.le_of_ble_eq_true rfl, Nat.le_of_ble_eq_true rfl⟩ rfl (Nat.le_of_ble_eq_true rfl) dX2_told_138 ⟨Nat.zero_le _, Nat.zero_le _⟩ ?_
                          exact mM_retI C hlk hr hS hP dX2_told_141 ⟨rfl, hM⟩
                        · by_cases hs12 : x = 12
                          · subst hs12
                            refine lv_tableIn (off := 141) (tgt := 142) hx hb dX2_told_1 (by decide) (by decide) (by decide) (by decide) ?_
                            refine lv_aload_n hx hb dX2_told_142 rfl (lv_at hl 0 rfl) ?_
                            refine mg_w C hP dX2_told_143 ?_
                            refine lv_sipush (v := nI 190) hx hb dX2_told_146 (by decide) ?_
                            refine m_ald1 C hP (by omega) dX2_told_149 ?_
                            refine w_eqi (rp_times hR (by omega)) ?_
                            exact mM_retI C hlk hr hS hP dX2_told_150 ⟨rfl, hM⟩
                          · by_cases hs13 : x = 13
                            · subst hs13
                              refine lv_tableIn (off := 150) (tgt := 151) hx hb dX2_told_1 (by decide) (by decide) (by decide) (by decide) ?_
                              refine lv_aload_n hx hb dX2_told_151 rfl (lv_at hl 0 rfl) ?_
                              refine mg_written C hP dX2_told_152 ?_
                              refine w_eqi (y := nI (aBn a)) (hM.bn) ?_
                              exact mM_retI C hlk hr hS hP dX2_told_155 ⟨rfl, hM⟩
                            · by_cases hs14 : x = 14
                              · subst hs14
                                refine lv_tableIn (off := 155) (tgt := 156) hx hb dX2_told_1 (by decide) (by decide) (by decide) (by decide) ?_
                                refine lv_aload_n hx hb dX2_told_156 rfl (lv_at hl 0 rfl) ?_
                                refine m_cR [] C hml hl.1 hP (mX2_wrongEntry l D T ad μ (aH a) hR hB (aBn a) hM.bn hM.bn20) (lw_V q950 q952 qs56 q71 q953) hdX2_wrongEntry ⟨rfl, rfl⟩ ⟨Nat.le_of_ble_eq_true rfl, Nat.le_of_ble_eq_true rfl⟩ rfl (Nat.le_of_ble_eq_true rfl) dX2_told_157 ⟨Nat.zero_le _, Nat.zero_le _⟩ ?_
                                exact mM_retI C hlk hr hS hP dX2_told_160 ⟨congrArg (fun z => some (Value.int z)) (wrongS_cong (fun k hk => hM.bk hk)), hM⟩
                              · by_cases hs15 : x = 15
                                · subst hs15
                                  refine lv_tableIn (off := 160) (tgt := 161) hx hb dX2_told_1 (by decide) (by decide) (by decide) (by decide) ?_
                                  refine lv_aload_n hx hb dX2_told_161 rfl (lv_at hl 0 rfl) ?_
                                  refine mg_known C hP dX2_told_162 ?_
                                  refine w_eqi (y := nI (aKn a)) (hM.kn) ?_
                                  exact mM_retI C hlk hr hS hP dX2_told_165 ⟨rfl, hM⟩
                                · refine lv_tableOut (tgt := 166) hx hb dX2_told_1 (tb_out 15 (fun k hk => match k, hk with | 0, _ => hs0 | 1, _ => hs1 | 2, _ => hs2 | 3, _ => hs3 | 4, _ => hs4 | 5, _ => hs5 | 6, _ => hs6 | 7, _ => hs7 | 8, _ => hs8 | 9, _ => hs9 | 10, _ => hs10 | 11, _ => hs11 | 12, _ => hs12 | 13, _ => hs13 | 14, _ => hs14 | 15, _ => hs15 | k + 16, h => absurd h (by omega))) (by decide) ?_
                                  refine lv_ldc hx hb hown (hts _ q845) dX2_told_166 ?_
                                  exact mM_retI C hlk hr hS hP dX2_told_168 ⟨by unfold toldQ; rw [if_neg hs0, if_neg hs1, if_neg hs2, if_neg hs3, if_neg hs4, if_neg hs5, if_neg hs6, if_neg hs7, if_neg hs8, if_neg hs9, if_neg hs10, if_neg hs11, if_neg hs12, if_neg hs13, if_neg hs14, if_neg hs15], hM⟩

theorem hdX2_clock : yX2_clock.cls = "LiarClocksModel" ∧ yX2_clock.cls ≠ "java/lang/invoke/MethodHandle" ∧ yX2_clock.cls ≠ "java/lang/invoke/VarHandle" ∧ (parseMethodDescriptor yX2_clock.desc).map (fun d => d.parameters.length) = some 2 := by decide +kernel
set_option maxHeartbeats 4000000 in
/-- clock -/
theorem mX2_clock (l : Launch) (D : va_G) (T : Nat → ClassId) (ad : Nat → Nat) (μ : Nat → Nat → Int32) (a : Ab) (B : Int) (hM : MS μ a) (hI : AI a B) (hB0 : B ≤ 400000000) (hB1 : 0 ≤ B) (c x : Int32) : ∀ sz, Met l yX2_clock (ws_ yX2_clock cX2_clock 3 (some .int)) ({ frames := 3, cells := 0, slots := 0, locals := 69 } : Room) (mPs D T ad μ [.ref (ad 0), .int c, .int x] sz) (mQ D T ad (fun r μ' => r = some (.int (clockQ (aH a) c x)) ∧ MS μ' a)) 0 0 (gA 7 ad sz) := by
  have hR := hM.r
  have hB := hI.1.1
  have hA := hI.1.2.2.1
  have h8 := hB.many8
  have h3 := hB.strike3
  have h6 := hB.alarms6
  refine mM_intro [.ref (ad 0), .int c, .int x] (by decide) rfl (Nat.le_of_ble_eq_true rfl) ?_
  intro pg en s0 mi below meth cd ls C hr hlk hml hP hS hl
  have hx := C.1
  have hb := C.2.1
  have hown := C.2.2.1
  have hts := C.2.2.2.1
  have hl : lv_has ls 3 [(0, .ref (ad 0)), (1, .int c), (2, .int x)] := hl
  have k16 := hM.kn16
  have t200 := hM.tn200
  have b20 := hM.bn20
  refine lv_aload_n hx hb dX2_clock_0 rfl (lv_at hl 0 rfl) ?_
  refine lv_iload_n hx hb dX2_clock_1 rfl (lv_at hl 1 rfl) ?_
  refine m_cR [.int c] C hml hl.1 hP (mX2_isClock l D T ad μ (aH a) hR hB c) (lw_V q954 q956 qs57 q71 q957) hdX2_isClock ⟨rfl, rfl⟩ ⟨Nat.le_of_ble_eq_true rfl, Nat.le_of_ble_eq_true rfl⟩ rfl (Nat.le_of_ble_eq_true rfl) dX2_clock_2 ⟨Nat.zero_le _, Nat.zero_le _⟩ ?_
  refine lv_if_ne (tgt := 11) hx hb dX2_clock_5 (by decide) (fun c_189 => ?_) (fun c_189 => ?_)
  · have hic : isC (aH a) c = true := bI_ne0.mp c_189
    obtain ⟨k, hk, ek⟩ := isC_spec hic
    subst ek
    have clk : (nI k).toNatClampNeg = k := nI_clamp (by omega)
    refine lv_iload_n hx hb dX2_clock_11 rfl (lv_at hl 2 rfl) ?_
    by_cases hs0 : x = 0
    · subst hs0
      refine lv_tableIn (off := 44) (tgt := 56) hx hb dX2_clock_12 (by decide) (by decide) (by decide) (by decide) ?_
      refine lv_aload_n hx hb dX2_clock_56 rfl (lv_at hl 0 rfl) ?_
      refine mg_w C hP dX2_clock_57 ?_
      refine lv_iconst (v := nI 3) hx hb dX2_clock_60 (by decide) ?_
      refine lv_iload_n hx hb dX2_clock_61 rfl (lv_at hl 1 rfl) ?_
      refine w_iaddN hx hb dX2_clock_62 ?_
      refine m_ald1 C hP (by omega) dX2_clock_63 ?_
      refine w_eqi (rp_1 hR (k) (by omega) (by omega)) ?_
      exact mM_retI C hlk hr hS hP dX2_clock_64 ⟨by unfold clockQ; rw [if_pos hic, clk]; rfl, hM⟩
    · by_cases hs1 : x = 1
      · subst hs1
        refine lv_tableIn (off := 53) (tgt := 65) hx hb dX2_clock_12 (by decide) (by decide) (by decide) (by decide) ?_
        refine lv_aload_n hx hb dX2_clock_65 rfl (lv_at hl 0 rfl) ?_
        refine mg_w C hP dX2_clock_66 ?_
        refine lv_bipush (v := nI 11) hx hb dX2_clock_69 (by decide) ?_
        refine lv_iload_n hx hb dX2_clock_71 rfl (lv_at hl 1 rfl) ?_
        refine w_iaddN hx hb dX2_clock_72 ?_
        refine m_ald1 C hP (by omega) dX2_clock_73 ?_
        refine w_eqi (rp_2 hR (k) (by omega) (by omega)) ?_
        exact mM_retI C hlk hr hS hP dX2_clock_74 ⟨by unfold clockQ; rw [if_pos hic, clk]; rfl, hM⟩
      · by_cases hs2 : x = 2
        · subst hs2
          refine lv_tableIn (off := 63) (tgt := 75) hx hb dX2_clock_12 (by decide) (by decide) (by decide) (by decide) ?_
          refine lv_aload_n hx hb dX2_clock_75 rfl (lv_at hl 0 rfl) ?_
          refine mg_w C hP dX2_clock_76 ?_
          refine lv_bipush (v := nI 19) hx hb dX2_clock_79 (by decide) ?_
          refine lv_iload_n hx hb dX2_clock_81 rfl (lv_at hl 1 rfl) ?_
          refine w_iaddN hx hb dX2_clock_82 ?_
          refine m_ald1 C hP (by omega) dX2_clock_83 ?_
          refine w_eqi (rp_3 hR (k) (by omega) (by omega)) ?_
          refine lv_ldc hx hb hown (hts _ q963) dX2_clock_84 ?_
          refine lv_iadd hx hb dX2_clock_86 ?_
          exact mM_retI C hlk hr hS hP dX2_clock_87 ⟨by unfold clockQ; rw [if_pos hic, clk]; rfl, hM⟩
        · by_cases hs3 : x = 3
          · subst hs3
            refine lv_tableIn (off := 76) (tgt := 88) hx hb dX2_clock_12 (by decide) (by decide) (by decide) (by decide) ?_
            refine lv_aload_n hx hb dX2_clock_88 rfl (lv_at hl 0 rfl) ?_
            refine lv_iconst (v := nI 0) hx hb dX2_clock_89 (by decide) ?_
            refine lv_iload_n hx hb dX2_clock_90 rfl (lv_at hl 1 rfl) ?_
            refine m_cR [.int (nI 0), .int (nI k)] C hml hl.1 hP (mX2_aim l D T ad μ (aH a) 0 k hR (by omega) (by omega)) (lw_V q903 q905 qs45 q71 q906) hdX2_aim ⟨rfl, rfl⟩ ⟨Nat.le_of_ble_eq_true rfl, Nat.le_of_ble_eq_true rfl⟩ rfl (Nat.le_of_ble_eq_true rfl) dX2_clock_91 ⟨Nat.zero_le _, Nat.zero_le _⟩ ?_
            refine lv_ldc hx hb hown (hts _ q963) dX2_clock_94 ?_
            refine lv_iadd hx hb dX2_clock_96 ?_
            exact mM_retI C hlk hr hS hP dX2_clock_97 ⟨by unfold clockQ; rw [if_pos hic, clk]; rfl, hM⟩
          · by_cases hs4 : x = 4
            · subst hs4
              refine lv_tableIn (off := 86) (tgt := 98) hx hb dX2_clock_12 (by decide) (by decide) (by decide) (by decide) ?_
              refine lv_aload_n hx hb dX2_clock_98 rfl (lv_at hl 0 rfl) ?_
              refine mg_w C hP dX2_clock_99 ?_
              refine lv_bipush (v := nI 27) hx hb dX2_clock_102 (by decide) ?_
              refine lv_iload_n hx hb dX2_clock_104 rfl (lv_at hl 1 rfl) ?_
              refine w_iaddN hx hb dX2_clock_105 ?_
              refine m_ald1 C hP (by omega) dX2_clock_106 ?_
              refine w_eqi (rp_4 hR (k) (by omega) (by omega)) ?_
              exact mM_retI C hlk hr hS hP dX2_clock_107 ⟨by unfold clockQ; rw [if_pos hic, clk]; rfl, hM⟩
            · by_cases hs5 : x = 5
              · subst hs5
                refine lv_tableIn (off := 96) (tgt := 108) hx hb dX2_clock_12 (by decide) (by decide) (by decide) (by decide) ?_
                refine lv_aload_n hx hb dX2_clock_108 rfl (lv_at hl 0 rfl) ?_
                refine mg_w C hP dX2_clock_109 ?_
                refine lv_bipush (v := nI 35) hx hb dX2_clock_112 (by decide) ?_
                refine lv_iload_n hx hb dX2_clock_114 rfl (lv_at hl 1 rfl) ?_
                refine w_iaddN hx hb dX2_clock_115 ?_
                refine m_ald1 C hP (by omega) dX2_clock_116 ?_
                refine w_eqi (rp_5 hR (k) (by omega) (by omega)) ?_
                exact mM_retI C hlk hr hS hP dX2_clock_117 ⟨by unfold clockQ; rw [if_pos hic, clk]; rfl, hM⟩
              · by_cases hs6 : x = 6
                · subst hs6
                  refine lv_tableIn (off := 106) (tgt := 118) hx hb dX2_clock_12 (by decide) (by decide) (by decide) (by decide) ?_
                  refine lv_aload_n hx hb dX2_clock_118 rfl (lv_at hl 0 rfl) ?_
                  refine lv_iconst (v := nI 0) hx hb dX2_clock_119 (by decide) ?_
                  refine lv_iload_n hx hb dX2_clock_120 rfl (lv_at hl 1 rfl) ?_
                  refine m_cR [.int (nI 0), .int (nI k)] C hml hl.1 hP (mX2_isTrue l D T ad μ (aH a) 0 k hR (by omega) (by omega)) (lw_V q895 q897 qs43 q71 q898) hdX2_isTrue ⟨rfl, rfl⟩ ⟨Nat.le_of_ble_eq_true rfl, Nat.le_of_ble_eq_true rfl⟩ rfl (Nat.le_of_ble_eq_true rfl) dX2_clock_121 ⟨Nat.zero_le _, Nat.zero_le _⟩ ?_
                  have e6 : clockQ (aH a) (nI k) 6 = (if trS (aH a) k = true ∧ ¬ nM (aH a) ≤ 2 * nF (aH a) then midOfS (aH a) k + 100000 else -1) := by unfold clockQ; rw [if_pos hic, clk]; rfl
                  refine lv_if_eq (tgt := 141) hx hb dX2_clock_124 (by decide) (fun c_190 => ?_) (fun c_190 => ?_)
                  · refine lv_iconst (v := -1) hx hb dX2_clock_141 (by decide) ?_
                    refine lv_goto (tgt := 154) hx hb dX2_clock_142 (by decide) ?_
                    exact mM_retI C hlk hr hS hP dX2_clock_154 ⟨by rw [e6, if_neg (fun q => by rw [bI_eq0.mp c_190] at q; cases q.1)], hM⟩
                  · refine lv_aload_n hx hb dX2_clock_127 rfl (lv_at hl 0 rfl) ?_
                    refine lv_iconst (v := nI 0) hx hb dX2_clock_128 (by decide) ?_
                    refine lv_aload_n hx hb dX2_clock_129 rfl (lv_at hl 0 rfl) ?_
                    refine mg_w C hP dX2_clock_130 ?_
                    refine lv_iconst (v := nI 0) hx hb dX2_clock_133 (by decide) ?_
                    refine m_ald1 C hP (by omega) dX2_clock_134 ?_
                    refine w_eqi (rp_many hR (by omega)) ?_
                    refine w_eqi (hB.many) ?_
                    refine m_cR [.int (nI 0), .int (nI (nM (aH a)))] C hml hl.1 hP (mX2_allStruck l D T ad μ (aH a) 0 hR hB (by omega) (nM (aH a)) (by omega)) (lw_V q911 q913 qs47 q71 q914) hdX2_allStruck ⟨rfl, rfl⟩ ⟨Nat.le_of_ble_eq_true rfl, Nat.le_of_ble_eq_true rfl⟩ rfl (Nat.le_of_ble_eq_true rfl) dX2_clock_135 ⟨Nat.zero_le _, Nat.zero_le _⟩ ?_
                    refine lv_if_eq (tgt := 145) hx hb dX2_clock_138 (by decide) (fun c_191 => ?_) (fun c_191 => ?_)
                    · refine lv_aload_n hx hb dX2_clock_145 rfl (lv_at hl 0 rfl) ?_
                      refine lv_iconst (v := nI 0) hx hb dX2_clock_146 (by decide) ?_
                      refine lv_iload_n hx hb dX2_clock_147 rfl (lv_at hl 1 rfl) ?_
                      refine m_cM [.int (nI 0), .int (nI k)] C hml hl.1 hP hS (mX2_middleOf l D T ad μ (aH a) 0 hR hB (by omega) B hA hB0 hB1 k (by omega)) (lw_V q964 q966 qs58 q71 q967) hdX2_middleOf ⟨rfl, rfl⟩ ⟨Nat.le_of_ble_eq_true rfl, Nat.le_of_ble_eq_true rfl⟩ rfl (Nat.le_of_ble_eq_true rfl) dX2_clock_148 ⟨Nat.zero_le _, Nat.zero_le _⟩ (fun v_192 μ_193 H locs hp_194 hP hS => ?_)
                      obtain ⟨rfl, ho_195⟩ := hp_194
                      have hR_196 : Rp (μ_193 1) 0 (aH a) := by rw [ho_195 1 (by decide)]; exact hR
                      refine lv_ldc hx hb hown (hts _ q963) dX2_clock_151 ?_
                      refine lv_iadd hx hb dX2_clock_153 ?_
                      exact mM_retI C hlk hr hS hP dX2_clock_154 ⟨by rw [e6, if_pos ⟨bI_ne0.mp c_190, of_decide_eq_false (bI_eq0.mp c_191)⟩], hM.o5 ho_195⟩
                    · refine lv_iconst (v := -1) hx hb dX2_clock_141 (by decide) ?_
                      refine lv_goto (tgt := 154) hx hb dX2_clock_142 (by decide) ?_
                      exact mM_retI C hlk hr hS hP dX2_clock_154 ⟨by rw [e6, if_neg (fun q => q.2 (of_decide_eq_true (bI_ne0.mp c_191)))], hM⟩
                · refine lv_tableOut (tgt := 155) hx hb dX2_clock_12 (tb_out 6 (fun k hk => match k, hk with | 0, _ => hs0 | 1, _ => hs1 | 2, _ => hs2 | 3, _ => hs3 | 4, _ => hs4 | 5, _ => hs5 | 6, _ => hs6 | k + 7, h => absurd h (by omega))) (by decide) ?_
                  refine lv_ldc hx hb hown (hts _ q845) dX2_clock_155 ?_
                  exact mM_retI C hlk hr hS hP dX2_clock_157 ⟨by unfold clockQ; rw [if_pos hic]; dsimp only; rw [if_neg hs0, if_neg hs1, if_neg hs2, if_neg hs3, if_neg hs4, if_neg hs5, if_neg hs6], hM⟩
  · have hic : ¬ isC (aH a) c = true := by rw [bI_eq0.mp c_189]; decide
    refine lv_ldc hx hb hown (hts _ q962) dX2_clock_8 ?_
    exact mM_retI C hlk hr hS hP dX2_clock_10 ⟨by unfold clockQ; rw [if_neg hic], hM⟩

theorem hdX2_heard : yX2_heard.cls = "LiarClocksModel" ∧ yX2_heard.cls ≠ "java/lang/invoke/MethodHandle" ∧ yX2_heard.cls ≠ "java/lang/invoke/VarHandle" ∧ (parseMethodDescriptor yX2_heard.desc).map (fun d => d.parameters.length) = some 3 := by decide +kernel
set_option maxHeartbeats 4000000 in
/-- heard -/
theorem mX2_heard (l : Launch) (D : va_G) (T : Nat → ClassId) (ad : Nat → Nat) (μ : Nat → Nat → Int32) (a : Ab) (B : Int) (hM : MS μ a) (hI : AI a B) (hB0 : B ≤ 400000000) (hB1 : 0 ≤ B) (j i x : Int32) : ∀ sz, Met l yX2_heard (ws_ yX2_heard cX2_heard 4 (some .int)) ({ frames := 4, cells := 0, slots := 0, locals := 97 } : Room) (mPs D T ad μ [.ref (ad 0), .int j, .int i, .int x] sz) (mQ D T ad (fun r μ' => r = some (.int (heardQ (aH a) j i x)) ∧ MS μ' a)) 0 0 (gA 7 ad sz) := by
  have hR := hM.r
  have hB := hI.1.1
  have hA := hI.1.2.2.1
  have h8 := hB.many8
  have h3 := hB.strike3
  have h6 := hB.alarms6
  refine mM_intro [.ref (ad 0), .int j, .int i, .int x] (by decide) rfl (Nat.le_of_ble_eq_true rfl) ?_
  intro pg en s0 mi below meth cd ls C hr hlk hml hP hS hl
  have hx := C.1
  have hb := C.2.1
  have hown := C.2.2.1
  have hts := C.2.2.2.1
  have hl : lv_has ls 4 [(0, .ref (ad 0)), (1, .int j), (2, .int i), (3, .int x)] := hl
  have k16 := hM.kn16
  have t200 := hM.tn200
  have b20 := hM.bn20
  refine lv_aload_n hx hb dX2_heard_0 rfl (lv_at hl 0 rfl) ?_
  refine lv_iload_n hx hb dX2_heard_1 rfl (lv_at hl 1 rfl) ?_
  refine lv_iload_n hx hb dX2_heard_2 rfl (lv_at hl 2 rfl) ?_
  refine m_cR [.int j, .int i] C hml hl.1 hP (mX2_arePair l D T ad μ (aH a) hR hB j i) (lw_V q972 q974 qs59 q71 q975) hdX2_arePair ⟨rfl, rfl⟩ ⟨Nat.le_of_ble_eq_true rfl, Nat.le_of_ble_eq_true rfl⟩ rfl (Nat.le_of_ble_eq_true rfl) dX2_heard_3 ⟨Nat.zero_le _, Nat.zero_le _⟩ ?_
  refine lv_if_ne (tgt := 12) hx hb dX2_heard_6 (by decide) (fun c_197 => ?_) (fun c_197 => ?_)
  · have hpr : pairB (aH a) j i = true := bI_ne0.mp c_197
    have hp2 := hpr
    unfold pairB at hp2
    simp only [Bool.and_eq_true, decide_eq_true_eq] at hp2
    obtain ⟨jn, hjn, ejn⟩ := isC_spec hp2.1
    obtain ⟨im, him, eim⟩ := isC_spec hp2.2.1
    subst ejn
    subst eim
    have clj : (nI jn).toNatClampNeg = jn := nI_clamp (by omega)
    have cli : (nI im).toNatClampNeg = im := nI_clamp (by omega)
    refine lv_iload_n hx hb dX2_heard_12 rfl (lv_at hl 3 rfl) ?_
    by_cases hs0 : x = 0
    · subst hs0
      refine lv_tableIn (off := 35) (tgt := 48) hx hb dX2_heard_13 (by decide) (by decide) (by decide) (by decide) ?_
      refine lv_aload_n hx hb dX2_heard_48 rfl (lv_at hl 0 rfl) ?_
      refine lv_iconst (v := nI 0) hx hb dX2_heard_49 (by decide) ?_
      refine lv_iload_n hx hb dX2_heard_50 rfl (lv_at hl 1 rfl) ?_
      refine lv_iload_n hx hb dX2_heard_51 rfl (lv_at hl 2 rfl) ?_
      refine m_cR [.int (nI 0), .int (nI jn), .int (nI im)] C hml hl.1 hP (mX2_heardOf l D T ad μ (aH a) 0 hR hB (by omega) jn im (by omega) (by omega)) (lw_V q929 q931 qs51 q71 q932) hdX2_heardOf ⟨rfl, rfl⟩ ⟨Nat.le_of_ble_eq_true rfl, Nat.le_of_ble_eq_true rfl⟩ rfl (Nat.le_of_ble_eq_true rfl) dX2_heard_52 ⟨Nat.zero_le _, Nat.zero_le _⟩ ?_
      refine lv_ldc hx hb hown (hts _ q963) dX2_heard_55 ?_
      refine lv_iadd hx hb dX2_heard_57 ?_
      exact mM_retI C hlk hr hS hP dX2_heard_58 ⟨by unfold heardQ; rw [if_pos hpr, clj, cli]; rfl, hM⟩
    · by_cases hs1 : x = 1
      · subst hs1
        refine lv_tableIn (off := 46) (tgt := 59) hx hb dX2_heard_13 (by decide) (by decide) (by decide) (by decide) ?_
        refine lv_aload_n hx hb dX2_heard_59 rfl (lv_at hl 0 rfl) ?_
        refine mg_w C hP dX2_heard_60 ?_
        refine lv_bipush (v := nI 43) hx hb dX2_heard_63 (by decide) ?_
        refine lv_bipush (v := nI 8) hx hb dX2_heard_65 (by decide) ?_
        refine lv_iload_n hx hb dX2_heard_67 rfl (lv_at hl 1 rfl) ?_
        refine w_imulN hx hb dX2_heard_68 ?_
        refine w_iaddN hx hb dX2_heard_69 ?_
        refine lv_iload_n hx hb dX2_heard_70 rfl (lv_at hl 2 rfl) ?_
        refine w_iaddN hx hb dX2_heard_71 ?_
        refine m_ald1 C hP (by omega) dX2_heard_72 ?_
        refine w_eqi (rp_7 hR (8 * jn + im) (by omega) (by omega)) ?_
        refine lv_bipush (v := nI 20) hx hb dX2_heard_73 (by decide) ?_
        refine lv_iadd hx hb dX2_heard_75 ?_
        exact mM_retI C hlk hr hS hP dX2_heard_76 ⟨by unfold heardQ; rw [if_pos hpr, clj, cli]; rfl, hM⟩
      · by_cases hs2 : x = 2
        · subst hs2
          refine lv_tableIn (off := 64) (tgt := 77) hx hb dX2_heard_13 (by decide) (by decide) (by decide) (by decide) ?_
          refine lv_aload_n hx hb dX2_heard_77 rfl (lv_at hl 0 rfl) ?_
          refine mg_w C hP dX2_heard_78 ?_
          refine lv_bipush (v := nI 107) hx hb dX2_heard_81 (by decide) ?_
          refine lv_bipush (v := nI 8) hx hb dX2_heard_83 (by decide) ?_
          refine lv_iload_n hx hb dX2_heard_85 rfl (lv_at hl 1 rfl) ?_
          refine w_imulN hx hb dX2_heard_86 ?_
          refine w_iaddN hx hb dX2_heard_87 ?_
          refine lv_iload_n hx hb dX2_heard_88 rfl (lv_at hl 2 rfl) ?_
          refine w_iaddN hx hb dX2_heard_89 ?_
          refine m_ald1 C hP (by omega) dX2_heard_90 ?_
          refine w_eqi (rp_6 hR (8 * jn + im) (by omega) (by omega)) ?_
          refine lv_sipush (v := nI 9999) hx hb dX2_heard_91 (by decide) ?_
          refine lv_iadd hx hb dX2_heard_94 ?_
          exact mM_retI C hlk hr hS hP dX2_heard_95 ⟨by unfold heardQ; rw [if_pos hpr, clj, cli]; rfl, hM⟩
        · by_cases hs3 : x = 3
          · subst hs3
            refine lv_tableIn (off := 83) (tgt := 96) hx hb dX2_heard_13 (by decide) (by decide) (by decide) (by decide) ?_
            refine lv_aload_n hx hb dX2_heard_96 rfl (lv_at hl 0 rfl) ?_
            refine lv_iload_n hx hb dX2_heard_97 rfl (lv_at hl 1 rfl) ?_
            refine lv_iload_n hx hb dX2_heard_98 rfl (lv_at hl 2 rfl) ?_
            refine m_cR [.int (nI jn), .int (nI im)] C hml hl.1 hP (mX2_rank l D T ad μ (aH a) hR hB jn im (by omega) (by omega)) (lw_V q976 q978 qs60 q71 q979) hdX2_rank ⟨rfl, rfl⟩ ⟨Nat.le_of_ble_eq_true rfl, Nat.le_of_ble_eq_true rfl⟩ rfl (Nat.le_of_ble_eq_true rfl) dX2_heard_99 ⟨Nat.zero_le _, Nat.zero_le _⟩ ?_
            exact mM_retI C hlk hr hS hP dX2_heard_102 ⟨by unfold heardQ; rw [if_pos hpr, clj, cli]; rfl, hM⟩
          · by_cases hs4 : x = 4
            · subst hs4
              refine lv_tableIn (off := 90) (tgt := 103) hx hb dX2_heard_13 (by decide) (by decide) (by decide) (by decide) ?_
              refine lv_aload_n hx hb dX2_heard_103 rfl (lv_at hl 0 rfl) ?_
              refine lv_iload_n hx hb dX2_heard_104 rfl (lv_at hl 1 rfl) ?_
              refine lv_iload_n hx hb dX2_heard_105 rfl (lv_at hl 2 rfl) ?_
              refine m_cM [.int (nI jn), .int (nI im)] C hml hl.1 hP hS (mX2_farthest l D T ad μ (aH a) hR hB B hA hB0 hB1 jn (by omega) im (by omega)) (lw_V q980 q982 qs61 q71 q983) hdX2_farthest ⟨rfl, rfl⟩ ⟨Nat.le_of_ble_eq_true rfl, Nat.le_of_ble_eq_true rfl⟩ rfl (Nat.le_of_ble_eq_true rfl) dX2_heard_106 ⟨Nat.zero_le _, Nat.zero_le _⟩ (fun v_198 μ_199 H locs hp_200 hP hS => ?_)
              obtain ⟨rfl, fa_2011, fa_2012⟩ := hp_200
              exact mM_retI C hlk hr hS hP dX2_heard_109 ⟨by unfold heardQ; rw [if_pos hpr, clj, cli]; rfl, hM.same (fa_2012 0 (by decide) (by decide)) (fun k hk => fa_2011 k (by omega)) (fa_2012 2 (by decide) (by decide)) (fa_2012 3 (by decide) (by decide)) (fa_2012 4 (by decide) (by decide))⟩
            · refine lv_tableOut (tgt := 110) hx hb dX2_heard_13 (tb_out 4 (fun k hk => match k, hk with | 0, _ => hs0 | 1, _ => hs1 | 2, _ => hs2 | 3, _ => hs3 | 4, _ => hs4 | k + 5, h => absurd h (by omega))) (by decide) ?_
              refine lv_ldc hx hb hown (hts _ q845) dX2_heard_110 ?_
              exact mM_retI C hlk hr hS hP dX2_heard_112 ⟨by unfold heardQ; rw [if_pos hpr]; dsimp only; rw [if_neg hs0, if_neg hs1, if_neg hs2, if_neg hs3, if_neg hs4], hM⟩
  · have hpr : ¬ pairB (aH a) j i = true := by unfold pairB; rw [bI_eq0.mp c_197]; decide
    refine lv_ldc hx hb hown (hts _ q962) dX2_heard_9 ?_
    exact mM_retI C hlk hr hS hP dX2_heard_11 ⟨by unfold heardQ; rw [if_neg hpr], hM⟩

theorem hdX2_alarmAt : yX2_alarmAt.cls = "LiarClocksModel" ∧ yX2_alarmAt.cls ≠ "java/lang/invoke/MethodHandle" ∧ yX2_alarmAt.cls ≠ "java/lang/invoke/VarHandle" ∧ (parseMethodDescriptor yX2_alarmAt.desc).map (fun d => d.parameters.length) = some 2 := by decide +kernel
set_option maxHeartbeats 4000000 in
/-- alarmAt -/
theorem mX2_alarmAt (l : Launch) (D : va_G) (T : Nat → ClassId) (ad : Nat → Nat) (μ : Nat → Nat → Int32) (a : Ab) (B : Int) (hM : MS μ a) (hI : AI a B) (hB0 : B ≤ 400000000) (hB1 : 0 ≤ B) (y x : Int32) : ∀ sz, Met l yX2_alarmAt (ws_ yX2_alarmAt cX2_alarmAt 3 (some .int)) ({ frames := 1, cells := 0, slots := 0, locals := 22 } : Room) (mPs D T ad μ [.ref (ad 0), .int y, .int x] sz) (mQ D T ad (fun r μ' => r = some (.int (alarmAtQ (aH a) y x)) ∧ MS μ' a)) 0 0 (gA 7 ad sz) := by
  have hR := hM.r
  have hB := hI.1.1
  have hA := hI.1.2.2.1
  have h8 := hB.many8
  have h3 := hB.strike3
  have h6 := hB.alarms6
  refine mM_intro [.ref (ad 0), .int y, .int x] (by decide) rfl (Nat.le_of_ble_eq_true rfl) ?_
  intro pg en s0 mi below meth cd ls C hr hlk hml hP hS hl
  have hx := C.1
  have hb := C.2.1
  have hown := C.2.2.1
  have hts := C.2.2.2.1
  have hl : lv_has ls 3 [(0, .ref (ad 0)), (1, .int y), (2, .int x)] := hl
  have k16 := hM.kn16
  have t200 := hM.tn200
  have b20 := hM.bn20
  refine lv_iload_n hx hb dX2_alarmAt_0 rfl (lv_at hl 1 rfl) ?_
  refine lv_iconst (v := nI 0) hx hb dX2_alarmAt_1 (by decide) ?_
  refine lv_aload_n hx hb dX2_alarmAt_2 rfl (lv_at hl 0 rfl) ?_
  refine mg_w C hP dX2_alarmAt_3 ?_
  refine lv_sipush (v := nI 171) hx hb dX2_alarmAt_6 (by decide) ?_
  refine m_ald1 C hP (by omega) dX2_alarmAt_9 ?_
  refine w_eqi (rp_alarms hR (by omega)) ?_
  refine w_eqi (hB.alarms) ?_
  refine lv_iconst (v := nI 1) hx hb dX2_alarmAt_10 (by decide) ?_
  refine lv_isub hx hb dX2_alarmAt_11 ?_
  refine m_cS [.int y, .int (nI 0), .int ((nI (nA (aH a))) - (nI (1)))] C hml hl.1 (mX2_in l y (nI (0)) ((nI (nA (aH a))) - (nI (1)))) (lw_S q842 q843 q71 q844) hdX2_in.2 ⟨rfl, rfl⟩ ⟨Nat.le_of_ble_eq_true rfl, Nat.le_of_ble_eq_true rfl⟩ rfl (Nat.le_of_ble_eq_true rfl) dX2_alarmAt_12 ⟨Nat.zero_le _, Nat.zero_le _⟩ ?_
  refine lv_if_ne (tgt := 21) hx hb dX2_alarmAt_15 (by decide) (fun c_202 => ?_) (fun c_202 => ?_)
  · have hin : inB y 0 ((nA (aH a) : Int) - 1) = true := (inB_in (v := y) (lo := nI 0) (hi := nI (nA (aH a)) - nI 1) (l := 0) (u := (nA (aH a) : Int) - 1) (by decide) (pk_sub_toInt (by omega) (by omega))) ▸ bI_ne0.mp c_202
    obtain ⟨k, hk, ek⟩ : ∃ k, k < nA (aH a) ∧ y = nI k := by
      have q := hin
      unfold inB at q
      simp only [Bool.and_eq_true, decide_eq_true_eq] at q
      obtain ⟨j, hj, rfl⟩ := nI_of (x := y) (by rw [w_lt, i_0]; omega)
      rw [nI_toInt hj] at q
      exact ⟨j, by omega, rfl⟩
    subst ek
    have clk : (nI k).toNatClampNeg = k := nI_clamp (by omega)
    refine lv_iload_n hx hb dX2_alarmAt_21 rfl (lv_at hl 2 rfl) ?_
    by_cases hs0 : x = 0
    · subst hs0
      refine lv_tableIn (off := 26) (tgt := 48) hx hb dX2_alarmAt_22 (by decide) (by decide) (by decide) (by decide) ?_
      refine lv_aload_n hx hb dX2_alarmAt_48 rfl (lv_at hl 0 rfl) ?_
      refine mg_w C hP dX2_alarmAt_49 ?_
      refine lv_sipush (v := nI 172) hx hb dX2_alarmAt_52 (by decide) ?_
      refine lv_iload_n hx hb dX2_alarmAt_55 rfl (lv_at hl 1 rfl) ?_
      refine w_iaddN hx hb dX2_alarmAt_56 ?_
      refine m_ald1 C hP (by omega) dX2_alarmAt_57 ?_
      refine w_eqi (rp_8 hR (k) (by omega) (by omega)) ?_
      exact mM_retI C hlk hr hS hP dX2_alarmAt_58 ⟨by unfold alarmAtQ; rw [if_pos hin, clk]; rfl, hM⟩
    · by_cases hs1 : x = 1
      · subst hs1
        refine lv_tableIn (off := 37) (tgt := 59) hx hb dX2_alarmAt_22 (by decide) (by decide) (by decide) (by decide) ?_
        refine lv_aload_n hx hb dX2_alarmAt_59 rfl (lv_at hl 0 rfl) ?_
        refine mg_w C hP dX2_alarmAt_60 ?_
        refine lv_sipush (v := nI 178) hx hb dX2_alarmAt_63 (by decide) ?_
        refine lv_iload_n hx hb dX2_alarmAt_66 rfl (lv_at hl 1 rfl) ?_
        refine w_iaddN hx hb dX2_alarmAt_67 ?_
        refine m_ald1 C hP (by omega) dX2_alarmAt_68 ?_
        refine w_eqi (rp_9 hR (k) (by omega) (by omega)) ?_
        exact mM_retI C hlk hr hS hP dX2_alarmAt_69 ⟨by unfold alarmAtQ; rw [if_pos hin, clk]; rfl, hM⟩
      · by_cases hs2 : x = 2
        · subst hs2
          refine lv_tableIn (off := 48) (tgt := 70) hx hb dX2_alarmAt_22 (by decide) (by decide) (by decide) (by decide) ?_
          refine lv_aload_n hx hb dX2_alarmAt_70 rfl (lv_at hl 0 rfl) ?_
          refine mg_w C hP dX2_alarmAt_71 ?_
          refine lv_sipush (v := nI 184) hx hb dX2_alarmAt_74 (by decide) ?_
          refine lv_iload_n hx hb dX2_alarmAt_77 rfl (lv_at hl 1 rfl) ?_
          refine w_iaddN hx hb dX2_alarmAt_78 ?_
          refine m_ald1 C hP (by omega) dX2_alarmAt_79 ?_
          refine w_eqi (rp_10 hR (k) (by omega) (by omega)) ?_
          exact mM_retI C hlk hr hS hP dX2_alarmAt_80 ⟨by unfold alarmAtQ; rw [if_pos hin, clk]; rfl, hM⟩
        · refine lv_tableOut (tgt := 81) hx hb dX2_alarmAt_22 (tb_out 2 (fun k hk => match k, hk with | 0, _ => hs0 | 1, _ => hs1 | 2, _ => hs2 | k + 3, h => absurd h (by omega))) (by decide) ?_
          refine lv_ldc hx hb hown (hts _ q845) dX2_alarmAt_81 ?_
          exact mM_retI C hlk hr hS hP dX2_alarmAt_83 ⟨by unfold alarmAtQ; rw [if_pos hin]; dsimp only; rw [if_neg hs0, if_neg hs1, if_neg hs2], hM⟩
  · have hin : ¬ inB y 0 ((nA (aH a) : Int) - 1) = true := by rw [← (inB_in (v := y) (lo := nI 0) (hi := nI (nA (aH a)) - nI 1) (l := 0) (u := (nA (aH a) : Int) - 1) (by decide) (pk_sub_toInt (by omega) (by omega))), bI_eq0.mp c_202]; decide
    refine lv_ldc hx hb hown (hts _ q962) dX2_alarmAt_18 ?_
    exact mM_retI C hlk hr hS hP dX2_alarmAt_20 ⟨by unfold alarmAtQ; rw [if_neg hin], hM⟩

theorem hdX2_write : yX2_write.cls = "LiarClocksModel" ∧ yX2_write.cls ≠ "java/lang/invoke/MethodHandle" ∧ yX2_write.cls ≠ "java/lang/invoke/VarHandle" ∧ (parseMethodDescriptor yX2_write.desc).map (fun d => d.parameters.length) = some 2 := by decide +kernel
set_option maxHeartbeats 4000000 in
/-- write -/
theorem mX2_write (l : Launch) (D : va_G) (T : Nat → ClassId) (ad : Nat → Nat) (μ : Nat → Nat → Int32) (a : Ab) (B : Int) (hM : MS μ a) (hI : AI a B) (hB0 : B ≤ 400000000) (hB1 : 0 ≤ B) (c v : Int32) : ∀ sz, Met l yX2_write (ws_ yX2_write cX2_write 3 (some .int)) ({ frames := 2, cells := 0, slots := 0, locals := 43 } : Room) (mPs D T ad μ [.ref (ad 0), .int c, .int v] sz) (mQ D T ad (fun r μ' => r = some (.int (writeQ a c v).1) ∧ MS μ' (writeQ a c v).2)) 0 0 (gA 7 ad sz) := by
  have hR := hM.r
  have hB := hI.1.1
  have hA := hI.1.2.2.1
  have h8 := hB.many8
  have h3 := hB.strike3
  have h6 := hB.alarms6
  refine mM_intro [.ref (ad 0), .int c, .int v] (by decide) rfl (Nat.le_of_ble_eq_true rfl) ?_
  intro pg en s0 mi below meth cd ls C hr hlk hml hP hS hl
  have hx := C.1
  have hb := C.2.1
  have hown := C.2.2.1
  have hts := C.2.2.2.1
  have hl : lv_has ls 3 [(0, .ref (ad 0)), (1, .int c), (2, .int v)] := hl
  have k16 := hM.kn16
  have t200 := hM.tn200
  have b20 := hM.bn20
  refine lv_aload_n hx hb dX2_write_0 rfl (lv_at hl 0 rfl) ?_
  refine lv_iload_n hx hb dX2_write_1 rfl (lv_at hl 1 rfl) ?_
  refine m_cR [.int c] C hml hl.1 hP (mX2_isClock l D T ad μ (aH a) hR hB c) (lw_V q954 q956 qs57 q71 q957) hdX2_isClock ⟨rfl, rfl⟩ ⟨Nat.le_of_ble_eq_true rfl, Nat.le_of_ble_eq_true rfl⟩ rfl (Nat.le_of_ble_eq_true rfl) dX2_write_2 ⟨Nat.zero_le _, Nat.zero_le _⟩ ?_
  refine lv_if_ne (tgt := 11) hx hb dX2_write_5 (by decide) (fun c_203 => ?_) (fun c_203 => ?_)
  · have hic : isC (aH a) c = true := bI_ne0.mp c_203
    obtain ⟨k, hk, ek⟩ := isC_spec hic
    subst ek
    have clk : (nI k).toNatClampNeg = k := nI_clamp (by omega)
    refine lv_aload_n hx hb dX2_write_11 rfl (lv_at hl 0 rfl) ?_
    refine mg_written C hP dX2_write_12 ?_
    refine w_eqi (y := nI (aBn a)) (hM.bn) ?_
    refine lv_bipush (v := nI 20) hx hb dX2_write_15 (by decide) ?_
    refine w_icmpN_ne (tgt := 23) hx hb dX2_write_17 (by decide) (by omega) (by omega) (fun c_204 => ?_) (fun c_204 => ?_)
    · refine lv_aload_n hx hb dX2_write_23 rfl (lv_at hl 0 rfl) ?_
      refine mg_bookOf C hP dX2_write_24 ?_
      refine lv_aload_n hx hb dX2_write_27 rfl (lv_at hl 0 rfl) ?_
      refine mg_written C hP dX2_write_28 ?_
      refine w_eqi (y := nI (aBn a)) (hM.bn) ?_
      refine lv_iload_n hx hb dX2_write_31 rfl (lv_at hl 1 rfl) ?_
      refine m_ast3 C hP hS (by omega) dX2_write_32 (fun H locs hP hS => ?_)
      obtain ⟨μ_205, eμ_206⟩ : ∃ y9, y9 = mset μ 3 (aBn a) (nI (k)) := ⟨_, rfl⟩
      rw [← eμ_206] at hP
      have hR_207 : Rp (μ_205 1) 0 (aH a) := by rw [eμ_206, mset_oth (by decide)]; exact hR
      refine lv_aload_n hx hb dX2_write_33 rfl (lv_at hl 0 rfl) ?_
      refine mg_bookAim C hP dX2_write_34 ?_
      refine lv_aload_n hx hb dX2_write_37 rfl (lv_at hl 0 rfl) ?_
      refine mg_written C hP dX2_write_38 ?_
      refine w_eqi (y := nI (aBn a)) (by rw [eμ_206, mset_ne (Or.inl (by decide))]; exact (hM.bn)) ?_
      refine lv_iload_n hx hb dX2_write_41 rfl (lv_at hl 2 rfl) ?_
      refine m_ast4 C hP hS (by omega) dX2_write_42 (fun H locs hP hS => ?_)
      obtain ⟨μ_208, eμ_209⟩ : ∃ y9, y9 = mset μ_205 4 (aBn a) v := ⟨_, rfl⟩
      rw [← eμ_209] at hP
      have hR_210 : Rp (μ_208 1) 0 (aH a) := by rw [eμ_209, mset_oth (by decide)]; exact hR_207
      refine lv_aload_n hx hb dX2_write_43 rfl (lv_at hl 0 rfl) ?_
      refine lv_dup hx hb dX2_write_44 rfl ?_
      refine mg_written C hP dX2_write_45 ?_
      refine w_eqi (y := nI (aBn a)) (by rw [eμ_209, mset_ne (Or.inl (by decide))]; exact (by rw [eμ_206, mset_ne (Or.inl (by decide))]; exact (hM.bn))) ?_
      refine lv_iconst (v := nI 1) hx hb dX2_write_48 (by decide) ?_
      refine w_iaddN hx hb dX2_write_49 ?_
      refine mp_written C hP hS dX2_write_50 (fun H locs hP hS => ?_)
      obtain ⟨μ_211, eμ_212⟩ : ∃ y9, y9 = mset μ_208 0 8 (nI (aBn a + 1)) := ⟨_, rfl⟩
      rw [← eμ_212] at hP
      have hR_213 : Rp (μ_211 1) 0 (aH a) := by rw [eμ_212, mset_oth (by decide)]; exact hR_210
      refine lv_aload_n hx hb dX2_write_53 rfl (lv_at hl 0 rfl) ?_
      refine mg_written C hP dX2_write_54 ?_
      refine w_eqi (y := nI (aBn a + 1)) (by rw [eμ_212, mset_self]) ?_
      exact mM_retI C hlk hr hS hP dX2_write_57 ⟨by unfold writeQ; rw [if_pos hic, if_neg c_204], by
            unfold writeQ; rw [if_pos hic, if_neg c_204]
            have q : ∀ j, j ≠ 0 → j ≠ 3 → j ≠ 4 → μ_211 j = μ j := fun j j0 j3 j4 => by rw [eμ_212, mset_oth j0, eμ_209, mset_oth j4, eμ_206, mset_oth j3]
            have q0 : ∀ j, j ≠ 8 → μ_211 0 j = μ 0 j := fun j j8 => by rw [eμ_212, mset_ne (Or.inr j8), eμ_209, mset_oth (by decide), eμ_206, mset_oth (by decide)]
            have q3 : μ_211 3 = upd (μ 3) (aBn a) (nI k) := by rw [eμ_212, mset_oth (by decide), eμ_209, mset_oth (by decide), eμ_206, mset_row]
            have q4 : μ_211 4 = upd (μ 4) (aBn a) v := by rw [eμ_212, mset_oth (by decide), eμ_209, mset_row, eμ_206, mset_oth (by decide)]
            refine ⟨⟨by rw [q 1 (by decide) (by decide) (by decide)]; exact hM.r, by rw [q 1 (by decide) (by decide) (by decide)]; exact hM.sd⟩, ⟨by rw [q0 1 (by decide)]; exact hM.kn, hM.kn16, fun j hj => by rw [q 1 (by decide) (by decide) (by decide)]; exact hM.ps hj⟩, ⟨by rw [q0 2 (by decide)]; exact hM.kp, fun i hi hk => by rw [q 1 (by decide) (by decide) (by decide)]; exact hM.im hi hk⟩, ⟨by rw [q0 4 (by decide)]; exact hM.tn, hM.tn200, fun j hj => by rw [q 2 (by decide) (by decide) (by decide)]; exact hM.tx hj⟩, by rw [q0 5 (by decide)]; exact hM.ft, ⟨by rw [eμ_212, mset_self], by show aBn a + 1 ≤ 20; omega, fun j hj => ?_⟩⟩
            have hj : j < aBn a + 1 := hj
            rw [q3, q4]
            show upd (μ 3) (aBn a) (nI k) j = upd (aBo a) (aBn a) (nI k) j ∧ upd (μ 4) (aBn a) v j = upd (aBa a) (aBn a) v j
            by_cases e : j = aBn a
            · rw [e, pk_us, pk_us, pk_us, pk_us]; exact ⟨rfl, rfl⟩
            · rw [pk_un e, pk_un e, pk_un e, pk_un e]; exact hM.bk (by omega)⟩
    · refine lv_ldc hx hb hown (hts _ q846) dX2_write_20 ?_
      exact mM_retI C hlk hr hS hP dX2_write_22 ⟨by unfold writeQ; rw [if_pos hic, if_pos c_204], by unfold writeQ; rw [if_pos hic, if_pos c_204]; exact hM⟩
  · have hic : ¬ isC (aH a) c = true := by rw [bI_eq0.mp c_203]; decide
    refine lv_ldc hx hb hown (hts _ q962) dX2_write_8 ?_
    exact mM_retI C hlk hr hS hP dX2_write_10 ⟨by unfold writeQ; rw [if_neg hic], by unfold writeQ; rw [if_neg hic]; exact hM⟩

theorem hdX2_tear : yX2_tear.cls = "LiarClocksModel" ∧ yX2_tear.cls ≠ "java/lang/invoke/MethodHandle" ∧ yX2_tear.cls ≠ "java/lang/invoke/VarHandle" ∧ (parseMethodDescriptor yX2_tear.desc).map (fun d => d.parameters.length) = some 0 := by decide +kernel
set_option maxHeartbeats 4000000 in
/-- tear -/
theorem mX2_tear (l : Launch) (D : va_G) (T : Nat → ClassId) (ad : Nat → Nat) (μ : Nat → Nat → Int32) (a : Ab) (B : Int) (hM : MS μ a) (hI : AI a B) (hB0 : B ≤ 400000000) (hB1 : 0 ≤ B)  : ∀ sz, Met l yX2_tear (ws_ yX2_tear cX2_tear 2 (some .int)) ({ frames := 0, cells := 0, slots := 0, locals := 0 } : Room) (mPs D T ad μ [.ref (ad 0)] sz) (mQ D T ad (fun r μ' => r = some (.int (tearQ a).1) ∧ MS μ' (tearQ a).2)) 0 0 (gA 7 ad sz) := by
  have hR := hM.r
  have hB := hI.1.1
  have hA := hI.1.2.2.1
  have h8 := hB.many8
  have h3 := hB.strike3
  have h6 := hB.alarms6
  refine mM_intro [.ref (ad 0)] (by decide) rfl (Nat.le_of_ble_eq_true rfl) ?_
  intro pg en s0 mi below meth cd ls C hr hlk hml hP hS hl
  have hx := C.1
  have hb := C.2.1
  have hown := C.2.2.1
  have hts := C.2.2.2.1
  have hl : lv_has ls 2 [(0, .ref (ad 0))] := hl
  have k16 := hM.kn16
  have t200 := hM.tn200
  have b20 := hM.bn20
  refine lv_aload_n hx hb dX2_tear_0 rfl (lv_at hl 0 rfl) ?_
  refine mg_written C hP dX2_tear_1 ?_
  refine w_eqi (y := nI (aBn a)) (hM.bn) ?_
  refine lv_istore_n (lv' := [(1, .int (nI (aBn a))), (0, .ref (ad 0))]) hx hb dX2_tear_4 rfl hl (by decide) rfl (fun ls hl => ?_)
  refine lv_aload_n hx hb dX2_tear_5 rfl (lv_at hl 1 rfl) ?_
  refine lv_iconst (v := nI 0) hx hb dX2_tear_6 (by decide) ?_
  refine mp_written C hP hS dX2_tear_7 (fun H locs hP hS => ?_)
  obtain ⟨μ_214, eμ_215⟩ : ∃ y9, y9 = mset μ 0 8 (nI (0)) := ⟨_, rfl⟩
  rw [← eμ_215] at hP
  have hR_216 : Rp (μ_214 1) 0 (aH a) := by rw [eμ_215, mset_oth (by decide)]; exact hR
  refine lv_iload_n hx hb dX2_tear_10 rfl (lv_at hl 0 rfl) ?_
  exact mM_retI C hlk hr hS hP dX2_tear_11 ⟨rfl, by
        have q : ∀ j, j ≠ 0 → μ_214 j = μ j := fun j j0 => by rw [eμ_215, mset_oth j0]
        have q0 : ∀ j, j ≠ 8 → μ_214 0 j = μ 0 j := fun j j8 => by rw [eμ_215, mset_ne (Or.inr j8)]
        exact ⟨⟨by rw [q 1 (by decide)]; exact hM.r, by rw [q 1 (by decide)]; exact hM.sd⟩, ⟨by rw [q0 1 (by decide)]; exact hM.kn, hM.kn16, fun j hj => by rw [q 1 (by decide)]; exact hM.ps hj⟩, ⟨by rw [q0 2 (by decide)]; exact hM.kp, fun i hi hk => by rw [q 1 (by decide)]; exact hM.im hi hk⟩, ⟨by rw [q0 4 (by decide)]; exact hM.tn, hM.tn200, fun j hj => by rw [q 2 (by decide)]; exact hM.tx hj⟩, by rw [q0 5 (by decide)]; exact hM.ft, ⟨by rw [eμ_215, mset_self]; rfl, Nat.zero_le _, fun j hj => absurd hj (Nat.not_lt_zero j)⟩⟩⟩

theorem hdX2_seed : yX2_seed.cls = "LiarClocksModel" ∧ yX2_seed.cls ≠ "java/lang/invoke/MethodHandle" ∧ yX2_seed.cls ≠ "java/lang/invoke/VarHandle" ∧ (parseMethodDescriptor yX2_seed.desc).map (fun d => d.parameters.length) = some 1 := by decide +kernel
set_option maxHeartbeats 4000000 in
/-- seed -/
theorem mX2_seed (l : Launch) (D : va_G) (T : Nat → ClassId) (ad : Nat → Nat) (μ : Nat → Nat → Int32) (a : Ab) (B : Int) (hM : MS μ a) (hI : AI a B) (hB0 : B ≤ 400000000) (hB1 : 0 ≤ B) (v : Int32) : ∀ sz, Met l yX2_seed (ws_ yX2_seed cX2_seed 3 (some .int)) ({ frames := 0, cells := 0, slots := 0, locals := 0 } : Room) (mPs D T ad μ [.ref (ad 0), .int v] sz) (mQ D T ad (fun r μ' => r = some (.int (seedQ a v).1) ∧ MS μ' (seedQ a v).2)) 0 0 (gA 7 ad sz) := by
  have hR := hM.r
  have hB := hI.1.1
  have hA := hI.1.2.2.1
  have h8 := hB.many8
  have h3 := hB.strike3
  have h6 := hB.alarms6
  refine mM_intro [.ref (ad 0), .int v] (by decide) rfl (Nat.le_of_ble_eq_true rfl) ?_
  intro pg en s0 mi below meth cd ls C hr hlk hml hP hS hl
  have hx := C.1
  have hb := C.2.1
  have hown := C.2.2.1
  have hts := C.2.2.2.1
  have hl : lv_has ls 3 [(0, .ref (ad 0)), (1, .int v)] := hl
  have k16 := hM.kn16
  have t200 := hM.tn200
  have b20 := hM.bn20
  refine lv_iload_n hx hb dX2_seed_0 rfl (lv_at hl 1 rfl) ?_
  refine lv_if_ge (tgt := 7) hx hb dX2_seed_1 (by decide) (fun c_217 => ?_) (fun c_217 => ?_)
  · refine lv_aload_n hx hb dX2_seed_7 rfl (lv_at hl 0 rfl) ?_
    refine mg_w C hP dX2_seed_8 ?_
    refine lv_sipush (v := nI 191) hx hb dX2_seed_11 (by decide) ?_
    refine m_ald1 C hP (by omega) dX2_seed_14 ?_
    refine lv_istore_n (lv' := [(2, .int (μ 1 (191))), (0, .ref (ad 0)), (1, .int v)]) hx hb dX2_seed_15 rfl hl (by decide) rfl (fun ls hl => ?_)
    refine lv_aload_n hx hb dX2_seed_16 rfl (lv_at hl 1 rfl) ?_
    refine mg_w C hP dX2_seed_17 ?_
    refine lv_sipush (v := nI 191) hx hb dX2_seed_20 (by decide) ?_
    refine lv_iload_n hx hb dX2_seed_23 rfl (lv_at hl 2 rfl) ?_
    refine m_ast1 C hP hS (by omega) dX2_seed_24 (fun H locs hP hS => ?_)
    obtain ⟨μ_218, eμ_219⟩ : ∃ y9, y9 = mset μ 1 (191) v := ⟨_, rfl⟩
    rw [← eμ_219] at hP
    refine lv_iload_n hx hb dX2_seed_25 rfl (lv_at hl 0 rfl) ?_
    exact mM_retI C hlk hr hS hP dX2_seed_26 ⟨by unfold seedQ; rw [if_neg (Int32.not_lt.mpr c_217), hM.sd], by
          unfold seedQ; rw [if_neg (Int32.not_lt.mpr c_217)]
          have q : ∀ j, j ≠ 1 → μ_218 j = μ j := fun j j0 => by rw [eμ_219, mset_oth j0]
          have q1 : ∀ j, j ≠ 191 → μ_218 1 j = μ 1 j := fun j j8 => by rw [eμ_219, mset_ne (Or.inr j8)]
          refine ⟨⟨hM.r.kept (fun k _ hk => q1 k (by omega)), by rw [eμ_219, mset_self]⟩, ⟨by rw [q 0 (by decide)]; exact hM.kn, hM.kn16, fun j hj => (hM.ps hj).kept (fun k hk _ => q1 k ?_)⟩, ⟨by rw [q 0 (by decide)]; exact hM.kp, fun i hi hk => ⟨(hM.im hi hk).1.kept (fun k hk _ => q1 k (by omega)), by rw [q1 _ (by omega)]; exact (hM.im hi hk).2⟩⟩, ⟨by rw [q 0 (by decide)]; exact hM.tn, hM.tn200, fun j hj => by rw [q 2 (by decide)]; exact hM.tx hj⟩, by rw [q 0 (by decide)]; exact hM.ft, ⟨by rw [q 0 (by decide)]; exact hM.bn, hM.bn20, fun j hj => by rw [q 3 (by decide), q 4 (by decide)]; exact hM.bk hj⟩⟩
          have hj : j < aKn a := hj
          have hk : 192 * (aKn a - j) ≤ k := hk
          omega⟩
  · refine lv_ldc hx hb hown (hts _ q845) dX2_seed_4 ?_
    exact mM_retI C hlk hr hS hP dX2_seed_6 ⟨by unfold seedQ; rw [if_pos (Int32.not_le.mp c_217)], by unfold seedQ; rw [if_pos (Int32.not_le.mp c_217)]; exact hM⟩

