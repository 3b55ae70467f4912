/-! THE MODEL: deeds -/
set_option maxRecDepth 100000
theorem hdX2_remember : yX2_remember.cls = "LiarClocksModel" ∧ yX2_remember.cls ≠ "java/lang/invoke/MethodHandle" ∧ yX2_remember.cls ≠ "java/lang/invoke/VarHandle" ∧ (parseMethodDescriptor yX2_remember.desc).map (fun d => d.parameters.length) = some 0 := by decide +kernel
set_option maxHeartbeats 4000000 in
/-- remember -/
theorem mX2_remember (l : Launch) (D : va_G) (T : Nat → ClassId) (ad : Nat → Nat) (μ : Nat → Nat → Int32) (a : Ab) (hM : MS μ a) : ∀ sz, Met l yX2_remember (ws_ yX2_remember cX2_remember 2 none) ({ frames := 1, cells := 0, slots := 0, locals := 23 } : Room) (mPs D T ad μ [.ref (ad 0)] sz) (mQ D T ad (fun r μ' => r = none ∧ (∀ q, q ≠ 0 → q ≠ 1 → μ' q = μ q) ∧ MS μ' (remS a))) 0 0 (gA 7 ad sz) := by
  refine mM_intro [.ref (ad 0)] (by decide) rfl (Nat.le_of_ble_eq_true rfl) ?_
  intro pg en s0 mi below meth cd ls C hr hlk hml hP hS hl
  have hx := C.1
  have hb := C.2.1
  have hown := C.2.2.1
  have hts := C.2.2.2.1
  have hl : lv_has ls 2 [(0, .ref (ad 0))] := hl
  have k16 := hM.kn16
  refine lv_aload_n hx hb dX2_remember_0 rfl (lv_at hl 0 rfl) ?_
  refine mg_known C hP dX2_remember_1 ?_
  refine w_eqi (y := nI (aKn a)) (hM.kn) ?_
  refine lv_bipush (v := nI 16) hx hb dX2_remember_4 (by decide) ?_
  refine w_icmpN_ne (tgt := 49) hx hb dX2_remember_6 (by decide) (by omega) (by omega) (fun c_220 => ?_) (fun c_220 => ?_)
  · have hlt : aKn a < 16 := by omega
    have hoA : ∀ j, j ≠ 0 → j ≠ 1 → μ j = μ j := (fun _ _ _ => rfl)
    have hoB : ∀ j, j ≠ 1 → μ 0 j = μ 0 j := (fun _ _ => rfl)
    have hoC : ∀ j, (j < 192 ∨ 3264 ≤ j) → μ 1 j = μ 1 j := (fun _ _ => rfl)
    refine lv_aload_n hx hb dX2_remember_49 rfl (lv_at hl 0 rfl) ?_
    refine lv_iconst (v := nI 0) hx hb dX2_remember_50 (by decide) ?_
    refine lv_sipush (v := nI 192) hx hb dX2_remember_51 (by decide) ?_
    refine lv_aload_n hx hb dX2_remember_54 rfl (lv_at hl 0 rfl) ?_
    refine mg_known C hP dX2_remember_55 ?_
    refine w_eqi (y := nI (aKn a)) (hM.kn) ?_
    refine lv_iconst (v := nI 1) hx hb dX2_remember_58 (by decide) ?_
    refine w_iaddN hx hb dX2_remember_59 ?_
    refine w_imulN hx hb dX2_remember_60 ?_
    refine m_cM [.int (nI 0), .int (nI (192 * (aKn a + 1)))] C hml hl.1 hP hS (mX2_copyRow l D T ad μ 0 (192 * (aKn a + 1)) (by omega) (by omega) (by omega)) (lw_V q879 q881 qs41 q71 q882) hdX2_copyRow ⟨rfl, rfl⟩ ⟨Nat.le_of_ble_eq_true rfl, Nat.le_of_ble_eq_true rfl⟩ rfl (Nat.le_of_ble_eq_true rfl) dX2_remember_61 ⟨Nat.zero_le _, Nat.zero_le _⟩ (fun v_221 μ_222 H locs hp_223 hP hS => ?_)
    obtain ⟨rfl, cp_224a, cp_224b, cp_224c⟩ := hp_223
    refine lv_aload_n hx hb dX2_remember_64 rfl (lv_at hl 0 rfl) ?_
    refine lv_dup hx hb dX2_remember_65 rfl ?_
    refine mg_known C hP dX2_remember_66 ?_
    refine w_eqi (y := nI (aKn a)) (by rw [cp_224c 0 (by decide)]; exact (hM.kn)) ?_
    refine lv_iconst (v := nI 1) hx hb dX2_remember_69 (by decide) ?_
    refine w_iaddN hx hb dX2_remember_70 ?_
    refine mp_known C hP hS dX2_remember_71 (fun H locs hP hS => ?_)
    obtain ⟨μ_225, eμ_226⟩ : ∃ y9, y9 = mset μ_222 0 1 (nI (aKn a + 1)) := ⟨_, rfl⟩
    rw [← eμ_226] at hP
    exact mM_retV C hlk hr hS hP dX2_remember_74 ⟨rfl, fun j j0 j1 => by rw [eμ_226, mset_oth j0]; exact (cp_224c j j1).trans (hoA j j0 j1), by
          have q : ∀ j, j ≠ 0 → j ≠ 1 → μ_225 j = μ j := fun j j0 j1 => by rw [eμ_226, mset_oth j0]; exact (cp_224c j j1).trans (hoA j j0 j1)
          have q0 : ∀ j, j ≠ 1 → μ_225 0 j = μ 0 j := fun j j1 => by rw [eμ_226, mset_ne (Or.inr j1)]; exact (congrFun (cp_224c 0 (by decide)) j).trans (hoB j j1)
          have q1 : μ_225 1 = μ_222 1 := by rw [eμ_226, mset_oth (by decide)]
          have kf : ∀ j, (j < 192 ∨ 3264 ≤ j) → μ_222 1 j = μ 1 j := fun j hj => (cp_224b j (by omega)).trans (hoC j hj)
          unfold remS
          rw [if_pos hlt]
          refine ⟨⟨by rw [q1]; exact hM.r.kept (fun k _ hk => kf k (by omega)), by rw [q1, kf 191 (by omega)]; exact hM.sd⟩, ⟨by rw [eμ_226, mset_self], by show aKn a + 1 ≤ 16; omega, fun k hk => ?_⟩, ⟨by rw [q0 2 (by decide)]; exact hM.kp, fun i hi hk => ?_⟩, ⟨by rw [q0 4 (by decide)]; exact hM.tn, hM.tn200, fun j hj => by rw [q 2 (by decide) (by decide)]; exact hM.tx hj⟩, by rw [q0 5 (by decide)]; exact hM.ft, ⟨by rw [q0 8 (by decide)]; exact hM.bn, hM.bn20, fun j hj => by rw [q 3 (by decide) (by decide), q 4 (by decide) (by decide)]; exact hM.bk hj⟩⟩
          · have hk : k < aKn a + 1 := hk
            rw [q1]
            show Rp (μ_222 1) (192 * (aKn a + 1 - k)) (if k = 0 then aH a else aPs a (k - 1))
            by_cases e0 : k = 0
            · rw [if_pos e0, e0]
              refine hM.r.copy (fun j hj => ?_)
              have h1 := cp_224a j (by omega)
              rw [Nat.zero_add] at h1 ⊢
              rw [Nat.sub_zero]
              exact h1.trans (hoC j (by omega))
            · rw [if_neg e0]
              have := hM.ps (k := k - 1) (by omega)
              rw [show aKn a - (k - 1) = aKn a + 1 - k by omega] at this
              exact this.kept (fun j hj hj2 => cp_224b j (by omega))
          · have := hM.im hi hk
            rw [q1]
            exact ⟨this.1.kept (fun j hj _ => kf j (by omega)), by rw [kf _ (by omega)]; exact this.2⟩⟩
  · have hnlt : ¬ aKn a < 16 := by omega
    refine lv_iconst (v := nI 1) hx hb dX2_remember_9 (by decide) ?_
    refine lv_istore_n (lv' := [(1, .int (nI 1)), (0, .ref (ad 0))]) hx hb dX2_remember_10 rfl hl (by decide) rfl (fun ls hl => ?_)
    refine w_upM (α := Nat → Nat → Int32) (16) 11 2 (gA 7 ad s0.heap.size) s0.heap (fun r μ2 => [(0, .ref (ad 0)), (1, .int (nI r))]) (fun r μ2 H => 1 ≤ r ∧ mW D T ad μ2 H ∧ (∀ u, 1 ≤ u → u < r → ∀ q, q < 192 → μ2 1 (192 * u + q) = μ 1 (192 * (u + 1) + q)) ∧ (∀ q, (q < 192 ∨ 192 * r ≤ q) → μ2 1 q = μ 1 q) ∧ ∀ q, q ≠ 1 → μ2 q = μ q) ?_ ?_ 1 (by omega) μ (lv_sub hl [1, 0] rfl) ⟨by omega, hP, fun r h1 h2 => absurd h2 (by omega), fun _ _ => rfl, fun _ _ => rfl⟩ hS
    · intro r μ2 ls H locs hi_r hl hW hS ih_r
      have hl : lv_has ls 2 [(0, .ref (ad 0)), (1, .int (nI r))] := hl
      obtain ⟨hr1, hP, hsh, hk1, hoth⟩ := hW
      refine lv_iload_n hx hb dX2_remember_11 rfl (lv_at hl 1 rfl) ?_
      refine lv_bipush (v := nI 16) hx hb dX2_remember_12 (by decide) ?_
      refine w_icmpN_ge (tgt := 39) hx hb dX2_remember_14 (by decide) (by omega) (by omega) (fun c_227 => ?_) (fun c_227 => ?_)
      · exact absurd c_227 (by omega)
      · refine lv_aload_n hx hb dX2_remember_17 rfl (lv_at hl 0 rfl) ?_
        refine lv_sipush (v := nI 192) hx hb dX2_remember_18 (by decide) ?_
        refine lv_iload_n hx hb dX2_remember_21 rfl (lv_at hl 1 rfl) ?_
        refine lv_iconst (v := nI 1) hx hb dX2_remember_22 (by decide) ?_
        refine w_iaddN hx hb dX2_remember_23 ?_
        refine w_imulN hx hb dX2_remember_24 ?_
        refine lv_sipush (v := nI 192) hx hb dX2_remember_25 (by decide) ?_
        refine lv_iload_n hx hb dX2_remember_28 rfl (lv_at hl 1 rfl) ?_
        refine w_imulN hx hb dX2_remember_29 ?_
        refine m_cM [.int (nI (192 * (r + 1))), .int (nI (192 * r))] C hml hl.1 hP hS (mX2_copyRow l D T ad μ2 (192 * (r + 1)) (192 * r) (by omega) (by omega) (by omega)) (lw_V q879 q881 qs41 q71 q882) hdX2_copyRow ⟨rfl, rfl⟩ ⟨Nat.le_of_ble_eq_true rfl, Nat.le_of_ble_eq_true rfl⟩ rfl (Nat.le_of_ble_eq_true rfl) dX2_remember_30 ⟨Nat.zero_le _, Nat.zero_le _⟩ (fun v_228 μ_229 H locs hp_230 hP hS => ?_)
        obtain ⟨rfl, cp_231a, cp_231b, cp_231c⟩ := hp_230
        refine lv_iinc (v := nI (r + 1)) (lv' := [(1, .int (nI (r + 1))), (0, .ref (ad 0))]) hx hb dX2_remember_33 hl (k := 1) rfl (w_inc _ _) (by decide) rfl (fun ls hl => ?_)
        refine lv_goto (tgt := 11) hx hb dX2_remember_36 (by decide) ?_
        refine ih_r μ_229 _ _ _ (lv_sub hl [1, 0] rfl) ⟨by omega, hP, ?_, ?_, ?_⟩ hS
        · intro s s1 s2 q hq
          by_cases e : s = r
          · subst e
            rw [cp_231a q hq]; exact hk1 _ (by omega)
          · rw [cp_231b _ (by omega)]; exact hsh s s1 (by omega) q hq
        · intro q hq
          rw [cp_231b q (by omega)]; exact hk1 q (by omega)
        · intro q hq
          rw [cp_231c q hq]; exact hoth q hq
    · intro μ2 ls H locs hl hW hS
      have hl : lv_has ls 2 [(0, .ref (ad 0)), (1, .int (nI 16))] := hl
      obtain ⟨hr1, hP, hsh, hk1, hoth⟩ := hW
      refine lv_iload_n hx hb dX2_remember_11 rfl (lv_at hl 1 rfl) ?_
      refine lv_bipush (v := nI 16) hx hb dX2_remember_12 (by decide) ?_
      refine w_icmpN_ge (tgt := 39) hx hb dX2_remember_14 (by decide) (by omega) (by omega) (fun c_232 => ?_) (fun c_232 => ?_)
      · refine lv_aload_n hx hb dX2_remember_39 rfl (lv_at hl 0 rfl) ?_
        refine lv_dup hx hb dX2_remember_40 rfl ?_
        refine mg_known C hP dX2_remember_41 ?_
        refine w_eqi (y := nI (16)) (by rw [hoth 0 (by decide)]; exact hM.kn.trans (congrArg nI c_220)) ?_
        refine lv_iconst (v := nI 1) hx hb dX2_remember_44 (by decide) ?_
        refine w_isubN hx hb dX2_remember_45 (by omega) ?_
        refine mp_known C hP hS dX2_remember_46 (fun H locs hP hS => ?_)
        obtain ⟨μ_233, eμ_234⟩ : ∃ y9, y9 = mset μ2 0 1 (nI (16 - 1)) := ⟨_, rfl⟩
        rw [← eμ_234] at hP
        have hoA : ∀ j, j ≠ 0 → j ≠ 1 → μ_233 j = μ j := (fun j j0 j1 => by rw [eμ_234, mset_oth j0]; exact hoth j j1)
        have hoB : ∀ j, j ≠ 1 → μ_233 0 j = μ 0 j := (fun j j1 => by rw [eμ_234, mset_ne (Or.inr j1), hoth 0 (by decide)])
        have hoC : ∀ j, (j < 192 ∨ 3264 ≤ j) → μ_233 1 j = μ 1 j := (fun j hj => by rw [eμ_234, mset_oth (by decide)]; exact hk1 j (by omega))
        refine lv_aload_n hx hb dX2_remember_49 rfl (lv_at hl 0 rfl) ?_
        refine lv_iconst (v := nI 0) hx hb dX2_remember_50 (by decide) ?_
        refine lv_sipush (v := nI 192) hx hb dX2_remember_51 (by decide) ?_
        refine lv_aload_n hx hb dX2_remember_54 rfl (lv_at hl 0 rfl) ?_
        refine mg_known C hP dX2_remember_55 ?_
        refine w_eqi (y := nI (15)) (by rw [eμ_234, mset_self]) ?_
        refine lv_iconst (v := nI 1) hx hb dX2_remember_58 (by decide) ?_
        refine w_iaddN hx hb dX2_remember_59 ?_
        refine w_imulN hx hb dX2_remember_60 ?_
        refine m_cM [.int (nI 0), .int (nI (192 * (15 + 1)))] C hml hl.1 hP hS (mX2_copyRow l D T ad μ_233 0 (192 * (15 + 1)) (by omega) (by omega) (by omega)) (lw_V q879 q881 qs41 q71 q882) hdX2_copyRow ⟨rfl, rfl⟩ ⟨Nat.le_of_ble_eq_true rfl, Nat.le_of_ble_eq_true rfl⟩ rfl (Nat.le_of_ble_eq_true rfl) dX2_remember_61 ⟨Nat.zero_le _, Nat.zero_le _⟩ (fun v_235 μ_236 H locs hp_237 hP hS => ?_)
        obtain ⟨rfl, cp_238a, cp_238b, cp_238c⟩ := hp_237
        refine lv_aload_n hx hb dX2_remember_64 rfl (lv_at hl 0 rfl) ?_
        refine lv_dup hx hb dX2_remember_65 rfl ?_
        refine mg_known C hP dX2_remember_66 ?_
        refine w_eqi (y := nI (15)) (by rw [cp_238c 0 (by decide)]; exact (by rw [eμ_234, mset_self])) ?_
        refine lv_iconst (v := nI 1) hx hb dX2_remember_69 (by decide) ?_
        refine w_iaddN hx hb dX2_remember_70 ?_
        refine mp_known C hP hS dX2_remember_71 (fun H locs hP hS => ?_)
        obtain ⟨μ_239, eμ_240⟩ : ∃ y9, y9 = mset μ_236 0 1 (nI (15 + 1)) := ⟨_, rfl⟩
        rw [← eμ_240] at hP
        exact mM_retV C hlk hr hS hP dX2_remember_74 ⟨rfl, fun j j0 j1 => by rw [eμ_240, mset_oth j0]; exact (cp_238c j j1).trans (hoA j j0 j1), by
              have q : ∀ j, j ≠ 0 → j ≠ 1 → μ_239 j = μ j := fun j j0 j1 => by rw [eμ_240, mset_oth j0]; exact (cp_238c j j1).trans (hoA j j0 j1)
              have q0 : ∀ j, j ≠ 1 → μ_239 0 j = μ 0 j := fun j j1 => by rw [eμ_240, mset_ne (Or.inr j1)]; exact (congrFun (cp_238c 0 (by decide)) j).trans (hoB j j1)
              have q1 : μ_239 1 = μ_236 1 := by rw [eμ_240, mset_oth (by decide)]
              have kf : ∀ j, (j < 192 ∨ 3264 ≤ j) → μ_236 1 j = μ 1 j := fun j hj => (cp_238b j (by omega)).trans (hoC j hj)
              unfold remS
              rw [if_neg hnlt]
              refine ⟨⟨by rw [q1]; exact hM.r.kept (fun k _ hk => kf k (by omega)), by rw [q1, kf 191 (by omega)]; exact hM.sd⟩, ⟨by rw [eμ_240, mset_self], by show 16 ≤ 16; omega, fun k hk => ?_⟩, ⟨by rw [q0 2 (by decide)]; exact hM.kp, fun i hi hk => ?_⟩, ⟨by rw [q0 4 (by decide)]; exact hM.tn, hM.tn200, fun j hj => by rw [q 2 (by decide) (by decide)]; exact hM.tx hj⟩, by rw [q0 5 (by decide)]; exact hM.ft, ⟨by rw [q0 8 (by decide)]; exact hM.bn, hM.bn20, fun j hj => by rw [q 3 (by decide) (by decide), q 4 (by decide) (by decide)]; exact hM.bk hj⟩⟩
              · have hk : k < 16 := hk
                rw [q1]
                show Rp (μ_236 1) (192 * (16 - k)) (if k = 0 then aH a else aPs a (k - 1))
                by_cases e0 : k = 0
                · rw [if_pos e0, e0]
                  refine hM.r.copy (fun j hj => ?_)
                  have h1 := cp_238a j (by omega)
                  rw [Nat.zero_add] at h1 ⊢
                  rw [Nat.sub_zero]
                  exact h1.trans (hoC j (by omega))
                · rw [if_neg e0]
                  have := hM.ps (k := k - 1) (by omega)
                  rw [show aKn a - (k - 1) = 17 - k by omega] at this
                  refine this.copy (fun j hj => ?_)
                  rw [cp_238b (192 * (16 - k) + j) (by omega), eμ_234, mset_oth (by decide), hsh (16 - k) (by omega) (by omega) j (by omega)]
                  congr 1
                  omega
              · have := hM.im hi hk
                rw [q1]
                exact ⟨this.1.kept (fun j hj _ => kf j (by omega)), by rw [kf _ (by omega)]; exact this.2⟩⟩
      · exact absurd c_232 (by omega)

theorem hdX2_tick : yX2_tick.cls = "LiarClocksModel" ∧ yX2_tick.cls ≠ "java/lang/invoke/MethodHandle" ∧ yX2_tick.cls ≠ "java/lang/invoke/VarHandle" ∧ (parseMethodDescriptor yX2_tick.desc).map (fun d => d.parameters.length) = some 1 := by decide +kernel
set_option maxHeartbeats 4000000 in
/-- tick -/
theorem mX2_tick (l : Launch) (D : va_G) (T : Nat → ClassId) (ad : Nat → Nat) (μ : Nat → Nat → Int32) (a : Ab) (B : Int) (hM : MS μ a) (hI : AI a B) (hB0 : B ≤ 400000000) (hB1 : 0 ≤ B) (hB2 : B + 2200 ≤ 400000000) (x : Int32) : ∀ sz, Met l yX2_tick (ws_ yX2_tick cX2_tick 4 (some .int)) ({ frames := 2, cells := 0, slots := 0, locals := 44 } : Room) (mPs D T ad μ [.ref (ad 0), .int x] sz) (mQ D T ad (fun r μ' => r = some (.int (tickQ a x).1) ∧ MS μ' (tickQ a x).2)) 0 0 (gA 7 ad sz) := by
  have hR := hM.r
  have hB := hI.1.1
  have hA := hI.1.2.2.1
  have h8 := hB.many8
  have h3 := hB.strike3
  have h6 := hB.alarms6
  refine mM_intro [.ref (ad 0), .int x] (by decide) rfl (Nat.le_of_ble_eq_true rfl) ?_
  intro pg en s0 mi below meth cd ls C hr hlk hml hP hS hl
  have hx := C.1
  have hb := C.2.1
  have hown := C.2.2.1
  have hts := C.2.2.2.1
  have hl : lv_has ls 4 [(0, .ref (ad 0)), (1, .int x)] := hl
  have k16 := hM.kn16
  have t200 := hM.tn200
  have b20 := hM.bn20
  refine lv_iload_n hx hb dX2_tick_0 rfl (lv_at hl 1 rfl) ?_
  refine lv_iconst (v := nI 1) hx hb dX2_tick_1 (by decide) ?_
  refine lv_bipush (v := nI 20) hx hb dX2_tick_2 (by decide) ?_
  refine m_cS [.int x, .int (nI 1), .int (nI 20)] C hml hl.1 (mX2_in l x (nI (1)) (nI (20))) (lw_S q842 q843 q71 q844) hdX2_in.2 ⟨rfl, rfl⟩ ⟨Nat.le_of_ble_eq_true rfl, Nat.le_of_ble_eq_true rfl⟩ rfl (Nat.le_of_ble_eq_true rfl) dX2_tick_4 ⟨Nat.zero_le _, Nat.zero_le _⟩ ?_
  refine lv_if_ne (tgt := 13) hx hb dX2_tick_7 (by decide) (fun c_241 => ?_) (fun c_241 => ?_)
  · have hin : inB x 1 20 = true := (inB_in (v := x) (lo := nI 1) (hi := nI 20) (l := 1) (u := 20) (by decide) (by decide)) ▸ bI_ne0.mp c_241
    obtain ⟨n, n_1, n_2, en⟩ := inB_nat (lo := 1) (hi := 20) hin
    subst en
    have cln : (nI n).toNatClampNeg = n := nI_clamp (by omega)
    refine lv_aload_n hx hb dX2_tick_13 rfl (lv_at hl 0 rfl) ?_
    refine m_cM [] C hml hl.1 hP hS (mX2_remember l D T ad μ a hM) (lw_V q992 q994 qs62 q71 q995) hdX2_remember ⟨rfl, rfl⟩ ⟨Nat.le_of_ble_eq_true rfl, Nat.le_of_ble_eq_true rfl⟩ rfl (Nat.le_of_ble_eq_true rfl) dX2_tick_14 ⟨Nat.zero_le _, Nat.zero_le _⟩ (fun v_242 μ_243 H locs hp_244 hP hS => ?_)
    obtain ⟨rfl, hM_245o, hM_245⟩ := hp_244
    have hR_246 : Rp (μ_243 1) 0 (aH a) := hM_245.r
    refine lv_aload_n hx hb dX2_tick_17 rfl (lv_at hl 0 rfl) ?_
    refine m_cR [] C hml hl.1 hP (mX2_rungSet l D T ad μ_243 (aH a) hR_246 hB) (lw_V q946 q948 qs55 q71 q949) hdX2_rungSet ⟨rfl, rfl⟩ ⟨Nat.le_of_ble_eq_true rfl, Nat.le_of_ble_eq_true rfl⟩ rfl (Nat.le_of_ble_eq_true rfl) dX2_tick_18 ⟨Nat.zero_le _, Nat.zero_le _⟩ ?_
    refine lv_istore_n (lv' := [(2, .int (nI (setN (eq1 (aH a) 10) (nA (aH a))))), (0, .ref (ad 0)), (1, .int (nI n))]) hx hb dX2_tick_21 rfl hl (by decide) rfl (fun ls hl => ?_)
    refine lv_iconst (v := nI 0) hx hb dX2_tick_22 (by decide) ?_
    refine lv_istore_n (lv' := [(3, .int (nI 0)), (2, .int (nI (setN (eq1 (aH a) 10) (nA (aH a))))), (0, .ref (ad 0)), (1, .int (nI n))]) hx hb dX2_tick_23 rfl hl (by decide) rfl (fun ls hl => ?_)
    refine w_upM (α := Nat → Nat → Int32) (n) 24 4 (gA 7 ad s0.heap.size) s0.heap (fun i μ2 => [(0, .ref (ad 0)), (1, .int (nI n)), (2, .int (nI (setN (eq1 (aH a) 10) (nA (aH a))))), (3, .int (nI i))]) (fun i μ2 H => mW D T ad μ2 H ∧ Rp (μ2 1) 0 (iterS tickS i (aH a)) ∧ (∀ k, 191 ≤ k → μ2 1 k = μ_243 1 k) ∧ ∀ q, q ≠ 1 → μ2 q = μ_243 q) ?_ ?_ 0 (by omega) μ_243 (lv_sub hl [2, 3, 1, 0] rfl) ⟨hP, hM_245.r, fun _ _ => rfl, fun _ _ => rfl⟩ hS
    · intro i μ2 ls H locs hi_i hl hW hS ih_i
      have hl : lv_has ls 4 [(0, .ref (ad 0)), (1, .int (nI n)), (2, .int (nI (setN (eq1 (aH a) 10) (nA (aH a))))), (3, .int (nI i))] := hl
      obtain ⟨hP, hR2, hk2, hoth⟩ := hW
      have hg := HG_ticks hI.1 hB1 i (by omega)
      refine lv_iload_n hx hb dX2_tick_24 rfl (lv_at hl 3 rfl) ?_
      refine lv_iload_n hx hb dX2_tick_25 rfl (lv_at hl 1 rfl) ?_
      refine w_icmpN_ge (tgt := 39) hx hb dX2_tick_26 (by decide) (by omega) (by omega) (fun c_247 => ?_) (fun c_247 => ?_)
      · exact absurd c_247 (by omega)
      · refine lv_aload_n hx hb dX2_tick_29 rfl (lv_at hl 0 rfl) ?_
        refine m_cM [] C hml hl.1 hP hS (mX2_tickOne l D T ad μ2 (iterS tickS i (aH a)) hR2 hg.1 hg.2.1) (lw_V q996 q998 qs63 q71 q999) hdX2_tickOne ⟨rfl, rfl⟩ ⟨Nat.le_of_ble_eq_true rfl, Nat.le_of_ble_eq_true rfl⟩ rfl (Nat.le_of_ble_eq_true rfl) dX2_tick_30 ⟨Nat.zero_le _, Nat.zero_le _⟩ (fun v_248 μ_249 H locs hp_250 hP hS => ?_)
        obtain ⟨rfl, tk_251a, tk_251b, tk_251c⟩ := hp_250
        refine lv_iinc (v := nI (i + 1)) (lv' := [(3, .int (nI (i + 1))), (0, .ref (ad 0)), (1, .int (nI n)), (2, .int (nI (setN (eq1 (aH a) 10) (nA (aH a)))))]) hx hb dX2_tick_33 hl (k := 3) rfl (w_inc _ _) (by decide) rfl (fun ls hl => ?_)
        refine lv_goto (tgt := 24) hx hb dX2_tick_36 (by decide) ?_
        exact ih_i μ_249 _ _ _ (lv_sub hl [1, 2, 3, 0] rfl) ⟨hP, tk_251a, fun k hk => by rw [tk_251b k hk]; exact hk2 k hk, fun q hq => by rw [tk_251c q hq]; exact hoth q hq⟩ hS
    · intro μ2 ls H locs hl hW hS
      have hl : lv_has ls 4 [(0, .ref (ad 0)), (1, .int (nI n)), (2, .int (nI (setN (eq1 (aH a) 10) (nA (aH a))))), (3, .int (nI n))] := hl
      obtain ⟨hP, hR2, hk2, hoth⟩ := hW
      have hg := HG_ticks hI.1 hB1 n (by omega)
      refine lv_iload_n hx hb dX2_tick_24 rfl (lv_at hl 3 rfl) ?_
      refine lv_iload_n hx hb dX2_tick_25 rfl (lv_at hl 1 rfl) ?_
      refine w_icmpN_ge (tgt := 39) hx hb dX2_tick_26 (by decide) (by omega) (by omega) (fun c_252 => ?_) (fun c_252 => ?_)
      · refine lv_aload_n hx hb dX2_tick_39 rfl (lv_at hl 0 rfl) ?_
        refine m_cR [] C hml hl.1 hP (mX2_rungSet l D T ad μ2 (iterS tickS n (aH a)) hR2 hg.1) (lw_V q946 q948 qs55 q71 q949) hdX2_rungSet ⟨rfl, rfl⟩ ⟨Nat.le_of_ble_eq_true rfl, Nat.le_of_ble_eq_true rfl⟩ rfl (Nat.le_of_ble_eq_true rfl) dX2_tick_40 ⟨Nat.zero_le _, Nat.zero_le _⟩ ?_
        refine lv_iload_n hx hb dX2_tick_43 rfl (lv_at hl 2 rfl) ?_
        refine lv_iconst (v := -1) hx hb dX2_tick_44 (by decide) ?_
        refine lv_ixor hx hb dX2_tick_45 ?_
        refine lv_iand hx hb dX2_tick_46 ?_
        exact mM_retI C hlk hr hS hP dX2_tick_47 ⟨by unfold tickQ; rw [if_pos hin, cln]; rfl, by unfold tickQ; rw [if_pos hin, cln]; exact MS.row0 hM_245 (hoth 0 (by decide)) (fun k h1 h2 => hk2 k (by omega)) (hoth 2 (by decide)) (hoth 3 (by decide)) (hoth 4 (by decide)) hR2 (by rw [hk2 191 (by omega)]; exact hM_245.sd)⟩
      · exact absurd c_252 (by omega)
  · have hin : ¬ inB x 1 20 = true := by rw [← (inB_in (v := x) (lo := nI 1) (hi := nI 20) (l := 1) (u := 20) (by decide) (by decide)), bI_eq0.mp c_241]; decide
    refine lv_ldc hx hb hown (hts _ q845) dX2_tick_10 ?_
    exact mM_retI C hlk hr hS hP dX2_tick_12 ⟨by unfold tickQ; rw [if_neg hin], by unfold tickQ; rw [if_neg hin]; exact hM⟩

theorem hdX2_round : yX2_round.cls = "LiarClocksModel" ∧ yX2_round.cls ≠ "java/lang/invoke/MethodHandle" ∧ yX2_round.cls ≠ "java/lang/invoke/VarHandle" ∧ (parseMethodDescriptor yX2_round.desc).map (fun d => d.parameters.length) = some 0 := by decide +kernel
set_option maxHeartbeats 4000000 in
/-- round -/
theorem mX2_round (l : Launch) (D : va_G) (T : Nat → ClassId) (ad : Nat → Nat) (μ : Nat → Nat → Int32) (a : Ab) (B : Int) (hM : MS μ a) (hI : AI a B) (hB0 : B ≤ 400000000) (hB1 : 0 ≤ B)  : ∀ sz, Met l yX2_round (ws_ yX2_round cX2_round 1 (some .int)) ({ frames := 4, cells := 0, slots := 0, locals := 91 } : Room) (mPs D T ad μ [.ref (ad 0)] sz) (mQ D T ad (fun r μ' => r = some (.int (roundQ a).1) ∧ MS μ' (roundQ a).2)) 0 0 (gA 7 ad sz) := by
  have hR := hM.r
  have hB := hI.1.1
  have hA := hI.1.2.2.1
  have h8 := hB.many8
  have h3 := hB.strike3
  have h6 := hB.alarms6
  refine mM_intro [.ref (ad 0)] (by decide) rfl (Nat.le_of_ble_eq_true rfl) ?_
  intro pg en s0 mi below meth cd ls C hr hlk hml hP hS hl
  have hx := C.1
  have hb := C.2.1
  have hown := C.2.2.1
  have hts := C.2.2.2.1
  have hl : lv_has ls 1 [(0, .ref (ad 0))] := hl
  have k16 := hM.kn16
  have t200 := hM.tn200
  have b20 := hM.bn20
  refine lv_aload_n hx hb dX2_round_0 rfl (lv_at hl 0 rfl) ?_
  refine m_cM [] C hml hl.1 hP hS (mX2_remember l D T ad μ a hM) (lw_V q992 q994 qs62 q71 q995) hdX2_remember ⟨rfl, rfl⟩ ⟨Nat.le_of_ble_eq_true rfl, Nat.le_of_ble_eq_true rfl⟩ rfl (Nat.le_of_ble_eq_true rfl) dX2_round_1 ⟨Nat.zero_le _, Nat.zero_le _⟩ (fun v_253 μ_254 H locs hp_255 hP hS => ?_)
  obtain ⟨rfl, hM_256o, hM_256⟩ := hp_255
  have hR_257 : Rp (μ_254 1) 0 (aH a) := hM_256.r
  refine lv_aload_n hx hb dX2_round_4 rfl (lv_at hl 0 rfl) ?_
  refine lv_iconst (v := nI 0) hx hb dX2_round_5 (by decide) ?_
  refine m_cM [.int (nI 0)] C hml hl.1 hP hS (mX2_roundIn l D T ad μ_254 (aH a) 0 hR_257 hB (by omega) B hA hB0 hB1) (lw_V q1004 q1006 qs64 q71 q1007) hdX2_roundIn ⟨rfl, rfl⟩ ⟨Nat.le_of_ble_eq_true rfl, Nat.le_of_ble_eq_true rfl⟩ rfl (Nat.le_of_ble_eq_true rfl) dX2_round_6 ⟨Nat.zero_le _, Nat.zero_le _⟩ (fun v_258 μ_259 H locs hp_260 hP hS => ?_)
  obtain ⟨rfl, rd_261a, rd_261b, rd_261c⟩ := hp_260
  have hg := HG_round hI.1 hB1 hB0
  refine lv_aload_n hx hb dX2_round_9 rfl (lv_at hl 0 rfl) ?_
  refine lv_iconst (v := nI 0) hx hb dX2_round_10 (by decide) ?_
  refine m_cR [.int (nI 0)] C hml hl.1 hP (mX2_apart l D T ad μ_259 (roundS (aH a)) 0 rd_261a hg.1 (by omega)) (lw_V q899 q901 qs44 q71 q902) hdX2_apart ⟨rfl, rfl⟩ ⟨Nat.le_of_ble_eq_true rfl, Nat.le_of_ble_eq_true rfl⟩ rfl (Nat.le_of_ble_eq_true rfl) dX2_round_11 ⟨Nat.zero_le _, Nat.zero_le _⟩ ?_
  exact mM_retI C hlk hr hS hP dX2_round_14 ⟨rfl, MS.row0 hM_256 (rd_261c 0 (by decide) (by decide) (by decide)) (fun k h1 h2 => rd_261b k (by omega)) (rd_261c 2 (by decide) (by decide) (by decide)) (rd_261c 3 (by decide) (by decide) (by decide)) (rd_261c 4 (by decide) (by decide) (by decide)) rd_261a (by rw [rd_261b 191 (by omega)]; exact hM_256.sd)⟩

theorem hdX2_lie : yX2_lie.cls = "LiarClocksModel" ∧ yX2_lie.cls ≠ "java/lang/invoke/MethodHandle" ∧ yX2_lie.cls ≠ "java/lang/invoke/VarHandle" ∧ (parseMethodDescriptor yX2_lie.desc).map (fun d => d.parameters.length) = some 3 := by decide +kernel
set_option maxHeartbeats 4000000 in
/-- X2_lie -/
theorem mX2_lie (l : Launch) (D : va_G) (T : Nat → ClassId) (ad : Nat → Nat) (μ : Nat → Nat → Int32) (a : Ab) (B : Int) (hM : MS μ a) (hI : AI a B) (hB0 : B ≤ 400000000) (hB1 : 0 ≤ B) (j i v : Int32) : ∀ sz, Met l yX2_lie (ws_ yX2_lie cX2_lie 5 (some .int)) ({ frames := 3, cells := 0, slots := 0, locals := 65 } : Room) (mPs D T ad μ [.ref (ad 0), .int j, .int i, .int v] sz) (mQ D T ad (fun r μ' => r = some (.int (lieQ a j i v).1) ∧ MS μ' (lieQ a j i v).2)) 0 0 (gA 7 ad sz) := by
  have hR := hM.r
  have hB := hI.1.1
  have hA := hI.1.2.2.1
  have h8 := hB.many8
  have h3 := hB.strike3
  have h6 := hB.alarms6
  refine mM_intro [.ref (ad 0), .int j, .int i, .int v] (by decide) rfl (Nat.le_of_ble_eq_true rfl) ?_
  intro pg en s0 mi below meth cd ls C hr hlk hml hP hS hl
  have hx := C.1
  have hb := C.2.1
  have hown := C.2.2.1
  have hts := C.2.2.2.1
  have hl : lv_has ls 5 [(0, .ref (ad 0)), (1, .int j), (2, .int i), (3, .int v)] := hl
  have k16 := hM.kn16
  have t200 := hM.tn200
  have b20 := hM.bn20
  refine lv_aload_n hx hb dX2_lie_0 rfl (lv_at hl 0 rfl) ?_
  refine lv_iload_n hx hb dX2_lie_1 rfl (lv_at hl 1 rfl) ?_
  refine lv_iload_n hx hb dX2_lie_2 rfl (lv_at hl 2 rfl) ?_
  refine m_cR [.int j, .int i] C hml hl.1 hP (mX2_arePair l D T ad μ (aH a) hR hB j i) (lw_V q972 q974 qs59 q71 q975) hdX2_arePair ⟨rfl, rfl⟩ ⟨Nat.le_of_ble_eq_true rfl, Nat.le_of_ble_eq_true rfl⟩ rfl (Nat.le_of_ble_eq_true rfl) dX2_lie_3 ⟨Nat.zero_le _, Nat.zero_le _⟩ ?_
  refine lv_if_ne (tgt := 12) hx hb dX2_lie_6 (by decide) (fun c_262 => ?_) (fun c_262 => ?_)
  · have hpr : pairB (aH a) j i = true := bI_ne0.mp c_262
    have hp2 := hpr
    unfold pairB at hp2
    simp only [Bool.and_eq_true, decide_eq_true_eq] at hp2
    obtain ⟨jn, hjn, ejn⟩ := isC_spec hp2.1
    obtain ⟨im, him, eim⟩ := isC_spec hp2.2.1
    subst ejn
    subst eim
    have clj : (nI jn).toNatClampNeg = jn := nI_clamp (by omega)
    have cli : (nI im).toNatClampNeg = im := nI_clamp (by omega)
    refine lv_iload_n hx hb dX2_lie_12 rfl (lv_at hl 3 rfl) ?_
    refine lv_sipush (v := -9999) hx hb dX2_lie_13 (by decide) ?_
    refine lv_sipush (v := nI 9999) hx hb dX2_lie_16 (by decide) ?_
    refine m_cS [.int v, .int ((-9999)), .int (nI 9999)] C hml hl.1 (mX2_in l v (-9999) (nI (9999))) (lw_S q842 q843 q71 q844) hdX2_in.2 ⟨rfl, rfl⟩ ⟨Nat.le_of_ble_eq_true rfl, Nat.le_of_ble_eq_true rfl⟩ rfl (Nat.le_of_ble_eq_true rfl) dX2_lie_19 ⟨Nat.zero_le _, Nat.zero_le _⟩ ?_
    refine lv_if_ne (tgt := 28) hx hb dX2_lie_22 (by decide) (fun c_263 => ?_) (fun c_263 => ?_)
    · have hin : inB v (-9999) 9999 = true := (inB_in (v := v) (lo := (-9999)) (hi := nI 9999) (l := (-9999)) (u := 9999) (by decide) (by decide)) ▸ bI_ne0.mp c_263
      refine lv_aload_n hx hb dX2_lie_28 rfl (lv_at hl 0 rfl) ?_
      refine m_cM [] C hml hl.1 hP hS (mX2_remember l D T ad μ a hM) (lw_V q992 q994 qs62 q71 q995) hdX2_remember ⟨rfl, rfl⟩ ⟨Nat.le_of_ble_eq_true rfl, Nat.le_of_ble_eq_true rfl⟩ rfl (Nat.le_of_ble_eq_true rfl) dX2_lie_29 ⟨Nat.zero_le _, Nat.zero_le _⟩ (fun v_264 μ_265 H locs hp_266 hP hS => ?_)
      obtain ⟨rfl, hM_267o, hM_267⟩ := hp_266
      have hR_268 : Rp (μ_265 1) 0 (aH a) := hM_267.r
      refine lv_aload_n hx hb dX2_lie_32 rfl (lv_at hl 0 rfl) ?_
      refine mg_w C hP dX2_lie_33 ?_
      refine lv_bipush (v := nI 107) hx hb dX2_lie_36 (by decide) ?_
      refine lv_bipush (v := nI 8) hx hb dX2_lie_38 (by decide) ?_
      refine lv_iload_n hx hb dX2_lie_40 rfl (lv_at hl 1 rfl) ?_
      refine w_imulN hx hb dX2_lie_41 ?_
      refine w_iaddN hx hb dX2_lie_42 ?_
      refine lv_iload_n hx hb dX2_lie_43 rfl (lv_at hl 2 rfl) ?_
      refine w_iaddN hx hb dX2_lie_44 ?_
      refine m_ald1 C hP (by omega) dX2_lie_45 ?_
      refine w_eqi (rp_6 hR_268 (8 * jn + im) (by omega) (by omega)) ?_
      refine lv_sipush (v := nI 9999) hx hb dX2_lie_46 (by decide) ?_
      refine lv_iadd hx hb dX2_lie_49 ?_
      refine lv_istore (lv' := [(4, .int (((aH a) 6 (8 * jn + im)) + (nI (9999)))), (0, .ref (ad 0)), (1, .int (nI jn)), (2, .int (nI im)), (3, .int v)]) hx hb dX2_lie_50 hl (by decide) rfl (fun ls hl => ?_)
      refine lv_aload_n hx hb dX2_lie_52 rfl (lv_at hl 1 rfl) ?_
      refine mg_w C hP dX2_lie_53 ?_
      refine lv_bipush (v := nI 107) hx hb dX2_lie_56 (by decide) ?_
      refine lv_bipush (v := nI 8) hx hb dX2_lie_58 (by decide) ?_
      refine lv_iload_n hx hb dX2_lie_60 rfl (lv_at hl 2 rfl) ?_
      refine w_imulN hx hb dX2_lie_61 ?_
      refine w_iaddN hx hb dX2_lie_62 ?_
      refine lv_iload_n hx hb dX2_lie_63 rfl (lv_at hl 3 rfl) ?_
      refine w_iaddN hx hb dX2_lie_64 ?_
      refine lv_iload_n hx hb dX2_lie_65 rfl (lv_at hl 4 rfl) ?_
      refine m_ast1 C hP hS (by omega) dX2_lie_66 (fun H locs hP hS => ?_)
      obtain ⟨μ_269, eμ_270⟩ : ∃ y9, y9 = mset μ_265 1 (107 + 8 * jn + im) v := ⟨_, rfl⟩
      rw [← eμ_270] at hP
      refine lv_iload hx hb dX2_lie_67 (lv_at hl 0 rfl) ?_
      exact mM_retI C hlk hr hS hP dX2_lie_69 ⟨by unfold lieQ; rw [if_pos hpr, if_pos hin, clj, cli]; rfl, by
            unfold lieQ; rw [if_pos hpr, if_pos hin, clj, cli]
            exact MS.row0 hM_267 (by rw [eμ_270, mset_oth (by decide)]) (fun k h1 h2 => by rw [eμ_270, mset_ne (Or.inr (by omega))]) (by rw [eμ_270, mset_oth (by decide)]) (by rw [eμ_270, mset_oth (by decide)]) (by rw [eμ_270, mset_oth (by decide)]) (by rw [eμ_270, mset_row]; exact rp_up6 hR_268 (8 * jn + im) _ (by omega) (by omega)) (by rw [eμ_270, mset_ne (Or.inr (by omega))]; exact hM_267.sd)⟩
    · have hin : ¬ inB v (-9999) 9999 = true := by rw [← (inB_in (v := v) (lo := (-9999)) (hi := nI 9999) (l := (-9999)) (u := 9999) (by decide) (by decide)), bI_eq0.mp c_263]; decide
      refine lv_ldc hx hb hown (hts _ q845) dX2_lie_25 ?_
      exact mM_retI C hlk hr hS hP dX2_lie_27 ⟨by unfold lieQ; rw [if_pos hpr, if_neg hin], by unfold lieQ; rw [if_pos hpr, if_neg hin]; exact hM⟩
  · have hpr : ¬ pairB (aH a) j i = true := by unfold pairB; rw [bI_eq0.mp c_262]; decide
    refine lv_ldc hx hb hown (hts _ q962) dX2_lie_9 ?_
    exact mM_retI C hlk hr hS hP dX2_lie_11 ⟨by unfold lieQ; rw [if_neg hpr], by unfold lieQ; rw [if_neg hpr]; exact hM⟩

theorem hdX2_error : yX2_error.cls = "LiarClocksModel" ∧ yX2_error.cls ≠ "java/lang/invoke/MethodHandle" ∧ yX2_error.cls ≠ "java/lang/invoke/VarHandle" ∧ (parseMethodDescriptor yX2_error.desc).map (fun d => d.parameters.length) = some 3 := by decide +kernel
set_option maxHeartbeats 4000000 in
/-- X2_error -/
theorem mX2_error (l : Launch) (D : va_G) (T : Nat → ClassId) (ad : Nat → Nat) (μ : Nat → Nat → Int32) (a : Ab) (B : Int) (hM : MS μ a) (hI : AI a B) (hB0 : B ≤ 400000000) (hB1 : 0 ≤ B) (j i v : Int32) : ∀ sz, Met l yX2_error (ws_ yX2_error cX2_error 5 (some .int)) ({ frames := 3, cells := 0, slots := 0, locals := 65 } : Room) (mPs D T ad μ [.ref (ad 0), .int j, .int i, .int v] sz) (mQ D T ad (fun r μ' => r = some (.int (errorQ a j i v).1) ∧ MS μ' (errorQ a j i v).2)) 0 0 (gA 7 ad sz) := by
  have hR := hM.r
  have hB := hI.1.1
  have hA := hI.1.2.2.1
  have h8 := hB.many8
  have h3 := hB.strike3
  have h6 := hB.alarms6
  refine mM_intro [.ref (ad 0), .int j, .int i, .int v] (by decide) rfl (Nat.le_of_ble_eq_true rfl) ?_
  intro pg en s0 mi below meth cd ls C hr hlk hml hP hS hl
  have hx := C.1
  have hb := C.2.1
  have hown := C.2.2.1
  have hts := C.2.2.2.1
  have hl : lv_has ls 5 [(0, .ref (ad 0)), (1, .int j), (2, .int i), (3, .int v)] := hl
  have k16 := hM.kn16
  have t200 := hM.tn200
  have b20 := hM.bn20
  refine lv_aload_n hx hb dX2_error_0 rfl (lv_at hl 0 rfl) ?_
  refine lv_iload_n hx hb dX2_error_1 rfl (lv_at hl 1 rfl) ?_
  refine lv_iload_n hx hb dX2_error_2 rfl (lv_at hl 2 rfl) ?_
  refine m_cR [.int j, .int i] C hml hl.1 hP (mX2_arePair l D T ad μ (aH a) hR hB j i) (lw_V q972 q974 qs59 q71 q975) hdX2_arePair ⟨rfl, rfl⟩ ⟨Nat.le_of_ble_eq_true rfl, Nat.le_of_ble_eq_true rfl⟩ rfl (Nat.le_of_ble_eq_true rfl) dX2_error_3 ⟨Nat.zero_le _, Nat.zero_le _⟩ ?_
  refine lv_if_ne (tgt := 12) hx hb dX2_error_6 (by decide) (fun c_271 => ?_) (fun c_271 => ?_)
  · have hpr : pairB (aH a) j i = true := bI_ne0.mp c_271
    have hp2 := hpr
    unfold pairB at hp2
    simp only [Bool.and_eq_true, decide_eq_true_eq] at hp2
    obtain ⟨jn, hjn, ejn⟩ := isC_spec hp2.1
    obtain ⟨im, him, eim⟩ := isC_spec hp2.2.1
    subst ejn
    subst eim
    have clj : (nI jn).toNatClampNeg = jn := nI_clamp (by omega)
    have cli : (nI im).toNatClampNeg = im := nI_clamp (by omega)
    refine lv_iload_n hx hb dX2_error_12 rfl (lv_at hl 3 rfl) ?_
    refine lv_bipush (v := -20) hx hb dX2_error_13 (by decide) ?_
    refine lv_bipush (v := nI 20) hx hb dX2_error_15 (by decide) ?_
    refine m_cS [.int v, .int ((-20)), .int (nI 20)] C hml hl.1 (mX2_in l v (-20) (nI (20))) (lw_S q842 q843 q71 q844) hdX2_in.2 ⟨rfl, rfl⟩ ⟨Nat.le_of_ble_eq_true rfl, Nat.le_of_ble_eq_true rfl⟩ rfl (Nat.le_of_ble_eq_true rfl) dX2_error_17 ⟨Nat.zero_le _, Nat.zero_le _⟩ ?_
    refine lv_if_ne (tgt := 26) hx hb dX2_error_20 (by decide) (fun c_272 => ?_) (fun c_272 => ?_)
    · have hin : inB v (-20) 20 = true := (inB_in (v := v) (lo := (-20)) (hi := nI 20) (l := (-20)) (u := 20) (by decide) (by decide)) ▸ bI_ne0.mp c_272
      refine lv_aload_n hx hb dX2_error_26 rfl (lv_at hl 0 rfl) ?_
      refine m_cM [] C hml hl.1 hP hS (mX2_remember l D T ad μ a hM) (lw_V q992 q994 qs62 q71 q995) hdX2_remember ⟨rfl, rfl⟩ ⟨Nat.le_of_ble_eq_true rfl, Nat.le_of_ble_eq_true rfl⟩ rfl (Nat.le_of_ble_eq_true rfl) dX2_error_27 ⟨Nat.zero_le _, Nat.zero_le _⟩ (fun v_273 μ_274 H locs hp_275 hP hS => ?_)
      obtain ⟨rfl, hM_276o, hM_276⟩ := hp_275
      have hR_277 : Rp (μ_274 1) 0 (aH a) := hM_276.r
      refine lv_aload_n hx hb dX2_error_30 rfl (lv_at hl 0 rfl) ?_
      refine mg_w C hP dX2_error_31 ?_
      refine lv_bipush (v := nI 43) hx hb dX2_error_34 (by decide) ?_
      refine lv_bipush (v := nI 8) hx hb dX2_error_36 (by decide) ?_
      refine lv_iload_n hx hb dX2_error_38 rfl (lv_at hl 1 rfl) ?_
      refine w_imulN hx hb dX2_error_39 ?_
      refine w_iaddN hx hb dX2_error_40 ?_
      refine lv_iload_n hx hb dX2_error_41 rfl (lv_at hl 2 rfl) ?_
      refine w_iaddN hx hb dX2_error_42 ?_
      refine m_ald1 C hP (by omega) dX2_error_43 ?_
      refine w_eqi (rp_7 hR_277 (8 * jn + im) (by omega) (by omega)) ?_
      refine lv_bipush (v := nI 20) hx hb dX2_error_44 (by decide) ?_
      refine lv_iadd hx hb dX2_error_46 ?_
      refine lv_istore (lv' := [(4, .int (((aH a) 7 (8 * jn + im)) + (nI (20)))), (0, .ref (ad 0)), (1, .int (nI jn)), (2, .int (nI im)), (3, .int v)]) hx hb dX2_error_47 hl (by decide) rfl (fun ls hl => ?_)
      refine lv_aload_n hx hb dX2_error_49 rfl (lv_at hl 1 rfl) ?_
      refine mg_w C hP dX2_error_50 ?_
      refine lv_bipush (v := nI 43) hx hb dX2_error_53 (by decide) ?_
      refine lv_bipush (v := nI 8) hx hb dX2_error_55 (by decide) ?_
      refine lv_iload_n hx hb dX2_error_57 rfl (lv_at hl 2 rfl) ?_
      refine w_imulN hx hb dX2_error_58 ?_
      refine w_iaddN hx hb dX2_error_59 ?_
      refine lv_iload_n hx hb dX2_error_60 rfl (lv_at hl 3 rfl) ?_
      refine w_iaddN hx hb dX2_error_61 ?_
      refine lv_iload_n hx hb dX2_error_62 rfl (lv_at hl 4 rfl) ?_
      refine m_ast1 C hP hS (by omega) dX2_error_63 (fun H locs hP hS => ?_)
      obtain ⟨μ_278, eμ_279⟩ : ∃ y9, y9 = mset μ_274 1 (43 + 8 * jn + im) v := ⟨_, rfl⟩
      rw [← eμ_279] at hP
      refine lv_iload hx hb dX2_error_64 (lv_at hl 0 rfl) ?_
      exact mM_retI C hlk hr hS hP dX2_error_66 ⟨by unfold errorQ; rw [if_pos hpr, if_pos hin, clj, cli]; rfl, by
            unfold errorQ; rw [if_pos hpr, if_pos hin, clj, cli]
            exact MS.row0 hM_276 (by rw [eμ_279, mset_oth (by decide)]) (fun k h1 h2 => by rw [eμ_279, mset_ne (Or.inr (by omega))]) (by rw [eμ_279, mset_oth (by decide)]) (by rw [eμ_279, mset_oth (by decide)]) (by rw [eμ_279, mset_oth (by decide)]) (by rw [eμ_279, mset_row]; exact rp_up7 hR_277 (8 * jn + im) _ (by omega) (by omega)) (by rw [eμ_279, mset_ne (Or.inr (by omega))]; exact hM_276.sd)⟩
    · have hin : ¬ inB v (-20) 20 = true := by rw [← (inB_in (v := v) (lo := (-20)) (hi := nI 20) (l := (-20)) (u := 20) (by decide) (by decide)), bI_eq0.mp c_272]; decide
      refine lv_ldc hx hb hown (hts _ q845) dX2_error_23 ?_
      exact mM_retI C hlk hr hS hP dX2_error_25 ⟨by unfold errorQ; rw [if_pos hpr, if_neg hin], by unfold errorQ; rw [if_pos hpr, if_neg hin]; exact hM⟩
  · have hpr : ¬ pairB (aH a) j i = true := by unfold pairB; rw [bI_eq0.mp c_271]; decide
    refine lv_ldc hx hb hown (hts _ q962) dX2_error_9 ?_
    exact mM_retI C hlk hr hS hP dX2_error_11 ⟨by unfold errorQ; rw [if_neg hpr], by unfold errorQ; rw [if_neg hpr]; exact hM⟩

theorem hdX2_liar : yX2_liar.cls = "LiarClocksModel" ∧ yX2_liar.cls ≠ "java/lang/invoke/MethodHandle" ∧ yX2_liar.cls ≠ "java/lang/invoke/VarHandle" ∧ (parseMethodDescriptor yX2_liar.desc).map (fun d => d.parameters.length) = some 2 := by decide +kernel
set_option maxHeartbeats 4000000 in
/-- liar -/
theorem mX2_liar (l : Launch) (D : va_G) (T : Nat → ClassId) (ad : Nat → Nat) (μ : Nat → Nat → Int32) (a : Ab) (B : Int) (hM : MS μ a) (hI : AI a B) (hB0 : B ≤ 400000000) (hB1 : 0 ≤ B) (c : Int32) (b : Bool) : ∀ sz, Met l yX2_liar (ws_ yX2_liar cX2_liar 3 (some .int)) ({ frames := 2, cells := 0, slots := 0, locals := 44 } : Room) (mPs D T ad μ [.ref (ad 0), .int c, .int (bI b)] sz) (mQ D T ad (fun r μ' => r = some (.int (liarQ a c b).1) ∧ MS μ' (liarQ a c b).2)) 0 0 (gA 7 ad sz) := by
  have hR := hM.r
  have hB := hI.1.1
  have hA := hI.1.2.2.1
  have h8 := hB.many8
  have h3 := hB.strike3
  have h6 := hB.alarms6
  refine mM_intro [.ref (ad 0), .int c, .int (bI b)] (by decide) rfl (Nat.le_of_ble_eq_true rfl) ?_
  intro pg en s0 mi below meth cd ls C hr hlk hml hP hS hl
  have hx := C.1
  have hb := C.2.1
  have hown := C.2.2.1
  have hts := C.2.2.2.1
  have hl : lv_has ls 3 [(0, .ref (ad 0)), (1, .int c), (2, .int (bI b))] := hl
  have k16 := hM.kn16
  have t200 := hM.tn200
  have b20 := hM.bn20
  refine lv_aload_n hx hb dX2_liar_0 rfl (lv_at hl 0 rfl) ?_
  refine lv_iload_n hx hb dX2_liar_1 rfl (lv_at hl 1 rfl) ?_
  refine m_cR [.int c] C hml hl.1 hP (mX2_isClock l D T ad μ (aH a) hR hB c) (lw_V q954 q956 qs57 q71 q957) hdX2_isClock ⟨rfl, rfl⟩ ⟨Nat.le_of_ble_eq_true rfl, Nat.le_of_ble_eq_true rfl⟩ rfl (Nat.le_of_ble_eq_true rfl) dX2_liar_2 ⟨Nat.zero_le _, Nat.zero_le _⟩ ?_
  refine lv_if_ne (tgt := 11) hx hb dX2_liar_5 (by decide) (fun c_280 => ?_) (fun c_280 => ?_)
  · have hic : isC (aH a) c = true := bI_ne0.mp c_280
    obtain ⟨k, hk, ek⟩ := isC_spec hic
    subst ek
    have clk : (nI k).toNatClampNeg = k := nI_clamp (by omega)
    refine lv_aload_n hx hb dX2_liar_11 rfl (lv_at hl 0 rfl) ?_
    refine m_cM [] C hml hl.1 hP hS (mX2_remember l D T ad μ a hM) (lw_V q992 q994 qs62 q71 q995) hdX2_remember ⟨rfl, rfl⟩ ⟨Nat.le_of_ble_eq_true rfl, Nat.le_of_ble_eq_true rfl⟩ rfl (Nat.le_of_ble_eq_true rfl) dX2_liar_12 ⟨Nat.zero_le _, Nat.zero_le _⟩ (fun v_281 μ_282 H locs hp_283 hP hS => ?_)
    obtain ⟨rfl, hM_284o, hM_284⟩ := hp_283
    have hR_285 : Rp (μ_282 1) 0 (aH a) := hM_284.r
    refine lv_aload_n hx hb dX2_liar_15 rfl (lv_at hl 0 rfl) ?_
    refine mg_w C hP dX2_liar_16 ?_
    refine lv_bipush (v := nI 27) hx hb dX2_liar_19 (by decide) ?_
    refine lv_iload_n hx hb dX2_liar_21 rfl (lv_at hl 1 rfl) ?_
    refine w_iaddN hx hb dX2_liar_22 ?_
    refine lv_iload_n hx hb dX2_liar_23 rfl (lv_at hl 2 rfl) ?_
    refine w_join (α := Int32) (fun v_286 => v_286 = bI b) (fun v_286 => F0 mi 32 ls (.int v_286 :: .int (nI (27 + k)) :: .ref (ad 1) :: [])) (fun v_286 hv_286 => ?_) (fun hJv_286 => ?_)
    · subst hv_286
      refine m_ast1 C hP hS (by omega) dX2_liar_32 (fun H locs hP hS => ?_)
      obtain ⟨μ_288, eμ_289⟩ : ∃ y9, y9 = mset μ_282 1 (27 + k) (bI b) := ⟨_, rfl⟩
      rw [← eμ_289] at hP
      have hg := HG_set hI.1 4 k (bI b) (Or.inl rfl) (fun _ => by cases b; exact Or.inl rfl; exact Or.inr rfl) (fun q => absurd q (by decide)) (fun q => absurd q (by decide))
      have hRn : Rp (μ_288 1) 0 (mset (aH a) 4 k (bI b)) := by rw [eμ_289, mset_row]; exact rp_up4 hR_285 k _ (by omega) (by omega)
      refine lv_aload_n hx hb dX2_liar_33 rfl (lv_at hl 0 rfl) ?_
      refine lv_bipush (v := nI 27) hx hb dX2_liar_34 (by decide) ?_
      refine m_cR [.int (nI 27)] C hml hl.1 hP (mX2_manyOf l D T ad μ_288 (mset (aH a) 4 k (bI b)) hRn hg.1 4 27 (by decide)) (lw_V q1020 q1022 qs65 q71 q1023) hdX2_manyOf ⟨rfl, rfl⟩ ⟨Nat.le_of_ble_eq_true rfl, Nat.le_of_ble_eq_true rfl⟩ rfl (Nat.le_of_ble_eq_true rfl) dX2_liar_36 ⟨Nat.zero_le _, Nat.zero_le _⟩ ?_
      exact mM_retI C hlk hr hS hP dX2_liar_39 ⟨by unfold liarQ; rw [if_pos hic, clk]; rfl, by unfold liarQ; rw [if_pos hic, clk]; exact MS.row0 hM_284 (by rw [eμ_289, mset_oth (by decide)]) (fun k h1 h2 => by rw [eμ_289, mset_ne (Or.inr (by omega))]) (by rw [eμ_289, mset_oth (by decide)]) (by rw [eμ_289, mset_oth (by decide)]) (by rw [eμ_289, mset_oth (by decide)]) (hRn) (by rw [eμ_289, mset_ne (Or.inr (by omega))]; exact hM_284.sd)⟩
    · refine lv_if_eq (tgt := 31) hx hb dX2_liar_24 (by decide) (fun c_287 => ?_) (fun c_287 => ?_)
      · refine lv_iconst (v := 0) hx hb dX2_liar_31 (by decide) ?_
        exact hJv_286 _ c_287.symm
      · refine lv_iconst (v := 1) hx hb dX2_liar_27 (by decide) ?_
        refine lv_goto (tgt := 32) hx hb dX2_liar_28 (by decide) ?_
        exact hJv_286 _ (by rw [bI_ne0.mp c_287]; rfl)
  · have hic : ¬ isC (aH a) c = true := by rw [bI_eq0.mp c_280]; decide
    refine lv_ldc hx hb hown (hts _ q962) dX2_liar_8 ?_
    exact mM_retI C hlk hr hS hP dX2_liar_10 ⟨by unfold liarQ; rw [if_neg hic], by unfold liarQ; rw [if_neg hic]; exact hM⟩

theorem hdX2_stand : yX2_stand.cls = "LiarClocksModel" ∧ yX2_stand.cls ≠ "java/lang/invoke/MethodHandle" ∧ yX2_stand.cls ≠ "java/lang/invoke/VarHandle" ∧ (parseMethodDescriptor yX2_stand.desc).map (fun d => d.parameters.length) = some 1 := by decide +kernel
set_option maxHeartbeats 4000000 in
/-- stand -/
theorem mX2_stand (l : Launch) (D : va_G) (T : Nat → ClassId) (ad : Nat → Nat) (μ : Nat → Nat → Int32) (a : Ab) (B : Int) (hM : MS μ a) (hI : AI a B) (hB0 : B ≤ 400000000) (hB1 : 0 ≤ B) (c : Int32) : ∀ sz, Met l yX2_stand (ws_ yX2_stand cX2_stand 2 (some .int)) ({ frames := 2, cells := 0, slots := 0, locals := 44 } : Room) (mPs D T ad μ [.ref (ad 0), .int c] sz) (mQ D T ad (fun r μ' => r = some (.int (standQ a c).1) ∧ MS μ' (standQ a c).2)) 0 0 (gA 7 ad sz) := by
  have hR := hM.r
  have hB := hI.1.1
  have hA := hI.1.2.2.1
  have h8 := hB.many8
  have h3 := hB.strike3
  have h6 := hB.alarms6
  refine mM_intro [.ref (ad 0), .int c] (by decide) rfl (Nat.le_of_ble_eq_true rfl) ?_
  intro pg en s0 mi below meth cd ls C hr hlk hml hP hS hl
  have hx := C.1
  have hb := C.2.1
  have hown := C.2.2.1
  have hts := C.2.2.2.1
  have hl : lv_has ls 2 [(0, .ref (ad 0)), (1, .int c)] := hl
  have k16 := hM.kn16
  have t200 := hM.tn200
  have b20 := hM.bn20
  refine lv_aload_n hx hb dX2_stand_0 rfl (lv_at hl 0 rfl) ?_
  refine lv_iload_n hx hb dX2_stand_1 rfl (lv_at hl 1 rfl) ?_
  refine m_cR [.int c] C hml hl.1 hP (mX2_isClock l D T ad μ (aH a) hR hB c) (lw_V q954 q956 qs57 q71 q957) hdX2_isClock ⟨rfl, rfl⟩ ⟨Nat.le_of_ble_eq_true rfl, Nat.le_of_ble_eq_true rfl⟩ rfl (Nat.le_of_ble_eq_true rfl) dX2_stand_2 ⟨Nat.zero_le _, Nat.zero_le _⟩ ?_
  refine lv_if_ne (tgt := 11) hx hb dX2_stand_5 (by decide) (fun c_290 => ?_) (fun c_290 => ?_)
  · have hic : isC (aH a) c = true := bI_ne0.mp c_290
    obtain ⟨k, hk, ek⟩ := isC_spec hic
    subst ek
    have clk : (nI k).toNatClampNeg = k := nI_clamp (by omega)
    refine lv_aload_n hx hb dX2_stand_11 rfl (lv_at hl 0 rfl) ?_
    refine mg_w C hP dX2_stand_12 ?_
    refine lv_bipush (v := nI 35) hx hb dX2_stand_15 (by decide) ?_
    refine lv_iload_n hx hb dX2_stand_17 rfl (lv_at hl 1 rfl) ?_
    refine w_iaddN hx hb dX2_stand_18 ?_
    refine m_ald1 C hP (by omega) dX2_stand_19 ?_
    refine w_eqi (rp_5 hR (k) (by omega) (by omega)) ?_
    refine lv_iconst (v := 1) hx hb dX2_stand_20 (by decide) ?_
    refine lv_icmp_ne (tgt := 27) hx hb dX2_stand_21 (by decide) (fun c_291 => ?_) (fun c_291 => ?_)
    · refine lv_aload_n hx hb dX2_stand_27 rfl (lv_at hl 0 rfl) ?_
      refine m_cM [] C hml hl.1 hP hS (mX2_remember l D T ad μ a hM) (lw_V q992 q994 qs62 q71 q995) hdX2_remember ⟨rfl, rfl⟩ ⟨Nat.le_of_ble_eq_true rfl, Nat.le_of_ble_eq_true rfl⟩ rfl (Nat.le_of_ble_eq_true rfl) dX2_stand_28 ⟨Nat.zero_le _, Nat.zero_le _⟩ (fun v_292 μ_293 H locs hp_294 hP hS => ?_)
      obtain ⟨rfl, hM_295o, hM_295⟩ := hp_294
      have hR_296 : Rp (μ_293 1) 0 (aH a) := hM_295.r
      refine lv_aload_n hx hb dX2_stand_31 rfl (lv_at hl 0 rfl) ?_
      refine mg_w C hP dX2_stand_32 ?_
      refine lv_bipush (v := nI 35) hx hb dX2_stand_35 (by decide) ?_
      refine lv_iload_n hx hb dX2_stand_37 rfl (lv_at hl 1 rfl) ?_
      refine w_iaddN hx hb dX2_stand_38 ?_
      refine lv_iconst (v := 1) hx hb dX2_stand_39 (by decide) ?_
      refine m_ast1 C hP hS (by omega) dX2_stand_40 (fun H locs hP hS => ?_)
      obtain ⟨μ_297, eμ_298⟩ : ∃ y9, y9 = mset μ_293 1 (35 + k) 1 := ⟨_, rfl⟩
      rw [← eμ_298] at hP
      have hg := HG_set hI.1 5 k 1 (Or.inr (Or.inl rfl)) (fun _ => Or.inr rfl) (fun q => absurd q (by decide)) (fun q => absurd q (by decide))
      have hRn : Rp (μ_297 1) 0 (mset (aH a) 5 k 1) := by rw [eμ_298, mset_row]; exact rp_up5 hR_296 k _ (by omega) (by omega)
      refine lv_aload_n hx hb dX2_stand_41 rfl (lv_at hl 0 rfl) ?_
      refine lv_bipush (v := nI 35) hx hb dX2_stand_42 (by decide) ?_
      refine m_cR [.int (nI 35)] C hml hl.1 hP (mX2_manyOf l D T ad μ_297 (mset (aH a) 5 k 1) hRn hg.1 5 35 (by decide)) (lw_V q1020 q1022 qs65 q71 q1023) hdX2_manyOf ⟨rfl, rfl⟩ ⟨Nat.le_of_ble_eq_true rfl, Nat.le_of_ble_eq_true rfl⟩ rfl (Nat.le_of_ble_eq_true rfl) dX2_stand_44 ⟨Nat.zero_le _, Nat.zero_le _⟩ ?_
      exact mM_retI C hlk hr hS hP dX2_stand_47 ⟨by unfold standQ; rw [if_pos hic, clk, if_neg c_291]; rfl, by unfold standQ; rw [if_pos hic, clk, if_neg c_291]; exact MS.row0 hM_295 (by rw [eμ_298, mset_oth (by decide)]) (fun k h1 h2 => by rw [eμ_298, mset_ne (Or.inr (by omega))]) (by rw [eμ_298, mset_oth (by decide)]) (by rw [eμ_298, mset_oth (by decide)]) (by rw [eμ_298, mset_oth (by decide)]) (hRn) (by rw [eμ_298, mset_ne (Or.inr (by omega))]; exact hM_295.sd)⟩
    · refine lv_ldc hx hb hown (hts _ q1028) dX2_stand_24 ?_
      exact mM_retI C hlk hr hS hP dX2_stand_26 ⟨by unfold standQ; rw [if_pos hic, clk, if_pos c_291], by unfold standQ; rw [if_pos hic, clk, if_pos c_291]; exact hM⟩
  · have hic : ¬ isC (aH a) c = true := by rw [bI_eq0.mp c_290]; decide
    refine lv_ldc hx hb hown (hts _ q962) dX2_stand_8 ?_
    exact mM_retI C hlk hr hS hP dX2_stand_10 ⟨by unfold standQ; rw [if_neg hic], by unfold standQ; rw [if_neg hic]; exact hM⟩

theorem hdX2_alarm : yX2_alarm.cls = "LiarClocksModel" ∧ yX2_alarm.cls ≠ "java/lang/invoke/MethodHandle" ∧ yX2_alarm.cls ≠ "java/lang/invoke/VarHandle" ∧ (parseMethodDescriptor yX2_alarm.desc).map (fun d => d.parameters.length) = some 2 := by decide +kernel
set_option maxHeartbeats 4000000 in
/-- alarm -/
theorem mX2_alarm (l : Launch) (D : va_G) (T : Nat → ClassId) (ad : Nat → Nat) (μ : Nat → Nat → Int32) (a : Ab) (B : Int) (hM : MS μ a) (hI : AI a B) (hB0 : B ≤ 400000000) (hB1 : 0 ≤ B) (c v : Int32) : ∀ sz, Met l yX2_alarm (ws_ yX2_alarm cX2_alarm 4 (some .int)) ({ frames := 2, cells := 0, slots := 0, locals := 44 } : Room) (mPs D T ad μ [.ref (ad 0), .int c, .int v] sz) (mQ D T ad (fun r μ' => r = some (.int (alarmQ a c v).1) ∧ MS μ' (alarmQ a c v).2)) 0 0 (gA 7 ad sz) := by
  have hR := hM.r
  have hB := hI.1.1
  have hA := hI.1.2.2.1
  have h8 := hB.many8
  have h3 := hB.strike3
  have h6 := hB.alarms6
  refine mM_intro [.ref (ad 0), .int c, .int v] (by decide) rfl (Nat.le_of_ble_eq_true rfl) ?_
  intro pg en s0 mi below meth cd ls C hr hlk hml hP hS hl
  have hx := C.1
  have hb := C.2.1
  have hown := C.2.2.1
  have hts := C.2.2.2.1
  have hl : lv_has ls 4 [(0, .ref (ad 0)), (1, .int c), (2, .int v)] := hl
  have k16 := hM.kn16
  have t200 := hM.tn200
  have b20 := hM.bn20
  refine lv_aload_n hx hb dX2_alarm_0 rfl (lv_at hl 0 rfl) ?_
  refine lv_iload_n hx hb dX2_alarm_1 rfl (lv_at hl 1 rfl) ?_
  refine m_cR [.int c] C hml hl.1 hP (mX2_isClock l D T ad μ (aH a) hR hB c) (lw_V q954 q956 qs57 q71 q957) hdX2_isClock ⟨rfl, rfl⟩ ⟨Nat.le_of_ble_eq_true rfl, Nat.le_of_ble_eq_true rfl⟩ rfl (Nat.le_of_ble_eq_true rfl) dX2_alarm_2 ⟨Nat.zero_le _, Nat.zero_le _⟩ ?_
  refine lv_if_ne (tgt := 11) hx hb dX2_alarm_5 (by decide) (fun c_299 => ?_) (fun c_299 => ?_)
  · have hic : isC (aH a) c = true := bI_ne0.mp c_299
    obtain ⟨k, hk, ek⟩ := isC_spec hic
    subst ek
    have clk : (nI k).toNatClampNeg = k := nI_clamp (by omega)
    refine lv_iload_n hx hb dX2_alarm_11 rfl (lv_at hl 2 rfl) ?_
    refine lv_iconst (v := nI 0) hx hb dX2_alarm_12 (by decide) ?_
    refine lv_ldc hx hb hown (hts _ q1037) dX2_alarm_13 ?_
    refine m_cS [.int v, .int (nI 0), .int 999999] C hml hl.1 (mX2_in l v (nI (0)) 999999) (lw_S q842 q843 q71 q844) hdX2_in.2 ⟨rfl, rfl⟩ ⟨Nat.le_of_ble_eq_true rfl, Nat.le_of_ble_eq_true rfl⟩ rfl (Nat.le_of_ble_eq_true rfl) dX2_alarm_15 ⟨Nat.zero_le _, Nat.zero_le _⟩ ?_
    refine lv_if_ne (tgt := 24) hx hb dX2_alarm_18 (by decide) (fun c_300 => ?_) (fun c_300 => ?_)
    · have hin : inB v 0 999999 = true := (inB_in (v := v) (lo := nI 0) (hi := 999999) (l := 0) (u := 999999) (by decide) (by decide)) ▸ bI_ne0.mp c_300
      refine lv_aload_n hx hb dX2_alarm_24 rfl (lv_at hl 0 rfl) ?_
      refine mg_w C hP dX2_alarm_25 ?_
      refine lv_sipush (v := nI 171) hx hb dX2_alarm_28 (by decide) ?_
      refine m_ald1 C hP (by omega) dX2_alarm_31 ?_
      refine w_eqi (rp_alarms hR (by omega)) ?_
      refine w_eqi (hB.alarms) ?_
      refine lv_bipush (v := nI 6) hx hb dX2_alarm_32 (by decide) ?_
      refine w_icmpN_ne (tgt := 40) hx hb dX2_alarm_34 (by decide) (by omega) (by omega) (fun c_301 => ?_) (fun c_301 => ?_)
      · refine lv_aload_n hx hb dX2_alarm_40 rfl (lv_at hl 0 rfl) ?_
        refine m_cM [] C hml hl.1 hP hS (mX2_remember l D T ad μ a hM) (lw_V q992 q994 qs62 q71 q995) hdX2_remember ⟨rfl, rfl⟩ ⟨Nat.le_of_ble_eq_true rfl, Nat.le_of_ble_eq_true rfl⟩ rfl (Nat.le_of_ble_eq_true rfl) dX2_alarm_41 ⟨Nat.zero_le _, Nat.zero_le _⟩ (fun v_302 μ_303 H locs hp_304 hP hS => ?_)
        obtain ⟨rfl, hM_305o, hM_305⟩ := hp_304
        have hR_306 : Rp (μ_303 1) 0 (aH a) := hM_305.r
        refine lv_aload_n hx hb dX2_alarm_44 rfl (lv_at hl 0 rfl) ?_
        refine mg_w C hP dX2_alarm_45 ?_
        refine lv_sipush (v := nI 171) hx hb dX2_alarm_48 (by decide) ?_
        refine m_ald1 C hP (by omega) dX2_alarm_51 ?_
        refine w_eqi (rp_alarms hR_306 (by omega)) ?_
        refine w_eqi (hB.alarms) ?_
        refine lv_istore_n (lv' := [(3, .int (nI (nA (aH a)))), (0, .ref (ad 0)), (1, .int (nI k)), (2, .int v)]) hx hb dX2_alarm_52 rfl hl (by decide) rfl (fun ls hl => ?_)
        refine lv_aload_n hx hb dX2_alarm_53 rfl (lv_at hl 1 rfl) ?_
        refine mg_w C hP dX2_alarm_54 ?_
        refine lv_sipush (v := nI 172) hx hb dX2_alarm_57 (by decide) ?_
        refine lv_iload_n hx hb dX2_alarm_60 rfl (lv_at hl 0 rfl) ?_
        refine w_iaddN hx hb dX2_alarm_61 ?_
        refine lv_iload_n hx hb dX2_alarm_62 rfl (lv_at hl 2 rfl) ?_
        refine m_ast1 C hP hS (by omega) dX2_alarm_63 (fun H locs hP hS => ?_)
        obtain ⟨μ_307, eμ_308⟩ : ∃ y9, y9 = mset μ_303 1 (172 + (nA (aH a))) (nI (k)) := ⟨_, rfl⟩
        rw [← eμ_308] at hP
        have hR1 : Rp (μ_307 1) 0 (mset (aH a) 8 (nA (aH a)) (nI k)) := by rw [eμ_308, mset_row]; exact rp_up8 hR_306 _ _ (by omega) (by omega)
        refine lv_aload_n hx hb dX2_alarm_64 rfl (lv_at hl 1 rfl) ?_
        refine mg_w C hP dX2_alarm_65 ?_
        refine lv_sipush (v := nI 178) hx hb dX2_alarm_68 (by decide) ?_
        refine lv_iload_n hx hb dX2_alarm_71 rfl (lv_at hl 0 rfl) ?_
        refine w_iaddN hx hb dX2_alarm_72 ?_
        refine lv_iload_n hx hb dX2_alarm_73 rfl (lv_at hl 3 rfl) ?_
        refine m_ast1 C hP hS (by omega) dX2_alarm_74 (fun H locs hP hS => ?_)
        obtain ⟨μ_309, eμ_310⟩ : ∃ y9, y9 = mset μ_307 1 (178 + (nA (aH a))) v := ⟨_, rfl⟩
        rw [← eμ_310] at hP
        have hR2 : Rp (μ_309 1) 0 (mset (mset (aH a) 8 (nA (aH a)) (nI k)) 9 (nA (aH a)) v) := by rw [eμ_310, mset_row]; exact rp_up9 hR1 _ _ (by omega) (by omega)
        refine lv_aload_n hx hb dX2_alarm_75 rfl (lv_at hl 1 rfl) ?_
        refine mg_w C hP dX2_alarm_76 ?_
        refine lv_sipush (v := nI 184) hx hb dX2_alarm_79 (by decide) ?_
        refine lv_iload_n hx hb dX2_alarm_82 rfl (lv_at hl 0 rfl) ?_
        refine w_iaddN hx hb dX2_alarm_83 ?_
        refine lv_aload_n hx hb dX2_alarm_84 rfl (lv_at hl 1 rfl) ?_
        refine mg_w C hP dX2_alarm_85 ?_
        refine lv_iconst (v := nI 3) hx hb dX2_alarm_88 (by decide) ?_
        refine lv_iload_n hx hb dX2_alarm_89 rfl (lv_at hl 2 rfl) ?_
        refine w_iaddN hx hb dX2_alarm_90 ?_
        refine m_ald1 C hP (by omega) dX2_alarm_91 ?_
        refine w_eqi (rp_1 hR2 (k) (by omega) (by omega)) ?_
        refine w_eqi (y := aH a 1 k) (by rw [mset_ne (Or.inl (by decide)), mset_ne (Or.inl (by decide))]) ?_
        refine lv_iload_n hx hb dX2_alarm_92 rfl (lv_at hl 3 rfl) ?_
        refine w_join (α := Int32) (fun v_311 => v_311 = if v ≤ aH a 1 k then 1 else 0) (fun v_311 => F0 mi 101 ls (.int v_311 :: .int (nI (184 + (nA (aH a)))) :: .ref (ad 1) :: [])) (fun v_311 hv_311 => ?_) (fun hJv_311 => ?_)
        · subst hv_311
          refine m_ast1 C hP hS (by omega) dX2_alarm_101 (fun H locs hP hS => ?_)
          obtain ⟨μ_313, eμ_314⟩ : ∃ y9, y9 = mset μ_309 1 (184 + (nA (aH a))) (if v ≤ aH a 1 k then 1 else 0) := ⟨_, rfl⟩
          rw [← eμ_314] at hP
          have hR3 : Rp (μ_313 1) 0 (mset (mset (mset (aH a) 8 (nA (aH a)) (nI k)) 9 (nA (aH a)) v) 10 (nA (aH a)) (if v ≤ aH a 1 k then 1 else 0)) := by rw [eμ_314, mset_row]; exact rp_up10 hR2 _ _ (by omega) (by omega)
          refine lv_aload_n hx hb dX2_alarm_102 rfl (lv_at hl 1 rfl) ?_
          refine mg_w C hP dX2_alarm_103 ?_
          refine lv_sipush (v := nI 171) hx hb dX2_alarm_106 (by decide) ?_
          refine lv_dup2_11 hx hb dX2_alarm_109 rfl rfl ?_
          refine m_ald1 C hP (by omega) dX2_alarm_110 ?_
          refine w_eqi (rp_alarms hR3 (by omega)) ?_
          refine w_eqi (y := nI (nA (aH a))) (by rw [mset_ne (Or.inl (by decide)), mset_ne (Or.inl (by decide)), mset_ne (Or.inl (by decide))]; exact hB.alarms) ?_
          refine lv_iconst (v := nI 1) hx hb dX2_alarm_111 (by decide) ?_
          refine w_iaddN hx hb dX2_alarm_112 ?_
          refine m_ast1 C hP hS (by omega) dX2_alarm_113 (fun H locs hP hS => ?_)
          obtain ⟨μ_315, eμ_316⟩ : ∃ y9, y9 = mset μ_313 1 (171) (nI (nA (aH a) + 1)) := ⟨_, rfl⟩
          rw [← eμ_316] at hP
          refine lv_iload_n hx hb dX2_alarm_114 rfl (lv_at hl 0 rfl) ?_
          exact mM_retI C hlk hr hS hP dX2_alarm_115 ⟨by unfold alarmQ; rw [if_pos hic, if_pos hin, if_neg c_301], by
                unfold alarmQ; rw [if_pos hic, if_pos hin, if_neg c_301]
                have q : ∀ j, j ≠ 1 → μ_315 j = _ := fun j j1 => by rw [eμ_316, mset_oth j1, eμ_314, mset_oth j1, eμ_310, mset_oth j1, eμ_308, mset_oth j1]
                have q1 : ∀ k, 190 < k → μ_315 1 k = _ := fun k hk => by rw [eμ_316, mset_ne (Or.inr (by omega)), eμ_314, mset_ne (Or.inr (by omega)), eμ_310, mset_ne (Or.inr (by omega)), eμ_308, mset_ne (Or.inr (by omega))]
                refine MS.row0 (hh := alarmH (aH a) (nI k) v) hM_305 (q 0 (by decide)) (fun k h1 h2 => q1 k (by omega)) (q 2 (by decide)) (q 3 (by decide)) (q 4 (by decide)) ?_ ((q1 191 (by omega)).trans hM_305.sd)
                unfold alarmH
                rw [eμ_316, mset_row, clk]
                exact rp_up010 hR3 _ (by omega)⟩
        · refine lv_icmp_lt (tgt := 100) hx hb dX2_alarm_93 (by decide) (fun c_312 => ?_) (fun c_312 => ?_)
          · refine lv_iconst (v := 0) hx hb dX2_alarm_100 (by decide) ?_
            exact hJv_311 _ (by rw [if_neg (Int32.not_le.mpr c_312)])
          · refine lv_iconst (v := 1) hx hb dX2_alarm_96 (by decide) ?_
            refine lv_goto (tgt := 101) hx hb dX2_alarm_97 (by decide) ?_
            exact hJv_311 _ (by rw [if_pos (Int32.not_lt.mp c_312)])
      · refine lv_ldc hx hb hown (hts _ q846) dX2_alarm_37 ?_
        exact mM_retI C hlk hr hS hP dX2_alarm_39 ⟨by unfold alarmQ; rw [if_pos hic, if_pos hin, if_pos c_301], by unfold alarmQ; rw [if_pos hic, if_pos hin, if_pos c_301]; exact hM⟩
    · have hin : ¬ inB v 0 999999 = true := by rw [← (inB_in (v := v) (lo := nI 0) (hi := 999999) (l := 0) (u := 999999) (by decide) (by decide)), bI_eq0.mp c_300]; decide
      refine lv_ldc hx hb hown (hts _ q845) dX2_alarm_21 ?_
      exact mM_retI C hlk hr hS hP dX2_alarm_23 ⟨by unfold alarmQ; rw [if_pos hic, if_neg hin], by unfold alarmQ; rw [if_pos hic, if_neg hin]; exact hM⟩
  · have hic : ¬ isC (aH a) c = true := by rw [bI_eq0.mp c_299]; decide
    refine lv_ldc hx hb hown (hts _ q962) dX2_alarm_8 ?_
    exact mM_retI C hlk hr hS hP dX2_alarm_10 ⟨by unfold alarmQ; rw [if_neg hic], by unfold alarmQ; rw [if_neg hic]; exact hM⟩

