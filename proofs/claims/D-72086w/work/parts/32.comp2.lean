/-! THE COMPONENT: House's writing methods -/
set_option maxRecDepth 100000
def pR (h : Vw) (a : Nat) : Bool := decide (h 10 a = 0) && decide (h 9 a ≤ h 1 (h 8 a).toNatClampNeg)
def nwB (h h' : Vw) (a : Nat) : Bool := eq1 h' 10 a && !eq1 h 10 a
theorem rg_10 {h : Vw} {n a : Nat} (ha : a < n) : rgS h n 10 a = if h 9 a ≤ h 1 (h 8 a).toNatClampNeg then 1 else h 10 a := by
  unfold rgS; rw [if_pos ⟨rfl, ha⟩]
theorem ring_nw {h : Vw} (hB : HB h) : setN (pR h) (nA h) = setN (nwB h (rgS h (nA h))) (nA h) := by
  apply setN_cong
  intro a ha
  have h6 := hB.alarms6
  have b10 := hB.rung (a := a) (by omega)
  unfold pR nwB eq1
  rw [rg_10 ha]
  rcases b10 with q | q
  · rw [q]
    by_cases hd : h 9 a ≤ h 1 (h 8 a).toNatClampNeg <;> simp [hd]
  · rw [q]
    simp
theorem hdX1_ring : yX1_ring.cls = "LiarClocks$House" ∧ yX1_ring.cls ≠ "java/lang/invoke/MethodHandle" ∧ yX1_ring.cls ≠ "java/lang/invoke/VarHandle" ∧ (parseMethodDescriptor yX1_ring.desc).map (fun d => d.parameters.length) = some 0 := by decide +kernel
set_option maxHeartbeats 4000000 in
/-- ring -/
theorem mX1_ring (l : Launch) (D : va_G) (T : Nat → ClassId) (ad : Nat → Nat) (n : Nat) (σ : Nat → Nat → Int32) (b : Nat) (h : Vw) (hH : isH n b) (hR : Rc σ b h) (hB : HB h) : ∀ sz, Met l yX1_ring (ws_ yX1_ring cX1_ring 4 (some .int)) ({ frames := 0, cells := 0, slots := 0, locals := 0 } : Room) (cPs D T ad n σ [.ref (ad b)] sz) (cQ D T ad n (fun r σ' => r = some (.int (nI (setN (nwB h (rgS h (nA h))) (nA h)))) ∧ Rc σ' b (rgS h (nA h)) ∧ ∀ j, (j < b ∨ b + 10 < j) → σ' j = σ j)) 0 0 (gA n ad sz) := by
  have h6 := hB.alarms6
  have h8 := hB.many8
  refine cM_intro (own := "LiarClocks$House") [.ref (ad b)] (by decide) rfl (Nat.le_of_ble_eq_true rfl) ?_
  intro pg en s0 mi below meth cd ls C hr hlk hml hP hS hl
  have hx := C.1
  have hb := C.2.1
  have hown := C.2.2.1
  have hts := C.2.2.2.1
  have hl : lv_has ls 4 [(0, .ref (ad b))] := hl
  refine lv_iconst (v := nI 0) hx hb dX1_ring_0 (by decide) ?_
  refine lv_istore_n (lv' := [(1, .int (nI 0)), (0, .ref (ad b))]) hx hb dX1_ring_1 rfl hl (by decide) rfl (fun ls hl => ?_)
  refine lv_iconst (v := nI 0) hx hb dX1_ring_2 (by decide) ?_
  refine lv_istore_n (lv' := [(2, .int (nI 0)), (1, .int (nI 0)), (0, .ref (ad b))]) hx hb dX1_ring_3 rfl hl (by decide) rfl (fun ls hl => ?_)
  refine w_upM (α := Nat → Nat → Int32) (nA h) 4 4 (gA n ad s0.heap.size) s0.heap (fun i σ2 => [(0, .ref (ad b)), (1, .int (nI (setN (pR h) i))), (2, .int (nI i))]) (fun i σ2 H => cW D T ad n σ2 H ∧ Rc σ2 b (rgS h i) ∧ ∀ j, (j < b ∨ b + 10 < j) → σ2 j = σ j) ?_ ?_ 0 (by omega) σ (lv_sub hl [2, 1, 0] rfl) ⟨hP, by rw [rgS_0]; exact hR, fun _ _ => rfl⟩ hS
  · intro i σ2 ls H locs hi_i hl hW hS ih_i
    have hl : lv_has ls 4 [(0, .ref (ad b)), (1, .int (nI (setN (pR h) i))), (2, .int (nI i))] := hl
    obtain ⟨hP, hR2, hF2⟩ := hW
    refine lv_iload_n hx hb dX1_ring_4 rfl (lv_at hl 2 rfl) ?_
    refine lv_aload_n hx hb dX1_ring_5 rfl (lv_at hl 0 rfl) ?_
    refine hg_H_alarms C hP hH dX1_ring_6 ?_
    refine w_eqi (rc0 hR2 10 (by decide)) ?_
    refine w_eqi (rgS_oth (Or.inl (by decide)) |>.trans hB.alarms) ?_
    refine w_icmpN_ge (tgt := 91) hx hb dX1_ring_9 (by decide) (by omega) (by omega) (fun c_20 => ?_) (fun c_20 => ?_)
    · exact absurd c_20 (by omega)
    · obtain ⟨q, hq, e8⟩ := hB.of hi_i
      have hcl : (h 8 i).toNatClampNeg = q := by rw [e8]; exact nI_clamp (by omega)
      have b10 := hB.rung (a := i) (by omega)
      refine lv_aload_n hx hb dX1_ring_12 rfl (lv_at hl 0 rfl) ?_
      refine hg_H_isRung C hP hH dX1_ring_13 ?_
      refine lv_iload_n hx hb dX1_ring_16 rfl (lv_at hl 2 rfl) ?_
      refine c_zald C hP (arH10 hH) (by omega) dX1_ring_17 ?_
      refine w_eqi (rcA hR2 10 i (by unfold vd; omega)) ?_
      refine w_eqi (y := h 10 i) (rgS_oth (Or.inr (Nat.le_refl _))) ?_
      refine lv_if_ne (tgt := 45) hx hb dX1_ring_18 (by decide) (fun c_21 => ?_) (fun c_21 => ?_)
      · refine lv_iconst (v := nI 0) hx hb dX1_ring_45 (by decide) ?_
        refine lv_istore_n (lv' := [(3, .int (nI 0)), (0, .ref (ad b)), (1, .int (nI (setN (pR h) i))), (2, .int (nI i))]) hx hb dX1_ring_46 rfl hl (by decide) rfl (fun ls hl => ?_)
        refine lv_aload_n hx hb dX1_ring_47 rfl (lv_at hl 1 rfl) ?_
        refine hg_H_isRung C hP hH dX1_ring_48 ?_
        refine lv_iload_n hx hb dX1_ring_51 rfl (lv_at hl 3 rfl) ?_
        refine lv_aload_n hx hb dX1_ring_52 rfl (lv_at hl 1 rfl) ?_
        refine hg_H_isRung C hP hH dX1_ring_53 ?_
        refine lv_iload_n hx hb dX1_ring_56 rfl (lv_at hl 3 rfl) ?_
        refine c_zald C hP (arH10 hH) (by omega) dX1_ring_57 ?_
        refine w_eqi (rcA hR2 10 i (by unfold vd; omega)) ?_
        refine w_eqi (y := h 10 i) (rgS_oth (Or.inr (Nat.le_refl _))) ?_
        refine lv_if_ne (tgt := 65) hx hb dX1_ring_58 (by decide) (fun c_22 => ?_) (fun c_22 => ?_)
        · refine lv_iconst (v := nI 1) hx hb dX1_ring_65 (by decide) ?_
          refine lv_goto (tgt := 70) hx hb dX1_ring_66 (by decide) ?_
          refine c_zast1 C hP hS (arH10 hH) (by omega) (by unfold b01; decide) dX1_ring_70 (fun H locs hP hS => ?_)
          obtain ⟨σ_23, eσ_24⟩ : ∃ y9, y9 = mset σ2 (b + 10) i (nI (1)) := ⟨_, rfl⟩
          rw [← eσ_24] at hP
          have hR_25 : Rc σ_23 b (mset (rgS h i) 10 i (nI (1))) := by rw [eσ_24]; exact hR2.up 10 i (nI (1))
          have hF_26 : ∀ j9, (j9 < b ∨ b + 10 < j9) → σ_23 j9 = σ j9 := fun j9 hj9 => ((congrFun eσ_24 j9).trans (mset_oth (by omega))).trans (hF2 j9 hj9)
          rw [rgS_step (by rw [b01_n0 b10 c_21]; split <;> rfl)] at hR_25
          have hp : pR h i = false := by unfold pR; rw [decide_eq_false c_21]; rfl
          refine lv_iload_n hx hb dX1_ring_71 rfl (lv_at hl 2 rfl) ?_
          refine lv_iload_n hx hb dX1_ring_72 rfl (lv_at hl 0 rfl) ?_
          refine w_ifN_eq (tgt := 82) hx hb dX1_ring_73 (by decide) (by omega) (fun c_27 => ?_) (fun c_27 => ?_)
          · refine lv_iconst (v := 0) hx hb dX1_ring_82 (by decide) ?_
            refine lv_ior hx hb dX1_ring_83 ?_
            refine w_eqi (so_f hp) ?_
            refine lv_istore_n (lv' := [(1, .int (nI (setN (pR h) (i + 1)))), (3, .int (nI 0)), (0, .ref (ad b)), (2, .int (nI i))]) hx hb dX1_ring_84 rfl hl (by decide) rfl (fun ls hl => ?_)
            refine lv_iinc (v := nI (i + 1)) (lv' := [(2, .int (nI (i + 1))), (1, .int (nI (setN (pR h) (i + 1)))), (3, .int (nI 0)), (0, .ref (ad b))]) hx hb dX1_ring_85 hl (k := 3) rfl (w_inc _ _) (by decide) rfl (fun ls hl => ?_)
            refine lv_goto (tgt := 4) hx hb dX1_ring_88 (by decide) ?_
            refine ih_i σ_23 _ _ _ (lv_sub hl [3, 1, 0] rfl) ⟨hP, hR_25, hF_26⟩ hS
          · exact absurd c_27 (by omega)
        · exact absurd c_22 c_21
      · refine lv_aload_n hx hb dX1_ring_21 rfl (lv_at hl 0 rfl) ?_
        refine hg_H_values C hP hH dX1_ring_22 ?_
        refine lv_aload_n hx hb dX1_ring_25 rfl (lv_at hl 0 rfl) ?_
        refine hg_H_alarmOf C hP hH dX1_ring_26 ?_
        refine lv_iload_n hx hb dX1_ring_29 rfl (lv_at hl 2 rfl) ?_
        refine c_iald C hP (arH8 hH) (by omega) dX1_ring_30 ?_
        refine w_eqi (rcA hR2 8 i (by unfold vd; omega)) ?_
        refine w_eqi (y := nI (q)) ((rgS_oth (Or.inl (by decide))).trans e8) ?_
        refine c_iald C hP (arH1 hH) (by omega) dX1_ring_31 ?_
        refine w_eqi (rcA hR2 1 q (by unfold vd; omega)) ?_
        refine w_eqi (y := h 1 q) (rgS_oth (Or.inl (by decide))) ?_
        refine lv_aload_n hx hb dX1_ring_32 rfl (lv_at hl 0 rfl) ?_
        refine hg_H_alarmAt C hP hH dX1_ring_33 ?_
        refine lv_iload_n hx hb dX1_ring_36 rfl (lv_at hl 2 rfl) ?_
        refine c_iald C hP (arH9 hH) (by omega) dX1_ring_37 ?_
        refine w_eqi (rcA hR2 9 i (by unfold vd; omega)) ?_
        refine w_eqi (y := h 9 i) (rgS_oth (Or.inl (by decide))) ?_
        refine lv_icmp_lt (tgt := 45) hx hb dX1_ring_38 (by decide) (fun c_28 => ?_) (fun c_28 => ?_)
        · refine lv_iconst (v := nI 0) hx hb dX1_ring_45 (by decide) ?_
          refine lv_istore_n (lv' := [(3, .int (nI 0)), (0, .ref (ad b)), (1, .int (nI (setN (pR h) i))), (2, .int (nI i))]) hx hb dX1_ring_46 rfl hl (by decide) rfl (fun ls hl => ?_)
          refine lv_aload_n hx hb dX1_ring_47 rfl (lv_at hl 1 rfl) ?_
          refine hg_H_isRung C hP hH dX1_ring_48 ?_
          refine lv_iload_n hx hb dX1_ring_51 rfl (lv_at hl 3 rfl) ?_
          refine lv_aload_n hx hb dX1_ring_52 rfl (lv_at hl 1 rfl) ?_
          refine hg_H_isRung C hP hH dX1_ring_53 ?_
          refine lv_iload_n hx hb dX1_ring_56 rfl (lv_at hl 3 rfl) ?_
          refine c_zald C hP (arH10 hH) (by omega) dX1_ring_57 ?_
          refine w_eqi (rcA hR2 10 i (by unfold vd; omega)) ?_
          refine w_eqi (y := h 10 i) (rgS_oth (Or.inr (Nat.le_refl _))) ?_
          refine lv_if_ne (tgt := 65) hx hb dX1_ring_58 (by decide) (fun c_29 => ?_) (fun c_29 => ?_)
          · exact absurd c_21 c_29
          · refine lv_iload_n hx hb dX1_ring_61 rfl (lv_at hl 0 rfl) ?_
            refine w_ifN_eq (tgt := 69) hx hb dX1_ring_62 (by decide) (by omega) (fun c_30 => ?_) (fun c_30 => ?_)
            · refine lv_iconst (v := nI 0) hx hb dX1_ring_69 (by decide) ?_
              refine c_zast1 C hP hS (arH10 hH) (by omega) (by unfold b01; decide) dX1_ring_70 (fun H locs hP hS => ?_)
              obtain ⟨σ_31, eσ_32⟩ : ∃ y9, y9 = mset σ2 (b + 10) i (nI (0)) := ⟨_, rfl⟩
              rw [← eσ_32] at hP
              have hR_33 : Rc σ_31 b (mset (rgS h i) 10 i (nI (0))) := by rw [eσ_32]; exact hR2.up 10 i (nI (0))
              have hF_34 : ∀ j9, (j9 < b ∨ b + 10 < j9) → σ_31 j9 = σ j9 := fun j9 hj9 => ((congrFun eσ_32 j9).trans (mset_oth (by omega))).trans (hF2 j9 hj9)
              rw [rgS_step (by rw [hcl, if_neg (Int32.not_le.mpr c_28), c_21]; rfl)] at hR_33
              have hp : pR h i = false := by unfold pR; rw [hcl, decide_eq_false (Int32.not_le.mpr c_28), Bool.and_false]
              refine lv_iload_n hx hb dX1_ring_71 rfl (lv_at hl 2 rfl) ?_
              refine lv_iload_n hx hb dX1_ring_72 rfl (lv_at hl 0 rfl) ?_
              refine w_ifN_eq (tgt := 82) hx hb dX1_ring_73 (by decide) (by omega) (fun c_35 => ?_) (fun c_35 => ?_)
              · refine lv_iconst (v := 0) hx hb dX1_ring_82 (by decide) ?_
                refine lv_ior hx hb dX1_ring_83 ?_
                refine w_eqi (so_f hp) ?_
                refine lv_istore_n (lv' := [(1, .int (nI (setN (pR h) (i + 1)))), (3, .int (nI 0)), (0, .ref (ad b)), (2, .int (nI i))]) hx hb dX1_ring_84 rfl hl (by decide) rfl (fun ls hl => ?_)
                refine lv_iinc (v := nI (i + 1)) (lv' := [(2, .int (nI (i + 1))), (1, .int (nI (setN (pR h) (i + 1)))), (3, .int (nI 0)), (0, .ref (ad b))]) hx hb dX1_ring_85 hl (k := 3) rfl (w_inc _ _) (by decide) rfl (fun ls hl => ?_)
                refine lv_goto (tgt := 4) hx hb dX1_ring_88 (by decide) ?_
                refine ih_i σ_31 _ _ _ (lv_sub hl [3, 1, 0] rfl) ⟨hP, hR_33, hF_34⟩ hS
              · exact absurd c_35 (by omega)
            · exact absurd c_30 (by omega)
        · refine lv_iconst (v := nI 1) hx hb dX1_ring_41 (by decide) ?_
          refine lv_goto (tgt := 46) hx hb dX1_ring_42 (by decide) ?_
          refine lv_istore_n (lv' := [(3, .int (nI 1)), (0, .ref (ad b)), (1, .int (nI (setN (pR h) i))), (2, .int (nI i))]) hx hb dX1_ring_46 rfl hl (by decide) rfl (fun ls hl => ?_)
          refine lv_aload_n hx hb dX1_ring_47 rfl (lv_at hl 1 rfl) ?_
          refine hg_H_isRung C hP hH dX1_ring_48 ?_
          refine lv_iload_n hx hb dX1_ring_51 rfl (lv_at hl 3 rfl) ?_
          refine lv_aload_n hx hb dX1_ring_52 rfl (lv_at hl 1 rfl) ?_
          refine hg_H_isRung C hP hH dX1_ring_53 ?_
          refine lv_iload_n hx hb dX1_ring_56 rfl (lv_at hl 3 rfl) ?_
          refine c_zald C hP (arH10 hH) (by omega) dX1_ring_57 ?_
          refine w_eqi (rcA hR2 10 i (by unfold vd; omega)) ?_
          refine w_eqi (y := h 10 i) (rgS_oth (Or.inr (Nat.le_refl _))) ?_
          refine lv_if_ne (tgt := 65) hx hb dX1_ring_58 (by decide) (fun c_36 => ?_) (fun c_36 => ?_)
          · exact absurd c_21 c_36
          · refine lv_iload_n hx hb dX1_ring_61 rfl (lv_at hl 0 rfl) ?_
            refine w_ifN_eq (tgt := 69) hx hb dX1_ring_62 (by decide) (by omega) (fun c_37 => ?_) (fun c_37 => ?_)
            · exact absurd c_37 (by omega)
            · refine lv_iconst (v := nI 1) hx hb dX1_ring_65 (by decide) ?_
              refine lv_goto (tgt := 70) hx hb dX1_ring_66 (by decide) ?_
              refine c_zast1 C hP hS (arH10 hH) (by omega) (by unfold b01; decide) dX1_ring_70 (fun H locs hP hS => ?_)
              obtain ⟨σ_38, eσ_39⟩ : ∃ y9, y9 = mset σ2 (b + 10) i (nI (1)) := ⟨_, rfl⟩
              rw [← eσ_39] at hP
              have hR_40 : Rc σ_38 b (mset (rgS h i) 10 i (nI (1))) := by rw [eσ_39]; exact hR2.up 10 i (nI (1))
              have hF_41 : ∀ j9, (j9 < b ∨ b + 10 < j9) → σ_38 j9 = σ j9 := fun j9 hj9 => ((congrFun eσ_39 j9).trans (mset_oth (by omega))).trans (hF2 j9 hj9)
              rw [rgS_step (by rw [hcl, if_pos (Int32.not_lt.mp c_28)]; rfl)] at hR_40
              have hp : pR h i = true := by unfold pR; rw [hcl, decide_eq_true (Int32.not_lt.mp c_28), decide_eq_true (c_21)]; rfl
              refine lv_iload_n hx hb dX1_ring_71 rfl (lv_at hl 2 rfl) ?_
              refine lv_iload_n hx hb dX1_ring_72 rfl (lv_at hl 0 rfl) ?_
              refine w_ifN_eq (tgt := 82) hx hb dX1_ring_73 (by decide) (by omega) (fun c_42 => ?_) (fun c_42 => ?_)
              · exact absurd c_42 (by omega)
              · refine lv_iconst (v := 1) hx hb dX1_ring_76 (by decide) ?_
                refine lv_iload_n hx hb dX1_ring_77 rfl (lv_at hl 3 rfl) ?_
                refine lv_ishl hx hb dX1_ring_78 ?_
                refine lv_goto (tgt := 83) hx hb dX1_ring_79 (by decide) ?_
                refine lv_ior hx hb dX1_ring_83 ?_
                refine w_eqi (so_t (by omega) hp) ?_
                refine lv_istore_n (lv' := [(1, .int (nI (setN (pR h) (i + 1)))), (3, .int (nI 1)), (0, .ref (ad b)), (2, .int (nI i))]) hx hb dX1_ring_84 rfl hl (by decide) rfl (fun ls hl => ?_)
                refine lv_iinc (v := nI (i + 1)) (lv' := [(2, .int (nI (i + 1))), (1, .int (nI (setN (pR h) (i + 1)))), (3, .int (nI 1)), (0, .ref (ad b))]) hx hb dX1_ring_85 hl (k := 3) rfl (w_inc _ _) (by decide) rfl (fun ls hl => ?_)
                refine lv_goto (tgt := 4) hx hb dX1_ring_88 (by decide) ?_
                refine ih_i σ_38 _ _ _ (lv_sub hl [3, 1, 0] rfl) ⟨hP, hR_40, hF_41⟩ hS
  · intro σ2 ls H locs hl hW hS
    have hl : lv_has ls 4 [(0, .ref (ad b)), (1, .int (nI (setN (pR h) (nA h)))), (2, .int (nI (nA h)))] := hl
    obtain ⟨hP, hR2, hF2⟩ := hW
    refine lv_iload_n hx hb dX1_ring_4 rfl (lv_at hl 2 rfl) ?_
    refine lv_aload_n hx hb dX1_ring_5 rfl (lv_at hl 0 rfl) ?_
    refine hg_H_alarms C hP hH dX1_ring_6 ?_
    refine w_eqi (rc0 hR2 10 (by decide)) ?_
    refine w_eqi (rgS_oth (Or.inl (by decide)) |>.trans hB.alarms) ?_
    refine w_icmpN_ge (tgt := 91) hx hb dX1_ring_9 (by decide) (by omega) (by omega) (fun c_43 => ?_) (fun c_43 => ?_)
    · refine lv_iload_n hx hb dX1_ring_91 rfl (lv_at hl 1 rfl) ?_
      exact cM_retI C hlk hr hS hP dX1_ring_92 ⟨by rw [ring_nw hB], hR2, hF2⟩
    · exact absurd c_43 (by omega)

theorem more_go {h : Vw} {c : Nat} (hs : 0 ≤ (h 0 2).toInt ∧ (h 0 2).toInt ≤ 80) : maxI (-(h 0 2)) (minI (h 0 2) (h 3 c)) = moreS h c := by
  have e := i_neg (a := h 0 2) (by omega)
  unfold maxI minI moreS
  by_cases q : h 0 2 ≤ h 3 c
  · simp only [if_pos q]
    apply Int32.toInt_inj.mp
    repeat' split
    all_goals (simp only [w_le, w_lt, e] at *; try omega)
  · simp only [if_neg q]
    apply Int32.toInt_inj.mp
    repeat' split
    all_goals (simp only [w_le, w_lt, e] at *; try omega)
def goneS (h : Vw) (c : Nat) : Vw := mset (mset h 1 c (h 1 c + (h 2 c + moreS h c))) 3 c (h 3 c - moreS h c)
theorem gone_go {h : Vw} {c : Nat} (e : h 5 c = 0) : goneS (goS h c) c = goS h (c + 1) := by
  rw [← goS_step e]
  unfold goneS moreS
  rw [goS_ge (Nat.le_refl c), goS_ge (Nat.le_refl c), goS_ge (Nat.le_refl c), goS_oth (by decide) (by decide)]
theorem hdX1_go : yX1_go.cls = "LiarClocks$House" ∧ yX1_go.cls ≠ "java/lang/invoke/MethodHandle" ∧ yX1_go.cls ≠ "java/lang/invoke/VarHandle" ∧ (parseMethodDescriptor yX1_go.desc).map (fun d => d.parameters.length) = some 1 := by decide +kernel
set_option maxHeartbeats 4000000 in
/-- go -/
theorem mX1_go (l : Launch) (D : va_G) (T : Nat → ClassId) (ad : Nat → Nat) (n : Nat) (σ : Nat → Nat → Int32) (b : Nat) (h : Vw) (hH : isH n b) (hR : Rc σ b h) (hs : 0 ≤ (h 0 2).toInt ∧ (h 0 2).toInt ≤ 80) (c : Nat) (hc : c < 8) : ∀ sz, Met l yX1_go (ws_ yX1_go cX1_go 3 none) ({ frames := 1, cells := 0, slots := 0, locals := 21 } : Room) (cPs D T ad n σ [.ref (ad b), .int (nI c)] sz) (cQ D T ad n (fun r σ' => r = none ∧ Rc σ' b (goneS h c) ∧ ∀ j, (j < b ∨ b + 10 < j) → σ' j = σ j)) 0 0 (gA n ad sz) := by
  refine cM_intro (own := "LiarClocks$House") [.ref (ad b), .int (nI c)] (by decide) rfl (Nat.le_of_ble_eq_true rfl) ?_
  intro pg en s0 mi below meth cd ls C hr hlk hml hP hS hl
  have hx := C.1
  have hb := C.2.1
  have hown := C.2.2.1
  have hts := C.2.2.2.1
  have hl : lv_has ls 3 [(0, .ref (ad b)), (1, .int (nI c))] := hl
  have hF_44 : ∀ j9, (j9 < b ∨ b + 10 < j9) → σ j9 = σ j9 := fun _ _ => rfl
  refine lv_aload_n hx hb dX1_go_0 rfl (lv_at hl 0 rfl) ?_
  refine hg_H_step C hP hH dX1_go_1 ?_
  refine w_eqi (rc0 hR 2 (by decide)) ?_
  refine lv_ineg hx hb dX1_go_4 ?_
  refine lv_aload_n hx hb dX1_go_5 rfl (lv_at hl 0 rfl) ?_
  refine hg_H_step C hP hH dX1_go_6 ?_
  refine w_eqi (rc0 hR 2 (by decide)) ?_
  refine lv_aload_n hx hb dX1_go_9 rfl (lv_at hl 0 rfl) ?_
  refine hg_H_ahead C hP hH dX1_go_10 ?_
  refine lv_iload_n hx hb dX1_go_13 rfl (lv_at hl 1 rfl) ?_
  refine c_iald C hP (arH3 hH) (by omega) dX1_go_14 ?_
  refine w_eqi (rcA hR 3 c (by unfold vd; omega)) ?_
  refine c_cS [.int (h 0 2), .int (h 3 c)] C hml hl.1 (mJ2_min l (h 0 2) (h 3 c)) (lw_S q447 q367 q79 q368) hdJ2_min.2 ⟨rfl, rfl⟩ ⟨Nat.le_of_ble_eq_true rfl, Nat.le_of_ble_eq_true rfl⟩ rfl (Nat.le_of_ble_eq_true rfl) dX1_go_15 ⟨Nat.zero_le _, Nat.zero_le _⟩ ?_
  refine c_cS [.int (-(h 0 2)), .int (minI (h 0 2) (h 3 c))] C hml hl.1 (mJ2_max l (-(h 0 2)) (minI (h 0 2) (h 3 c))) (lw_S q448 q449 q79 q450) hdJ2_max.2 ⟨rfl, rfl⟩ ⟨Nat.le_of_ble_eq_true rfl, Nat.le_of_ble_eq_true rfl⟩ rfl (Nat.le_of_ble_eq_true rfl) dX1_go_18 ⟨Nat.zero_le _, Nat.zero_le _⟩ ?_
  refine w_eqi (more_go hs) ?_
  refine lv_istore_n (lv' := [(2, .int (moreS h c)), (0, .ref (ad b)), (1, .int (nI c))]) hx hb dX1_go_21 rfl hl (by decide) rfl (fun ls hl => ?_)
  refine lv_aload_n hx hb dX1_go_22 rfl (lv_at hl 1 rfl) ?_
  refine hg_H_values C hP hH dX1_go_23 ?_
  refine lv_iload_n hx hb dX1_go_26 rfl (lv_at hl 2 rfl) ?_
  refine lv_dup2_11 hx hb dX1_go_27 rfl rfl ?_
  refine c_iald C hP (arH1 hH) (by omega) dX1_go_28 ?_
  refine w_eqi (rcA hR 1 c (by unfold vd; omega)) ?_
  refine lv_aload_n hx hb dX1_go_29 rfl (lv_at hl 1 rfl) ?_
  refine hg_H_rates C hP hH dX1_go_30 ?_
  refine lv_iload_n hx hb dX1_go_33 rfl (lv_at hl 2 rfl) ?_
  refine c_iald C hP (arH2 hH) (by omega) dX1_go_34 ?_
  refine w_eqi (rcA hR 2 c (by unfold vd; omega)) ?_
  refine lv_iload_n hx hb dX1_go_35 rfl (lv_at hl 0 rfl) ?_
  refine lv_iadd hx hb dX1_go_36 ?_
  refine lv_iadd hx hb dX1_go_37 ?_
  refine c_iast C hP hS (arH1 hH) (by omega) dX1_go_38 (fun H locs hP hS => ?_)
  obtain ⟨σ_45, eσ_46⟩ : ∃ y9, y9 = mset σ (b + 1) c ((h 1 c) + ((h 2 c) + (moreS h c))) := ⟨_, rfl⟩
  rw [← eσ_46] at hP
  have hR_47 : Rc σ_45 b (mset h 1 c ((h 1 c) + ((h 2 c) + (moreS h c)))) := by rw [eσ_46]; exact hR.up 1 c ((h 1 c) + ((h 2 c) + (moreS h c)))
  have hF_48 : ∀ j9, (j9 < b ∨ b + 10 < j9) → σ_45 j9 = σ j9 := fun j9 hj9 => ((congrFun eσ_46 j9).trans (mset_oth (by omega))).trans (hF_44 j9 hj9)
  refine lv_aload_n hx hb dX1_go_39 rfl (lv_at hl 1 rfl) ?_
  refine hg_H_ahead C hP hH dX1_go_40 ?_
  refine lv_iload_n hx hb dX1_go_43 rfl (lv_at hl 2 rfl) ?_
  refine lv_dup2_11 hx hb dX1_go_44 rfl rfl ?_
  refine c_iald C hP (arH3 hH) (by omega) dX1_go_45 ?_
  refine w_eqi (rcA hR_47 3 c (by unfold vd; omega)) ?_
  refine w_eqi (y := h 3 c) (congrFun (mset_oth (by decide)) _) ?_
  refine lv_iload_n hx hb dX1_go_46 rfl (lv_at hl 0 rfl) ?_
  refine lv_isub hx hb dX1_go_47 ?_
  refine c_iast C hP hS (arH3 hH) (by omega) dX1_go_48 (fun H locs hP hS => ?_)
  obtain ⟨σ_49, eσ_50⟩ : ∃ y9, y9 = mset σ_45 (b + 3) c ((h 3 c) - (moreS h c)) := ⟨_, rfl⟩
  rw [← eσ_50] at hP
  have hR_51 : Rc σ_49 b (mset (mset h 1 c ((h 1 c) + ((h 2 c) + (moreS h c)))) 3 c ((h 3 c) - (moreS h c))) := by rw [eσ_50]; exact hR_47.up 3 c ((h 3 c) - (moreS h c))
  have hF_52 : ∀ j9, (j9 < b ∨ b + 10 < j9) → σ_49 j9 = σ j9 := fun j9 hj9 => ((congrFun eσ_50 j9).trans (mset_oth (by omega))).trans (hF_48 j9 hj9)
  exact cM_retV C hlk hr hS hP dX1_go_49 ⟨rfl, hR_51, hF_52⟩

theorem HB_tg {h : Vw} (H : HB h) {n : Nat} : HB (tmS (goS h n)) := by
  have e : ∀ f c, f ≠ 1 → f ≠ 3 → (f ≠ 0 ∨ c ≠ 14) → tmS (goS h n) f c = h f c := fun f c h1 h3 h0 => by
    unfold tmS; rw [mset_ne (by omega), goS_oth h1 h3]
  refine HB_of H (e _ _ (by decide) (by decide) (by decide)) (e _ _ (by decide) (by decide) (by decide)) (e _ _ (by decide) (by decide) (by decide)) (fun c hc => ?_) (fun c hc => ?_) (fun c hc => ?_) (fun c hc => ?_)
  · rw [e 4 c (by decide) (by decide) (Or.inl (by decide))]; exact H.lies hc
  · rw [e 5 c (by decide) (by decide) (Or.inl (by decide))]; exact H.stands hc
  · rw [e 10 c (by decide) (by decide) (Or.inl (by decide))]; exact H.rung hc
  · rw [e 8 c (by decide) (by decide) (Or.inl (by decide))]
theorem tick_nw {h : Vw} : nI (setN (nwB (tmS (goS h (nM h))) (rgS (tmS (goS h (nM h))) (nA (tmS (goS h (nM h)))))) (nA (tmS (goS h (nM h))))) = nI (setN (nwB h (tickS h)) (nA h)) := by
  have e : nA (tmS (goS h (nM h))) = nA h := nA_tm
  rw [e]
  refine congrArg nI (setN_cong (fun a ha => ?_))
  unfold nwB eq1 tickS
  have e2 : tmS (goS h (nM h)) 10 a = h 10 a := by unfold tmS; rw [mset_ne (by omega), goS_oth (by decide) (by decide)]
  rw [e2]
theorem hdX1_tickOnce : yX1_tickOnce.cls = "LiarClocks$House" ∧ yX1_tickOnce.cls ≠ "java/lang/invoke/MethodHandle" ∧ yX1_tickOnce.cls ≠ "java/lang/invoke/VarHandle" ∧ (parseMethodDescriptor yX1_tickOnce.desc).map (fun d => d.parameters.length) = some 0 := by decide +kernel
set_option maxHeartbeats 4000000 in
/-- tickOnce -/
theorem mX1_tickOnce (l : Launch) (D : va_G) (T : Nat → ClassId) (ad : Nat → Nat) (n : Nat) (σ : Nat → Nat → Int32) (b : Nat) (h : Vw) (hH : isH n b) (hR : Rc σ b h) (hB : HB h) (hs : 0 ≤ (h 0 2).toInt ∧ (h 0 2).toInt ≤ 80) : ∀ sz, Met l yX1_tickOnce (ws_ yX1_tickOnce cX1_tickOnce 2 (some .int)) ({ frames := 2, cells := 0, slots := 0, locals := 43 } : Room) (cPs D T ad n σ [.ref (ad b)] sz) (cQ D T ad n (fun r σ' => r = some (.int (nI (setN (nwB h (tickS h)) (nA h)))) ∧ Rc σ' b (tickS h) ∧ ∀ j, (j < b ∨ b + 10 < j) → σ' j = σ j)) 0 0 (gA n ad sz) := by
  have h6 := hB.alarms6
  have h8 := hB.many8
  refine cM_intro (own := "LiarClocks$House") [.ref (ad b)] (by decide) rfl (Nat.le_of_ble_eq_true rfl) ?_
  intro pg en s0 mi below meth cd ls C hr hlk hml hP hS hl
  have hx := C.1
  have hb := C.2.1
  have hown := C.2.2.1
  have hts := C.2.2.2.1
  have hl : lv_has ls 2 [(0, .ref (ad b))] := hl
  refine lv_iconst (v := nI 0) hx hb dX1_tickOnce_0 (by decide) ?_
  refine lv_istore_n (lv' := [(1, .int (nI 0)), (0, .ref (ad b))]) hx hb dX1_tickOnce_1 rfl hl (by decide) rfl (fun ls hl => ?_)
  refine w_upM (α := Nat → Nat → Int32) (nM h) 2 2 (gA n ad s0.heap.size) s0.heap (fun i σ2 => [(0, .ref (ad b)), (1, .int (nI i))]) (fun i σ2 H => cW D T ad n σ2 H ∧ Rc σ2 b (goS h i) ∧ ∀ j, (j < b ∨ b + 10 < j) → σ2 j = σ j) ?_ ?_ 0 (by omega) σ (lv_sub hl [1, 0] rfl) ⟨hP, by rw [goS_0]; exact hR, fun _ _ => rfl⟩ hS
  · intro i σ2 ls H locs hi_i hl hW hS ih_i
    have hl : lv_has ls 2 [(0, .ref (ad b)), (1, .int (nI i))] := hl
    obtain ⟨hP, hR2, hF2⟩ := hW
    refine lv_iload_n hx hb dX1_tickOnce_2 rfl (lv_at hl 1 rfl) ?_
    refine lv_aload_n hx hb dX1_tickOnce_3 rfl (lv_at hl 0 rfl) ?_
    refine hg_H_many C hP hH dX1_tickOnce_4 ?_
    refine w_eqi (rc0 hR2 0 (by decide)) ?_
    refine w_eqi ((goS_oth (by decide) (by decide)).trans hB.many) ?_
    refine w_icmpN_ge (tgt := 30) hx hb dX1_tickOnce_7 (by decide) (by omega) (by omega) (fun c_53 => ?_) (fun c_53 => ?_)
    · exact absurd c_53 (by omega)
    · refine lv_aload_n hx hb dX1_tickOnce_10 rfl (lv_at hl 0 rfl) ?_
      refine hg_H_stands C hP hH dX1_tickOnce_11 ?_
      refine lv_iload_n hx hb dX1_tickOnce_14 rfl (lv_at hl 1 rfl) ?_
      refine c_zald C hP (arH5 hH) (by omega) dX1_tickOnce_15 ?_
      refine w_eqi (rcA hR2 5 i (by unfold vd; omega)) ?_
      refine w_eqi (y := h 5 i) (goS_oth (by decide) (by decide)) ?_
      refine lv_if_ne (tgt := 24) hx hb dX1_tickOnce_16 (by decide) (fun c_54 => ?_) (fun c_54 => ?_)
      · refine lv_iinc (v := nI (i + 1)) (lv' := [(1, .int (nI (i + 1))), (0, .ref (ad b))]) hx hb dX1_tickOnce_24 hl (k := 1) rfl (w_inc _ _) (by decide) rfl (fun ls hl => ?_)
        refine lv_goto (tgt := 2) hx hb dX1_tickOnce_27 (by decide) ?_
        refine ih_i σ2 _ _ _ (lv_sub hl [1, 0] rfl) ⟨hP, by rw [goS_skip c_54]; exact hR2, hF2⟩ hS
      · have h50 : h 5 i = 0 := c_54
        refine lv_aload_n hx hb dX1_tickOnce_19 rfl (lv_at hl 0 rfl) ?_
        refine lv_iload_n hx hb dX1_tickOnce_20 rfl (lv_at hl 1 rfl) ?_
        refine c_cM [.int (nI i)] C hml hl.1 hP hS (c_recvH C hP hH) (mX1_go l D T ad n σ2 b (goS h i) hH hR2 (by rw [goS_oth (by decide) (by decide)]; exact hs) i (by omega)) (lw_V q667 q669 qs28 q70 q670) hdX1_go ⟨rfl, rfl⟩ ⟨Nat.le_of_ble_eq_true rfl, Nat.le_of_ble_eq_true rfl⟩ rfl (Nat.le_of_ble_eq_true rfl) dX1_tickOnce_21 ⟨Nat.zero_le _, Nat.zero_le _⟩ (fun v_55 σ_56 H locs hp_57 hP hS => ?_)
        obtain ⟨rfl, hR_58, hF_59⟩ := hp_57
        have hF_60 : ∀ j9, (j9 < b ∨ b + 10 < j9) → σ_56 j9 = σ j9 := fun j9 hj9 => (hF_59 j9 (by omega)).trans (hF2 j9 hj9)
        refine lv_iinc (v := nI (i + 1)) (lv' := [(1, .int (nI (i + 1))), (0, .ref (ad b))]) hx hb dX1_tickOnce_24 hl (k := 1) rfl (w_inc _ _) (by decide) rfl (fun ls hl => ?_)
        refine lv_goto (tgt := 2) hx hb dX1_tickOnce_27 (by decide) ?_
        refine ih_i σ_56 _ _ _ (lv_sub hl [1, 0] rfl) ⟨hP, by rw [← gone_go h50]; exact hR_58, hF_60⟩ hS
  · intro σ2 ls H locs hl hW hS
    have hl : lv_has ls 2 [(0, .ref (ad b)), (1, .int (nI (nM h)))] := hl
    obtain ⟨hP, hR2, hF2⟩ := hW
    refine lv_iload_n hx hb dX1_tickOnce_2 rfl (lv_at hl 1 rfl) ?_
    refine lv_aload_n hx hb dX1_tickOnce_3 rfl (lv_at hl 0 rfl) ?_
    refine hg_H_many C hP hH dX1_tickOnce_4 ?_
    refine w_eqi (rc0 hR2 0 (by decide)) ?_
    refine w_eqi ((goS_oth (by decide) (by decide)).trans hB.many) ?_
    refine w_icmpN_ge (tgt := 30) hx hb dX1_tickOnce_7 (by decide) (by omega) (by omega) (fun c_61 => ?_) (fun c_61 => ?_)
    · refine lv_aload_n hx hb dX1_tickOnce_30 rfl (lv_at hl 0 rfl) ?_
      refine lv_dup hx hb dX1_tickOnce_31 rfl ?_
      refine hg_H_times C hP hH dX1_tickOnce_32 ?_
      refine w_eqi (rc0 hR2 14 (by decide)) ?_
      refine lv_iconst (v := 1) hx hb dX1_tickOnce_35 (by decide) ?_
      refine lv_iadd hx hb dX1_tickOnce_36 ?_
      refine hp_H_times C hP hS hH dX1_tickOnce_37 (fun H locs hP hS => ?_)
      obtain ⟨σ_62, eσ_63⟩ : ∃ y9, y9 = mset σ2 b 14 (((goS h (nM h)) 0 14) + 1) := ⟨_, rfl⟩
      rw [← eσ_63] at hP
      have hR_64 : Rc σ_62 b (mset (goS h (nM h)) 0 14 (((goS h (nM h)) 0 14) + 1)) := by rw [eσ_63]; exact hR2.up0 14 (((goS h (nM h)) 0 14) + 1)
      have hF_65 : ∀ j9, (j9 < b ∨ b + 10 < j9) → σ_62 j9 = σ j9 := fun j9 hj9 => ((congrFun eσ_63 j9).trans (mset_oth (by omega))).trans (hF2 j9 hj9)
      have hR3 : Rc σ_62 b (tmS (goS h (nM h))) := hR_64
      refine lv_aload_n hx hb dX1_tickOnce_40 rfl (lv_at hl 0 rfl) ?_
      refine c_cM [] C hml hl.1 hP hS (c_recvH C hP hH) (mX1_ring l D T ad n σ_62 b (tmS (goS h (nM h))) hH hR3 (HB_tg hB)) (lw_V q671 q673 qs29 q70 q674) hdX1_ring ⟨rfl, rfl⟩ ⟨Nat.le_of_ble_eq_true rfl, Nat.le_of_ble_eq_true rfl⟩ rfl (Nat.le_of_ble_eq_true rfl) dX1_tickOnce_41 ⟨Nat.zero_le _, Nat.zero_le _⟩ (fun v_66 σ_67 H locs hp_68 hP hS => ?_)
      obtain ⟨rfl, hR_69, hF_70⟩ := hp_68
      have hF_71 : ∀ j9, (j9 < b ∨ b + 10 < j9) → σ_67 j9 = σ j9 := fun j9 hj9 => (hF_70 j9 (by omega)).trans (hF_65 j9 hj9)
      exact cM_retI C hlk hr hS hP dX1_tickOnce_44 ⟨by rw [tick_nw], by rw [show tickS h = rgS (tmS (goS h (nM h))) (nA (tmS (goS h (nM h)))) by rw [nA_tm]; rfl]; exact hR_69, hF_71⟩
    · exact absurd c_61 (by omega)

theorem Rc.cpy {σ : Nat → Nat → Int32} {b b2 : Nat} {h h2 : Vw} (hR : Rc σ b h) (hR2 : Rc σ b2 h2) {r nn : Nat} : Rc (va_up σ (b + r) (fun i => if i < nn then σ (b2 + r) i else σ (b + r) i)) b (va_up h r (fun i => if i < nn then h2 r i else h r i)) := by
  intro g d hg
  by_cases e : g = r
  · subst e
    rw [va_up_self, va_up_self]
    show (if d < nn then σ (b2 + g) d else σ (b + g) d) = _
    rw [hR g d hg, hR2 g d hg]
  · rw [va_up_ne _ _ (by omega), va_up_ne _ _ e]
    exact hR g d hg
theorem Rc.offr {σ : Nat → Nat → Int32} {b : Nat} {h : Vw} (hR : Rc σ b h) {j : Nat} {g : Nat → Int32} (hj : j < b ∨ b + 10 < j) : Rc (va_up σ j g) b h := by
  intro f d hg
  have := vd_le hg
  rw [va_up_ne _ _ (by omega)]
  exact hR f d hg
theorem hdX1_become : yX1_become.cls = "LiarClocks$House" ∧ yX1_become.cls ≠ "java/lang/invoke/MethodHandle" ∧ yX1_become.cls ≠ "java/lang/invoke/VarHandle" ∧ (parseMethodDescriptor yX1_become.desc).map (fun d => d.parameters.length) = some 1 := by decide +kernel
set_option maxHeartbeats 4000000 in
/-- become -/
theorem mX1_become (l : Launch) (D : va_G) (T : Nat → ClassId) (ad : Nat → Nat) (n : Nat) (σ : Nat → Nat → Int32) (b : Nat) (h : Vw) (hH : isH n b) (hR : Rc σ b h) (b2 : Nat) (h2 : Vw) (hH2 : isH n b2) (hR2 : Rc σ b2 h2) (hB2 : HB h2) (hne : b + 10 < b2 ∨ b2 + 10 < b) : ∀ sz, Met l yX1_become (ws_ yX1_become cX1_become 2 none) ({ frames := 1, cells := 0, slots := 0, locals := 30 } : Room) (cPs D T ad n σ [.ref (ad b), .ref (ad b2)] sz) (cQ D T ad n (fun r σ' => r = none ∧ Rc σ' b h2 ∧ ∀ j, (j < b ∨ b + 10 < j) → σ' j = σ j)) 0 0 (gA n ad sz) := by
  refine cM_intro (own := "LiarClocks$House") [.ref (ad b), .ref (ad b2)] (by decide) rfl (Nat.le_of_ble_eq_true rfl) ?_
  intro pg en s0 mi below meth cd ls C hr hlk hml hP hS hl
  have hx := C.1
  have hb := C.2.1
  have hown := C.2.2.1
  have hts := C.2.2.2.1
  have hl : lv_has ls 2 [(0, .ref (ad b)), (1, .ref (ad b2))] := hl
  have hF_72 : ∀ j9, (j9 < b ∨ b + 10 < j9) → σ j9 = σ j9 := fun _ _ => rfl
  refine lv_aload_n hx hb dX1_become_0 rfl (lv_at hl 0 rfl) ?_
  refine lv_aload_n hx hb dX1_become_1 rfl (lv_at hl 1 rfl) ?_
  refine hg_H_many C hP hH2 dX1_become_2 ?_
  refine w_eqi (rc0 hR2 0 (by decide)) ?_
  refine hp_H_many C hP hS hH dX1_become_5 (fun H locs hP hS => ?_)
  obtain ⟨σ_73, eσ_74⟩ : ∃ y9, y9 = mset σ b 0 (h2 0 0) := ⟨_, rfl⟩
  rw [← eσ_74] at hP
  have hR_75 : Rc σ_73 b (mset h 0 0 (h2 0 0)) := by rw [eσ_74]; exact hR.up0 0 (h2 0 0)
  have hR_76 : Rc σ_73 b2 h2 := by rw [eσ_74]; exact hR2.off (by omega)
  have hF_77 : ∀ j9, (j9 < b ∨ b + 10 < j9) → σ_73 j9 = σ j9 := fun j9 hj9 => ((congrFun eσ_74 j9).trans (mset_oth (by omega))).trans (hF_72 j9 hj9)
  refine lv_aload_n hx hb dX1_become_8 rfl (lv_at hl 0 rfl) ?_
  refine lv_aload_n hx hb dX1_become_9 rfl (lv_at hl 1 rfl) ?_
  refine hg_H_strike C hP hH2 dX1_become_10 ?_
  refine w_eqi (rc0 hR_76 1 (by decide)) ?_
  refine hp_H_strike C hP hS hH dX1_become_13 (fun H locs hP hS => ?_)
  obtain ⟨σ_78, eσ_79⟩ : ∃ y9, y9 = mset σ_73 b 1 (h2 0 1) := ⟨_, rfl⟩
  rw [← eσ_79] at hP
  have hR_80 : Rc σ_78 b (mset (mset h 0 0 (h2 0 0)) 0 1 (h2 0 1)) := by rw [eσ_79]; exact hR_75.up0 1 (h2 0 1)
  have hR_81 : Rc σ_78 b2 h2 := by rw [eσ_79]; exact hR_76.off (by omega)
  have hF_82 : ∀ j9, (j9 < b ∨ b + 10 < j9) → σ_78 j9 = σ j9 := fun j9 hj9 => ((congrFun eσ_79 j9).trans (mset_oth (by omega))).trans (hF_77 j9 hj9)
  refine lv_aload_n hx hb dX1_become_16 rfl (lv_at hl 0 rfl) ?_
  refine lv_aload_n hx hb dX1_become_17 rfl (lv_at hl 1 rfl) ?_
  refine hg_H_step C hP hH2 dX1_become_18 ?_
  refine w_eqi (rc0 hR_81 2 (by decide)) ?_
  refine hp_H_step C hP hS hH dX1_become_21 (fun H locs hP hS => ?_)
  obtain ⟨σ_83, eσ_84⟩ : ∃ y9, y9 = mset σ_78 b 2 (h2 0 2) := ⟨_, rfl⟩
  rw [← eσ_84] at hP
  have hR_85 : Rc σ_83 b (mset (mset (mset h 0 0 (h2 0 0)) 0 1 (h2 0 1)) 0 2 (h2 0 2)) := by rw [eσ_84]; exact hR_80.up0 2 (h2 0 2)
  have hR_86 : Rc σ_83 b2 h2 := by rw [eσ_84]; exact hR_81.off (by omega)
  have hF_87 : ∀ j9, (j9 < b ∨ b + 10 < j9) → σ_83 j9 = σ j9 := fun j9 hj9 => ((congrFun eσ_84 j9).trans (mset_oth (by omega))).trans (hF_82 j9 hj9)
  refine lv_aload_n hx hb dX1_become_24 rfl (lv_at hl 0 rfl) ?_
  refine lv_aload_n hx hb dX1_become_25 rfl (lv_at hl 1 rfl) ?_
  refine hg_H_alarms C hP hH2 dX1_become_26 ?_
  refine w_eqi (rc0 hR_86 10 (by decide)) ?_
  refine hp_H_alarms C hP hS hH dX1_become_29 (fun H locs hP hS => ?_)
  obtain ⟨σ_88, eσ_89⟩ : ∃ y9, y9 = mset σ_83 b 10 (h2 0 10) := ⟨_, rfl⟩
  rw [← eσ_89] at hP
  have hR_90 : Rc σ_88 b (mset (mset (mset (mset h 0 0 (h2 0 0)) 0 1 (h2 0 1)) 0 2 (h2 0 2)) 0 10 (h2 0 10)) := by rw [eσ_89]; exact hR_85.up0 10 (h2 0 10)
  have hR_91 : Rc σ_88 b2 h2 := by rw [eσ_89]; exact hR_86.off (by omega)
  have hF_92 : ∀ j9, (j9 < b ∨ b + 10 < j9) → σ_88 j9 = σ j9 := fun j9 hj9 => ((congrFun eσ_89 j9).trans (mset_oth (by omega))).trans (hF_87 j9 hj9)
  refine lv_aload_n hx hb dX1_become_32 rfl (lv_at hl 0 rfl) ?_
  refine lv_aload_n hx hb dX1_become_33 rfl (lv_at hl 1 rfl) ?_
  refine hg_H_times C hP hH2 dX1_become_34 ?_
  refine w_eqi (rc0 hR_91 14 (by decide)) ?_
  refine hp_H_times C hP hS hH dX1_become_37 (fun H locs hP hS => ?_)
  obtain ⟨σ_93, eσ_94⟩ : ∃ y9, y9 = mset σ_88 b 14 (h2 0 14) := ⟨_, rfl⟩
  rw [← eσ_94] at hP
  have hR_95 : Rc σ_93 b (mset (mset (mset (mset (mset h 0 0 (h2 0 0)) 0 1 (h2 0 1)) 0 2 (h2 0 2)) 0 10 (h2 0 10)) 0 14 (h2 0 14)) := by rw [eσ_94]; exact hR_90.up0 14 (h2 0 14)
  have hR_96 : Rc σ_93 b2 h2 := by rw [eσ_94]; exact hR_91.off (by omega)
  have hF_97 : ∀ j9, (j9 < b ∨ b + 10 < j9) → σ_93 j9 = σ j9 := fun j9 hj9 => ((congrFun eσ_94 j9).trans (mset_oth (by omega))).trans (hF_92 j9 hj9)
  refine lv_aload_n hx hb dX1_become_40 rfl (lv_at hl 1 rfl) ?_
  refine hg_H_values C hP hH2 dX1_become_41 ?_
  refine lv_iconst (v := nI 0) hx hb dX1_become_44 (by decide) ?_
  refine lv_aload_n hx hb dX1_become_45 rfl (lv_at hl 0 rfl) ?_
  refine hg_H_values C hP hH dX1_become_46 ?_
  refine lv_iconst (v := nI 0) hx hb dX1_become_49 (by decide) ?_
  refine lv_bipush (v := nI 8) hx hb dX1_become_50 (by decide) ?_
  obtain ⟨h_98, eh_99⟩ : ∃ y9 : Vw, y9 = (mset (mset (mset (mset (mset h 0 0 (h2 0 0)) 0 1 (h2 0 1)) 0 2 (h2 0 2)) 0 10 (h2 0 10)) 0 14 (h2 0 14)) := ⟨_, rfl⟩
  rw [← eh_99] at hR_95
  refine c_copy (ty := .int) C hP hS (hml.trans hl.1.symm) q400 q402 q401 q81 (arH1 hH2) (arH1 hH) rfl rfl (by omega) (fun i _ => rfl) (Nat.le_of_ble_eq_true rfl) (Nat.le_of_ble_eq_true rfl) dX1_become_52 (fun H locs hP hS => ?_)
  obtain ⟨σ_100, eσ_101⟩ : ∃ y9, y9 = va_up σ_93 (b + 1) (fun i => if i < 8 then σ_93 (b2 + 1) i else σ_93 (b + 1) i) := ⟨_, rfl⟩
  rw [← eσ_101] at hP
  obtain ⟨h_104, eh_105⟩ : ∃ y9 : Vw, y9 = (va_up h_98 1 (fun i => if i < 8 then h2 1 i else h_98 1 i)) := ⟨_, rfl⟩
  have hR_102 : Rc σ_100 b h_104 := by rw [eσ_101, eh_105]; exact hR_95.cpy hR_96
  have hR_103 : Rc σ_100 b2 h2 := by rw [eσ_101]; exact hR_96.offr (by omega)
  have hF_106 : ∀ j9, (j9 < b ∨ b + 10 < j9) → σ_100 j9 = σ j9 := fun j9 hj9 => ((congrFun eσ_101 j9).trans (va_up_ne _ _ (by omega))).trans (hF_97 j9 hj9)
  refine lv_aload_n hx hb dX1_become_55 rfl (lv_at hl 1 rfl) ?_
  refine hg_H_rates C hP hH2 dX1_become_56 ?_
  refine lv_iconst (v := nI 0) hx hb dX1_become_59 (by decide) ?_
  refine lv_aload_n hx hb dX1_become_60 rfl (lv_at hl 0 rfl) ?_
  refine hg_H_rates C hP hH dX1_become_61 ?_
  refine lv_iconst (v := nI 0) hx hb dX1_become_64 (by decide) ?_
  refine lv_bipush (v := nI 8) hx hb dX1_become_65 (by decide) ?_
  refine c_copy (ty := .int) C hP hS (hml.trans hl.1.symm) q400 q402 q401 q81 (arH2 hH2) (arH2 hH) rfl rfl (by omega) (fun i _ => rfl) (Nat.le_of_ble_eq_true rfl) (Nat.le_of_ble_eq_true rfl) dX1_become_67 (fun H locs hP hS => ?_)
  obtain ⟨σ_107, eσ_108⟩ : ∃ y9, y9 = va_up σ_100 (b + 2) (fun i => if i < 8 then σ_100 (b2 + 2) i else σ_100 (b + 2) i) := ⟨_, rfl⟩
  rw [← eσ_108] at hP
  obtain ⟨h_111, eh_112⟩ : ∃ y9 : Vw, y9 = (va_up h_104 2 (fun i => if i < 8 then h2 2 i else h_104 2 i)) := ⟨_, rfl⟩
  have hR_109 : Rc σ_107 b h_111 := by rw [eσ_108, eh_112]; exact hR_102.cpy hR_103
  have hR_110 : Rc σ_107 b2 h2 := by rw [eσ_108]; exact hR_103.offr (by omega)
  have hF_113 : ∀ j9, (j9 < b ∨ b + 10 < j9) → σ_107 j9 = σ j9 := fun j9 hj9 => ((congrFun eσ_108 j9).trans (va_up_ne _ _ (by omega))).trans (hF_106 j9 hj9)
  refine lv_aload_n hx hb dX1_become_70 rfl (lv_at hl 1 rfl) ?_
  refine hg_H_ahead C hP hH2 dX1_become_71 ?_
  refine lv_iconst (v := nI 0) hx hb dX1_become_74 (by decide) ?_
  refine lv_aload_n hx hb dX1_become_75 rfl (lv_at hl 0 rfl) ?_
  refine hg_H_ahead C hP hH dX1_become_76 ?_
  refine lv_iconst (v := nI 0) hx hb dX1_become_79 (by decide) ?_
  refine lv_bipush (v := nI 8) hx hb dX1_become_80 (by decide) ?_
  refine c_copy (ty := .int) C hP hS (hml.trans hl.1.symm) q400 q402 q401 q81 (arH3 hH2) (arH3 hH) rfl rfl (by omega) (fun i _ => rfl) (Nat.le_of_ble_eq_true rfl) (Nat.le_of_ble_eq_true rfl) dX1_become_82 (fun H locs hP hS => ?_)
  obtain ⟨σ_114, eσ_115⟩ : ∃ y9, y9 = va_up σ_107 (b + 3) (fun i => if i < 8 then σ_107 (b2 + 3) i else σ_107 (b + 3) i) := ⟨_, rfl⟩
  rw [← eσ_115] at hP
  obtain ⟨h_118, eh_119⟩ : ∃ y9 : Vw, y9 = (va_up h_111 3 (fun i => if i < 8 then h2 3 i else h_111 3 i)) := ⟨_, rfl⟩
  have hR_116 : Rc σ_114 b h_118 := by rw [eσ_115, eh_119]; exact hR_109.cpy hR_110
  have hR_117 : Rc σ_114 b2 h2 := by rw [eσ_115]; exact hR_110.offr (by omega)
  have hF_120 : ∀ j9, (j9 < b ∨ b + 10 < j9) → σ_114 j9 = σ j9 := fun j9 hj9 => ((congrFun eσ_115 j9).trans (va_up_ne _ _ (by omega))).trans (hF_113 j9 hj9)
  refine lv_aload_n hx hb dX1_become_85 rfl (lv_at hl 1 rfl) ?_
  refine hg_H_lies C hP hH2 dX1_become_86 ?_
  refine lv_iconst (v := nI 0) hx hb dX1_become_89 (by decide) ?_
  refine lv_aload_n hx hb dX1_become_90 rfl (lv_at hl 0 rfl) ?_
  refine hg_H_lies C hP hH dX1_become_91 ?_
  refine lv_iconst (v := nI 0) hx hb dX1_become_94 (by decide) ?_
  refine lv_bipush (v := nI 8) hx hb dX1_become_95 (by decide) ?_
  refine c_copy (ty := .boolean) C hP hS (hml.trans hl.1.symm) q400 q402 q401 q81 (arH4 hH2) (arH4 hH) rfl rfl (by omega) (fun i hi => by rw [rcA hR_117 4 i (by unfold vd; omega)]; exact fZ (hB2.lies (by omega))) (Nat.le_of_ble_eq_true rfl) (Nat.le_of_ble_eq_true rfl) dX1_become_97 (fun H locs hP hS => ?_)
  obtain ⟨σ_121, eσ_122⟩ : ∃ y9, y9 = va_up σ_114 (b + 4) (fun i => if i < 8 then σ_114 (b2 + 4) i else σ_114 (b + 4) i) := ⟨_, rfl⟩
  rw [← eσ_122] at hP
  obtain ⟨h_125, eh_126⟩ : ∃ y9 : Vw, y9 = (va_up h_118 4 (fun i => if i < 8 then h2 4 i else h_118 4 i)) := ⟨_, rfl⟩
  have hR_123 : Rc σ_121 b h_125 := by rw [eσ_122, eh_126]; exact hR_116.cpy hR_117
  have hR_124 : Rc σ_121 b2 h2 := by rw [eσ_122]; exact hR_117.offr (by omega)
  have hF_127 : ∀ j9, (j9 < b ∨ b + 10 < j9) → σ_121 j9 = σ j9 := fun j9 hj9 => ((congrFun eσ_122 j9).trans (va_up_ne _ _ (by omega))).trans (hF_120 j9 hj9)
  refine lv_aload_n hx hb dX1_become_100 rfl (lv_at hl 1 rfl) ?_
  refine hg_H_stands C hP hH2 dX1_become_101 ?_
  refine lv_iconst (v := nI 0) hx hb dX1_become_104 (by decide) ?_
  refine lv_aload_n hx hb dX1_become_105 rfl (lv_at hl 0 rfl) ?_
  refine hg_H_stands C hP hH dX1_become_106 ?_
  refine lv_iconst (v := nI 0) hx hb dX1_become_109 (by decide) ?_
  refine lv_bipush (v := nI 8) hx hb dX1_become_110 (by decide) ?_
  refine c_copy (ty := .boolean) C hP hS (hml.trans hl.1.symm) q400 q402 q401 q81 (arH5 hH2) (arH5 hH) rfl rfl (by omega) (fun i hi => by rw [rcA hR_124 5 i (by unfold vd; omega)]; exact fZ (hB2.stands (by omega))) (Nat.le_of_ble_eq_true rfl) (Nat.le_of_ble_eq_true rfl) dX1_become_112 (fun H locs hP hS => ?_)
  obtain ⟨σ_128, eσ_129⟩ : ∃ y9, y9 = va_up σ_121 (b + 5) (fun i => if i < 8 then σ_121 (b2 + 5) i else σ_121 (b + 5) i) := ⟨_, rfl⟩
  rw [← eσ_129] at hP
  obtain ⟨h_132, eh_133⟩ : ∃ y9 : Vw, y9 = (va_up h_125 5 (fun i => if i < 8 then h2 5 i else h_125 5 i)) := ⟨_, rfl⟩
  have hR_130 : Rc σ_128 b h_132 := by rw [eσ_129, eh_133]; exact hR_123.cpy hR_124
  have hR_131 : Rc σ_128 b2 h2 := by rw [eσ_129]; exact hR_124.offr (by omega)
  have hF_134 : ∀ j9, (j9 < b ∨ b + 10 < j9) → σ_128 j9 = σ j9 := fun j9 hj9 => ((congrFun eσ_129 j9).trans (va_up_ne _ _ (by omega))).trans (hF_127 j9 hj9)
  refine lv_aload_n hx hb dX1_become_115 rfl (lv_at hl 1 rfl) ?_
  refine hg_H_lie C hP hH2 dX1_become_116 ?_
  refine lv_iconst (v := nI 0) hx hb dX1_become_119 (by decide) ?_
  refine lv_aload_n hx hb dX1_become_120 rfl (lv_at hl 0 rfl) ?_
  refine hg_H_lie C hP hH dX1_become_121 ?_
  refine lv_iconst (v := nI 0) hx hb dX1_become_124 (by decide) ?_
  refine lv_bipush (v := nI 64) hx hb dX1_become_125 (by decide) ?_
  refine c_copy (ty := .int) C hP hS (hml.trans hl.1.symm) q400 q402 q401 q81 (arH6 hH2) (arH6 hH) rfl rfl (by omega) (fun i _ => rfl) (Nat.le_of_ble_eq_true rfl) (Nat.le_of_ble_eq_true rfl) dX1_become_127 (fun H locs hP hS => ?_)
  obtain ⟨σ_135, eσ_136⟩ : ∃ y9, y9 = va_up σ_128 (b + 6) (fun i => if i < 64 then σ_128 (b2 + 6) i else σ_128 (b + 6) i) := ⟨_, rfl⟩
  rw [← eσ_136] at hP
  obtain ⟨h_139, eh_140⟩ : ∃ y9 : Vw, y9 = (va_up h_132 6 (fun i => if i < 64 then h2 6 i else h_132 6 i)) := ⟨_, rfl⟩
  have hR_137 : Rc σ_135 b h_139 := by rw [eσ_136, eh_140]; exact hR_130.cpy hR_131
  have hR_138 : Rc σ_135 b2 h2 := by rw [eσ_136]; exact hR_131.offr (by omega)
  have hF_141 : ∀ j9, (j9 < b ∨ b + 10 < j9) → σ_135 j9 = σ j9 := fun j9 hj9 => ((congrFun eσ_136 j9).trans (va_up_ne _ _ (by omega))).trans (hF_134 j9 hj9)
  refine lv_aload_n hx hb dX1_become_130 rfl (lv_at hl 1 rfl) ?_
  refine hg_H_error C hP hH2 dX1_become_131 ?_
  refine lv_iconst (v := nI 0) hx hb dX1_become_134 (by decide) ?_
  refine lv_aload_n hx hb dX1_become_135 rfl (lv_at hl 0 rfl) ?_
  refine hg_H_error C hP hH dX1_become_136 ?_
  refine lv_iconst (v := nI 0) hx hb dX1_become_139 (by decide) ?_
  refine lv_bipush (v := nI 64) hx hb dX1_become_140 (by decide) ?_
  refine c_copy (ty := .int) C hP hS (hml.trans hl.1.symm) q400 q402 q401 q81 (arH7 hH2) (arH7 hH) rfl rfl (by omega) (fun i _ => rfl) (Nat.le_of_ble_eq_true rfl) (Nat.le_of_ble_eq_true rfl) dX1_become_142 (fun H locs hP hS => ?_)
  obtain ⟨σ_142, eσ_143⟩ : ∃ y9, y9 = va_up σ_135 (b + 7) (fun i => if i < 64 then σ_135 (b2 + 7) i else σ_135 (b + 7) i) := ⟨_, rfl⟩
  rw [← eσ_143] at hP
  obtain ⟨h_146, eh_147⟩ : ∃ y9 : Vw, y9 = (va_up h_139 7 (fun i => if i < 64 then h2 7 i else h_139 7 i)) := ⟨_, rfl⟩
  have hR_144 : Rc σ_142 b h_146 := by rw [eσ_143, eh_147]; exact hR_137.cpy hR_138
  have hR_145 : Rc σ_142 b2 h2 := by rw [eσ_143]; exact hR_138.offr (by omega)
  have hF_148 : ∀ j9, (j9 < b ∨ b + 10 < j9) → σ_142 j9 = σ j9 := fun j9 hj9 => ((congrFun eσ_143 j9).trans (va_up_ne _ _ (by omega))).trans (hF_141 j9 hj9)
  refine lv_aload_n hx hb dX1_become_145 rfl (lv_at hl 1 rfl) ?_
  refine hg_H_alarmOf C hP hH2 dX1_become_146 ?_
  refine lv_iconst (v := nI 0) hx hb dX1_become_149 (by decide) ?_
  refine lv_aload_n hx hb dX1_become_150 rfl (lv_at hl 0 rfl) ?_
  refine hg_H_alarmOf C hP hH dX1_become_151 ?_
  refine lv_iconst (v := nI 0) hx hb dX1_become_154 (by decide) ?_
  refine lv_bipush (v := nI 6) hx hb dX1_become_155 (by decide) ?_
  refine c_copy (ty := .int) C hP hS (hml.trans hl.1.symm) q400 q402 q401 q81 (arH8 hH2) (arH8 hH) rfl rfl (by omega) (fun i _ => rfl) (Nat.le_of_ble_eq_true rfl) (Nat.le_of_ble_eq_true rfl) dX1_become_157 (fun H locs hP hS => ?_)
  obtain ⟨σ_149, eσ_150⟩ : ∃ y9, y9 = va_up σ_142 (b + 8) (fun i => if i < 6 then σ_142 (b2 + 8) i else σ_142 (b + 8) i) := ⟨_, rfl⟩
  rw [← eσ_150] at hP
  obtain ⟨h_153, eh_154⟩ : ∃ y9 : Vw, y9 = (va_up h_146 8 (fun i => if i < 6 then h2 8 i else h_146 8 i)) := ⟨_, rfl⟩
  have hR_151 : Rc σ_149 b h_153 := by rw [eσ_150, eh_154]; exact hR_144.cpy hR_145
  have hR_152 : Rc σ_149 b2 h2 := by rw [eσ_150]; exact hR_145.offr (by omega)
  have hF_155 : ∀ j9, (j9 < b ∨ b + 10 < j9) → σ_149 j9 = σ j9 := fun j9 hj9 => ((congrFun eσ_150 j9).trans (va_up_ne _ _ (by omega))).trans (hF_148 j9 hj9)
  refine lv_aload_n hx hb dX1_become_160 rfl (lv_at hl 1 rfl) ?_
  refine hg_H_alarmAt C hP hH2 dX1_become_161 ?_
  refine lv_iconst (v := nI 0) hx hb dX1_become_164 (by decide) ?_
  refine lv_aload_n hx hb dX1_become_165 rfl (lv_at hl 0 rfl) ?_
  refine hg_H_alarmAt C hP hH dX1_become_166 ?_
  refine lv_iconst (v := nI 0) hx hb dX1_become_169 (by decide) ?_
  refine lv_bipush (v := nI 6) hx hb dX1_become_170 (by decide) ?_
  refine c_copy (ty := .int) C hP hS (hml.trans hl.1.symm) q400 q402 q401 q81 (arH9 hH2) (arH9 hH) rfl rfl (by omega) (fun i _ => rfl) (Nat.le_of_ble_eq_true rfl) (Nat.le_of_ble_eq_true rfl) dX1_become_172 (fun H locs hP hS => ?_)
  obtain ⟨σ_156, eσ_157⟩ : ∃ y9, y9 = va_up σ_149 (b + 9) (fun i => if i < 6 then σ_149 (b2 + 9) i else σ_149 (b + 9) i) := ⟨_, rfl⟩
  rw [← eσ_157] at hP
  obtain ⟨h_160, eh_161⟩ : ∃ y9 : Vw, y9 = (va_up h_153 9 (fun i => if i < 6 then h2 9 i else h_153 9 i)) := ⟨_, rfl⟩
  have hR_158 : Rc σ_156 b h_160 := by rw [eσ_157, eh_161]; exact hR_151.cpy hR_152
  have hR_159 : Rc σ_156 b2 h2 := by rw [eσ_157]; exact hR_152.offr (by omega)
  have hF_162 : ∀ j9, (j9 < b ∨ b + 10 < j9) → σ_156 j9 = σ j9 := fun j9 hj9 => ((congrFun eσ_157 j9).trans (va_up_ne _ _ (by omega))).trans (hF_155 j9 hj9)
  refine lv_aload_n hx hb dX1_become_175 rfl (lv_at hl 1 rfl) ?_
  refine hg_H_isRung C hP hH2 dX1_become_176 ?_
  refine lv_iconst (v := nI 0) hx hb dX1_become_179 (by decide) ?_
  refine lv_aload_n hx hb dX1_become_180 rfl (lv_at hl 0 rfl) ?_
  refine hg_H_isRung C hP hH dX1_become_181 ?_
  refine lv_iconst (v := nI 0) hx hb dX1_become_184 (by decide) ?_
  refine lv_bipush (v := nI 6) hx hb dX1_become_185 (by decide) ?_
  refine c_copy (ty := .boolean) C hP hS (hml.trans hl.1.symm) q400 q402 q401 q81 (arH10 hH2) (arH10 hH) rfl rfl (by omega) (fun i hi => by rw [rcA hR_159 10 i (by unfold vd; omega)]; exact fZ (hB2.rung (by omega))) (Nat.le_of_ble_eq_true rfl) (Nat.le_of_ble_eq_true rfl) dX1_become_187 (fun H locs hP hS => ?_)
  obtain ⟨σ_163, eσ_164⟩ : ∃ y9, y9 = va_up σ_156 (b + 10) (fun i => if i < 6 then σ_156 (b2 + 10) i else σ_156 (b + 10) i) := ⟨_, rfl⟩
  rw [← eσ_164] at hP
  obtain ⟨h_167, eh_168⟩ : ∃ y9 : Vw, y9 = (va_up h_160 10 (fun i => if i < 6 then h2 10 i else h_160 10 i)) := ⟨_, rfl⟩
  have hR_165 : Rc σ_163 b h_167 := by rw [eσ_164, eh_168]; exact hR_158.cpy hR_159
  have hR_166 : Rc σ_163 b2 h2 := by rw [eσ_164]; exact hR_159.offr (by omega)
  have hF_169 : ∀ j9, (j9 < b ∨ b + 10 < j9) → σ_163 j9 = σ j9 := fun j9 hj9 => ((congrFun eσ_164 j9).trans (va_up_ne _ _ (by omega))).trans (hF_162 j9 hj9)
  have hfin : Rc σ_163 b h2 := by
    refine hR_165.to (fun f c hv => ?_)
    unfold vd at hv
    have hf : f = 0 ∨ f = 1 ∨ f = 2 ∨ f = 3 ∨ f = 4 ∨ f = 5 ∨ f = 6 ∨ f = 7 ∨ f = 8 ∨ f = 9 ∨ f = 10 := by omega
    rcases hf with rfl | rfl | rfl | rfl | rfl | rfl | rfl | rfl | rfl | rfl | rfl
    · have hc : c = 0 ∨ c = 1 ∨ c = 2 ∨ c = 10 ∨ c = 14 := by omega
      simp only [eh_168, eh_161, eh_154, eh_147, eh_140, eh_133, eh_126, eh_119, eh_112, eh_105, eh_99]
      rcases hc with rfl | rfl | rfl | rfl | rfl <;> simp [va_up, mset, upd]
    all_goals
      simp only [eh_168, eh_161, eh_154, eh_147, eh_140, eh_133, eh_126, eh_119, eh_112, eh_105, eh_99]
      simp [va_up]
      omega
  exact cM_retV C hlk hr hS hP dX1_become_190 ⟨rfl, hfin, hF_169⟩

