/-! THE MODEL: the text is read -/
set_option maxRecDepth 100000
def TX (μ : Nat → Nat → Int32) (n : Nat) (tx : Nat → Nat) : Prop := μ 0 4 = nI n ∧ n ≤ 200 ∧ ∀ k, k < n → μ 2 k = nI (tx k) ∧ tx k < 256
theorem TX.to {μ μ' : Nat → Nat → Int32} {n : Nat} {tx : Nat → Nat} (h : TX μ n tx) (h0 : μ' 0 4 = μ 0 4) (h2 : μ' 2 = μ 2) : TX μ' n tx := ⟨by rw [h0]; exact h.1, h.2.1, fun k hk => by rw [h2]; exact h.2.2 k hk⟩
def FRm (μ μ' : Nat → Nat → Int32) : Prop := (∀ j, j ≠ 0 → j ≠ 1 → μ' j = μ j) ∧ (∀ k, k < 11 → μ' 0 k = μ 0 k) ∧ ∀ k, k < 3648 → μ' 1 k = μ 1 k
theorem FRm.rf {μ : Nat → Nat → Int32} : FRm μ μ := ⟨fun _ _ _ => rfl, fun _ _ => rfl, fun _ _ => rfl⟩
theorem FRm.tr {μ μ' μ'' : Nat → Nat → Int32} (h : FRm μ μ') (h' : FRm μ' μ'') : FRm μ μ'' := ⟨fun j a b => (h'.1 j a b).trans (h.1 j a b), fun k a => (h'.2.1 k a).trans (h.2.1 k a), fun k a => (h'.2.2 k a).trans (h.2.2 k a)⟩
theorem FRm.put {μ μ' μ'' : Nat → Nat → Int32} (h : FRm μ μ') {k : Nat} {v : Int32} (hk : 11 ≤ k) (e : μ'' = mset μ' 0 k v) : FRm μ μ'' := h.tr ⟨fun j a b => by rw [e, mset_oth a], fun q a => by rw [e, mset_ne (Or.inr (by omega))], fun q a => by rw [e, mset_oth (by decide)]⟩
theorem FRm.ast {μ μ' μ'' : Nat → Nat → Int32} (h : FRm μ μ') {k : Nat} {v : Int32} (hk : 3648 ≤ k) (e : μ'' = mset μ' 1 k v) : FRm μ μ'' := h.tr ⟨fun j a b => by rw [e, mset_oth b], fun q a => by rw [e, mset_oth (by decide)], fun q a => by rw [e, mset_ne (Or.inr (by omega))]⟩
theorem FRm.fld {μ μ' : Nat → Nat → Int32} (h1 : ∀ k, k < 11 → μ' 0 k = μ 0 k) (h2 : ∀ q, q ≠ 0 → μ' q = μ q) : FRm μ μ' := ⟨fun j a _ => h2 j a, h1, fun k _ => by rw [h2 1 (by decide)]⟩
theorem TX.fr {μ μ' : Nat → Nat → Int32} {n : Nat} {tx : Nat → Nat} (h : TX μ n tx) (f : FRm μ μ') : TX μ' n tx := h.to (f.2.1 4 (by decide)) (f.1 2 (by decide) (by decide))
def PRs (μ : Nat → Nat → Int32) (t : PS) : Prop := μ 0 11 = nI t.1 ∧ Rp (μ 1) 3648 t.2.1 ∧ μ 0 15 = bI t.2.2.1 ∧ μ 0 16 = bI t.2.2.2
/-- the end of a piece of reading: a fault, or the state -/
def WPm (res : PF ⊕ PS) (μ : Nat → Nat → Int32) : Prop := (∀ c p, res = .inl (c, p) → (1 ≤ c ∧ c ≤ 4) ∧ μ 0 12 = nI c ∧ μ 0 13 = nI p ∧ ∃ k, k ≤ 201 ∧ μ 0 11 = nI k) ∧ ∀ t, res = .inr t → μ 0 12 = nI 0 ∧ PRs μ t
theorem in_dg {tx : Nat → Nat} {j : Nat} (h : tx j < 256) : (decide (nI 48 ≤ nI (tx j)) && decide (nI (tx j) ≤ nI 57)) = dgB tx j := by
  unfold dgB
  simp only [nI_leI (show 48 < 2 ^ 31 by decide) (show tx j < 2 ^ 31 by omega), nI_leI (show tx j < 2 ^ 31 by omega) (show 57 < 2 ^ 31 by decide)]
theorem hdX2_fine : yX2_fine.cls = "LiarClocksModel" ∧ yX2_fine.cls ≠ "java/lang/invoke/MethodHandle" ∧ yX2_fine.cls ≠ "java/lang/invoke/VarHandle" ∧ (parseMethodDescriptor yX2_fine.desc).map (fun d => d.parameters.length) = some 0 := by decide +kernel
set_option maxHeartbeats 4000000 in
/-- fine -/
theorem mX2_fine (l : Launch) (D : va_G) (T : Nat → ClassId) (ad : Nat → Nat) (μ : Nat → Nat → Int32)  : Met l yX2_fine (ws_ yX2_fine cX2_fine 1 (some .boolean)) ({ frames := 0, cells := 0, slots := 0, locals := 0 } : Room) (mPc D T ad μ [.ref (ad 0)]) (QcRead (bI (decide (μ 0 12 = 0)))) 0 0 (fun _ => False) := by
  refine mR_intro [.ref (ad 0)] (by decide) rfl (Nat.le_of_ble_eq_true rfl) ?_
  intro pg en s0 mi below meth cd ls C hr hlk hml hP hl
  have hx := C.1
  have hb := C.2.1
  have hown := C.2.2.1
  have hts := C.2.2.2.1
  have hl : lv_has ls 1 [(0, .ref (ad 0))] := hl
  refine lv_aload_n hx hb dX2_fine_0 rfl (lv_at hl 0 rfl) ?_
  refine mg_wrong C hP dX2_fine_1 ?_
  refine lv_if_ne (tgt := 11) hx hb dX2_fine_4 (by decide) (fun c_467 => ?_) (fun c_467 => ?_)
  · refine lv_iconst (v := 0) hx hb dX2_fine_11 (by decide) ?_
    exact w_retZ hx hb hlk hr dX2_fine_12 (by rw [decide_eq_false c_467]; rfl)
  · refine lv_iconst (v := 1) hx hb dX2_fine_7 (by decide) ?_
    refine lv_goto (tgt := 12) hx hb dX2_fine_8 (by decide) ?_
    exact w_retZ hx hb hlk hr dX2_fine_12 (by rw [decide_eq_true c_467]; rfl)

theorem hdX2_fail : yX2_fail.cls = "LiarClocksModel" ∧ yX2_fail.cls ≠ "java/lang/invoke/MethodHandle" ∧ yX2_fail.cls ≠ "java/lang/invoke/VarHandle" ∧ (parseMethodDescriptor yX2_fail.desc).map (fun d => d.parameters.length) = some 2 := by decide +kernel
set_option maxHeartbeats 4000000 in
/-- fail -/
theorem mX2_fail (l : Launch) (D : va_G) (T : Nat → ClassId) (ad : Nat → Nat) (μ : Nat → Nat → Int32) (hw : μ 0 12 = 0) (x y : Int32) : ∀ sz, Met l yX2_fail (ws_ yX2_fail cX2_fail 3 none) ({ frames := 1, cells := 0, slots := 0, locals := 20 } : Room) (mPs D T ad μ [.ref (ad 0), .int x, .int y] sz) (mQ D T ad (fun r μ' => r = none ∧ μ' 0 12 = x ∧ μ' 0 13 = y ∧ (∀ k, k ≠ 12 → k ≠ 13 → μ' 0 k = μ 0 k) ∧ ∀ q, q ≠ 0 → μ' q = μ q)) 0 0 (gA 7 ad sz) := by
  refine mM_intro [.ref (ad 0), .int x, .int y] (by decide) rfl (Nat.le_of_ble_eq_true rfl) ?_
  intro pg en s0 mi below meth cd ls C hr hlk hml hP hS hl
  have hx := C.1
  have hb := C.2.1
  have hown := C.2.2.1
  have hts := C.2.2.2.1
  have hl : lv_has ls 3 [(0, .ref (ad 0)), (1, .int x), (2, .int y)] := hl
  refine lv_aload_n hx hb dX2_fail_0 rfl (lv_at hl 0 rfl) ?_
  refine m_cR [] C hml hl.1 hP (mX2_fine l D T ad μ) (lw_V q855 q857 qs35 q71 q858) hdX2_fine ⟨rfl, rfl⟩ ⟨Nat.le_of_ble_eq_true rfl, Nat.le_of_ble_eq_true rfl⟩ rfl (Nat.le_of_ble_eq_true rfl) dX2_fail_1 ⟨Nat.zero_le _, Nat.zero_le _⟩ ?_
  refine lv_if_eq (tgt := 17) hx hb dX2_fail_4 (by decide) (fun c_468 => ?_) (fun c_468 => ?_)
  · exact absurd hw (of_decide_eq_false (bI_eq0.mp c_468))
  · refine lv_aload_n hx hb dX2_fail_7 rfl (lv_at hl 0 rfl) ?_
    refine lv_iload_n hx hb dX2_fail_8 rfl (lv_at hl 1 rfl) ?_
    refine mp_wrong C hP hS dX2_fail_9 (fun H locs hP hS => ?_)
    obtain ⟨μ_469, eμ_470⟩ : ∃ y9, y9 = mset μ 0 12 x := ⟨_, rfl⟩
    rw [← eμ_470] at hP
    refine lv_aload_n hx hb dX2_fail_12 rfl (lv_at hl 0 rfl) ?_
    refine lv_iload_n hx hb dX2_fail_13 rfl (lv_at hl 2 rfl) ?_
    refine mp_place C hP hS dX2_fail_14 (fun H locs hP hS => ?_)
    obtain ⟨μ_471, eμ_472⟩ : ∃ y9, y9 = mset μ_469 0 13 y := ⟨_, rfl⟩
    rw [← eμ_472] at hP
    exact mM_retV C hlk hr hS hP dX2_fail_17 ⟨rfl, by rw [eμ_472, mset_ne (Or.inr (by decide)), eμ_470, mset_self], by rw [eμ_472, mset_self], fun k h1 h2 => by rw [eμ_472, mset_ne (Or.inr h2), eμ_470, mset_ne (Or.inr h1)], fun q hq => by rw [eμ_472, mset_oth hq, eμ_470, mset_oth hq]⟩

theorem hdX2_here : yX2_here.cls = "LiarClocksModel" ∧ yX2_here.cls ≠ "java/lang/invoke/MethodHandle" ∧ yX2_here.cls ≠ "java/lang/invoke/VarHandle" ∧ (parseMethodDescriptor yX2_here.desc).map (fun d => d.parameters.length) = some 0 := by decide +kernel
set_option maxHeartbeats 4000000 in
/-- here -/
theorem mX2_here (l : Launch) (D : va_G) (T : Nat → ClassId) (ad : Nat → Nat) (μ : Nat → Nat → Int32) (n : Nat) (tx : Nat → Nat) (hT : TX μ n tx) (k : Nat) (hk : μ 0 11 = nI k) (hk2 : k ≤ 201) : ∀ sz, Met l yX2_here (ws_ yX2_here cX2_here 1 (some .int)) ({ frames := 0, cells := 0, slots := 0, locals := 0 } : Room) (mPs D T ad μ [.ref (ad 0)] sz) (mQ D T ad (fun r μ' => r = some (.int (if runS (spB tx) n k < n then nI (tx (runS (spB tx) n k)) else nI 0)) ∧ μ' 0 11 = nI (runS (spB tx) n k) ∧ (∀ j, j ≠ 11 → μ' 0 j = μ 0 j) ∧ ∀ q, q ≠ 0 → μ' q = μ q)) 0 0 (gA 7 ad sz) := by
  refine mM_intro [.ref (ad 0)] (by decide) rfl (Nat.le_of_ble_eq_true rfl) ?_
  intro pg en s0 mi below meth cd ls C hr hlk hml hP hS hl
  have hx := C.1
  have hb := C.2.1
  have hown := C.2.2.1
  have hts := C.2.2.2.1
  have hl : lv_has ls 1 [(0, .ref (ad 0))] := hl
  obtain ⟨sk, esk⟩ : ∃ y, y = runS (spB tx) n k := ⟨_, rfl⟩
  rw [← esk]
  have g1 : k ≤ sk := by rw [esk]; exact run_ge
  have g2 : k ≤ n → sk ≤ n := fun h => by rw [esk]; exact run_le h
  have g3 : ¬ (sk < n ∧ spB tx sk = true) := by rw [esk]; exact run_end
  have hn := hT.2.1
  have g4 : sk ≤ 201 := by rw [esk]; exact run_max hk2 (by omega) (Or.inr hk2)
  refine w_upM (α := Nat → Nat → Int32) (sk - k) 0 1 (gA 7 ad s0.heap.size) s0.heap (fun i μ2 => [(0, .ref (ad 0))]) (fun i μ2 H => mW D T ad μ2 H ∧ μ2 0 11 = nI (k + i) ∧ (∀ j, j ≠ 11 → μ2 0 j = μ 0 j) ∧ ∀ q, q ≠ 0 → μ2 q = μ q) ?_ ?_ 0 (by omega) μ (lv_sub hl [0] rfl) ⟨hP, hk, fun _ _ => rfl, fun _ _ => rfl⟩ hS
  · intro i μ2 ls H locs hi_i hl hW hS ih_i
    have hl : lv_has ls 1 [(0, .ref (ad 0))] := hl
    obtain ⟨hP, hat, hf, ho⟩ := hW
    obtain ⟨q1, q2⟩ := run_in (p := spB tx) (n := n) (k := k) (j := k + i) (by omega) (by omega)
    have q3 : tx (k + i) = 32 := of_decide_eq_true q2
    refine lv_aload_n hx hb dX2_here_0 rfl (lv_at hl 0 rfl) ?_
    refine mg_at C hP dX2_here_1 ?_
    refine w_eqi (y := nI (k + i)) (hat) ?_
    refine lv_aload_n hx hb dX2_here_4 rfl (lv_at hl 0 rfl) ?_
    refine mg_size C hP dX2_here_5 ?_
    refine w_eqi (y := nI (n)) ((hf 4 (by decide)).trans hT.1) ?_
    refine w_icmpN_ge (tgt := 38) hx hb dX2_here_8 (by decide) (by omega) (by omega) (fun c_473 => ?_) (fun c_473 => ?_)
    · exact absurd c_473 (by omega)
    · refine lv_aload_n hx hb dX2_here_11 rfl (lv_at hl 0 rfl) ?_
      refine mg_text C hP dX2_here_12 ?_
      refine lv_aload_n hx hb dX2_here_15 rfl (lv_at hl 0 rfl) ?_
      refine mg_at C hP dX2_here_16 ?_
      refine w_eqi (y := nI (k + i)) (hat) ?_
      refine m_ald2 C hP (by omega) dX2_here_19 ?_
      refine w_eqi (y := nI (tx (k + i))) (by rw [ho 2 (by decide)]; exact (hT.2.2 _ (by omega)).1) ?_
      refine lv_bipush (v := nI 32) hx hb dX2_here_20 (by decide) ?_
      refine w_icmpN_ne (tgt := 38) hx hb dX2_here_22 (by decide) (by omega) (by omega) (fun c_474 => ?_) (fun c_474 => ?_)
      · exact absurd q3 c_474
      · refine lv_aload_n hx hb dX2_here_25 rfl (lv_at hl 0 rfl) ?_
        refine lv_dup hx hb dX2_here_26 rfl ?_
        refine mg_at C hP dX2_here_27 ?_
        refine w_eqi (y := nI (k + i)) (hat) ?_
        refine lv_iconst (v := nI 1) hx hb dX2_here_30 (by decide) ?_
        refine w_iaddN hx hb dX2_here_31 ?_
        refine mp_at C hP hS dX2_here_32 (fun H locs hP hS => ?_)
        obtain ⟨μ_475, eμ_476⟩ : ∃ y9, y9 = mset μ2 0 11 (nI (k + i + 1)) := ⟨_, rfl⟩
        rw [← eμ_476] at hP
        refine lv_goto (tgt := 0) hx hb dX2_here_35 (by decide) ?_
        exact ih_i μ_475 _ _ _ (lv_sub hl [0] rfl) ⟨hP, by rw [eμ_476, mset_self]; rfl, fun j hj => by rw [eμ_476, mset_ne (Or.inr hj)]; exact hf j hj, fun q hq => by rw [eμ_476, mset_oth hq]; exact ho q hq⟩ hS
  · intro μ2 ls H locs hl hW hS
    have hl : lv_has ls 1 [(0, .ref (ad 0))] := hl
    obtain ⟨hP, hat, hf, ho⟩ := hW
    have eks : k + (sk - k) = sk := by omega
    rw [eks] at hat
    refine lv_aload_n hx hb dX2_here_0 rfl (lv_at hl 0 rfl) ?_
    refine mg_at C hP dX2_here_1 ?_
    refine w_eqi (y := nI (sk)) (hat) ?_
    refine lv_aload_n hx hb dX2_here_4 rfl (lv_at hl 0 rfl) ?_
    refine mg_size C hP dX2_here_5 ?_
    refine w_eqi (y := nI (n)) ((hf 4 (by decide)).trans hT.1) ?_
    refine w_icmpN_ge (tgt := 38) hx hb dX2_here_8 (by decide) (by omega) (by omega) (fun c_477 => ?_) (fun c_477 => ?_)
    · refine lv_aload_n hx hb dX2_here_38 rfl (lv_at hl 0 rfl) ?_
      refine mg_at C hP dX2_here_39 ?_
      refine w_eqi (y := nI (sk)) (hat) ?_
      refine lv_aload_n hx hb dX2_here_42 rfl (lv_at hl 0 rfl) ?_
      refine mg_size C hP dX2_here_43 ?_
      refine w_eqi (y := nI (n)) ((hf 4 (by decide)).trans hT.1) ?_
      refine w_icmpN_ge (tgt := 61) hx hb dX2_here_46 (by decide) (by omega) (by omega) (fun c_478 => ?_) (fun c_478 => ?_)
      · refine lv_iconst (v := nI 0) hx hb dX2_here_61 (by decide) ?_
        exact mM_retI C hlk hr hS hP dX2_here_62 ⟨by rw [if_neg (by omega)], hat, hf, ho⟩
      · exact absurd c_478 (by omega)
    · have hb1 := (hT.2.2 sk (by omega)).2
      refine lv_aload_n hx hb dX2_here_11 rfl (lv_at hl 0 rfl) ?_
      refine mg_text C hP dX2_here_12 ?_
      refine lv_aload_n hx hb dX2_here_15 rfl (lv_at hl 0 rfl) ?_
      refine mg_at C hP dX2_here_16 ?_
      refine w_eqi (y := nI (sk)) (hat) ?_
      refine m_ald2 C hP (by omega) dX2_here_19 ?_
      refine w_eqi (y := nI (tx (sk))) (by rw [ho 2 (by decide)]; exact (hT.2.2 _ (by omega)).1) ?_
      refine lv_bipush (v := nI 32) hx hb dX2_here_20 (by decide) ?_
      refine w_icmpN_ne (tgt := 38) hx hb dX2_here_22 (by decide) (by omega) (by omega) (fun c_479 => ?_) (fun c_479 => ?_)
      · refine lv_aload_n hx hb dX2_here_38 rfl (lv_at hl 0 rfl) ?_
        refine mg_at C hP dX2_here_39 ?_
        refine w_eqi (y := nI (sk)) (hat) ?_
        refine lv_aload_n hx hb dX2_here_42 rfl (lv_at hl 0 rfl) ?_
        refine mg_size C hP dX2_here_43 ?_
        refine w_eqi (y := nI (n)) ((hf 4 (by decide)).trans hT.1) ?_
        refine w_icmpN_ge (tgt := 61) hx hb dX2_here_46 (by decide) (by omega) (by omega) (fun c_480 => ?_) (fun c_480 => ?_)
        · exact absurd c_480 (by omega)
        · refine lv_aload_n hx hb dX2_here_49 rfl (lv_at hl 0 rfl) ?_
          refine mg_text C hP dX2_here_50 ?_
          refine lv_aload_n hx hb dX2_here_53 rfl (lv_at hl 0 rfl) ?_
          refine mg_at C hP dX2_here_54 ?_
          refine w_eqi (y := nI (sk)) (hat) ?_
          refine m_ald2 C hP (by omega) dX2_here_57 ?_
          refine w_eqi (y := nI (tx (sk))) (by rw [ho 2 (by decide)]; exact (hT.2.2 _ (by omega)).1) ?_
          refine lv_goto (tgt := 62) hx hb dX2_here_58 (by decide) ?_
          exact mM_retI C hlk hr hS hP dX2_here_62 ⟨by rw [if_pos (by omega)], hat, hf, ho⟩
      · exact absurd (show sk < n ∧ spB tx sk = true from ⟨by omega, decide_eq_true c_479⟩) g3

theorem hdX2_number : yX2_number.cls = "LiarClocksModel" ∧ yX2_number.cls ≠ "java/lang/invoke/MethodHandle" ∧ yX2_number.cls ≠ "java/lang/invoke/VarHandle" ∧ (parseMethodDescriptor yX2_number.desc).map (fun d => d.parameters.length) = some 2 := by decide +kernel
set_option maxHeartbeats 4000000 in
/-- number -/
theorem mX2_number (l : Launch) (D : va_G) (T : Nat → ClassId) (ad : Nat → Nat) (μ : Nat → Nat → Int32) (n : Nat) (tx : Nat → Nat) (hT : TX μ n tx) (k : Nat) (hk : μ 0 11 = nI k) (hkn : k ≤ n) (hw : μ 0 12 = 0) (lo hi : Int32) (li ui : Int) (hlo : lo.toInt = li) (hhi : hi.toInt = ui) : ∀ sz, Met l yX2_number (ws_ yX2_number cX2_number 5 (some .int)) ({ frames := 2, cells := 0, slots := 0, locals := 42 } : Room) (mPs D T ad μ [.ref (ad 0), .int lo, .int hi] sz) (mQ D T ad (fun r μ' => (∀ q, q ≠ 0 → μ' q = μ q) ∧ (∀ j, (j < 11 ∨ 14 < j) → μ' 0 j = μ 0 j) ∧ (∃ rv : Int32, r = some (.int rv)) ∧ μ' 0 11 = nI (runS (dgB tx) n (runS (spB tx) n k)) ∧ (∀ c p, numS n tx k li ui = .inl (c, p) → μ' 0 12 = nI c ∧ μ' 0 13 = nI p) ∧ ∀ v e, numS n tx k li ui = .inr (v, e) → r = some (.int (nI v)) ∧ μ' 0 12 = nI 0 ∧ μ' 0 11 = nI e ∧ μ' 0 14 = nI (runS (spB tx) n k))) 0 0 (gA 7 ad sz) := by
  refine mM_intro [.ref (ad 0), .int lo, .int hi] (by decide) rfl (Nat.le_of_ble_eq_true rfl) ?_
  intro pg en s0 mi below meth cd ls C hr hlk hml hP hS hl
  have hx := C.1
  have hb := C.2.1
  have hown := C.2.2.1
  have hts := C.2.2.2.1
  have hl : lv_has ls 5 [(0, .ref (ad 0)), (1, .int lo), (2, .int hi)] := hl
  have hn := hT.2.1
  refine lv_aload_n hx hb dX2_number_0 rfl (lv_at hl 0 rfl) ?_
  refine m_cR [] C hml hl.1 hP (mX2_fine l D T ad μ) (lw_V q855 q857 qs35 q71 q858) hdX2_fine ⟨rfl, rfl⟩ ⟨Nat.le_of_ble_eq_true rfl, Nat.le_of_ble_eq_true rfl⟩ rfl (Nat.le_of_ble_eq_true rfl) dX2_number_1 ⟨Nat.zero_le _, Nat.zero_le _⟩ ?_
  refine lv_if_ne (tgt := 9) hx hb dX2_number_4 (by decide) (fun c_481 => ?_) (fun c_481 => ?_)
  · refine lv_aload_n hx hb dX2_number_9 rfl (lv_at hl 0 rfl) ?_
    refine m_cM [] C hml hl.1 hP hS (mX2_here l D T ad μ n tx hT k hk (by omega)) (lw_V q851 q853 qs34 q71 q854) hdX2_here ⟨rfl, rfl⟩ ⟨Nat.le_of_ble_eq_true rfl, Nat.le_of_ble_eq_true rfl⟩ rfl (Nat.le_of_ble_eq_true rfl) dX2_number_10 ⟨Nat.zero_le _, Nat.zero_le _⟩ (fun v_482 μ_483 H locs hp_484 hP hS => ?_)
    obtain ⟨rfl, he_485a, he_485f, he_485o⟩ := hp_484
    refine w_eqi (y := nI (if runS (spB tx) n k < n then tx (runS (spB tx) n k) else 0)) (by split <;> rfl) ?_
    obtain ⟨fr, efr⟩ : ∃ y, y = runS (spB tx) n k := ⟨_, rfl⟩
    rw [← efr] at he_485a
    rw [← efr]
    have g1 : k ≤ fr := by rw [efr]; exact run_ge
    have g2 : fr ≤ n := by rw [efr]; exact run_le hkn
    obtain ⟨fst, efst⟩ : ∃ y, y = (if fr < n then tx fr else 0) := ⟨_, rfl⟩
    rw [← efst]
    obtain ⟨en, een⟩ : ∃ y, y = runS (dgB tx) n fr := ⟨_, rfl⟩
    have g3 : fr ≤ en := by rw [een]; exact run_ge
    have g4 : en ≤ n := by rw [een]; exact run_le g2
    have g5 : ¬ (en < n ∧ dgB tx en = true) := by rw [een]; exact run_end
    have hfst : fst < 256 := by
      rw [efst]; split
      · exact (hT.2.2 fr (by assumption)).2
      · omega
    refine lv_istore_n (lv' := [(3, .int (nI fst)), (0, .ref (ad 0)), (1, .int lo), (2, .int hi)]) hx hb dX2_number_13 rfl hl (by decide) rfl (fun ls hl => ?_)
    refine lv_aload_n hx hb dX2_number_14 rfl (lv_at hl 1 rfl) ?_
    refine lv_aload_n hx hb dX2_number_15 rfl (lv_at hl 1 rfl) ?_
    refine mg_at C hP dX2_number_16 ?_
    refine w_eqi (y := nI (fr)) (he_485a) ?_
    refine mp_from C hP hS dX2_number_19 (fun H locs hP hS => ?_)
    obtain ⟨μ_486, eμ_487⟩ : ∃ y9, y9 = mset μ_483 0 14 (nI (fr)) := ⟨_, rfl⟩
    rw [← eμ_487] at hP
    refine lv_iconst (v := nI 0) hx hb dX2_number_22 (by decide) ?_
    refine lv_istore (lv' := [(4, .int (nI 0)), (3, .int (nI fst)), (0, .ref (ad 0)), (1, .int lo), (2, .int hi)]) hx hb dX2_number_23 hl (by decide) rfl (fun ls hl => ?_)
    have hfrom : μ_486 0 14 = nI fr := by rw [eμ_487, mset_self]
    have hsz : μ_486 0 4 = nI n := by rw [eμ_487, mset_ne (Or.inr (by decide)), he_485f 4 (by decide)]; exact hT.1
    have ht2 : μ_486 2 = μ 2 := by rw [eμ_487, mset_oth (by decide), he_485o 2 (by decide)]
    have h12 : μ_486 0 12 = 0 := by rw [eμ_487, mset_ne (Or.inr (by decide)), he_485f 12 (by decide)]; exact hw
    have hq2 : ∀ q, q ≠ 0 → μ_486 q = μ q := fun q hq => by rw [eμ_487, mset_oth hq, he_485o q hq]
    have hj2 : ∀ j, (j < 11 ∨ 14 < j) → μ_486 0 j = μ 0 j := fun j hj => by rw [eμ_487, mset_ne (Or.inr (by omega)), he_485f j (by omega)]
    refine w_upM (α := Nat → Nat → Int32) (en - fr) 25 5 (gA 7 ad s0.heap.size) s0.heap (fun d μ3 => [(0, .ref (ad 0)), (1, .int lo), (2, .int hi), (3, .int (nI fst)), (4, .int (nI (dv tx fr (min d 4))))]) (fun d μ3 H => mW D T ad μ3 H ∧ μ3 0 11 = nI (fr + d) ∧ (∀ j, j ≠ 11 → μ3 0 j = μ_486 0 j) ∧ ∀ q, q ≠ 0 → μ3 q = μ_486 q) ?_ ?_ 0 (by omega) μ_486 (lv_sub hl [2, 3, 4, 1, 0] rfl) ⟨hP, by rw [eμ_487, mset_ne (Or.inr (by decide))]; exact he_485a, fun _ _ => rfl, fun _ _ => rfl⟩ hS
    · intro d μ3 ls H locs hi_d hl hW hS ih_d
      have hl : lv_has ls 5 [(0, .ref (ad 0)), (1, .int lo), (2, .int hi), (3, .int (nI fst)), (4, .int (nI (dv tx fr (min d 4))))] := hl
      obtain ⟨hP, hat, hf, ho⟩ := hW
      obtain ⟨q1, q2⟩ := run_in (p := dgB tx) (n := n) (k := fr) (j := fr + d) (by omega) (by omega)
      have q3 := q2
      unfold dgB at q3
      simp only [Bool.and_eq_true, decide_eq_true_eq] at q3
      have hdv : dv tx fr (min d 4) < 10000 := Nat.lt_of_lt_of_le (dv_lt tx fr (min d 4) (fun j hj => (run_in (p := dgB tx) (n := n) (k := fr) (j := fr + j) (by omega) (by omega)).2)) (Nat.le_trans (Nat.pow_le_pow_right (by decide) (show min d 4 ≤ 4 by omega)) (by decide))
      refine lv_aload_n hx hb dX2_number_25 rfl (lv_at hl 0 rfl) ?_
      refine mg_at C hP dX2_number_26 ?_
      refine w_eqi (y := nI (fr + d)) (hat) ?_
      refine lv_aload_n hx hb dX2_number_29 rfl (lv_at hl 0 rfl) ?_
      refine mg_size C hP dX2_number_30 ?_
      refine w_eqi (y := nI (n)) ((hf 4 (by decide)).trans hsz) ?_
      refine w_icmpN_ge (tgt := 106) hx hb dX2_number_33 (by decide) (by omega) (by omega) (fun c_488 => ?_) (fun c_488 => ?_)
      · exact absurd c_488 (by omega)
      · refine lv_aload_n hx hb dX2_number_36 rfl (lv_at hl 0 rfl) ?_
        refine mg_text C hP dX2_number_37 ?_
        refine lv_aload_n hx hb dX2_number_40 rfl (lv_at hl 0 rfl) ?_
        refine mg_at C hP dX2_number_41 ?_
        refine w_eqi (y := nI (fr + d)) (hat) ?_
        refine m_ald2 C hP (by omega) dX2_number_44 ?_
        refine w_eqi (y := nI (tx (fr + d))) (by rw [ho 2 (by decide), ht2]; exact (hT.2.2 _ (by omega)).1) ?_
        refine lv_bipush (v := nI 48) hx hb dX2_number_45 (by decide) ?_
        refine lv_bipush (v := nI 57) hx hb dX2_number_47 (by decide) ?_
        refine m_cS [.int (nI (tx (fr + d))), .int (nI 48), .int (nI 57)] C hml hl.1 (mX2_in l (nI (tx (fr + d))) (nI (48)) (nI (57))) (lw_S q842 q843 q71 q844) hdX2_in.2 ⟨rfl, rfl⟩ ⟨Nat.le_of_ble_eq_true rfl, Nat.le_of_ble_eq_true rfl⟩ rfl (Nat.le_of_ble_eq_true rfl) dX2_number_49 ⟨Nat.zero_le _, Nat.zero_le _⟩ ?_
        refine w_eqi (y := bI (dgB tx (fr + d))) (by rw [in_dg (by omega)]) ?_
        refine lv_if_eq (tgt := 106) hx hb dX2_number_52 (by decide) (fun c_489 => ?_) (fun c_489 => ?_)
        · exact absurd (q2.symm.trans (bI_eq0.mp c_489)) (by decide)
        · refine w_join (α := Int32) (fun v_490 => v_490 = nI (dv tx fr (min (d + 1) 4))) (fun v_490 => F0 mi 91 ls (.int v_490 :: [])) (fun v_490 hv_490 => ?_) (fun hJv_490 => ?_)
          · subst hv_490
            refine lv_istore (lv' := [(4, .int (nI (dv tx fr (min (d + 1) 4)))), (0, .ref (ad 0)), (1, .int lo), (2, .int hi), (3, .int (nI fst))]) hx hb dX2_number_91 hl (by decide) rfl (fun ls hl => ?_)
            refine lv_aload_n hx hb dX2_number_93 rfl (lv_at hl 1 rfl) ?_
            refine lv_dup hx hb dX2_number_94 rfl ?_
            refine mg_at C hP dX2_number_95 ?_
            refine w_eqi (y := nI (fr + d)) (hat) ?_
            refine lv_iconst (v := nI 1) hx hb dX2_number_98 (by decide) ?_
            refine w_iaddN hx hb dX2_number_99 ?_
            refine mp_at C hP hS dX2_number_100 (fun H locs hP hS => ?_)
            obtain ⟨μ_492, eμ_493⟩ : ∃ y9, y9 = mset μ3 0 11 (nI (fr + d + 1)) := ⟨_, rfl⟩
            rw [← eμ_493] at hP
            refine lv_goto (tgt := 25) hx hb dX2_number_103 (by decide) ?_
            exact ih_d μ_492 _ _ _ (lv_sub hl [1, 2, 3, 4, 0] rfl) ⟨hP, by rw [eμ_493, mset_self]; rfl, fun j hj => by rw [eμ_493, mset_ne (Or.inr hj)]; exact hf j hj, fun q hq => by rw [eμ_493, mset_oth hq]; exact ho q hq⟩ hS
          · refine lv_aload_n hx hb dX2_number_55 rfl (lv_at hl 0 rfl) ?_
            refine mg_at C hP dX2_number_56 ?_
            refine w_eqi (y := nI (fr + d)) (hat) ?_
            refine lv_aload_n hx hb dX2_number_59 rfl (lv_at hl 0 rfl) ?_
            refine mg_from C hP dX2_number_60 ?_
            refine w_eqi (y := nI (fr)) ((hf 14 (by decide)).trans hfrom) ?_
            refine w_isubN hx hb dX2_number_63 (by omega) ?_
            refine lv_iconst (v := nI 4) hx hb dX2_number_64 (by decide) ?_
            refine w_icmpN_ge (tgt := 89) hx hb dX2_number_65 (by decide) (by omega) (by omega) (fun c_491 => ?_) (fun c_491 => ?_)
            · refine lv_iload hx hb dX2_number_89 (lv_at hl 4 rfl) ?_
              exact hJv_490 _ (by rw [show min (d + 1) 4 = 4 by omega, show min d 4 = 4 by omega])
            · refine lv_bipush (v := nI 10) hx hb dX2_number_68 (by decide) ?_
              refine lv_iload hx hb dX2_number_70 (lv_at hl 4 rfl) ?_
              refine w_imulN hx hb dX2_number_72 ?_
              refine lv_aload_n hx hb dX2_number_73 rfl (lv_at hl 0 rfl) ?_
              refine mg_text C hP dX2_number_74 ?_
              refine lv_aload_n hx hb dX2_number_77 rfl (lv_at hl 0 rfl) ?_
              refine mg_at C hP dX2_number_78 ?_
              refine w_eqi (y := nI (fr + d)) (hat) ?_
              refine m_ald2 C hP (by omega) dX2_number_81 ?_
              refine w_eqi (y := nI (tx (fr + d))) (by rw [ho 2 (by decide), ht2]; exact (hT.2.2 _ (by omega)).1) ?_
              refine w_iaddN hx hb dX2_number_82 ?_
              refine lv_bipush (v := nI 48) hx hb dX2_number_83 (by decide) ?_
              refine w_isubN hx hb dX2_number_85 (by omega) ?_
              refine lv_goto (tgt := 91) hx hb dX2_number_86 (by decide) ?_
              exact hJv_490 _ (by rw [show min (d + 1) 4 = d + 1 by omega, show min d 4 = d by omega]; show nI _ = nI (10 * dv tx fr d + (tx (fr + d) - 48)); congr 1; omega)
    · intro μ3 ls H locs hl hW hS
      have hl : lv_has ls 5 [(0, .ref (ad 0)), (1, .int lo), (2, .int hi), (3, .int (nI fst)), (4, .int (nI (dv tx fr (min (en - fr) 4))))] := hl
      obtain ⟨hP, hat, hf, ho⟩ := hW
      have eks : fr + (en - fr) = en := by omega
      rw [eks] at hat
      have hdv : dv tx fr (min (en - fr) 4) < 10000 := Nat.lt_of_lt_of_le (dv_lt tx fr (min (en - fr) 4) (fun j hj => (run_in (p := dgB tx) (n := n) (k := fr) (j := fr + j) (by omega) (by omega)).2)) (Nat.le_trans (Nat.pow_le_pow_right (by decide) (show min (en - fr) 4 ≤ 4 by omega)) (by decide))
      have eN : numS n tx k li ui = if en = fr then .inl (1, fr) else if 4 < en - fr ∨ ¬ (li ≤ (dv tx fr (en - fr) : Int) ∧ (dv tx fr (en - fr) : Int) ≤ ui) then .inl (2, fr) else .inr (dv tx fr (en - fr), en) := by unfold numS; rw [← efr, ← een]
      have hq3 : ∀ q, q ≠ 0 → μ3 q = μ q := fun q hq => by rw [ho q hq, hq2 q hq]
      have hj3 : ∀ j, (j < 11 ∨ 14 < j) → μ3 0 j = μ 0 j := fun j hj => by rw [hf j (by omega), hj2 j hj]
      have hw3 : μ3 0 12 = 0 := by rw [hf 12 (by decide)]; exact h12
      have hfst2 : (decide (nI 48 ≤ nI fst) && decide (nI fst ≤ nI 57)) = decide (fr < en) := by
        have e0 := in_dg (tx := fun _ => fst) (j := 0) hfst
        rw [e0]
        by_cases hlt : fr < n
        · have ef : fst = tx fr := by rw [efst, if_pos hlt]
          by_cases hd : dgB tx fr = true
          · have : runS (dgB tx) n fr = runS (dgB tx) n (fr + 1) := run_go hlt hd
            have g := run_ge (p := dgB tx) (n := n) (k := fr + 1)
            rw [decide_eq_true (by omega)]
            unfold dgB at hd ⊢
            rw [ef]; exact hd
          · have : runS (dgB tx) n fr = fr := run_stop (fun q => hd q.2)
            rw [decide_eq_false (by omega)]
            unfold dgB at hd ⊢
            rw [ef]; exact Bool.eq_false_iff.mpr hd
        · have ef : fst = 0 := by rw [efst, if_neg hlt]
          rw [decide_eq_false (by omega), ef]
          rfl
      rw [← een]
      refine lv_aload_n hx hb dX2_number_25 rfl (lv_at hl 0 rfl) ?_
      refine mg_at C hP dX2_number_26 ?_
      refine w_eqi (y := nI (en)) (hat) ?_
      refine lv_aload_n hx hb dX2_number_29 rfl (lv_at hl 0 rfl) ?_
      refine mg_size C hP dX2_number_30 ?_
      refine w_eqi (y := nI (n)) ((hf 4 (by decide)).trans hsz) ?_
      refine w_icmpN_ge (tgt := 106) hx hb dX2_number_33 (by decide) (by omega) (by omega) (fun c_494 => ?_) (fun c_494 => ?_)
      · refine lv_iload_n hx hb dX2_number_106 rfl (lv_at hl 3 rfl) ?_
        refine lv_bipush (v := nI 48) hx hb dX2_number_107 (by decide) ?_
        refine lv_bipush (v := nI 57) hx hb dX2_number_109 (by decide) ?_
        refine m_cS [.int (nI fst), .int (nI 48), .int (nI 57)] C hml hl.1 (mX2_in l (nI (fst)) (nI (48)) (nI (57))) (lw_S q842 q843 q71 q844) hdX2_in.2 ⟨rfl, rfl⟩ ⟨Nat.le_of_ble_eq_true rfl, Nat.le_of_ble_eq_true rfl⟩ rfl (Nat.le_of_ble_eq_true rfl) dX2_number_111 ⟨Nat.zero_le _, Nat.zero_le _⟩ ?_
        refine w_eqi (y := bI (decide (fr < en))) (by rw [hfst2]) ?_
        refine lv_if_ne (tgt := 129) hx hb dX2_number_114 (by decide) (fun c_495 => ?_) (fun c_495 => ?_)
        · have hef : ¬ en = fr := by have := of_decide_eq_true (bI_ne0.mp c_495); omega
          refine lv_aload_n hx hb dX2_number_129 rfl (lv_at hl 0 rfl) ?_
          refine mg_at C hP dX2_number_130 ?_
          refine w_eqi (y := nI (en)) (hat) ?_
          refine lv_aload_n hx hb dX2_number_133 rfl (lv_at hl 0 rfl) ?_
          refine mg_from C hP dX2_number_134 ?_
          refine w_eqi (y := nI (fr)) ((hf 14 (by decide)).trans hfrom) ?_
          refine w_isubN hx hb dX2_number_137 (by omega) ?_
          refine lv_iconst (v := nI 4) hx hb dX2_number_138 (by decide) ?_
          refine w_icmpN_gt (tgt := 152) hx hb dX2_number_139 (by decide) (by omega) (by omega) (fun c_500 => ?_) (fun c_500 => ?_)
          · refine lv_aload_n hx hb dX2_number_152 rfl (lv_at hl 0 rfl) ?_
            refine lv_iconst (v := nI 2) hx hb dX2_number_153 (by decide) ?_
            refine lv_aload_n hx hb dX2_number_154 rfl (lv_at hl 0 rfl) ?_
            refine mg_from C hP dX2_number_155 ?_
            refine w_eqi (y := nI (fr)) ((hf 14 (by decide)).trans hfrom) ?_
            refine m_cM [.int (nI 2), .int (nI fr)] C hml hl.1 hP hS (mX2_fail l D T ad μ3 hw3 (nI (2)) (nI (fr))) (lw_V q867 q869 qs38 q71 q870) hdX2_fail ⟨rfl, rfl⟩ ⟨Nat.le_of_ble_eq_true rfl, Nat.le_of_ble_eq_true rfl⟩ rfl (Nat.le_of_ble_eq_true rfl) dX2_number_158 ⟨Nat.zero_le _, Nat.zero_le _⟩ (fun v_501 μ_502 H locs hp_503 hP hS => ?_)
            obtain ⟨rfl, fl_504a, fl_504b, fl_504c, fl_504d⟩ := hp_503
            refine lv_iload hx hb dX2_number_161 (lv_at hl 4 rfl) ?_
            exact mM_retI C hlk hr hS hP dX2_number_163 ⟨fun q hq => by rw [fl_504d q hq, hq3 q hq], fun j hj => by rw [fl_504c j (by omega) (by omega), hj3 j hj], ⟨_, rfl⟩, by rw [fl_504c 11 (by decide) (by decide)]; exact hat, fun c p hcp => by rw [eN, if_neg hef, if_pos (Or.inl c_500)] at hcp; have z := Sum.inl.inj hcp; have z1 := congrArg Prod.fst z; have z2 := congrArg Prod.snd z; dsimp only at z1 z2; subst z1; subst z2; exact ⟨fl_504a, fl_504b⟩, fun v e hve => by rw [eN, if_neg hef, if_pos (Or.inl c_500)] at hve; cases hve⟩
          · have hmin : min (en - fr) 4 = en - fr := by omega
            rw [hmin] at hl hdv
            refine lv_iload hx hb dX2_number_142 (lv_at hl 4 rfl) ?_
            refine lv_iload_n hx hb dX2_number_144 rfl (lv_at hl 1 rfl) ?_
            refine lv_iload_n hx hb dX2_number_145 rfl (lv_at hl 2 rfl) ?_
            refine m_cS [.int (nI (dv tx fr (en - fr))), .int lo, .int hi] C hml hl.1 (mX2_in l (nI (dv tx fr (en - fr))) lo hi) (lw_S q842 q843 q71 q844) hdX2_in.2 ⟨rfl, rfl⟩ ⟨Nat.le_of_ble_eq_true rfl, Nat.le_of_ble_eq_true rfl⟩ rfl (Nat.le_of_ble_eq_true rfl) dX2_number_146 ⟨Nat.zero_le _, Nat.zero_le _⟩ ?_
            refine lv_if_ne (tgt := 161) hx hb dX2_number_149 (by decide) (fun c_505 => ?_) (fun c_505 => ?_)
            · have hrg : li ≤ (dv tx fr (en - fr) : Int) ∧ (dv tx fr (en - fr) : Int) ≤ ui := by
                have z := bI_ne0.mp c_505
                simp only [Bool.and_eq_true, decide_eq_true_eq, w_le, nI_toInt (show dv tx fr (en - fr) < 2 ^ 31 by omega), hlo, hhi] at z
                exact z
              have hN : numS n tx k li ui = .inr (dv tx fr (en - fr), en) := by rw [eN, if_neg hef, if_neg (fun q => q.elim (by omega) (fun z => z hrg))]
              refine lv_iload hx hb dX2_number_161 (lv_at hl 4 rfl) ?_
              exact mM_retI C hlk hr hS hP dX2_number_163 ⟨hq3, hj3, ⟨_, rfl⟩, hat, fun c p hcp => (by rw [hN] at hcp; cases hcp), fun v e hve => by rw [hN] at hve; have z := Sum.inr.inj hve; have z1 := congrArg Prod.fst z; have z2 := congrArg Prod.snd z; dsimp only at z1 z2; subst z1; subst z2; exact ⟨rfl, hw3, hat, (hf 14 (by decide)).trans hfrom⟩⟩
            · have hnr : ¬ (li ≤ (dv tx fr (en - fr) : Int) ∧ (dv tx fr (en - fr) : Int) ≤ ui) := fun q => by
                have z := bI_eq0.mp c_505
                simp only [Bool.and_eq_false_iff, decide_eq_false_iff_not, w_le, nI_toInt (show dv tx fr (en - fr) < 2 ^ 31 by omega), hlo, hhi] at z
                omega
              refine lv_aload_n hx hb dX2_number_152 rfl (lv_at hl 0 rfl) ?_
              refine lv_iconst (v := nI 2) hx hb dX2_number_153 (by decide) ?_
              refine lv_aload_n hx hb dX2_number_154 rfl (lv_at hl 0 rfl) ?_
              refine mg_from C hP dX2_number_155 ?_
              refine w_eqi (y := nI (fr)) ((hf 14 (by decide)).trans hfrom) ?_
              refine m_cM [.int (nI 2), .int (nI fr)] C hml hl.1 hP hS (mX2_fail l D T ad μ3 hw3 (nI (2)) (nI (fr))) (lw_V q867 q869 qs38 q71 q870) hdX2_fail ⟨rfl, rfl⟩ ⟨Nat.le_of_ble_eq_true rfl, Nat.le_of_ble_eq_true rfl⟩ rfl (Nat.le_of_ble_eq_true rfl) dX2_number_158 ⟨Nat.zero_le _, Nat.zero_le _⟩ (fun v_506 μ_507 H locs hp_508 hP hS => ?_)
              obtain ⟨rfl, fl_509a, fl_509b, fl_509c, fl_509d⟩ := hp_508
              refine lv_iload hx hb dX2_number_161 (lv_at hl 4 rfl) ?_
              exact mM_retI C hlk hr hS hP dX2_number_163 ⟨fun q hq => by rw [fl_509d q hq, hq3 q hq], fun j hj => by rw [fl_509c j (by omega) (by omega), hj3 j hj], ⟨_, rfl⟩, by rw [fl_509c 11 (by decide) (by decide)]; exact hat, fun c p hcp => by rw [eN, if_neg hef, if_pos (Or.inr hnr)] at hcp; have z := Sum.inl.inj hcp; have z1 := congrArg Prod.fst z; have z2 := congrArg Prod.snd z; dsimp only at z1 z2; subst z1; subst z2; exact ⟨fl_509a, fl_509b⟩, fun v e hve => by rw [eN, if_neg hef, if_pos (Or.inr hnr)] at hve; cases hve⟩
        · have hef : en = fr := by have := of_decide_eq_false (bI_eq0.mp c_495); omega
          refine lv_aload_n hx hb dX2_number_117 rfl (lv_at hl 0 rfl) ?_
          refine lv_iconst (v := nI 1) hx hb dX2_number_118 (by decide) ?_
          refine lv_aload_n hx hb dX2_number_119 rfl (lv_at hl 0 rfl) ?_
          refine mg_from C hP dX2_number_120 ?_
          refine w_eqi (y := nI (fr)) ((hf 14 (by decide)).trans hfrom) ?_
          refine m_cM [.int (nI 1), .int (nI fr)] C hml hl.1 hP hS (mX2_fail l D T ad μ3 hw3 (nI (1)) (nI (fr))) (lw_V q867 q869 qs38 q71 q870) hdX2_fail ⟨rfl, rfl⟩ ⟨Nat.le_of_ble_eq_true rfl, Nat.le_of_ble_eq_true rfl⟩ rfl (Nat.le_of_ble_eq_true rfl) dX2_number_123 ⟨Nat.zero_le _, Nat.zero_le _⟩ (fun v_496 μ_497 H locs hp_498 hP hS => ?_)
          obtain ⟨rfl, fl_499a, fl_499b, fl_499c, fl_499d⟩ := hp_498
          refine lv_goto (tgt := 161) hx hb dX2_number_126 (by decide) ?_
          refine lv_iload hx hb dX2_number_161 (lv_at hl 4 rfl) ?_
          exact mM_retI C hlk hr hS hP dX2_number_163 ⟨fun q hq => by rw [fl_499d q hq, hq3 q hq], fun j hj => by rw [fl_499c j (by omega) (by omega), hj3 j hj], ⟨_, rfl⟩, by rw [fl_499c 11 (by decide) (by decide)]; exact hat, fun c p hcp => by rw [eN, if_pos hef] at hcp; have z := Sum.inl.inj hcp; have z1 := congrArg Prod.fst z; have z2 := congrArg Prod.snd z; dsimp only at z1 z2; subst z1; subst z2; exact ⟨fl_499a, fl_499b⟩, fun v e hve => by rw [eN, if_pos hef] at hve; cases hve⟩
      · have hb1 := (hT.2.2 en (by omega)).2
        refine lv_aload_n hx hb dX2_number_36 rfl (lv_at hl 0 rfl) ?_
        refine mg_text C hP dX2_number_37 ?_
        refine lv_aload_n hx hb dX2_number_40 rfl (lv_at hl 0 rfl) ?_
        refine mg_at C hP dX2_number_41 ?_
        refine w_eqi (y := nI (en)) (hat) ?_
        refine m_ald2 C hP (by omega) dX2_number_44 ?_
        refine w_eqi (y := nI (tx (en))) (by rw [ho 2 (by decide), ht2]; exact (hT.2.2 _ (by omega)).1) ?_
        refine lv_bipush (v := nI 48) hx hb dX2_number_45 (by decide) ?_
        refine lv_bipush (v := nI 57) hx hb dX2_number_47 (by decide) ?_
        refine m_cS [.int (nI (tx (en))), .int (nI 48), .int (nI 57)] C hml hl.1 (mX2_in l (nI (tx (en))) (nI (48)) (nI (57))) (lw_S q842 q843 q71 q844) hdX2_in.2 ⟨rfl, rfl⟩ ⟨Nat.le_of_ble_eq_true rfl, Nat.le_of_ble_eq_true rfl⟩ rfl (Nat.le_of_ble_eq_true rfl) dX2_number_49 ⟨Nat.zero_le _, Nat.zero_le _⟩ ?_
        refine w_eqi (y := bI (dgB tx en)) (by rw [in_dg hb1]) ?_
        refine lv_if_eq (tgt := 106) hx hb dX2_number_52 (by decide) (fun c_510 => ?_) (fun c_510 => ?_)
        · refine lv_iload_n hx hb dX2_number_106 rfl (lv_at hl 3 rfl) ?_
          refine lv_bipush (v := nI 48) hx hb dX2_number_107 (by decide) ?_
          refine lv_bipush (v := nI 57) hx hb dX2_number_109 (by decide) ?_
          refine m_cS [.int (nI fst), .int (nI 48), .int (nI 57)] C hml hl.1 (mX2_in l (nI (fst)) (nI (48)) (nI (57))) (lw_S q842 q843 q71 q844) hdX2_in.2 ⟨rfl, rfl⟩ ⟨Nat.le_of_ble_eq_true rfl, Nat.le_of_ble_eq_true rfl⟩ rfl (Nat.le_of_ble_eq_true rfl) dX2_number_111 ⟨Nat.zero_le _, Nat.zero_le _⟩ ?_
          refine w_eqi (y := bI (decide (fr < en))) (by rw [hfst2]) ?_
          refine lv_if_ne (tgt := 129) hx hb dX2_number_114 (by decide) (fun c_511 => ?_) (fun c_511 => ?_)
          · have hef : ¬ en = fr := by have := of_decide_eq_true (bI_ne0.mp c_511); omega
            refine lv_aload_n hx hb dX2_number_129 rfl (lv_at hl 0 rfl) ?_
            refine mg_at C hP dX2_number_130 ?_
            refine w_eqi (y := nI (en)) (hat) ?_
            refine lv_aload_n hx hb dX2_number_133 rfl (lv_at hl 0 rfl) ?_
            refine mg_from C hP dX2_number_134 ?_
            refine w_eqi (y := nI (fr)) ((hf 14 (by decide)).trans hfrom) ?_
            refine w_isubN hx hb dX2_number_137 (by omega) ?_
            refine lv_iconst (v := nI 4) hx hb dX2_number_138 (by decide) ?_
            refine w_icmpN_gt (tgt := 152) hx hb dX2_number_139 (by decide) (by omega) (by omega) (fun c_516 => ?_) (fun c_516 => ?_)
            · refine lv_aload_n hx hb dX2_number_152 rfl (lv_at hl 0 rfl) ?_
              refine lv_iconst (v := nI 2) hx hb dX2_number_153 (by decide) ?_
              refine lv_aload_n hx hb dX2_number_154 rfl (lv_at hl 0 rfl) ?_
              refine mg_from C hP dX2_number_155 ?_
              refine w_eqi (y := nI (fr)) ((hf 14 (by decide)).trans hfrom) ?_
              refine m_cM [.int (nI 2), .int (nI fr)] C hml hl.1 hP hS (mX2_fail l D T ad μ3 hw3 (nI (2)) (nI (fr))) (lw_V q867 q869 qs38 q71 q870) hdX2_fail ⟨rfl, rfl⟩ ⟨Nat.le_of_ble_eq_true rfl, Nat.le_of_ble_eq_true rfl⟩ rfl (Nat.le_of_ble_eq_true rfl) dX2_number_158 ⟨Nat.zero_le _, Nat.zero_le _⟩ (fun v_517 μ_518 H locs hp_519 hP hS => ?_)
              obtain ⟨rfl, fl_520a, fl_520b, fl_520c, fl_520d⟩ := hp_519
              refine lv_iload hx hb dX2_number_161 (lv_at hl 4 rfl) ?_
              exact mM_retI C hlk hr hS hP dX2_number_163 ⟨fun q hq => by rw [fl_520d q hq, hq3 q hq], fun j hj => by rw [fl_520c j (by omega) (by omega), hj3 j hj], ⟨_, rfl⟩, by rw [fl_520c 11 (by decide) (by decide)]; exact hat, fun c p hcp => by rw [eN, if_neg hef, if_pos (Or.inl c_516)] at hcp; have z := Sum.inl.inj hcp; have z1 := congrArg Prod.fst z; have z2 := congrArg Prod.snd z; dsimp only at z1 z2; subst z1; subst z2; exact ⟨fl_520a, fl_520b⟩, fun v e hve => by rw [eN, if_neg hef, if_pos (Or.inl c_516)] at hve; cases hve⟩
            · have hmin : min (en - fr) 4 = en - fr := by omega
              rw [hmin] at hl hdv
              refine lv_iload hx hb dX2_number_142 (lv_at hl 4 rfl) ?_
              refine lv_iload_n hx hb dX2_number_144 rfl (lv_at hl 1 rfl) ?_
              refine lv_iload_n hx hb dX2_number_145 rfl (lv_at hl 2 rfl) ?_
              refine m_cS [.int (nI (dv tx fr (en - fr))), .int lo, .int hi] C hml hl.1 (mX2_in l (nI (dv tx fr (en - fr))) lo hi) (lw_S q842 q843 q71 q844) hdX2_in.2 ⟨rfl, rfl⟩ ⟨Nat.le_of_ble_eq_true rfl, Nat.le_of_ble_eq_true rfl⟩ rfl (Nat.le_of_ble_eq_true rfl) dX2_number_146 ⟨Nat.zero_le _, Nat.zero_le _⟩ ?_
              refine lv_if_ne (tgt := 161) hx hb dX2_number_149 (by decide) (fun c_521 => ?_) (fun c_521 => ?_)
              · have hrg : li ≤ (dv tx fr (en - fr) : Int) ∧ (dv tx fr (en - fr) : Int) ≤ ui := by
                  have z := bI_ne0.mp c_521
                  simp only [Bool.and_eq_true, decide_eq_true_eq, w_le, nI_toInt (show dv tx fr (en - fr) < 2 ^ 31 by omega), hlo, hhi] at z
                  exact z
                have hN : numS n tx k li ui = .inr (dv tx fr (en - fr), en) := by rw [eN, if_neg hef, if_neg (fun q => q.elim (by omega) (fun z => z hrg))]
                refine lv_iload hx hb dX2_number_161 (lv_at hl 4 rfl) ?_
                exact mM_retI C hlk hr hS hP dX2_number_163 ⟨hq3, hj3, ⟨_, rfl⟩, hat, fun c p hcp => (by rw [hN] at hcp; cases hcp), fun v e hve => by rw [hN] at hve; have z := Sum.inr.inj hve; have z1 := congrArg Prod.fst z; have z2 := congrArg Prod.snd z; dsimp only at z1 z2; subst z1; subst z2; exact ⟨rfl, hw3, hat, (hf 14 (by decide)).trans hfrom⟩⟩
              · have hnr : ¬ (li ≤ (dv tx fr (en - fr) : Int) ∧ (dv tx fr (en - fr) : Int) ≤ ui) := fun q => by
                  have z := bI_eq0.mp c_521
                  simp only [Bool.and_eq_false_iff, decide_eq_false_iff_not, w_le, nI_toInt (show dv tx fr (en - fr) < 2 ^ 31 by omega), hlo, hhi] at z
                  omega
                refine lv_aload_n hx hb dX2_number_152 rfl (lv_at hl 0 rfl) ?_
                refine lv_iconst (v := nI 2) hx hb dX2_number_153 (by decide) ?_
                refine lv_aload_n hx hb dX2_number_154 rfl (lv_at hl 0 rfl) ?_
                refine mg_from C hP dX2_number_155 ?_
                refine w_eqi (y := nI (fr)) ((hf 14 (by decide)).trans hfrom) ?_
                refine m_cM [.int (nI 2), .int (nI fr)] C hml hl.1 hP hS (mX2_fail l D T ad μ3 hw3 (nI (2)) (nI (fr))) (lw_V q867 q869 qs38 q71 q870) hdX2_fail ⟨rfl, rfl⟩ ⟨Nat.le_of_ble_eq_true rfl, Nat.le_of_ble_eq_true rfl⟩ rfl (Nat.le_of_ble_eq_true rfl) dX2_number_158 ⟨Nat.zero_le _, Nat.zero_le _⟩ (fun v_522 μ_523 H locs hp_524 hP hS => ?_)
                obtain ⟨rfl, fl_525a, fl_525b, fl_525c, fl_525d⟩ := hp_524
                refine lv_iload hx hb dX2_number_161 (lv_at hl 4 rfl) ?_
                exact mM_retI C hlk hr hS hP dX2_number_163 ⟨fun q hq => by rw [fl_525d q hq, hq3 q hq], fun j hj => by rw [fl_525c j (by omega) (by omega), hj3 j hj], ⟨_, rfl⟩, by rw [fl_525c 11 (by decide) (by decide)]; exact hat, fun c p hcp => by rw [eN, if_neg hef, if_pos (Or.inr hnr)] at hcp; have z := Sum.inl.inj hcp; have z1 := congrArg Prod.fst z; have z2 := congrArg Prod.snd z; dsimp only at z1 z2; subst z1; subst z2; exact ⟨fl_525a, fl_525b⟩, fun v e hve => by rw [eN, if_neg hef, if_pos (Or.inr hnr)] at hve; cases hve⟩
          · have hef : en = fr := by have := of_decide_eq_false (bI_eq0.mp c_511); omega
            refine lv_aload_n hx hb dX2_number_117 rfl (lv_at hl 0 rfl) ?_
            refine lv_iconst (v := nI 1) hx hb dX2_number_118 (by decide) ?_
            refine lv_aload_n hx hb dX2_number_119 rfl (lv_at hl 0 rfl) ?_
            refine mg_from C hP dX2_number_120 ?_
            refine w_eqi (y := nI (fr)) ((hf 14 (by decide)).trans hfrom) ?_
            refine m_cM [.int (nI 1), .int (nI fr)] C hml hl.1 hP hS (mX2_fail l D T ad μ3 hw3 (nI (1)) (nI (fr))) (lw_V q867 q869 qs38 q71 q870) hdX2_fail ⟨rfl, rfl⟩ ⟨Nat.le_of_ble_eq_true rfl, Nat.le_of_ble_eq_true rfl⟩ rfl (Nat.le_of_ble_eq_true rfl) dX2_number_123 ⟨Nat.zero_le _, Nat.zero_le _⟩ (fun v_512 μ_513 H locs hp_514 hP hS => ?_)
            obtain ⟨rfl, fl_515a, fl_515b, fl_515c, fl_515d⟩ := hp_514
            refine lv_goto (tgt := 161) hx hb dX2_number_126 (by decide) ?_
            refine lv_iload hx hb dX2_number_161 (lv_at hl 4 rfl) ?_
            exact mM_retI C hlk hr hS hP dX2_number_163 ⟨fun q hq => by rw [fl_515d q hq, hq3 q hq], fun j hj => by rw [fl_515c j (by omega) (by omega), hj3 j hj], ⟨_, rfl⟩, by rw [fl_515c 11 (by decide) (by decide)]; exact hat, fun c p hcp => by rw [eN, if_pos hef] at hcp; have z := Sum.inl.inj hcp; have z1 := congrArg Prod.fst z; have z2 := congrArg Prod.snd z; dsimp only at z1 z2; subst z1; subst z2; exact ⟨fl_515a, fl_515b⟩, fun v e hve => by rw [eN, if_pos hef] at hve; cases hve⟩
        · exact absurd (show en < n ∧ dgB tx en = true from ⟨by omega, bI_ne0.mp c_510⟩) g5
  · exact absurd hw (of_decide_eq_false (bI_eq0.mp c_481))

