/-! THE MODEL: the text is read -/
set_option maxRecDepth 100000
def TX (μ : Nat → Nat → Int32) (n : Nat) (tx : Nat → Nat) : Prop := μ 0 4 = nI n ∧ n ≤ 200 ∧ ∀ k, k < n → μ 2 k = nI (tx k) ∧ tx k < 256
theorem TX.to {μ μ' : Nat → Nat → Int32} {n : Nat} {tx : Nat → Nat} (h : TX μ n tx) (h0 : μ' 0 4 = μ 0 4) (h2 : μ' 2 = μ 2) : TX μ' n tx := ⟨by rw [h0]; exact h.1, h.2.1, fun k hk => by rw [h2]; exact h.2.2 k hk⟩
def FRm (μ μ' : Nat → Nat → Int32) : Prop := (∀ j, j ≠ 0 → j ≠ 1 → μ' j = μ j) ∧ (∀ k, k < 11 → μ' 0 k = μ 0 k) ∧ ∀ k, k < 3648 → μ' 1 k = μ 1 k
theorem FRm.rf {μ : Nat → Nat → Int32} : FRm μ μ := ⟨fun _ _ _ => rfl, fun _ _ => rfl, fun _ _ => rfl⟩
theorem FRm.tr {μ μ' μ'' : Nat → Nat → Int32} (h : FRm μ μ') (h' : FRm μ' μ'') : FRm μ μ'' := ⟨fun j a b => (h'.1 j a b).trans (h.1 j a b), fun k a => (h'.2.1 k a).trans (h.2.1 k a), fun k a => (h'.2.2 k a).trans (h.2.2 k a)⟩
theorem FRm.put {μ μ' μ'' : Nat → Nat → Int32} (h : FRm μ μ') {k : Nat} {v : Int32} (hk : 11 ≤ k) (e : μ'' = mset μ' 0 k v) : FRm μ μ'' := h.tr ⟨fun j a b => by rw [e, mset_oth a], fun q a => by rw [e, mset_ne (Or.inr (by omega))], fun q a => by rw [e, mset_oth (by decide)]⟩
theorem FRm.ast {μ μ' μ'' : Nat → Nat → Int32} (h : FRm μ μ') {k : Nat} {v : Int32} (hk : 3648 ≤ k) (e : μ'' = mset μ' 1 k v) : FRm μ μ'' := h.tr ⟨fun j a b => by rw [e, mset_oth b], fun q a => by rw [e, mset_oth (by decide)], fun q a => by rw [e, mset_ne (Or.inr (by omega))]⟩
theorem FRm.fld {μ μ' : Nat → Nat → Int32} (h1 : ∀ k, k < 11 → μ' 0 k = μ 0 k) (h2 : ∀ q, q ≠ 0 → μ' q = μ q) : FRm μ μ' := ⟨fun j a _ => h2 j a, h1, fun k _ => by rw [h2 1 (by decide)]⟩
theorem TX.fr {μ μ' : Nat → Nat → Int32} {n : Nat} {tx : Nat → Nat} (h : TX μ n tx) (f : FRm μ μ') : TX μ' n tx := h.to (f.2.1 4 (by decide)) (f.1 2 (by decide) (by decide))
def PRs (μ : Nat → Nat → Int32) (t : PS) : Prop := μ 0 11 = nI t.1 ∧ Rp (μ 1) 3648 t.2.1 ∧ μ 0 15 = bI t.2.2.1 ∧ μ 0 16 = bI t.2.2.2
/-- the end of a piece of reading: a fault, or the state -/
def WPm (res : PF ⊕ PS) (μ : Nat → Nat → Int32) : Prop := (∀ c p, res = .inl (c, p) → (1 ≤ c ∧ c ≤ 4) ∧ μ 0 12 = nI c ∧ μ 0 13 = nI p ∧ ∃ k, k ≤ 201 ∧ μ 0 11 = nI k) ∧ ∀ t, res = .inr t → μ 0 12 = nI 0 ∧ PRs μ t
theorem in_dg {tx : Nat → Nat} {j : Nat} (h : tx j < 256) : (decide (nI 48 ≤ nI (tx j)) && decide (nI (tx j) ≤ nI 57)) = dgB tx j := by
  unfold dgB
  simp only [nI_leI (show 48 < 2 ^ 31 by decide) (show tx j < 2 ^ 31 by omega), nI_leI (show tx j < 2 ^ 31 by omega) (show 57 < 2 ^ 31 by decide)]
theorem hdX2_fine : yX2_fine.cls = "LiarClocksModel" ∧ yX2_fine.cls ≠ "java/lang/invoke/MethodHandle" ∧ yX2_fine.cls ≠ "java/lang/invoke/VarHandle" ∧ (parseMethodDescriptor yX2_fine.desc).map (fun d => d.parameters.length) = some 0 := by decide +kernel
set_option maxHeartbeats 4000000 in
/-- fine -/
theorem mX2_fine (l : Launch) (D : va_G) (T : Nat → ClassId) (ad : Nat → Nat) (μ : Nat → Nat → Int32)  : Met l yX2_fine (ws_ yX2_fine cX2_fine 1 (some .boolean)) ({ frames := 0, cells := 0, slots := 0, locals := 0 } : Room) (mPc D T ad μ [.ref (ad 0)]) (QcRead (bI (decide (μ 0 12 = 0)))) 0 0 (fun _ => False) := by
  refine mR_intro [.ref (ad 0)] (by decide) rfl (Nat.le_of_ble_eq_true rfl) ?_
  intro pg en s0 mi below meth cd ls C hr hlk hml hP hl
  have hx := C.1
  have hb := C.2.1
  have hown := C.2.2.1
  have hts := C.2.2.2.1
  have hl : lv_has ls 1 [(0, .ref (ad 0))] := hl
  refine lv_aload_n hx hb dX2_fine_0 rfl (lv_at hl 0 rfl) ?_
  refine mg_wrong C hP dX2_fine_1 ?_
  refine lv_if_ne (tgt := 11) hx hb dX2_fine_4 (by decide) (fun c_467 => ?_) (fun c_467 => ?_)
  · refine lv_iconst (v := 0) hx hb dX2_fine_11 (by decide) ?_
    exact w_retZ hx hb hlk hr dX2_fine_12 (by rw [decide_eq_false c_467]; rfl)
  · refine lv_iconst (v := 1) hx hb dX2_fine_7 (by decide) ?_
    refine lv_goto (tgt := 12) hx hb dX2_fine_8 (by decide) ?_
    exact w_retZ hx hb hlk hr dX2_fine_12 (by rw [decide_eq_true c_467]; rfl)

theorem hdX2_fail : yX2_fail.cls = "LiarClocksModel" ∧ yX2_fail.cls ≠ "java/lang/invoke/MethodHandle" ∧ yX2_fail.cls ≠ "java/lang/invoke/VarHandle" ∧ (parseMethodDescriptor yX2_fail.desc).map (fun d => d.parameters.length) = some 2 := by decide +kernel
set_option maxHeartbeats 4000000 in
/-- fail -/
theorem mX2_fail (l : Launch) (D : va_G) (T : Nat → ClassId) (ad : Nat → Nat) (μ : Nat → Nat → Int32) (hw : μ 0 12 = 0) (x y : Int32) : ∀ sz, Met l yX2_fail (ws_ yX2_fail cX2_fail 3 none) ({ frames := 1, cells := 0, slots := 0, locals := 20 } : Room) (mPs D T ad μ [.ref (ad 0), .int x, .int y] sz) (mQ D T ad (fun r μ' => r = none ∧ μ' 0 12 = x ∧ μ' 0 13 = y ∧ (∀ k, k ≠ 12 → k ≠ 13 → μ' 0 k = μ 0 k) ∧ ∀ q, q ≠ 0 → μ' q = μ q)) 0 0 (gA 7 ad sz) := by
  refine mM_intro [.ref (ad 0), .int x, .int y] (by decide) rfl (Nat.le_of_ble_eq_true rfl) ?_
  intro pg en s0 mi below meth cd ls C hr hlk hml hP hS hl
  have hx := C.1
  have hb := C.2.1
  have hown := C.2.2.1
  have hts := C.2.2.2.1
  have hl : lv_has ls 3 [(0, .ref (ad 0)), (1, .int x), (2, .int y)] := hl
  refine lv_aload_n hx hb dX2_fail_0 rfl (lv_at hl 0 rfl) ?_
  refine m_cR [] C hml hl.1 hP (mX2_fine l D T ad μ) (lw_V q855 q857 qs35 q71 q858) hdX2_fine ⟨rfl, rfl⟩ ⟨Nat.le_of_ble_eq_true rfl, Nat.le_of_ble_eq_true rfl⟩ rfl (Nat.le_of_ble_eq_true rfl) dX2_fail_1 ⟨Nat.zero_le _, Nat.zero_le _⟩ ?_
  refine lv_if_eq (tgt := 17) hx hb dX2_fail_4 (by decide) (fun c_468 => ?_) (fun c_468 => ?_)
  · exact absurd hw (of_decide_eq_false (bI_eq0.mp c_468))
  · refine lv_aload_n hx hb dX2_fail_7 rfl (lv_at hl 0 rfl) ?_
    refine lv_iload_n hx hb dX2_fail_8 rfl (lv_at hl 1 rfl) ?_
    refine mp_wrong C hP hS dX2_fail_9 (fun H locs hP hS => ?_)
    obtain ⟨μ_469, eμ_470⟩ : ∃ y9, y9 = mset μ 0 12 x := ⟨_, rfl⟩
    rw [← eμ_470] at hP
    refine lv_aload_n hx hb dX2_fail_12 rfl (lv_at hl 0 rfl) ?_
    refine lv_iload_n hx hb dX2_fail_13 rfl (lv_at hl 2 rfl) ?_
    refine mp_place C hP hS dX2_fail_14 (fun H locs hP hS => ?_)
    obtain ⟨μ_471, eμ_472⟩ : ∃ y9, y9 = mset μ_469 0 13 y := ⟨_, rfl⟩
    rw [← eμ_472] at hP
    exact mM_retV C hlk hr hS hP dX2_fail_17 ⟨rfl, by rw [eμ_472, mset_ne (Or.inr (by decide)), eμ_470, mset_self], by rw [eμ_472, mset_self], fun k h1 h2 => by rw [eμ_472, mset_ne (Or.inr h2), eμ_470, mset_ne (Or.inr h1)], fun q hq => by rw [eμ_472, mset_oth hq, eμ_470, mset_oth hq]⟩

theorem hdX2_here : yX2_here.cls = "LiarClocksModel" ∧ yX2_here.cls ≠ "java/lang/invoke/MethodHandle" ∧ yX2_here.cls ≠ "java/lang/invoke/VarHandle" ∧ (parseMethodDescriptor yX2_here.desc).map (fun d => d.parameters.length) = some 0 := by decide +kernel
set_option maxHeartbeats 4000000 in
/-- here -/
theorem mX2_here (l : Launch) (D : va_G) (T : Nat → ClassId) (ad : Nat → Nat) (μ : Nat → Nat → Int32) (n : Nat) (tx : Nat → Nat) (hT : TX μ n tx) (k : Nat) (hk : μ 0 11 = nI k) (hk2 : k ≤ 201) : ∀ sz, Met l yX2_here (ws_ yX2_here cX2_here 1 (some .int)) ({ frames := 0, cells := 0, slots := 0, locals := 0 } : Room) (mPs D T ad μ [.ref (ad 0)] sz) (mQ D T ad (fun r μ' => r = some (.int (if runS (spB tx) n k < n then nI (tx (runS (spB tx) n k)) else nI 0)) ∧ μ' 0 11 = nI (runS (spB tx) n k) ∧ (∀ j, j ≠ 11 → μ' 0 j = μ 0 j) ∧ ∀ q, q ≠ 0 → μ' q = μ q)) 0 0 (gA 7 ad sz) := by
  refine mM_intro [.ref (ad 0)] (by decide) rfl (Nat.le_of_ble_eq_true rfl) ?_
  intro pg en s0 mi below meth cd ls C hr hlk hml hP hS hl
  have hx := C.1
  have hb := C.2.1
  have hown := C.2.2.1
  have hts := C.2.2.2.1
  have hl : lv_has ls 1 [(0, .ref (ad 0))] := hl
  obtain ⟨sk, esk⟩ : ∃ y, y = runS (spB tx) n k := ⟨_, rfl⟩
  rw [← esk]
  have g1 : k ≤ sk := by rw [esk]; exact run_ge
  have g2 : k ≤ n → sk ≤ n := fun h => by rw [esk]; exact run_le h
  have g3 : ¬ (sk < n ∧ spB tx sk = true) := by rw [esk]; exact run_end
  have hn := hT.2.1
  have g4 : sk ≤ 201 := by rw [esk]; exact run_max hk2 (by omega) (Or.inr hk2)
  refine w_upM (α := Nat → Nat → Int32) (sk - k) 0 1 (gA 7 ad s0.heap.size) s0.heap (fun i μ2 => [(0, .ref (ad 0))]) (fun i μ2 H => mW D T ad μ2 H ∧ μ2 0 11 = nI (k + i) ∧ (∀ j, j ≠ 11 → μ2 0 j = μ 0 j) ∧ ∀ q, q ≠ 0 → μ2 q = μ q) ?_ ?_ 0 (by omega) μ (lv_sub hl [0] rfl) ⟨hP, hk, fun _ _ => rfl, fun _ _ => rfl⟩ hS
  · intro i μ2 ls H locs hi_i hl hW hS ih_i
    have hl : lv_has ls 1 [(0, .ref (ad 0))] := hl
    obtain ⟨hP, hat, hf, ho⟩ := hW
    obtain ⟨q1, q2⟩ := run_in (p := spB tx) (n := n) (k := k) (j := k + i) (by omega) (by omega)
    have q3 : tx (k + i) = 32 := of_decide_eq_true q2
    refine lv_aload_n hx hb dX2_here_0 rfl (lv_at hl 0 rfl) ?_
    refine mg_at C hP dX2_here_1 ?_
    refine w_eqi (y := nI (k + i)) (hat) ?_
    refine lv_aload_n hx hb dX2_here_4 rfl (lv_at hl 0 rfl) ?_
    refine mg_size C hP dX2_here_5 ?_
    refine w_eqi (y := nI (n)) ((hf 4 (by decide)).trans hT.1) ?_
    refine w_icmpN_ge (tgt := 38) hx hb dX2_here_8 (by decide) (by omega) (by omega) (fun c_473 => ?_) (fun c_473 => ?_)
    · exact absurd c_473 (by omega)
    · refine lv_aload_n hx hb dX2_here_11 rfl (lv_at hl 0 rfl) ?_
      refine mg_text C hP dX2_here_12 ?_
      refine lv_aload_n hx hb dX2_here_15 rfl (lv_at hl 0 rfl) ?_
      refine mg_at C hP dX2_here_16 ?_
      refine w_eqi (y := nI (k + i)) (hat) ?_
      refine m_ald2 C hP (by omega) dX2_here_19 ?_
      refine w_eqi (y := nI (tx (k + i))) (by rw [ho 2 (by decide)]; exact (hT.2.2 _ (by omega)).1) ?_
      refine lv_bipush (v := nI 32) hx hb dX2_here_20 (by decide) ?_
      refine w_icmpN_ne (tgt := 38) hx hb dX2_here_22 (by decide) (by omega) (by omega) (fun c_474 => ?_) (fun c_474 => ?_)
      · exact absurd q3 c_474
      · refine lv_aload_n hx hb dX2_here_25 rfl (lv_at hl 0 rfl) ?_
        refine lv_dup hx hb dX2_here_26 rfl ?_
        refine mg_at C hP dX2_here_27 ?_
        refine w_eqi (y := nI (k + i)) (hat) ?_
        refine lv_iconst (v := nI 1) hx hb dX2_here_30 (by decide) ?_
        refine w_iaddN hx hb dX2_here_31 ?_
        refine mp_at C hP hS dX2_here_32 (fun H locs hP hS => ?_)
        obtain ⟨μ_475, eμ_476⟩ : ∃ y9, y9 = mset μ2 0 11 (nI (k + i + 1)) := ⟨_, rfl⟩
        rw [← eμ_476] at hP
        refine lv_goto (tgt := 0) hx hb dX2_here_35 (by decide) ?_
        exact ih_i μ_475 _ _ _ (lv_sub hl [0] rfl) ⟨hP, by rw [eμ_476, mset_self]; rfl, fun j hj => by rw [eμ_476, mset_ne (Or.inr hj)]; exact hf j hj, fun q hq => by rw [eμ_476, mset_oth hq]; exact ho q hq⟩ hS
  · intro μ2 ls H locs hl hW hS
    have hl : lv_has ls 1 [(0, .ref (ad 0))] := hl
    obtain ⟨hP, hat, hf, ho⟩ := hW
    have eks : k + (sk - k) = sk := by omega
    rw [eks] at hat
    refine lv_aload_n hx hb dX2_here_0 rfl (lv_at hl 0 rfl) ?_
    refine mg_at C hP dX2_here_1 ?_
    refine w_eqi (y := nI (sk)) (hat) ?_
    refine lv_aload_n hx hb dX2_here_4 rfl (lv_at hl 0 rfl) ?_
    refine mg_size C hP dX2_here_5 ?_
    refine w_eqi (y := nI (n)) ((hf 4 (by decide)).trans hT.1) ?_
    refine w_icmpN_ge (tgt := 38) hx hb dX2_here_8 (by decide) (by omega) (by omega) (fun c_477 => ?_) (fun c_477 => ?_)
    · refine lv_aload_n hx hb dX2_here_38 rfl (lv_at hl 0 rfl) ?_
      refine mg_at C hP dX2_here_39 ?_
      refine w_eqi (y := nI (sk)) (hat) ?_
      refine lv_aload_n hx hb dX2_here_42 rfl (lv_at hl 0 rfl) ?_
      refine mg_size C hP dX2_here_43 ?_
      refine w_eqi (y := nI (n)) ((hf 4 (by decide)).trans hT.1) ?_
      refine w_icmpN_ge (tgt := 61) hx hb dX2_here_46 (by decide) (by omega) (by omega) (fun c_478 => ?_) (fun c_478 => ?_)
      · refine lv_iconst (v := nI 0) hx hb dX2_here_61 (by decide) ?_
        exact mM_retI C hlk hr hS hP dX2_here_62 ⟨by rw [if_neg (by omega)], hat, hf, ho⟩
      · exact absurd c_478 (by omega)
    · have hb1 := (hT.2.2 sk (by omega)).2
      refine lv_aload_n hx hb dX2_here_11 rfl (lv_at hl 0 rfl) ?_
      refine mg_text C hP dX2_here_12 ?_
      refine lv_aload_n hx hb dX2_here_15 rfl (lv_at hl 0 rfl) ?_
      refine mg_at C hP dX2_here_16 ?_
      refine w_eqi (y := nI (sk)) (hat) ?_
      refine m_ald2 C hP (by omega) dX2_here_19 ?_
      refine w_eqi (y := nI (tx (sk))) (by rw [ho 2 (by decide)]; exact (hT.2.2 _ (by omega)).1) ?_
      refine lv_bipush (v := nI 32) hx hb dX2_here_20 (by decide) ?_
      refine w_icmpN_ne (tgt := 38) hx hb dX2_here_22 (by decide) (by omega) (by omega) (fun c_479 => ?_) (fun c_479 => ?_)
      · refine lv_aload_n hx hb dX2_here_38 rfl (lv_at hl 0 rfl) ?_
        refine mg_at C hP dX2_here_39 ?_
        refine w_eqi (y := nI (sk)) (hat) ?_
        refine lv_aload_n hx hb dX2_here_42 rfl (lv_at hl 0 rfl) ?_
        refine mg_size C hP dX2_here_43 ?_
        refine w_eqi (y := nI (n)) ((hf 4 (by decide)).trans hT.1) ?_
        refine w_icmpN_ge (tgt := 61) hx hb dX2_here_46 (by decide) (by omega) (by omega) (fun c_480 => ?_) (fun c_480 => ?_)
        · exact absurd c_480 (by omega)
        · refine lv_aload_n hx hb dX2_here_49 rfl (lv_at hl 0 rfl) ?_
          refine mg_text C hP dX2_here_50 ?_
          refine lv_aload_n hx hb dX2_here_53 rfl (lv_at hl 0 rfl) ?_
          refine mg_at C hP dX2_here_54 ?_
          refine w_eqi (y := nI (sk)) (hat) ?_
          refine m_ald2 C hP (by omega) dX2_here_57 ?_
          refine w_eqi (y := nI (tx (sk))) (by rw [ho 2 (by decide)]; exact (hT.2.2 _ (by omega)).1) ?_
          refine lv_goto (tgt := 62) hx hb dX2_here_58 (by decide) ?_
          exact mM_retI C hlk hr hS hP dX2_here_62 ⟨by rw [if_pos (by omega)], hat, hf, ho⟩
      · exact absurd (show sk < n ∧ spB tx sk = true from ⟨by omega, decide_eq_true c_479⟩) g3

theorem hdX2_number : yX2_number.cls = "LiarClocksModel" ∧ yX2_number.cls ≠ "java/lang/invoke/MethodHandle" ∧ yX2_number.cls ≠ "java/lang/invoke/VarHandle" ∧ (parseMethodDescriptor yX2_number.desc).map (fun d => d.parameters.length) = some 2 := by decide +kernel
set_option maxHeartbeats 4000000 in
/-- number -/
theorem mX2_number (l : Launch) (D : va_G) (T : Nat → ClassId) (ad : Nat → Nat) (μ : Nat → Nat → Int32) (n : Nat) (tx : Nat → Nat) (hT : TX μ n tx) (k : Nat) (hk : μ 0 11 = nI k) (hkn : k ≤ n) (hw : μ 0 12 = 0) (lo hi : Int32) (li ui : Int) (hlo : lo.toInt = li) (hhi : hi.toInt = ui) : ∀ sz, Met l yX2_number (ws_ yX2_number cX2_number 5 (some .int)) ({ frames := 2, cells := 0, slots := 0, locals := 42 } : Room) (mPs D T ad μ [.ref (ad 0), .int lo, .int hi] sz) (mQ D T ad (fun r μ' => (∀ q, q ≠ 0 → μ' q = μ q) ∧ (∀ j, (j < 11 ∨ 14 < j) → μ' 0 j = μ 0 j) ∧ (∃ rv : Int32, r = some (.int rv)) ∧ μ' 0 11 = nI (runS (dgB tx) n (runS (spB tx) n k)) ∧ (∀ c p, numS n tx k li ui = .inl (c, p) → μ' 0 12 = nI c ∧ μ' 0 13 = nI p) ∧ ∀ v e, numS n tx k li ui = .inr (v, e) → r = some (.int (nI v)) ∧ μ' 0 12 = nI 0 ∧ μ' 0 11 = nI e ∧ μ' 0 14 = nI (runS (spB tx) n k))) 0 0 (gA 7 ad sz) := by
  refine mM_intro [.ref (ad 0), .int lo, .int hi] (by decide) rfl (Nat.le_of_ble_eq_true rfl) ?_
  intro pg en s0 mi below meth cd ls C hr hlk hml hP hS hl
  have hx := C.1
  have hb := C.2.1
  have hown := C.2.2.1
  have hts := C.2.2.2.1
  have hl : lv_has ls 5 [(0, .ref (ad 0)), (1, .int lo), (2, .int hi)] := hl
  have hn := hT.2.1
  refine lv_aload_n hx hb dX2_number_0 rfl (lv_at hl 0 rfl) ?_
  refine m_cR [] C hml hl.1 hP (mX2_fine l D T ad μ) (lw_V q855 q857 qs35 q71 q858) hdX2_fine ⟨rfl, rfl⟩ ⟨Nat.le_of_ble_eq_true rfl, Nat.le_of_ble_eq_true rfl⟩ rfl (Nat.le_of_ble_eq_true rfl) dX2_number_1 ⟨Nat.zero_le _, Nat.zero_le _⟩ ?_
  refine lv_if_ne (tgt := 9) hx hb dX2_number_4 (by decide) (fun c_481 => ?_) (fun c_481 => ?_)
  · refine lv_aload_n hx hb dX2_number_9 rfl (lv_at hl 0 rfl) ?_
    refine m_cM [] C hml hl.1 hP hS (mX2_here l D T ad μ n tx hT k hk (by omega)) (lw_V q851 q853 qs34 q71 q854) hdX2_here ⟨rfl, rfl⟩ ⟨Nat.le_of_ble_eq_true rfl, Nat.le_of_ble_eq_true rfl⟩ rfl (Nat.le_of_ble_eq_true rfl) dX2_number_10 ⟨Nat.zero_le _, Nat.zero_le _⟩ (fun v_482 μ_483 H locs hp_484 hP hS => ?_)
    obtain ⟨rfl, he_485a, he_485f, he_485o⟩ := hp_484
    refine w_eqi (y := nI (if runS (spB tx) n k < n then tx (runS (spB tx) n k) else 0)) (by split <;> rfl) ?_
    obtain ⟨fr, efr⟩ : ∃ y, y = runS (spB tx) n k := ⟨_, rfl⟩
    rw [← efr] at he_485a
    rw [← efr]
    have g1 : k ≤ fr := by rw [efr]; exact run_ge
    have g2 : fr ≤ n := by rw [efr]; exact run_le hkn
    obtain ⟨fst, efst⟩ : ∃ y, y = (if fr < n then tx fr else 0) := ⟨_, rfl⟩
    rw [← efst]
    obtain ⟨en, een⟩ : ∃ y, y = runS (dgB tx) n fr := ⟨_, rfl⟩
    have g3 : fr ≤ en := by rw [een]; exact run_ge
    have g4 : en ≤ n := by rw [een]; exact run_le g2
    have g5 : ¬ (en < n ∧ dgB tx en = true) := by rw [een]; exact run_end
    have hfst : fst < 256 := by
      rw [efst]; split
      · exact (hT.2.2 fr (by assumption)).2
      · omega
    refine lv_istore_n (lv' := [(3, .int (nI fst)), (0, .ref (ad 0)), (1, .int lo), (2, .int hi)]) hx hb dX2_number_13 rfl hl (by decide) rfl (fun ls hl => ?_)
    refine lv_aload_n hx hb dX2_number_14 rfl (lv_at hl 1 rfl) ?_
    refine lv_aload_n hx hb dX2_number_15 rfl (lv_at hl 1 rfl) ?_
    refine mg_at C hP dX2_number_16 ?_
    refine w_eqi (y := nI (fr)) (he_485a) ?_
    refine mp_from C hP hS dX2_number_19 (fun H locs hP hS => ?_)
    obtain ⟨μ_486, eμ_487⟩ : ∃ y9, y9 = mset μ_483 0 14 (nI (fr)) := ⟨_, rfl⟩
    rw [← eμ_487] at hP
    refine lv_iconst (v := nI 0) hx hb dX2_number_22 (by decide) ?_
    refine lv_istore (lv' := [(4, .int (nI 0)), (3, .int (nI fst)), (0, .ref (ad 0)), (1, .int lo), (2, .int hi)]) hx hb dX2_number_23 hl (by decide) rfl (fun ls hl => ?_)
    have hfrom : μ_486 0 14 = nI fr := by rw [eμ_487, mset_self]
    have hsz : μ_486 0 4 = nI n := by rw [eμ_487, mset_ne (Or.inr (by decide)), he_485f 4 (by decide)]; exact hT.1
    have ht2 : μ_486 2 = μ 2 := by rw [eμ_487, mset_oth (by decide), he_485o 2 (by decide)]
    have h12 : μ_486 0 12 = 0 := by rw [eμ_487, mset_ne (Or.inr (by decide)), he_485f 12 (by decide)]; exact hw
    have hq2 : ∀ q, q ≠ 0 → μ_486 q = μ q := fun q hq => by rw [eμ_487, mset_oth hq, he_485o q hq]
    have hj2 : ∀ j, (j < 11 ∨ 14 < j) → μ_486 0 j = μ 0 j := fun j hj => by rw [eμ_487, mset_ne (Or.inr (by omega)), he_485f j (by omega)]
    refine w_upM (α := Nat → Nat → Int32) (en - fr) 25 5 (gA 7 ad s0.heap.size) s0.heap (fun d μ3 => [(0, .ref (ad 0)), (1, .int lo), (2, .int hi), (3, .int (nI fst)), (4, .int (nI (dv tx fr (min d 4))))]) (fun d μ3 H => mW D T ad μ3 H ∧ μ3 0 11 = nI (fr + d) ∧ (∀ j, j ≠ 11 → μ3 0 j = μ_486 0 j) ∧ ∀ q, q ≠ 0 → μ3 q = μ_486 q) ?_ ?_ 0 (by omega) μ_486 (lv_sub hl [2, 3, 4, 1, 0] rfl) ⟨hP, by rw [eμ_487, mset_ne (Or.inr (by decide))]; exact he_485a, fun _ _ => rfl, fun _ _ => rfl⟩ hS
    · intro d μ3 ls H locs hi_d hl hW hS ih_d
      have hl : lv_has ls 5 [(0, .ref (ad 0)), (1, .int lo), (2, .int hi), (3, .int (nI fst)), (4, .int (nI (dv tx fr (min d 4))))] := hl
      obtain ⟨hP, hat, hf, ho⟩ := hW
      obtain ⟨q1, q2⟩ := run_in (p := dgB tx) (n := n) (k := fr) (j := fr + d) (by omega) (by omega)
      have q3 := q2
      unfold dgB at q3
      simp only [Bool.and_eq_true, decide_eq_true_eq] at q3
      have hdv : dv tx fr (min d 4) < 10000 := Nat.lt_of_lt_of_le (dv_lt tx fr (min d 4) (fun j hj => (run_in (p := dgB tx) (n := n) (k := fr) (j := fr + j) (by omega) (by omega)).2)) (Nat.le_trans (Nat.pow_le_pow_right (by decide) (show min d 4 ≤ 4 by omega)) (by decide))
      refine lv_aload_n hx hb dX2_number_25 rfl (lv_at hl 0 rfl) ?_
      refine mg_at C hP dX2_number_26 ?_
      refine w_eqi (y := nI (fr + d)) (hat) ?_
      refine lv_aload_n hx hb dX2_number_29 rfl (lv_at hl 0 rfl) ?_
      refine mg_size C hP dX2_number_30 ?_
      refine w_eqi (y := nI (n)) ((hf 4 (by decide)).trans hsz) ?_
      refine w_icmpN_ge (tgt := 106) hx hb dX2_number_33 (by decide) (by omega) (by omega) (fun c_488 => ?_) (fun c_488 => ?_)
      · exact absurd c_488 (by omega)
      · refine lv_aload_n hx hb dX2_number_36 rfl (lv_at hl 0 rfl) ?_
        refine mg_text C hP dX2_number_37 ?_
        refine lv_aload_n hx hb dX2_number_40 rfl (lv_at hl 0 rfl) ?_
        refine mg_at C hP dX2_number_41 ?_
        refine w_eqi (y := nI (fr + d)) (hat) ?_
        refine m_ald2 C hP (by omega) dX2_number_44 ?_
        refine w_eqi (y := nI (tx (fr + d))) (by rw [ho 2 (by decide), ht2]; exact (hT.2.2 _ (by omega)).1) ?_
        refine lv_bipush (v := nI 48) hx hb dX2_number_45 (by decide) ?_
        refine lv_bipush (v := nI 57) hx hb dX2_number_47 (by decide) ?_
        refine m_cS [.int (nI (tx (fr + d))), .int (nI 48), .int (nI 57)] C hml hl.1 (mX2_in l (nI (tx (fr + d))) (nI (48)) (nI (57))) (lw_S q842 q843 q71 q844) hdX2_in.2 ⟨rfl, rfl⟩ ⟨Nat.le_of_ble_eq_true rfl, Nat.le_of_ble_eq_true rfl⟩ rfl (Nat.le_of_ble_eq_true rfl) dX2_number_49 ⟨Nat.zero_le _, Nat.zero_le _⟩ ?_
        refine w_eqi (y := bI (dgB tx (fr + d))) (by rw [in_dg (by omega)]) ?_
        refine lv_if_eq (tgt := 106) hx hb dX2_number_52 (by decide) (fun c_489 => ?_) (fun c_489 => ?_)
        · exact absurd (q2.symm.trans (bI_eq0.mp c_489)) (by decide)
        · refine w_join (α := Int32) (fun v_490 => v_490 = nI (dv tx fr (min (d + 1) 4))) (fun v_490 => F0 mi 91 ls (.int v_490 :: [])) (fun v_490 hv_490 => ?_) (fun hJv_490 => ?_)
          · subst hv_490
            refine lv_istore (lv' := [(4, .int (nI (dv tx fr (min (d + 1) 4)))), (0, .ref (ad 0)), (1, .int lo), (2, .int hi), (3, .int (nI fst))]) hx hb dX2_number_91 hl (by decide) rfl (fun ls hl => ?_)
            refine lv_aload_n hx hb dX2_number_93 rfl (lv_at hl 1 rfl) ?_
            refine lv_dup hx hb dX2_number_94 rfl ?_
            refine mg_at C hP dX2_number_95 ?_
            refine w_eqi (y := nI (fr + d)) (hat) ?_
            refine lv_iconst (v := nI 1) hx hb dX2_number_98 (by decide) ?_
            refine w_iaddN hx hb dX2_number_99 ?_
            refine mp_at C hP hS dX2_number_100 (fun H locs hP hS => ?_)
            obtain ⟨μ_492, eμ_493⟩ : ∃ y9, y9 = mset μ3 0 11 (nI (fr + d + 1)) := ⟨_, rfl⟩
            rw [← eμ_493] at hP
            refine lv_goto (tgt := 25) hx hb dX2_number_103 (by decide) ?_
            exact ih_d μ_492 _ _ _ (lv_sub hl [1, 2, 3, 4, 0] rfl) ⟨hP, by rw [eμ_493, mset_self]; rfl, fun j hj => by rw [eμ_493, mset_ne (Or.inr hj)]; exact hf j hj, fun q hq => by rw [eμ_493, mset_oth hq]; exact ho q hq⟩ hS
          · refine lv_aload_n hx hb dX2_number_55 rfl (lv_at hl 0 rfl) ?_
            refine mg_at C hP dX2_number_56 ?_
            refine w_eqi (y := nI (fr + d)) (hat) ?_
            refine lv_aload_n hx hb dX2_number_59 rfl (lv_at hl 0 rfl) ?_
            refine mg_from C hP dX2_number_60 ?_
            refine w_eqi (y := nI (fr)) ((hf 14 (by decide)).trans hfrom) ?_
            refine w_isubN hx hb dX2_number_63 (by omega) ?_
            refine lv_iconst (v := nI 4) hx hb dX2_number_64 (by decide) ?_
            refine w_icmpN_ge (tgt := 89) hx hb dX2_number_65 (by decide) (by omega) (by omega) (fun c_491 => ?_) (fun c_491 => ?_)
            · refine lv_iload hx hb dX2_number_89 (lv_at hl 4 rfl) ?_
              exact hJv_490 _ (by rw [show min (d + 1) 4 = 4 by omega, show min d 4 = 4 by omega])
            · refine lv_bipush (v := nI 10) hx hb dX2_number_68 (by decide) ?_
              refine lv_iload hx hb dX2_number_70 (lv_at hl 4 rfl) ?_
              refine w_imulN hx hb dX2_number_72 ?_
              refine lv_aload_n hx hb dX2_number_73 rfl (lv_at hl 0 rfl) ?_
              refine mg_text C hP dX2_number_74 ?_
              refine lv_aload_n hx hb dX2_number_77 rfl (lv_at hl 0 rfl) ?_
              refine mg_at C hP dX2_number_78 ?_
              refine w_eqi (y := nI (fr + d)) (hat) ?_
              refine m_ald2 C hP (by omega) dX2_number_81 ?_
              refine w_eqi (y := nI (tx (fr + d))) (by rw [ho 2 (by decide), ht2]; exact (hT.2.2 _ (by omega)).1) ?_
              refine w_iaddN hx hb dX2_number_82 ?_
              refine lv_bipush (v := nI 48) hx hb dX2_number_83 (by decide) ?_
              refine w_isubN hx hb dX2_number_85 (by omega) ?_
              refine lv_goto (tgt := 91) hx hb dX2_number_86 (by decide) ?_
              exact hJv_490 _ (by rw [show min (d + 1) 4 = d + 1 by omega, show min d 4 = d by omega]; show nI _ = nI (10 * dv tx fr d + (tx (fr + d) - 48)); congr 1; omega)
    · intro μ3 ls H locs hl hW hS
      have hl : lv_has ls 5 [(0, .ref (ad 0)), (1, .int lo), (2, .int hi), (3, .int (nI fst)), (4, .int (nI (dv tx fr (min (en - fr) 4))))] := hl
      obtain ⟨hP, hat, hf, ho⟩ := hW
      have eks : fr + (en - fr) = en := by omega
      rw [eks] at hat
      have hdv : dv tx fr (min (en - fr) 4) < 10000 := Nat.lt_of_lt_of_le (dv_lt tx fr (min (en - fr) 4) (fun j hj => (run_in (p := dgB tx) (n := n) (k := fr) (j := fr + j) (by omega) (by omega)).2)) (Nat.le_trans (Nat.pow_le_pow_right (by decide) (show min (en - fr) 4 ≤ 4 by omega)) (by decide))
      have eN : numS n tx k li ui = if en = fr then .inl (1, fr) else if 4 < en - fr ∨ ¬ (li ≤ (dv tx fr (en - fr) : Int) ∧ (dv tx fr (en - fr) : Int) ≤ ui) then .inl (2, fr) else .inr (dv tx fr (en - fr), en) := by unfold numS; rw [← efr, ← een]
      have hq3 : ∀ q, q ≠ 0 → μ3 q = μ q := fun q hq => by rw [ho q hq, hq2 q hq]
      have hj3 : ∀ j, (j < 11 ∨ 14 < j) → μ3 0 j = μ 0 j := fun j hj => by rw [hf j (by omega), hj2 j hj]
      have hw3 : μ3 0 12 = 0 := by rw [hf 12 (by decide)]; exact h12
      have hfst2 : (decide (nI 48 ≤ nI fst) && decide (nI fst ≤ nI 57)) = decide (fr < en) := by
        have e0 := in_dg (tx := fun _ => fst) (j := 0) hfst
        rw [e0]
        by_cases hlt : fr < n
        · have ef : fst = tx fr := by rw [efst, if_pos hlt]
          by_cases hd : dgB tx fr = true
          · have : runS (dgB tx) n fr = runS (dgB tx) n (fr + 1) := run_go hlt hd
            have g := run_ge (p := dgB tx) (n := n) (k := fr + 1)
            rw [decide_eq_true (by omega)]
            unfold dgB at hd ⊢
            rw [ef]; exact hd
          · have : runS (dgB tx) n fr = fr := run_stop (fun q => hd q.2)
            rw [decide_eq_false (by omega)]
            unfold dgB at hd ⊢
            rw [ef]; exact Bool.eq_false_iff.mpr hd
        · have ef : fst = 0 := by rw [efst, if_neg hlt]
          rw [decide_eq_false (by omega), ef]
          rfl
      rw [← een]
      refine lv_aload_n hx hb dX2_number_25 rfl (lv_at hl 0 rfl) ?_
      refine mg_at C hP dX2_number_26 ?_
      refine w_eqi (y := nI (en)) (hat) ?_
      refine lv_aload_n hx hb dX2_number_29 rfl (lv_at hl 0 rfl) ?_
      refine mg_size C hP dX2_number_30 ?_
      refine w_eqi (y := nI (n)) ((hf 4 (by decide)).trans hsz) ?_
      refine w_icmpN_ge (tgt := 106) hx hb dX2_number_33 (by decide) (by omega) (by omega) (fun c_494 => ?_) (fun c_494 => ?_)
      · refine lv_iload_n hx hb dX2_number_106 rfl (lv_at hl 3 rfl) ?_
        refine lv_bipush (v := nI 48) hx hb dX2_number_107 (by decide) ?_
        refine lv_bipush (v := nI 57) hx hb dX2_number_109 (by decide) ?_
        refine m_cS [.int (nI fst), .int (nI 48), .int (nI 57)] C hml hl.1 (mX2_in l (nI (fst)) (nI (48)) (nI (57))) (lw_S q842 q843 q71 q844) hdX2_in.2 ⟨rfl, rfl⟩ ⟨Nat.le_of_ble_eq_true rfl, Nat.le_of_ble_eq_true rfl⟩ rfl (Nat.le_of_ble_eq_true rfl) dX2_number_111 ⟨Nat.zero_le _, Nat.zero_le _⟩ ?_
        refine w_eqi (y := bI (decide (fr < en))) (by rw [hfst2]) ?_
        refine lv_if_ne (tgt := 129) hx hb dX2_number_114 (by decide) (fun c_495 => ?_) (fun c_495 => ?_)
        · have hef : ¬ en = fr := by have := of_decide_eq_true (bI_ne0.mp c_495); omega
          refine lv_aload_n hx hb dX2_number_129 rfl (lv_at hl 0 rfl) ?_
          refine mg_at C hP dX2_number_130 ?_
          refine w_eqi (y := nI (en)) (hat) ?_
          refine lv_aload_n hx hb dX2_number_133 rfl (lv_at hl 0 rfl) ?_
          refine mg_from C hP dX2_number_134 ?_
          refine w_eqi (y := nI (fr)) ((hf 14 (by decide)).trans hfrom) ?_
          refine w_isubN hx hb dX2_number_137 (by omega) ?_
          refine lv_iconst (v := nI 4) hx hb dX2_number_138 (by decide) ?_
          refine w_icmpN_gt (tgt := 152) hx hb dX2_number_139 (by decide) (by omega) (by omega) (fun c_500 => ?_) (fun c_500 => ?_)
          · refine lv_aload_n hx hb dX2_number_152 rfl (lv_at hl 0 rfl) ?_
            refine lv_iconst (v := nI 2) hx hb dX2_number_153 (by decide) ?_
            refine lv_aload_n hx hb dX2_number_154 rfl (lv_at hl 0 rfl) ?_
            refine mg_from C hP dX2_number_155 ?_
            refine w_eqi (y := nI (fr)) ((hf 14 (by decide)).trans hfrom) ?_
            refine m_cM [.int (nI 2), .int (nI fr)] C hml hl.1 hP hS (mX2_fail l D T ad μ3 hw3 (nI (2)) (nI (fr))) (lw_V q867 q869 qs38 q71 q870) hdX2_fail ⟨rfl, rfl⟩ ⟨Nat.le_of_ble_eq_true rfl, Nat.le_of_ble_eq_true rfl⟩ rfl (Nat.le_of_ble_eq_true rfl) dX2_number_158 ⟨Nat.zero_le _, Nat.zero_le _⟩ (fun v_501 μ_502 H locs hp_503 hP hS => ?_)
            obtain ⟨rfl, fl_504a, fl_504b, fl_504c, fl_504d⟩ := hp_503
            refine lv_iload hx hb dX2_number_161 (lv_at hl 4 rfl) ?_
            exact mM_retI C hlk hr hS hP dX2_number_163 ⟨fun q hq => by rw [fl_504d q hq, hq3 q hq], fun j hj => by rw [fl_504c j (by omega) (by omega), hj3 j hj], ⟨_, rfl⟩, by rw [fl_504c 11 (by decide) (by decide)]; exact hat, fun c p hcp => by rw [eN, if_neg hef, if_pos (Or.inl c_500)] at hcp; have z := Sum.inl.inj hcp; have z1 := congrArg Prod.fst z; have z2 := congrArg Prod.snd z; dsimp only at z1 z2; subst z1; subst z2; exact ⟨fl_504a, fl_504b⟩, fun v e hve => by rw [eN, if_neg hef, if_pos (Or.inl c_500)] at hve; cases hve⟩
          · have hmin : min (en - fr) 4 = en - fr := by omega
            rw [hmin] at hl hdv
            refine lv_iload hx hb dX2_number_142 (lv_at hl 4 rfl) ?_
            refine lv_iload_n hx hb dX2_number_144 rfl (lv_at hl 1 rfl) ?_
            refine lv_iload_n hx hb dX2_number_145 rfl (lv_at hl 2 rfl) ?_
            refine m_cS [.int (nI (dv tx fr (en - fr))), .int lo, .int hi] C hml hl.1 (mX2_in l (nI (dv tx fr (en - fr))) lo hi) (lw_S q842 q843 q71 q844) hdX2_in.2 ⟨rfl, rfl⟩ ⟨Nat.le_of_ble_eq_true rfl, Nat.le_of_ble_eq_true rfl⟩ rfl (Nat.le_of_ble_eq_true rfl) dX2_number_146 ⟨Nat.zero_le _, Nat.zero_le _⟩ ?_
            refine lv_if_ne (tgt := 161) hx hb dX2_number_149 (by decide) (fun c_505 => ?_) (fun c_505 => ?_)
            · have hrg : li ≤ (dv tx fr (en - fr) : Int) ∧ (dv tx fr (en - fr) : Int) ≤ ui := by
                have z := bI_ne0.mp c_505
                simp only [Bool.and_eq_true, decide_eq_true_eq, w_le, nI_toInt (show dv tx fr (en - fr) < 2 ^ 31 by omega), hlo, hhi] at z
                exact z
              have hN : numS n tx k li ui = .inr (dv tx fr (en - fr), en) := by rw [eN, if_neg hef, if_neg (fun q => q.elim (by omega) (fun z => z hrg))]
              refine lv_iload hx hb dX2_number_161 (lv_at hl 4 rfl) ?_
              exact mM_retI C hlk hr hS hP dX2_number_163 ⟨hq3, hj3, ⟨_, rfl⟩, hat, fun c p hcp => (by rw [hN] at hcp; cases hcp), fun v e hve => by rw [hN] at hve; have z := Sum.inr.inj hve; have z1 := congrArg Prod.fst z; have z2 := congrArg Prod.snd z; dsimp only at z1 z2; subst z1; subst z2; exact ⟨rfl, hw3, hat, (hf 14 (by decide)).trans hfrom⟩⟩
            · have hnr : ¬ (li ≤ (dv tx fr (en - fr) : Int) ∧ (dv tx fr (en - fr) : Int) ≤ ui) := fun q => by
                have z := bI_eq0.mp c_505
                simp only [Bool.and_eq_false_iff, decide_eq_false_iff_not, w_le, nI_toInt (show dv tx fr (en - fr) < 2 ^ 31 by omega), hlo, hhi] at z
                omega
              refine lv_aload_n hx hb dX2_number_152 rfl (lv_at hl 0 rfl) ?_
              refine lv_iconst (v := nI 2) hx hb dX2_number_153 (by decide) ?_
              refine lv_aload_n hx hb dX2_number_154 rfl (lv_at hl 0 rfl) ?_
              refine mg_from C hP dX2_number_155 ?_
              refine w_eqi (y := nI (fr)) ((hf 14 (by decide)).trans hfrom) ?_
              refine m_cM [.int (nI 2), .int (nI fr)] C hml hl.1 hP hS (mX2_fail l D T ad μ3 hw3 (nI (2)) (nI (fr))) (lw_V q867 q869 qs38 q71 q870) hdX2_fail ⟨rfl, rfl⟩ ⟨Nat.le_of_ble_eq_true rfl, Nat.le_of_ble_eq_true rfl⟩ rfl (Nat.le_of_ble_eq_true rfl) dX2_number_158 ⟨Nat.zero_le _, Nat.zero_le _⟩ (fun v_506 μ_507 H locs hp_508 hP hS => ?_)
              obtain ⟨rfl, fl_509a, fl_509b, fl_509c, fl_509d⟩ := hp_508
              refine lv_iload hx hb dX2_number_161 (lv_at hl 4 rfl) ?_
              exact mM_retI C hlk hr hS hP dX2_number_163 ⟨fun q hq => by rw [fl_509d q hq, hq3 q hq], fun j hj => by rw [fl_509c j (by omega) (by omega), hj3 j hj], ⟨_, rfl⟩, by rw [fl_509c 11 (by decide) (by decide)]; exact hat, fun c p hcp => by rw [eN, if_neg hef, if_pos (Or.inr hnr)] at hcp; have z := Sum.inl.inj hcp; have z1 := congrArg Prod.fst z; have z2 := congrArg Prod.snd z; dsimp only at z1 z2; subst z1; subst z2; exact ⟨fl_509a, fl_509b⟩, fun v e hve => by rw [eN, if_neg hef, if_pos (Or.inr hnr)] at hve; cases hve⟩
        · have hef : en = fr := by have := of_decide_eq_false (bI_eq0.mp c_495); omega
          refine lv_aload_n hx hb dX2_number_117 rfl (lv_at hl 0 rfl) ?_
          refine lv_iconst (v := nI 1) hx hb dX2_number_118 (by decide) ?_
          refine lv_aload_n hx hb dX2_number_119 rfl (lv_at hl 0 rfl) ?_
          refine mg_from C hP dX2_number_120 ?_
          refine w_eqi (y := nI (fr)) ((hf 14 (by decide)).trans hfrom) ?_
          refine m_cM [.int (nI 1), .int (nI fr)] C hml hl.1 hP hS (mX2_fail l D T ad μ3 hw3 (nI (1)) (nI (fr))) (lw_V q867 q869 qs38 q71 q870) hdX2_fail ⟨rfl, rfl⟩ ⟨Nat.le_of_ble_eq_true rfl, Nat.le_of_ble_eq_true rfl⟩ rfl (Nat.le_of_ble_eq_true rfl) dX2_number_123 ⟨Nat.zero_le _, Nat.zero_le _⟩ (fun v_496 μ_497 H locs hp_498 hP hS => ?_)
          obtain ⟨rfl, fl_499a, fl_499b, fl_499c, fl_499d⟩ := hp_498
          refine lv_goto (tgt := 161) hx hb dX2_number_126 (by decide) ?_
          refine lv_iload hx hb dX2_number_161 (lv_at hl 4 rfl) ?_
          exact mM_retI C hlk hr hS hP dX2_number_163 ⟨fun q hq => by rw [fl_499d q hq, hq3 q hq], fun j hj => by rw [fl_499c j (by omega) (by omega), hj3 j hj], ⟨_, rfl⟩, by rw [fl_499c 11 (by decide) (by decide)]; exact hat, fun c p hcp => by rw [eN, if_pos hef] at hcp; have z := Sum.inl.inj hcp; have z1 := congrArg Prod.fst z; have z2 := congrArg Prod.snd z; dsimp only at z1 z2; subst z1; subst z2; exact ⟨fl_499a, fl_499b⟩, fun v e hve => by rw [eN, if_pos hef] at hve; cases hve⟩
      · have hb1 := (hT.2.2 en (by omega)).2
        refine lv_aload_n hx hb dX2_number_36 rfl (lv_at hl 0 rfl) ?_
        refine mg_text C hP dX2_number_37 ?_
        refine lv_aload_n hx hb dX2_number_40 rfl (lv_at hl 0 rfl) ?_
        refine mg_at C hP dX2_number_41 ?_
        refine w_eqi (y := nI (en)) (hat) ?_
        refine m_ald2 C hP (by omega) dX2_number_44 ?_
        refine w_eqi (y := nI (tx (en))) (by rw [ho 2 (by decide), ht2]; exact (hT.2.2 _ (by omega)).1) ?_
        refine lv_bipush (v := nI 48) hx hb dX2_number_45 (by decide) ?_
        refine lv_bipush (v := nI 57) hx hb dX2_number_47 (by decide) ?_
        refine m_cS [.int (nI (tx (en))), .int (nI 48), .int (nI 57)] C hml hl.1 (mX2_in l (nI (tx (en))) (nI (48)) (nI (57))) (lw_S q842 q843 q71 q844) hdX2_in.2 ⟨rfl, rfl⟩ ⟨Nat.le_of_ble_eq_true rfl, Nat.le_of_ble_eq_true rfl⟩ rfl (Nat.le_of_ble_eq_true rfl) dX2_number_49 ⟨Nat.zero_le _, Nat.zero_le _⟩ ?_
        refine w_eqi (y := bI (dgB tx en)) (by rw [in_dg hb1]) ?_
        refine lv_if_eq (tgt := 106) hx hb dX2_number_52 (by decide) (fun c_510 => ?_) (fun c_510 => ?_)
        · refine lv_iload_n hx hb dX2_number_106 rfl (lv_at hl 3 rfl) ?_
          refine lv_bipush (v := nI 48) hx hb dX2_number_107 (by decide) ?_
          refine lv_bipush (v := nI 57) hx hb dX2_number_109 (by decide) ?_
          refine m_cS [.int (nI fst), .int (nI 48), .int (nI 57)] C hml hl.1 (mX2_in l (nI (fst)) (nI (48)) (nI (57))) (lw_S q842 q843 q71 q844) hdX2_in.2 ⟨rfl, rfl⟩ ⟨Nat.le_of_ble_eq_true rfl, Nat.le_of_ble_eq_true rfl⟩ rfl (Nat.le_of_ble_eq_true rfl) dX2_number_111 ⟨Nat.zero_le _, Nat.zero_le _⟩ ?_
          refine w_eqi (y := bI (decide (fr < en))) (by rw [hfst2]) ?_
          refine lv_if_ne (tgt := 129) hx hb dX2_number_114 (by decide) (fun c_511 => ?_) (fun c_511 => ?_)
          · have hef : ¬ en = fr := by have := of_decide_eq_true (bI_ne0.mp c_511); omega
            refine lv_aload_n hx hb dX2_number_129 rfl (lv_at hl 0 rfl) ?_
            refine mg_at C hP dX2_number_130 ?_
            refine w_eqi (y := nI (en)) (hat) ?_
            refine lv_aload_n hx hb dX2_number_133 rfl (lv_at hl 0 rfl) ?_
            refine mg_from C hP dX2_number_134 ?_
            refine w_eqi (y := nI (fr)) ((hf 14 (by decide)).trans hfrom) ?_
            refine w_isubN hx hb dX2_number_137 (by omega) ?_
            refine lv_iconst (v := nI 4) hx hb dX2_number_138 (by decide) ?_
            refine w_icmpN_gt (tgt := 152) hx hb dX2_number_139 (by decide) (by omega) (by omega) (fun c_516 => ?_) (fun c_516 => ?_)
            · refine lv_aload_n hx hb dX2_number_152 rfl (lv_at hl 0 rfl) ?_
              refine lv_iconst (v := nI 2) hx hb dX2_number_153 (by decide) ?_
              refine lv_aload_n hx hb dX2_number_154 rfl (lv_at hl 0 rfl) ?_
              refine mg_from C hP dX2_number_155 ?_
              refine w_eqi (y := nI (fr)) ((hf 14 (by decide)).trans hfrom) ?_
              refine m_cM [.int (nI 2), .int (nI fr)] C hml hl.1 hP hS (mX2_fail l D T ad μ3 hw3 (nI (2)) (nI (fr))) (lw_V q867 q869 qs38 q71 q870) hdX2_fail ⟨rfl, rfl⟩ ⟨Nat.le_of_ble_eq_true rfl, Nat.le_of_ble_eq_true rfl⟩ rfl (Nat.le_of_ble_eq_true rfl) dX2_number_158 ⟨Nat.zero_le _, Nat.zero_le _⟩ (fun v_517 μ_518 H locs hp_519 hP hS => ?_)
              obtain ⟨rfl, fl_520a, fl_520b, fl_520c, fl_520d⟩ := hp_519
              refine lv_iload hx hb dX2_number_161 (lv_at hl 4 rfl) ?_
              exact mM_retI C hlk hr hS hP dX2_number_163 ⟨fun q hq => by rw [fl_520d q hq, hq3 q hq], fun j hj => by rw [fl_520c j (by omega) (by omega), hj3 j hj], ⟨_, rfl⟩, by rw [fl_520c 11 (by decide) (by decide)]; exact hat, fun c p hcp => by rw [eN, if_neg hef, if_pos (Or.inl c_516)] at hcp; have z := Sum.inl.inj hcp; have z1 := congrArg Prod.fst z; have z2 := congrArg Prod.snd z; dsimp only at z1 z2; subst z1; subst z2; exact ⟨fl_520a, fl_520b⟩, fun v e hve => by rw [eN, if_neg hef, if_pos (Or.inl c_516)] at hve; cases hve⟩
            · have hmin : min (en - fr) 4 = en - fr := by omega
              rw [hmin] at hl hdv
              refine lv_iload hx hb dX2_number_142 (lv_at hl 4 rfl) ?_
              refine lv_iload_n hx hb dX2_number_144 rfl (lv_at hl 1 rfl) ?_
              refine lv_iload_n hx hb dX2_number_145 rfl (lv_at hl 2 rfl) ?_
              refine m_cS [.int (nI (dv tx fr (en - fr))), .int lo, .int hi] C hml hl.1 (mX2_in l (nI (dv tx fr (en - fr))) lo hi) (lw_S q842 q843 q71 q844) hdX2_in.2 ⟨rfl, rfl⟩ ⟨Nat.le_of_ble_eq_true rfl, Nat.le_of_ble_eq_true rfl⟩ rfl (Nat.le_of_ble_eq_true rfl) dX2_number_146 ⟨Nat.zero_le _, Nat.zero_le _⟩ ?_
              refine lv_if_ne (tgt := 161) hx hb dX2_number_149 (by decide) (fun c_521 => ?_) (fun c_521 => ?_)
              · have hrg : li ≤ (dv tx fr (en - fr) : Int) ∧ (dv tx fr (en - fr) : Int) ≤ ui := by
                  have z := bI_ne0.mp c_521
                  simp only [Bool.and_eq_true, decide_eq_true_eq, w_le, nI_toInt (show dv tx fr (en - fr) < 2 ^ 31 by omega), hlo, hhi] at z
                  exact z
                have hN : numS n tx k li ui = .inr (dv tx fr (en - fr), en) := by rw [eN, if_neg hef, if_neg (fun q => q.elim (by omega) (fun z => z hrg))]
                refine lv_iload hx hb dX2_number_161 (lv_at hl 4 rfl) ?_
                exact mM_retI C hlk hr hS hP dX2_number_163 ⟨hq3, hj3, ⟨_, rfl⟩, hat, fun c p hcp => (by rw [hN] at hcp; cases hcp), fun v e hve => by rw [hN] at hve; have z := Sum.inr.inj hve; have z1 := congrArg Prod.fst z; have z2 := congrArg Prod.snd z; dsimp only at z1 z2; subst z1; subst z2; exact ⟨rfl, hw3, hat, (hf 14 (by decide)).trans hfrom⟩⟩
              · have hnr : ¬ (li ≤ (dv tx fr (en - fr) : Int) ∧ (dv tx fr (en - fr) : Int) ≤ ui) := fun q => by
                  have z := bI_eq0.mp c_521
                  simp only [Bool.and_eq_false_iff, decide_eq_false_iff_not, w_le, nI_toInt (show dv tx fr (en - fr) < 2 ^ 31 by omega), hlo, hhi] at z
                  omega
                refine lv_aload_n hx hb dX2_number_152 rfl (lv_at hl 0 rfl) ?_
                refine lv_iconst (v := nI 2) hx hb dX2_number_153 (by decide) ?_
                refine lv_aload_n hx hb dX2_number_154 rfl (lv_at hl 0 rfl) ?_
                refine mg_from C hP dX2_number_155 ?_
                refine w_eqi (y := nI (fr)) ((hf 14 (by decide)).trans hfrom) ?_
                refine m_cM [.int (nI 2), .int (nI fr)] C hml hl.1 hP hS (mX2_fail l D T ad μ3 hw3 (nI (2)) (nI (fr))) (lw_V q867 q869 qs38 q71 q870) hdX2_fail ⟨rfl, rfl⟩ ⟨Nat.le_of_ble_eq_true rfl, Nat.le_of_ble_eq_true rfl⟩ rfl (Nat.le_of_ble_eq_true rfl) dX2_number_158 ⟨Nat.zero_le _, Nat.zero_le _⟩ (fun v_522 μ_523 H locs hp_524 hP hS => ?_)
                obtain ⟨rfl, fl_525a, fl_525b, fl_525c, fl_525d⟩ := hp_524
                refine lv_iload hx hb dX2_number_161 (lv_at hl 4 rfl) ?_
                exact mM_retI C hlk hr hS hP dX2_number_163 ⟨fun q hq => by rw [fl_525d q hq, hq3 q hq], fun j hj => by rw [fl_525c j (by omega) (by omega), hj3 j hj], ⟨_, rfl⟩, by rw [fl_525c 11 (by decide) (by decide)]; exact hat, fun c p hcp => by rw [eN, if_neg hef, if_pos (Or.inr hnr)] at hcp; have z := Sum.inl.inj hcp; have z1 := congrArg Prod.fst z; have z2 := congrArg Prod.snd z; dsimp only at z1 z2; subst z1; subst z2; exact ⟨fl_525a, fl_525b⟩, fun v e hve => by rw [eN, if_neg hef, if_pos (Or.inr hnr)] at hve; cases hve⟩
          · have hef : en = fr := by have := of_decide_eq_false (bI_eq0.mp c_511); omega
            refine lv_aload_n hx hb dX2_number_117 rfl (lv_at hl 0 rfl) ?_
            refine lv_iconst (v := nI 1) hx hb dX2_number_118 (by decide) ?_
            refine lv_aload_n hx hb dX2_number_119 rfl (lv_at hl 0 rfl) ?_
            refine mg_from C hP dX2_number_120 ?_
            refine w_eqi (y := nI (fr)) ((hf 14 (by decide)).trans hfrom) ?_
            refine m_cM [.int (nI 1), .int (nI fr)] C hml hl.1 hP hS (mX2_fail l D T ad μ3 hw3 (nI (1)) (nI (fr))) (lw_V q867 q869 qs38 q71 q870) hdX2_fail ⟨rfl, rfl⟩ ⟨Nat.le_of_ble_eq_true rfl, Nat.le_of_ble_eq_true rfl⟩ rfl (Nat.le_of_ble_eq_true rfl) dX2_number_123 ⟨Nat.zero_le _, Nat.zero_le _⟩ (fun v_512 μ_513 H locs hp_514 hP hS => ?_)
            obtain ⟨rfl, fl_515a, fl_515b, fl_515c, fl_515d⟩ := hp_514
            refine lv_goto (tgt := 161) hx hb dX2_number_126 (by decide) ?_
            refine lv_iload hx hb dX2_number_161 (lv_at hl 4 rfl) ?_
            exact mM_retI C hlk hr hS hP dX2_number_163 ⟨fun q hq => by rw [fl_515d q hq, hq3 q hq], fun j hj => by rw [fl_515c j (by omega) (by omega), hj3 j hj], ⟨_, rfl⟩, by rw [fl_515c 11 (by decide) (by decide)]; exact hat, fun c p hcp => by rw [eN, if_pos hef] at hcp; have z := Sum.inl.inj hcp; have z1 := congrArg Prod.fst z; have z2 := congrArg Prod.snd z; dsimp only at z1 z2; subst z1; subst z2; exact ⟨fl_515a, fl_515b⟩, fun v e hve => by rw [eN, if_pos hef] at hve; cases hve⟩
        · exact absurd (show en < n ∧ dgB tx en = true from ⟨by omega, bI_ne0.mp c_510⟩) g5
  · exact absurd hw (of_decide_eq_false (bI_eq0.mp c_481))

set_option maxHeartbeats 4000000 in
/-- number, when something is wrong -/
theorem mX2_number_b (l : Launch) (D : va_G) (T : Nat → ClassId) (ad : Nat → Nat) (μ : Nat → Nat → Int32) (hw : ¬ μ 0 12 = 0) (lo hi : Int32) : ∀ sz, Met l yX2_number (ws_ yX2_number cX2_number 5 (some .int)) ({ frames := 1, cells := 0, slots := 0, locals := 20 } : Room) (mPs D T ad μ [.ref (ad 0), .int lo, .int hi] sz) (mQ D T ad (fun r μ' => r = some (.int lo) ∧ μ' = μ)) 0 0 (gA 7 ad sz) := by
  refine mM_intro [.ref (ad 0), .int lo, .int hi] (by decide) rfl (Nat.le_of_ble_eq_true rfl) ?_
  intro pg en s0 mi below meth cd ls C hr hlk hml hP hS hl
  have hx := C.1
  have hb := C.2.1
  have hown := C.2.2.1
  have hts := C.2.2.2.1
  have hl : lv_has ls 5 [(0, .ref (ad 0)), (1, .int lo), (2, .int hi)] := hl
  refine lv_aload_n hx hb dX2_number_0 rfl (lv_at hl 0 rfl) ?_
  refine m_cR [] C hml hl.1 hP (mX2_fine l D T ad μ) (lw_V q855 q857 qs35 q71 q858) hdX2_fine ⟨rfl, rfl⟩ ⟨Nat.le_of_ble_eq_true rfl, Nat.le_of_ble_eq_true rfl⟩ rfl (Nat.le_of_ble_eq_true rfl) dX2_number_1 ⟨Nat.zero_le _, Nat.zero_le _⟩ ?_
  refine lv_if_ne (tgt := 9) hx hb dX2_number_4 (by decide) (fun c_526 => ?_) (fun c_526 => ?_)
  · exact absurd (of_decide_eq_true (bI_ne0.mp c_526)) hw
  · refine lv_iload_n hx hb dX2_number_7 rfl (lv_at hl 1 rfl) ?_
    exact mM_retI C hlk hr hS hP dX2_number_8 ⟨rfl, rfl⟩

theorem hdX2_readClock : yX2_readClock.cls = "LiarClocksModel" ∧ yX2_readClock.cls ≠ "java/lang/invoke/MethodHandle" ∧ yX2_readClock.cls ≠ "java/lang/invoke/VarHandle" ∧ (parseMethodDescriptor yX2_readClock.desc).map (fun d => d.parameters.length) = some 1 := by decide +kernel
set_option maxHeartbeats 4000000 in
/-- readClock -/
theorem mX2_readClock (l : Launch) (D : va_G) (T : Nat → ClassId) (ad : Nat → Nat) (μ : Nat → Nat → Int32) (n : Nat) (tx : Nat → Nat) (hT : TX μ n tx) (s : PS) (p : Nat) (hpn : p < n) (hs : PRs μ (p + 1, s.2)) (hw : μ 0 12 = 0) (hI : RI s.2.1) : ∀ sz, Met l yX2_readClock (ws_ yX2_readClock cX2_readClock 3 none) ({ frames := 3, cells := 0, slots := 0, locals := 66 } : Room) (mPs D T ad μ [.ref (ad 0), .int (nI p)] sz) (mQ D T ad (fun r μ' => r = none ∧ FRm μ μ' ∧ (∀ k, 14 < k → μ' 0 k = μ 0 k) ∧ WPm (clockP n tx s p) μ')) 0 0 (gA 7 ad sz) := by
  refine mM_intro [.ref (ad 0), .int (nI p)] (by decide) rfl (Nat.le_of_ble_eq_true rfl) ?_
  intro pg en s0 mi below meth cd ls C hr hlk hml hP hS hl
  have hx := C.1
  have hb := C.2.1
  have hown := C.2.2.1
  have hts := C.2.2.2.1
  have hl : lv_has ls 3 [(0, .ref (ad 0)), (1, .int (nI p))] := hl
  have hn := hT.2.1
  have h8 := hI.many8
  obtain ⟨s1, s2, s3, s4⟩ := hs
  have s1 : μ 0 11 = nI (p + 1) := s1
  have s2 : Rp (μ 1) 3648 s.2.1 := s2
  refine lv_aload_n hx hb dX2_readClock_0 rfl (lv_at hl 0 rfl) ?_
  refine mg_w C hP dX2_readClock_1 ?_
  refine lv_sipush (v := nI 3648) hx hb dX2_readClock_4 (by decide) ?_
  refine m_ald1 C hP (by omega) dX2_readClock_7 ?_
  refine w_eqi (rp_many s2 (by omega)) ?_
  refine w_eqi (hI.many) ?_
  refine lv_istore_n (lv' := [(2, .int (nI (nM s.2.1))), (0, .ref (ad 0)), (1, .int (nI p))]) hx hb dX2_readClock_8 rfl hl (by decide) rfl (fun ls hl => ?_)
  refine lv_iload_n hx hb dX2_readClock_9 rfl (lv_at hl 0 rfl) ?_
  refine lv_bipush (v := nI 8) hx hb dX2_readClock_10 (by decide) ?_
  refine w_icmpN_ne (tgt := 22) hx hb dX2_readClock_12 (by decide) (by omega) (by omega) (fun c_527 => ?_) (fun c_527 => ?_)
  · refine lv_aload_n hx hb dX2_readClock_22 rfl (lv_at hl 1 rfl) ?_
    refine mg_w C hP dX2_readClock_23 ?_
    refine lv_sipush (v := nI 3651) hx hb dX2_readClock_26 (by decide) ?_
    refine lv_iload_n hx hb dX2_readClock_29 rfl (lv_at hl 0 rfl) ?_
    refine w_iaddN hx hb dX2_readClock_30 ?_
    refine lv_aload_n hx hb dX2_readClock_31 rfl (lv_at hl 1 rfl) ?_
    refine lv_iconst (v := nI 0) hx hb dX2_readClock_32 (by decide) ?_
    refine lv_sipush (v := nI 9999) hx hb dX2_readClock_33 (by decide) ?_
    refine m_cM [.int (nI 0), .int (nI 9999)] C hml hl.1 hP hS (mX2_number l D T ad μ n tx hT (p + 1) s1 (by omega) hw (nI (0)) (nI (9999)) 0 9999 (by decide) (by decide)) (lw_V q871 q873 qs39 q71 q874) hdX2_number ⟨rfl, rfl⟩ ⟨Nat.le_of_ble_eq_true rfl, Nat.le_of_ble_eq_true rfl⟩ rfl (Nat.le_of_ble_eq_true rfl) dX2_readClock_36 ⟨Nat.zero_le _, Nat.zero_le _⟩ (fun v_532 μ_533 H locs hp_534 hP hS => ?_)
    obtain ⟨nu_535o, nu_535j, ⟨nu_535v, nu_535r⟩, nu_535a, nu_535x, nu_535y⟩ := hp_534
    subst nu_535r
    rcases hNnu_535 : numS n tx (p + 1) 0 9999 with ⟨cnu_535, pnu_535⟩ | ⟨vnu_535, enu_535⟩
    · obtain ⟨nu_5351, nu_5352⟩ := nu_535x _ _ hNnu_535
      have nu_535b := numS_bad hNnu_535
      have nu_535w : ¬ μ_533 0 12 = 0 := by rw [nu_5351]; exact nI_ne0 (by omega) (by omega)
      refine m_ast1 C hP hS (by omega) dX2_readClock_39 (fun H locs hP hS => ?_)
      obtain ⟨μ_536, eμ_537⟩ : ∃ y9, y9 = mset μ_533 1 (3651 + (nM s.2.1)) nu_535v := ⟨_, rfl⟩
      rw [← eμ_537] at hP
      have hbw : ¬ μ_536 0 12 = 0 := by rw [eμ_537, mset_oth (by decide)]; exact nu_535w
      refine lv_aload_n hx hb dX2_readClock_40 rfl (lv_at hl 1 rfl) ?_
      refine mg_w C hP dX2_readClock_41 ?_
      refine lv_sipush (v := nI 3659) hx hb dX2_readClock_44 (by decide) ?_
      refine lv_iload_n hx hb dX2_readClock_47 rfl (lv_at hl 0 rfl) ?_
      refine w_iaddN hx hb dX2_readClock_48 ?_
      refine lv_aload_n hx hb dX2_readClock_49 rfl (lv_at hl 1 rfl) ?_
      refine lv_bipush (v := nI 90) hx hb dX2_readClock_50 (by decide) ?_
      refine lv_bipush (v := nI 110) hx hb dX2_readClock_52 (by decide) ?_
      refine m_cM [.int (nI 90), .int (nI 110)] C hml hl.1 hP hS (mX2_number_b l D T ad μ_536 hbw (nI (90)) (nI (110))) (lw_V q871 q873 qs39 q71 q874) hdX2_number ⟨rfl, rfl⟩ ⟨Nat.le_of_ble_eq_true rfl, Nat.le_of_ble_eq_true rfl⟩ rfl (Nat.le_of_ble_eq_true rfl) dX2_readClock_54 ⟨Nat.zero_le _, Nat.zero_le _⟩ (fun v_538 μ_539 H locs hp_540 hP hS => ?_)
      obtain ⟨rfl, eμ_539⟩ := hp_540
      rw [eμ_539] at hP
      refine m_ast1 C hP hS (by omega) dX2_readClock_57 (fun H locs hP hS => ?_)
      obtain ⟨μ_541, eμ_542⟩ : ∃ y9, y9 = mset μ_536 1 (3659 + (nM s.2.1)) (nI (90)) := ⟨_, rfl⟩
      rw [← eμ_542] at hP
      refine lv_aload_n hx hb dX2_readClock_58 rfl (lv_at hl 1 rfl) ?_
      refine mg_w C hP dX2_readClock_59 ?_
      refine lv_sipush (v := nI 3648) hx hb dX2_readClock_62 (by decide) ?_
      refine lv_dup2_11 hx hb dX2_readClock_65 rfl rfl ?_
      refine m_ald1 C hP (by omega) dX2_readClock_66 ?_
      refine lv_iconst (v := nI 1) hx hb dX2_readClock_67 (by decide) ?_
      refine lv_iadd hx hb dX2_readClock_68 ?_
      refine m_ast1 C hP hS (by omega) dX2_readClock_69 (fun H locs hP hS => ?_)
      obtain ⟨μ_543, eμ_544⟩ : ∃ y9, y9 = mset μ_541 1 (3648) ((μ_541 1 (3648)) + (nI (1))) := ⟨_, rfl⟩
      rw [← eμ_544] at hP
      have q0 : μ_543 0 = μ_533 0 := by rw [eμ_544, mset_oth (by decide), eμ_542, mset_oth (by decide), eμ_537, mset_oth (by decide)]
      have fr := ((FRm.fld (μ := μ) (fun k hk => nu_535j k (by omega)) nu_535o).ast (by omega) eμ_537).ast (by omega) eμ_542 |>.ast (by omega) eμ_544
      have hm : ¬ nM s.2.1 = 8 := c_527
      have eC : clockP n tx s p = .inl (cnu_535, pnu_535) := by unfold clockP; rw [if_neg hm, hNnu_535]
      exact mM_retV C hlk hr hS hP dX2_readClock_70 ⟨rfl, fr, fun k hk => by rw [q0]; exact nu_535j k (by omega), fun c q hcq => by rw [eC] at hcq; have z := Sum.inl.inj hcq; have z1 := congrArg Prod.fst z; have z2 := congrArg Prod.snd z; dsimp only at z1 z2; subst z1; subst z2; exact ⟨by omega, by rw [q0]; exact nu_5351, by rw [q0]; exact nu_5352, _, Nat.le_trans (run_le (p := dgB tx) (n := n) (run_le (p := spB tx) (show p + 1 ≤ n by omega))) (by omega), by rw [q0]; exact nu_535a⟩, fun u hu => by rw [eC] at hu; cases hu⟩
    · obtain ⟨nu_5351, nu_5352, nu_5353, nu_5354⟩ := nu_535y _ _ hNnu_535
      have nu_535g := numS_ok hNnu_535
      have nu_535v_e : nu_535v = nI vnu_535 := Value.int.inj (Option.some.inj nu_5351)
      subst nu_535v_e
      refine m_ast1 C hP hS (by omega) dX2_readClock_39 (fun H locs hP hS => ?_)
      obtain ⟨μ_545, eμ_546⟩ : ∃ y9, y9 = mset μ_533 1 (3651 + (nM s.2.1)) (nI (vnu_535)) := ⟨_, rfl⟩
      rw [← eμ_546] at hP
      have hm : ¬ nM s.2.1 = 8 := c_527
      have hR1 : Rp (μ_545 1) 3648 (mset s.2.1 1 (nM s.2.1) (nI vnu_535)) := by rw [eμ_546, mset_row, nu_535o 1 (by decide)]; exact rp_up1 s2 _ _ (by omega) (by omega)
      have fr1 : FRm μ μ_545 := (FRm.fld (μ := μ) (fun k hk => nu_535j k (by omega)) nu_535o).ast (by omega) eμ_546
      have hT1 := hT.fr fr1
      have w1 : μ_545 0 12 = 0 := by rw [eμ_546, mset_oth (by decide)]; exact nu_5352
      have a1 : μ_545 0 11 = nI enu_535 := by rw [eμ_546, mset_oth (by decide)]; exact nu_5353
      refine lv_aload_n hx hb dX2_readClock_40 rfl (lv_at hl 1 rfl) ?_
      refine mg_w C hP dX2_readClock_41 ?_
      refine lv_sipush (v := nI 3659) hx hb dX2_readClock_44 (by decide) ?_
      refine lv_iload_n hx hb dX2_readClock_47 rfl (lv_at hl 0 rfl) ?_
      refine w_iaddN hx hb dX2_readClock_48 ?_
      refine lv_aload_n hx hb dX2_readClock_49 rfl (lv_at hl 1 rfl) ?_
      refine lv_bipush (v := nI 90) hx hb dX2_readClock_50 (by decide) ?_
      refine lv_bipush (v := nI 110) hx hb dX2_readClock_52 (by decide) ?_
      refine m_cM [.int (nI 90), .int (nI 110)] C hml hl.1 hP hS (mX2_number l D T ad μ_545 n tx hT1 enu_535 a1 (by omega) w1 (nI (90)) (nI (110)) 90 110 (by decide) (by decide)) (lw_V q871 q873 qs39 q71 q874) hdX2_number ⟨rfl, rfl⟩ ⟨Nat.le_of_ble_eq_true rfl, Nat.le_of_ble_eq_true rfl⟩ rfl (Nat.le_of_ble_eq_true rfl) dX2_readClock_54 ⟨Nat.zero_le _, Nat.zero_le _⟩ (fun v_547 μ_548 H locs hp_549 hP hS => ?_)
      obtain ⟨nu_550o, nu_550j, ⟨nu_550v, nu_550r⟩, nu_550a, nu_550x, nu_550y⟩ := hp_549
      subst nu_550r
      rcases hNnu_550 : numS n tx (enu_535) 90 110 with ⟨cnu_550, pnu_550⟩ | ⟨vnu_550, enu_550⟩
      · obtain ⟨nu_5501, nu_5502⟩ := nu_550x _ _ hNnu_550
        have nu_550b := numS_bad hNnu_550
        have nu_550w : ¬ μ_548 0 12 = 0 := by rw [nu_5501]; exact nI_ne0 (by omega) (by omega)
        refine m_ast1 C hP hS (by omega) dX2_readClock_57 (fun H locs hP hS => ?_)
        obtain ⟨μ_551, eμ_552⟩ : ∃ y9, y9 = mset μ_548 1 (3659 + (nM s.2.1)) nu_550v := ⟨_, rfl⟩
        rw [← eμ_552] at hP
        refine lv_aload_n hx hb dX2_readClock_58 rfl (lv_at hl 1 rfl) ?_
        refine mg_w C hP dX2_readClock_59 ?_
        refine lv_sipush (v := nI 3648) hx hb dX2_readClock_62 (by decide) ?_
        refine lv_dup2_11 hx hb dX2_readClock_65 rfl rfl ?_
        refine m_ald1 C hP (by omega) dX2_readClock_66 ?_
        refine lv_iconst (v := nI 1) hx hb dX2_readClock_67 (by decide) ?_
        refine lv_iadd hx hb dX2_readClock_68 ?_
        refine m_ast1 C hP hS (by omega) dX2_readClock_69 (fun H locs hP hS => ?_)
        obtain ⟨μ_553, eμ_554⟩ : ∃ y9, y9 = mset μ_551 1 (3648) ((μ_551 1 (3648)) + (nI (1))) := ⟨_, rfl⟩
        rw [← eμ_554] at hP
        have q0 : μ_553 0 = μ_548 0 := by rw [eμ_554, mset_oth (by decide), eμ_552, mset_oth (by decide)]
        have fr := (fr1.tr (FRm.fld (fun k hk => nu_550j k (by omega)) nu_550o)).ast (by omega) eμ_552 |>.ast (by omega) eμ_554
        have eC : clockP n tx s p = .inl (cnu_550, pnu_550) := by unfold clockP; rw [if_neg hm, hNnu_535]; dsimp only; rw [hNnu_550]
        exact mM_retV C hlk hr hS hP dX2_readClock_70 ⟨rfl, fr, fun k hk => by rw [q0, nu_550j k (by omega), eμ_546, mset_oth (by decide)]; exact nu_535j k (by omega), fun c q hcq => by rw [eC] at hcq; have z := Sum.inl.inj hcq; have z1 := congrArg Prod.fst z; have z2 := congrArg Prod.snd z; dsimp only at z1 z2; subst z1; subst z2; exact ⟨by omega, by rw [q0]; exact nu_5501, by rw [q0]; exact nu_5502, _, Nat.le_trans (run_le (p := dgB tx) (n := n) (run_le (p := spB tx) (show enu_535 ≤ n by omega))) (by omega), by rw [q0]; exact nu_550a⟩, fun u hu => by rw [eC] at hu; cases hu⟩
      · obtain ⟨nu_5501, nu_5502, nu_5503, nu_5504⟩ := nu_550y _ _ hNnu_550
        have nu_550g := numS_ok hNnu_550
        have nu_550v_e : nu_550v = nI vnu_550 := Value.int.inj (Option.some.inj nu_5501)
        subst nu_550v_e
        refine m_ast1 C hP hS (by omega) dX2_readClock_57 (fun H locs hP hS => ?_)
        obtain ⟨μ_555, eμ_556⟩ : ∃ y9, y9 = mset μ_548 1 (3659 + (nM s.2.1)) (nI (vnu_550)) := ⟨_, rfl⟩
        rw [← eμ_556] at hP
        have hR2 : Rp (μ_555 1) 3648 (mset (mset s.2.1 1 (nM s.2.1) (nI vnu_535)) 2 (nM s.2.1) (nI vnu_550)) := by rw [eμ_556, mset_row, nu_550o 1 (by decide)]; exact rp_up2 hR1 _ _ (by omega) (by omega)
        refine lv_aload_n hx hb dX2_readClock_58 rfl (lv_at hl 1 rfl) ?_
        refine mg_w C hP dX2_readClock_59 ?_
        refine lv_sipush (v := nI 3648) hx hb dX2_readClock_62 (by decide) ?_
        refine lv_dup2_11 hx hb dX2_readClock_65 rfl rfl ?_
        refine m_ald1 C hP (by omega) dX2_readClock_66 ?_
        refine w_eqi (rp_many hR2 (by omega)) ?_
        refine w_eqi (y := nI (nM s.2.1)) (by rw [mset_ne (Or.inl (by decide)), mset_ne (Or.inl (by decide))]; exact hI.many) ?_
        refine lv_iconst (v := nI 1) hx hb dX2_readClock_67 (by decide) ?_
        refine w_iaddN hx hb dX2_readClock_68 ?_
        refine m_ast1 C hP hS (by omega) dX2_readClock_69 (fun H locs hP hS => ?_)
        obtain ⟨μ_557, eμ_558⟩ : ∃ y9, y9 = mset μ_555 1 (3648) (nI (nM s.2.1 + 1)) := ⟨_, rfl⟩
        rw [← eμ_558] at hP
        have fr := (fr1.tr (FRm.fld (fun k hk => nu_550j k (by omega)) nu_550o)).ast (by omega) eμ_556 |>.ast (by omega) eμ_558
        have q0 : μ_557 0 = μ_548 0 := by rw [eμ_558, mset_oth (by decide), eμ_556, mset_oth (by decide)]
        have eC : clockP n tx s p = .inr (enu_550, mset (mset (mset s.2.1 1 (nM s.2.1) (nI vnu_535)) 2 (nM s.2.1) (nI vnu_550)) 0 0 (nI (nM s.2.1 + 1)), s.2.2) := by unfold clockP; rw [if_neg hm, hNnu_535]; dsimp only; rw [hNnu_550]
        have q15 : ∀ k, 14 < k → μ_557 0 k = μ 0 k := fun k hk => by rw [q0, nu_550j k (by omega), eμ_546, mset_oth (by decide)]; exact nu_535j k (by omega)
        exact mM_retV C hlk hr hS hP dX2_readClock_70 ⟨rfl, fr, q15, fun c q hcq => (by rw [eC] at hcq; cases hcq), fun u hu => by rw [eC] at hu; have z := Sum.inr.inj hu; subst z; exact ⟨by rw [q0]; exact nu_5502, by rw [q0]; exact nu_5503, by rw [eμ_558, mset_row]; exact rp_up00 hR2 _ (by omega), (q15 15 (by decide)).trans s3, (q15 16 (by decide)).trans s4⟩⟩
  · refine lv_aload_n hx hb dX2_readClock_15 rfl (lv_at hl 1 rfl) ?_
    refine lv_iconst (v := nI 3) hx hb dX2_readClock_16 (by decide) ?_
    refine lv_iload_n hx hb dX2_readClock_17 rfl (lv_at hl 2 rfl) ?_
    refine m_cM [.int (nI 3), .int (nI p)] C hml hl.1 hP hS (mX2_fail l D T ad μ hw (nI (3)) (nI (p))) (lw_V q867 q869 qs38 q71 q870) hdX2_fail ⟨rfl, rfl⟩ ⟨Nat.le_of_ble_eq_true rfl, Nat.le_of_ble_eq_true rfl⟩ rfl (Nat.le_of_ble_eq_true rfl) dX2_readClock_18 ⟨Nat.zero_le _, Nat.zero_le _⟩ (fun v_528 μ_529 H locs hp_530 hP hS => ?_)
    obtain ⟨rfl, fl_531a, fl_531b, fl_531c, fl_531d⟩ := hp_530
    have eC : clockP n tx s p = .inl (3, p) := if_pos c_527
    exact mM_retV C hlk hr hS hP dX2_readClock_21 ⟨rfl, FRm.fld (fun k hk => fl_531c k (by omega) (by omega)) fl_531d, fun k hk => fl_531c k (by omega) (by omega), fun c q hcq => by rw [eC] at hcq; have z := Sum.inl.inj hcq; have z1 := congrArg Prod.fst z; have z2 := congrArg Prod.snd z; dsimp only at z1 z2; subst z1; subst z2; exact ⟨by omega, fl_531a, fl_531b, p + 1, by omega, by rw [fl_531c 11 (by decide) (by decide)]; exact s1⟩, fun u hu => by rw [eC] at hu; cases hu⟩

theorem hdX2_readOther : yX2_readOther.cls = "LiarClocksModel" ∧ yX2_readOther.cls ≠ "java/lang/invoke/MethodHandle" ∧ yX2_readOther.cls ≠ "java/lang/invoke/VarHandle" ∧ (parseMethodDescriptor yX2_readOther.desc).map (fun d => d.parameters.length) = some 2 := by decide +kernel
set_option maxHeartbeats 4000000 in
/-- readOther -/
theorem mX2_readOther (l : Launch) (D : va_G) (T : Nat → ClassId) (ad : Nat → Nat) (μ : Nat → Nat → Int32) (n : Nat) (tx : Nat → Nat) (hT : TX μ n tx) (s : PS) (p : Nat) (hpn : p < n) (hs : PRs μ (p + 1, s.2)) (hw : μ 0 12 = 0) (hI : RI s.2.1) (h107 : ¬ tx p = 107) : ∀ sz, Met l yX2_readOther (ws_ yX2_readOther cX2_readOther 5 none) ({ frames := 3, cells := 0, slots := 0, locals := 66 } : Room) (mPs D T ad μ [.ref (ad 0), .int (nI (tx p)), .int (nI p)] sz) (mQ D T ad (fun r μ' => r = none ∧ FRm μ μ' ∧ WPm (wordP n tx s p) μ')) 0 0 (gA 7 ad sz) := by
  refine mM_intro [.ref (ad 0), .int (nI (tx p)), .int (nI p)] (by decide) rfl (Nat.le_of_ble_eq_true rfl) ?_
  intro pg en s0 mi below meth cd ls C hr hlk hml hP hS hl
  have hx := C.1
  have hb := C.2.1
  have hown := C.2.2.1
  have hts := C.2.2.2.1
  have hl : lv_has ls 5 [(0, .ref (ad 0)), (1, .int (nI (tx p))), (2, .int (nI p))] := hl
  have hn := hT.2.1
  have h8 := hI.many8
  obtain ⟨s1, s2, s3, s4⟩ := hs
  have s1 : μ 0 11 = nI (p + 1) := s1
  have s2 : Rp (μ 1) 3648 s.2.1 := s2
  have s3 : μ 0 15 = bI s.2.2.1 := s3
  have s4 : μ 0 16 = bI s.2.2.2 := s4
  obtain ⟨tp, etp⟩ : ∃ y, y = tx p := ⟨_, rfl⟩
  have htp : tp < 256 := by rw [etp]; exact (hT.2.2 p hpn).2
  rw [← etp] at hl
  refine w_join (α := Int32) (fun v_559 => v_559 = bI ((decide (tp = 102) && s.2.2.1) || (decide (tp = 115) && s.2.2.2))) (fun v_559 => F0 mi 33 ls (.int v_559 :: [])) (fun v_559 hv_559 => ?_) (fun hJv_559 => ?_)
  · subst hv_559
    refine lv_istore_n (lv' := [(3, .int (bI ((decide (tp = 102) && s.2.2.1) || (decide (tp = 115) && s.2.2.2)))), (0, .ref (ad 0)), (1, .int (nI tp)), (2, .int (nI p))]) hx hb dX2_readOther_33 rfl hl (by decide) rfl (fun ls hl => ?_)
    refine lv_iload_n hx hb dX2_readOther_34 rfl (lv_at hl 0 rfl) ?_
    refine lv_if_eq (tgt := 47) hx hb dX2_readOther_35 (by decide) (fun c_566 => ?_) (fun c_566 => ?_)
    · have hag := bI_eq0.mp c_566
      simp only [Bool.or_eq_false_iff, Bool.and_eq_false_iff, decide_eq_false_iff_not] at hag
      refine lv_iload_n hx hb dX2_readOther_47 rfl (lv_at hl 2 rfl) ?_
      refine lv_bipush (v := nI 102) hx hb dX2_readOther_48 (by decide) ?_
      refine w_icmpN_ne (tgt := 75) hx hb dX2_readOther_50 (by decide) (by omega) (by omega) (fun c_571 => ?_) (fun c_571 => ?_)
      · refine lv_iload_n hx hb dX2_readOther_75 rfl (lv_at hl 2 rfl) ?_
        refine lv_bipush (v := nI 115) hx hb dX2_readOther_76 (by decide) ?_
        refine w_icmpN_ne (tgt := 104) hx hb dX2_readOther_78 (by decide) (by omega) (by omega) (fun c_582 => ?_) (fun c_582 => ?_)
        · refine lv_iload_n hx hb dX2_readOther_104 rfl (lv_at hl 2 rfl) ?_
          refine lv_bipush (v := nI 108) hx hb dX2_readOther_105 (by decide) ?_
          refine w_icmpN_ne (tgt := 180) hx hb dX2_readOther_107 (by decide) (by omega) (by omega) (fun c_593 => ?_) (fun c_593 => ?_)
          · have eC : wordP n tx s p = .inl (1, p) := by unfold wordP; rw [← etp, if_neg (by omega), if_neg c_571, if_neg c_582, if_neg c_593]
            refine lv_aload_n hx hb dX2_readOther_180 rfl (lv_at hl 1 rfl) ?_
            refine lv_iconst (v := nI 1) hx hb dX2_readOther_181 (by decide) ?_
            refine lv_iload_n hx hb dX2_readOther_182 rfl (lv_at hl 3 rfl) ?_
            refine m_cM [.int (nI 1), .int (nI p)] C hml hl.1 hP hS (mX2_fail l D T ad μ hw (nI (1)) (nI (p))) (lw_V q867 q869 qs38 q71 q870) hdX2_fail ⟨rfl, rfl⟩ ⟨Nat.le_of_ble_eq_true rfl, Nat.le_of_ble_eq_true rfl⟩ rfl (Nat.le_of_ble_eq_true rfl) dX2_readOther_183 ⟨Nat.zero_le _, Nat.zero_le _⟩ (fun v_594 μ_595 H locs hp_596 hP hS => ?_)
            obtain ⟨rfl, fl_597a, fl_597b, fl_597c, fl_597d⟩ := hp_596
            exact mM_retV C hlk hr hS hP dX2_readOther_186 ⟨rfl, FRm.fld (fun k hk => fl_597c k (by omega) (by omega)) fl_597d, fun c q hcq => by rw [eC] at hcq; have z := Sum.inl.inj hcq; have z1 := congrArg Prod.fst z; have z2 := congrArg Prod.snd z; dsimp only at z1 z2; subst z1; subst z2; exact ⟨by omega, fl_597a, fl_597b, p + 1, by omega, by rw [fl_597c 11 (by decide) (by decide)]; exact s1⟩, fun u hu => (by rw [eC] at hu; cases hu)⟩
          · refine lv_aload_n hx hb dX2_readOther_110 rfl (lv_at hl 1 rfl) ?_
            refine lv_iconst (v := nI 0) hx hb dX2_readOther_111 (by decide) ?_
            refine lv_aload_n hx hb dX2_readOther_112 rfl (lv_at hl 1 rfl) ?_
            refine mg_w C hP dX2_readOther_113 ?_
            refine lv_sipush (v := nI 3648) hx hb dX2_readOther_116 (by decide) ?_
            refine m_ald1 C hP (by omega) dX2_readOther_119 ?_
            refine w_eqi (rp_many s2 (by omega)) ?_
            refine w_eqi (hI.many) ?_
            refine lv_iconst (v := nI 1) hx hb dX2_readOther_120 (by decide) ?_
            refine lv_isub hx hb dX2_readOther_121 ?_
            refine m_cM [.int (nI 0), .int ((nI (nM s.2.1)) - (nI (1)))] C hml hl.1 hP hS (mX2_number l D T ad μ n tx hT (p + 1) s1 (by omega) hw (nI (0)) ((nI (nM s.2.1)) - (nI (1))) 0 ((nM s.2.1 : Int) - 1) (by decide) (pk_sub_toInt (by omega) (by omega))) (lw_V q871 q873 qs39 q71 q874) hdX2_number ⟨rfl, rfl⟩ ⟨Nat.le_of_ble_eq_true rfl, Nat.le_of_ble_eq_true rfl⟩ rfl (Nat.le_of_ble_eq_true rfl) dX2_readOther_122 ⟨Nat.zero_le _, Nat.zero_le _⟩ (fun v_598 μ_599 H locs hp_600 hP hS => ?_)
            obtain ⟨nu_601o, nu_601j, ⟨nu_601v, nu_601r⟩, nu_601a, nu_601x, nu_601y⟩ := hp_600
            subst nu_601r
            have hRN : Rp (μ_599 1) 3648 s.2.1 := by rw [nu_601o 1 (by decide)]; exact s2
            rcases hNnu_601 : numS n tx (p + 1) 0 ((nM s.2.1 : Int) - 1) with ⟨cnu_601, pnu_601⟩ | ⟨vnu_601, enu_601⟩
            · obtain ⟨nu_6011, nu_6012⟩ := nu_601x _ _ hNnu_601
              have nu_601b := numS_bad hNnu_601
              have nu_601w : ¬ μ_599 0 12 = 0 := by rw [nu_6011]; exact nI_ne0 (by omega) (by omega)
              refine lv_istore (lv' := [(4, .int nu_601v), (3, .int (bI ((decide (tp = 102) && s.2.2.1) || (decide (tp = 115) && s.2.2.2)))), (0, .ref (ad 0)), (1, .int (nI tp)), (2, .int (nI p))]) hx hb dX2_readOther_125 hl (by decide) rfl (fun ls hl => ?_)
              refine lv_aload_n hx hb dX2_readOther_127 rfl (lv_at hl 2 rfl) ?_
              refine m_cR [] C hml hl.1 hP (mX2_fine l D T ad μ_599) (lw_V q855 q857 qs35 q71 q858) hdX2_fine ⟨rfl, rfl⟩ ⟨Nat.le_of_ble_eq_true rfl, Nat.le_of_ble_eq_true rfl⟩ rfl (Nat.le_of_ble_eq_true rfl) dX2_readOther_128 ⟨Nat.zero_le _, Nat.zero_le _⟩ ?_
              refine lv_if_eq (tgt := 158) hx hb dX2_readOther_131 (by decide) (fun c_602 => ?_) (fun c_602 => ?_)
              · refine lv_aload_n hx hb dX2_readOther_158 rfl (lv_at hl 2 rfl) ?_
                refine m_cR [] C hml hl.1 hP (mX2_fine l D T ad μ_599) (lw_V q855 q857 qs35 q71 q858) hdX2_fine ⟨rfl, rfl⟩ ⟨Nat.le_of_ble_eq_true rfl, Nat.le_of_ble_eq_true rfl⟩ rfl (Nat.le_of_ble_eq_true rfl) dX2_readOther_159 ⟨Nat.zero_le _, Nat.zero_le _⟩ ?_
                refine lv_if_eq (tgt := 177) hx hb dX2_readOther_162 (by decide) (fun c_603 => ?_) (fun c_603 => ?_)
                · refine lv_goto (tgt := 186) hx hb dX2_readOther_177 (by decide) ?_
                  have eC : wordP n tx s p = .inl (cnu_601, pnu_601) := by unfold wordP; rw [← etp, if_neg (by omega), if_neg c_571, if_neg c_582, if_pos c_593]; unfold liarP; rw [hNnu_601]
                  have fr : FRm μ μ_599 := FRm.fld (fun k hk => nu_601j k (by omega)) nu_601o
                  exact mM_retV C hlk hr hS hP dX2_readOther_186 ⟨rfl, fr, fun c q hcq => by rw [eC] at hcq; have z := Sum.inl.inj hcq; have z1 := congrArg Prod.fst z; have z2 := congrArg Prod.snd z; dsimp only at z1 z2; subst z1; subst z2; exact ⟨by omega, nu_6011, nu_6012, _, Nat.le_trans (run_le (p := dgB tx) (n := n) (run_le (p := spB tx) (show p + 1 ≤ n by omega))) (by omega), nu_601a⟩, fun u hu => (by rw [eC] at hu; cases hu)⟩
                · exact absurd (of_decide_eq_true (bI_ne0.mp c_603)) nu_601w
              · exact absurd (of_decide_eq_true (bI_ne0.mp c_602)) nu_601w
            · obtain ⟨nu_6011, nu_6012, nu_6013, nu_6014⟩ := nu_601y _ _ hNnu_601
              have nu_601g := numS_ok hNnu_601
              have nu_601v_e : nu_601v = nI vnu_601 := Value.int.inj (Option.some.inj nu_6011)
              subst nu_601v_e
              refine lv_istore (lv' := [(4, .int (nI vnu_601)), (3, .int (bI ((decide (tp = 102) && s.2.2.1) || (decide (tp = 115) && s.2.2.2)))), (0, .ref (ad 0)), (1, .int (nI tp)), (2, .int (nI p))]) hx hb dX2_readOther_125 hl (by decide) rfl (fun ls hl => ?_)
              refine lv_aload_n hx hb dX2_readOther_127 rfl (lv_at hl 2 rfl) ?_
              refine m_cR [] C hml hl.1 hP (mX2_fine l D T ad μ_599) (lw_V q855 q857 qs35 q71 q858) hdX2_fine ⟨rfl, rfl⟩ ⟨Nat.le_of_ble_eq_true rfl, Nat.le_of_ble_eq_true rfl⟩ rfl (Nat.le_of_ble_eq_true rfl) dX2_readOther_128 ⟨Nat.zero_le _, Nat.zero_le _⟩ ?_
              refine lv_if_eq (tgt := 158) hx hb dX2_readOther_131 (by decide) (fun c_604 => ?_) (fun c_604 => ?_)
              · exact absurd nu_6012 (of_decide_eq_false (bI_eq0.mp c_604))
              · refine lv_aload_n hx hb dX2_readOther_134 rfl (lv_at hl 2 rfl) ?_
                refine mg_w C hP dX2_readOther_135 ?_
                refine lv_sipush (v := nI 3675) hx hb dX2_readOther_138 (by decide) ?_
                refine lv_iload hx hb dX2_readOther_141 (lv_at hl 0 rfl) ?_
                refine w_iaddN hx hb dX2_readOther_143 ?_
                refine m_ald1 C hP (by omega) dX2_readOther_144 ?_
                refine w_eqi (rp_4 hRN (vnu_601) (by omega) (by omega)) ?_
                refine lv_iconst (v := 1) hx hb dX2_readOther_145 (by decide) ?_
                refine lv_icmp_ne (tgt := 158) hx hb dX2_readOther_146 (by decide) (fun c_605 => ?_) (fun c_605 => ?_)
                · refine lv_aload_n hx hb dX2_readOther_158 rfl (lv_at hl 2 rfl) ?_
                  refine m_cR [] C hml hl.1 hP (mX2_fine l D T ad μ_599) (lw_V q855 q857 qs35 q71 q858) hdX2_fine ⟨rfl, rfl⟩ ⟨Nat.le_of_ble_eq_true rfl, Nat.le_of_ble_eq_true rfl⟩ rfl (Nat.le_of_ble_eq_true rfl) dX2_readOther_159 ⟨Nat.zero_le _, Nat.zero_le _⟩ ?_
                  refine lv_if_eq (tgt := 177) hx hb dX2_readOther_162 (by decide) (fun c_611 => ?_) (fun c_611 => ?_)
                  · exact absurd nu_6012 (of_decide_eq_false (bI_eq0.mp c_611))
                  · refine lv_aload_n hx hb dX2_readOther_165 rfl (lv_at hl 2 rfl) ?_
                    refine mg_w C hP dX2_readOther_166 ?_
                    refine lv_sipush (v := nI 3675) hx hb dX2_readOther_169 (by decide) ?_
                    refine lv_iload hx hb dX2_readOther_172 (lv_at hl 0 rfl) ?_
                    refine w_iaddN hx hb dX2_readOther_174 ?_
                    refine lv_iconst (v := 1) hx hb dX2_readOther_175 (by decide) ?_
                    refine m_ast1 C hP hS (by omega) dX2_readOther_176 (fun H locs hP hS => ?_)
                    obtain ⟨μ_612, eμ_613⟩ : ∃ y9, y9 = mset μ_599 1 (3675 + vnu_601) 1 := ⟨_, rfl⟩
                    rw [← eμ_613] at hP
                    refine lv_goto (tgt := 186) hx hb dX2_readOther_177 (by decide) ?_
                    have eC : wordP n tx s p = .inr (enu_601, mset s.2.1 4 vnu_601 1, s.2.2) := by unfold wordP; rw [← etp, if_neg (by omega), if_neg c_571, if_neg c_582, if_pos c_593]; unfold liarP; rw [hNnu_601]; exact if_neg c_605
                    have fr : FRm μ μ_612 := (FRm.fld (fun k hk => nu_601j k (by omega)) nu_601o).ast (by omega) eμ_613
                    have q0 : μ_612 0 = μ_599 0 := by rw [eμ_613, mset_oth (by decide)]
                    exact mM_retV C hlk hr hS hP dX2_readOther_186 ⟨rfl, fr, fun c q hcq => (by rw [eC] at hcq; cases hcq), fun u hu => by rw [eC] at hu; have z := Sum.inr.inj hu; subst z; exact ⟨by rw [q0]; exact nu_6012, by rw [q0]; exact nu_6013, by rw [eμ_613, mset_row]; exact rp_up4 hRN _ _ (by omega) (by omega), by rw [q0, nu_601j 15 (by omega)]; exact s3, by rw [q0, nu_601j 16 (by omega)]; exact s4⟩⟩
                · refine lv_aload_n hx hb dX2_readOther_149 rfl (lv_at hl 2 rfl) ?_
                  refine lv_iconst (v := nI 4) hx hb dX2_readOther_150 (by decide) ?_
                  refine lv_aload_n hx hb dX2_readOther_151 rfl (lv_at hl 2 rfl) ?_
                  refine mg_from C hP dX2_readOther_152 ?_
                  refine w_eqi (y := nI (runS (spB tx) n (p + 1))) (nu_6014) ?_
                  refine m_cM [.int (nI 4), .int (nI (runS (spB tx) n (p + 1)))] C hml hl.1 hP hS (mX2_fail l D T ad μ_599 nu_6012 (nI (4)) (nI (runS (spB tx) n (p + 1)))) (lw_V q867 q869 qs38 q71 q870) hdX2_fail ⟨rfl, rfl⟩ ⟨Nat.le_of_ble_eq_true rfl, Nat.le_of_ble_eq_true rfl⟩ rfl (Nat.le_of_ble_eq_true rfl) dX2_readOther_155 ⟨Nat.zero_le _, Nat.zero_le _⟩ (fun v_606 μ_607 H locs hp_608 hP hS => ?_)
                  obtain ⟨rfl, fl_609a, fl_609b, fl_609c, fl_609d⟩ := hp_608
                  refine lv_aload_n hx hb dX2_readOther_158 rfl (lv_at hl 2 rfl) ?_
                  refine m_cR [] C hml hl.1 hP (mX2_fine l D T ad μ_607) (lw_V q855 q857 qs35 q71 q858) hdX2_fine ⟨rfl, rfl⟩ ⟨Nat.le_of_ble_eq_true rfl, Nat.le_of_ble_eq_true rfl⟩ rfl (Nat.le_of_ble_eq_true rfl) dX2_readOther_159 ⟨Nat.zero_le _, Nat.zero_le _⟩ ?_
                  have hbw : ¬ μ_607 0 12 = 0 := by rw [fl_609a]; decide
                  refine lv_if_eq (tgt := 177) hx hb dX2_readOther_162 (by decide) (fun c_610 => ?_) (fun c_610 => ?_)
                  · refine lv_goto (tgt := 186) hx hb dX2_readOther_177 (by decide) ?_
                    have eC : wordP n tx s p = .inl (4, runS (spB tx) n (p + 1)) := by unfold wordP; rw [← etp, if_neg (by omega), if_neg c_571, if_neg c_582, if_pos c_593]; unfold liarP; rw [hNnu_601]; exact if_pos c_605
                    have fr : FRm μ μ_607 := (FRm.fld (fun k hk => nu_601j k (by omega)) nu_601o).tr (FRm.fld (fun k hk => fl_609c k (by omega) (by omega)) fl_609d)
                    exact mM_retV C hlk hr hS hP dX2_readOther_186 ⟨rfl, fr, fun c q hcq => by rw [eC] at hcq; have z := Sum.inl.inj hcq; have z1 := congrArg Prod.fst z; have z2 := congrArg Prod.snd z; dsimp only at z1 z2; subst z1; subst z2; exact ⟨by omega, fl_609a, fl_609b, enu_601, by omega, by rw [fl_609c 11 (by decide) (by decide)]; exact nu_6013⟩, fun u hu => (by rw [eC] at hu; cases hu)⟩
                  · exact absurd (of_decide_eq_true (bI_ne0.mp c_610)) hbw
        · have htf : ¬ s.2.2.2 = true := hag.2.elim (fun z => absurd c_582 z) (fun z => by rw [z]; decide)
          refine lv_aload_n hx hb dX2_readOther_81 rfl (lv_at hl 1 rfl) ?_
          refine lv_iconst (v := nI 1) hx hb dX2_readOther_82 (by decide) ?_
          refine mp_toldS C hP hS dX2_readOther_83 (fun H locs hP hS => ?_)
          obtain ⟨μ_583, eμ_584⟩ : ∃ y9, y9 = mset μ 0 16 (nI (1)) := ⟨_, rfl⟩
          rw [← eμ_584] at hP
          have a0 : μ_583 0 11 = nI (p + 1) := by rw [eμ_584, mset_ne (Or.inr (by decide))]; exact s1
          have w0 : μ_583 0 12 = 0 := by rw [eμ_584, mset_ne (Or.inr (by decide))]; exact hw
          have fr0 : FRm μ μ_583 := FRm.rf.put (by decide) eμ_584
          have hT0 := hT.fr fr0
          refine lv_aload_n hx hb dX2_readOther_86 rfl (lv_at hl 1 rfl) ?_
          refine mg_w C hP dX2_readOther_87 ?_
          refine lv_sipush (v := nI 3650) hx hb dX2_readOther_90 (by decide) ?_
          refine lv_aload_n hx hb dX2_readOther_93 rfl (lv_at hl 1 rfl) ?_
          refine lv_iconst (v := nI 0) hx hb dX2_readOther_94 (by decide) ?_
          refine lv_bipush (v := nI 80) hx hb dX2_readOther_95 (by decide) ?_
          refine m_cM [.int (nI 0), .int (nI 80)] C hml hl.1 hP hS (mX2_number l D T ad μ_583 n tx hT0 (p + 1) a0 (by omega) w0 (nI (0)) (nI (80)) 0 80 (by decide) (by decide)) (lw_V q871 q873 qs39 q71 q874) hdX2_number ⟨rfl, rfl⟩ ⟨Nat.le_of_ble_eq_true rfl, Nat.le_of_ble_eq_true rfl⟩ rfl (Nat.le_of_ble_eq_true rfl) dX2_readOther_97 ⟨Nat.zero_le _, Nat.zero_le _⟩ (fun v_585 μ_586 H locs hp_587 hP hS => ?_)
          obtain ⟨nu_588o, nu_588j, ⟨nu_588v, nu_588r⟩, nu_588a, nu_588x, nu_588y⟩ := hp_587
          subst nu_588r
          rcases hNnu_588 : numS n tx (p + 1) 0 80 with ⟨cnu_588, pnu_588⟩ | ⟨vnu_588, enu_588⟩
          · obtain ⟨nu_5881, nu_5882⟩ := nu_588x _ _ hNnu_588
            have nu_588b := numS_bad hNnu_588
            have nu_588w : ¬ μ_586 0 12 = 0 := by rw [nu_5881]; exact nI_ne0 (by omega) (by omega)
            refine m_ast1 C hP hS (by omega) dX2_readOther_100 (fun H locs hP hS => ?_)
            obtain ⟨μ_589, eμ_590⟩ : ∃ y9, y9 = mset μ_586 1 (3650) nu_588v := ⟨_, rfl⟩
            rw [← eμ_590] at hP
            refine lv_goto (tgt := 186) hx hb dX2_readOther_101 (by decide) ?_
            have eC : wordP n tx s p = .inl (cnu_588, pnu_588) := by unfold wordP; rw [← etp, if_neg (by omega), if_neg c_571, if_pos c_582]; unfold stepP; rw [if_neg htf, hNnu_588]
            have q0 : μ_589 0 = μ_586 0 := by rw [eμ_590, mset_oth (by decide)]
            have fr := (fr0.tr (FRm.fld (fun k hk => nu_588j k (by omega)) nu_588o)).ast (by omega) eμ_590
            exact mM_retV C hlk hr hS hP dX2_readOther_186 ⟨rfl, fr, fun c q hcq => by rw [eC] at hcq; have z := Sum.inl.inj hcq; have z1 := congrArg Prod.fst z; have z2 := congrArg Prod.snd z; dsimp only at z1 z2; subst z1; subst z2; exact ⟨by omega, by rw [q0]; exact nu_5881, by rw [q0]; exact nu_5882, _, Nat.le_trans (run_le (p := dgB tx) (n := n) (run_le (p := spB tx) (show p + 1 ≤ n by omega))) (by omega), by rw [q0]; exact nu_588a⟩, fun u hu => (by rw [eC] at hu; cases hu)⟩
          · obtain ⟨nu_5881, nu_5882, nu_5883, nu_5884⟩ := nu_588y _ _ hNnu_588
            have nu_588g := numS_ok hNnu_588
            have nu_588v_e : nu_588v = nI vnu_588 := Value.int.inj (Option.some.inj nu_5881)
            subst nu_588v_e
            refine m_ast1 C hP hS (by omega) dX2_readOther_100 (fun H locs hP hS => ?_)
            obtain ⟨μ_591, eμ_592⟩ : ∃ y9, y9 = mset μ_586 1 (3650) (nI (vnu_588)) := ⟨_, rfl⟩
            rw [← eμ_592] at hP
            refine lv_goto (tgt := 186) hx hb dX2_readOther_101 (by decide) ?_
            have eC : wordP n tx s p = .inr (enu_588, mset s.2.1 0 2 (nI vnu_588), s.2.2.1, true) := by unfold wordP; rw [← etp, if_neg (by omega), if_neg c_571, if_pos c_582]; unfold stepP; rw [if_neg htf, hNnu_588]
            have q0 : μ_591 0 = μ_586 0 := by rw [eμ_592, mset_oth (by decide)]
            have fr := (fr0.tr (FRm.fld (fun k hk => nu_588j k (by omega)) nu_588o)).ast (by omega) eμ_592
            have hRn : Rp (μ_591 1) 3648 (mset s.2.1 0 2 (nI vnu_588)) := by rw [eμ_592, mset_row, nu_588o 1 (by decide), eμ_584, mset_oth (by decide)]; exact rp_up02 s2 _ (by omega)
            exact mM_retV C hlk hr hS hP dX2_readOther_186 ⟨rfl, fr, fun c q hcq => (by rw [eC] at hcq; cases hcq), fun u hu => by rw [eC] at hu; have z := Sum.inr.inj hu; subst z; exact ⟨by rw [q0]; exact nu_5882, by rw [q0]; exact nu_5883, hRn, by rw [q0, nu_588j 15 (by omega), eμ_584, mset_ne (Or.inr (by decide))]; exact s3, by rw [q0, nu_588j 16 (by omega), eμ_584, mset_self]; rfl⟩⟩
      · have htf : ¬ s.2.2.1 = true := hag.1.elim (fun z => absurd c_571 z) (fun z => by rw [z]; decide)
        refine lv_aload_n hx hb dX2_readOther_53 rfl (lv_at hl 1 rfl) ?_
        refine lv_iconst (v := nI 1) hx hb dX2_readOther_54 (by decide) ?_
        refine mp_toldF C hP hS dX2_readOther_55 (fun H locs hP hS => ?_)
        obtain ⟨μ_572, eμ_573⟩ : ∃ y9, y9 = mset μ 0 15 (nI (1)) := ⟨_, rfl⟩
        rw [← eμ_573] at hP
        have a0 : μ_572 0 11 = nI (p + 1) := by rw [eμ_573, mset_ne (Or.inr (by decide))]; exact s1
        have w0 : μ_572 0 12 = 0 := by rw [eμ_573, mset_ne (Or.inr (by decide))]; exact hw
        have fr0 : FRm μ μ_572 := FRm.rf.put (by decide) eμ_573
        have hT0 := hT.fr fr0
        refine lv_aload_n hx hb dX2_readOther_58 rfl (lv_at hl 1 rfl) ?_
        refine mg_w C hP dX2_readOther_59 ?_
        refine lv_sipush (v := nI 3649) hx hb dX2_readOther_62 (by decide) ?_
        refine lv_aload_n hx hb dX2_readOther_65 rfl (lv_at hl 1 rfl) ?_
        refine lv_iconst (v := nI 0) hx hb dX2_readOther_66 (by decide) ?_
        refine lv_iconst (v := nI 3) hx hb dX2_readOther_67 (by decide) ?_
        refine m_cM [.int (nI 0), .int (nI 3)] C hml hl.1 hP hS (mX2_number l D T ad μ_572 n tx hT0 (p + 1) a0 (by omega) w0 (nI (0)) (nI (3)) 0 3 (by decide) (by decide)) (lw_V q871 q873 qs39 q71 q874) hdX2_number ⟨rfl, rfl⟩ ⟨Nat.le_of_ble_eq_true rfl, Nat.le_of_ble_eq_true rfl⟩ rfl (Nat.le_of_ble_eq_true rfl) dX2_readOther_68 ⟨Nat.zero_le _, Nat.zero_le _⟩ (fun v_574 μ_575 H locs hp_576 hP hS => ?_)
        obtain ⟨nu_577o, nu_577j, ⟨nu_577v, nu_577r⟩, nu_577a, nu_577x, nu_577y⟩ := hp_576
        subst nu_577r
        rcases hNnu_577 : numS n tx (p + 1) 0 3 with ⟨cnu_577, pnu_577⟩ | ⟨vnu_577, enu_577⟩
        · obtain ⟨nu_5771, nu_5772⟩ := nu_577x _ _ hNnu_577
          have nu_577b := numS_bad hNnu_577
          have nu_577w : ¬ μ_575 0 12 = 0 := by rw [nu_5771]; exact nI_ne0 (by omega) (by omega)
          refine m_ast1 C hP hS (by omega) dX2_readOther_71 (fun H locs hP hS => ?_)
          obtain ⟨μ_578, eμ_579⟩ : ∃ y9, y9 = mset μ_575 1 (3649) nu_577v := ⟨_, rfl⟩
          rw [← eμ_579] at hP
          refine lv_goto (tgt := 186) hx hb dX2_readOther_72 (by decide) ?_
          have eC : wordP n tx s p = .inl (cnu_577, pnu_577) := by unfold wordP; rw [← etp, if_neg (by omega), if_pos c_571]; unfold strikeP; rw [if_neg htf, hNnu_577]
          have q0 : μ_578 0 = μ_575 0 := by rw [eμ_579, mset_oth (by decide)]
          have fr := (fr0.tr (FRm.fld (fun k hk => nu_577j k (by omega)) nu_577o)).ast (by omega) eμ_579
          exact mM_retV C hlk hr hS hP dX2_readOther_186 ⟨rfl, fr, fun c q hcq => by rw [eC] at hcq; have z := Sum.inl.inj hcq; have z1 := congrArg Prod.fst z; have z2 := congrArg Prod.snd z; dsimp only at z1 z2; subst z1; subst z2; exact ⟨by omega, by rw [q0]; exact nu_5771, by rw [q0]; exact nu_5772, _, Nat.le_trans (run_le (p := dgB tx) (n := n) (run_le (p := spB tx) (show p + 1 ≤ n by omega))) (by omega), by rw [q0]; exact nu_577a⟩, fun u hu => (by rw [eC] at hu; cases hu)⟩
        · obtain ⟨nu_5771, nu_5772, nu_5773, nu_5774⟩ := nu_577y _ _ hNnu_577
          have nu_577g := numS_ok hNnu_577
          have nu_577v_e : nu_577v = nI vnu_577 := Value.int.inj (Option.some.inj nu_5771)
          subst nu_577v_e
          refine m_ast1 C hP hS (by omega) dX2_readOther_71 (fun H locs hP hS => ?_)
          obtain ⟨μ_580, eμ_581⟩ : ∃ y9, y9 = mset μ_575 1 (3649) (nI (vnu_577)) := ⟨_, rfl⟩
          rw [← eμ_581] at hP
          refine lv_goto (tgt := 186) hx hb dX2_readOther_72 (by decide) ?_
          have eC : wordP n tx s p = .inr (enu_577, mset s.2.1 0 1 (nI vnu_577), true, s.2.2.2) := by unfold wordP; rw [← etp, if_neg (by omega), if_pos c_571]; unfold strikeP; rw [if_neg htf, hNnu_577]
          have q0 : μ_580 0 = μ_575 0 := by rw [eμ_581, mset_oth (by decide)]
          have fr := (fr0.tr (FRm.fld (fun k hk => nu_577j k (by omega)) nu_577o)).ast (by omega) eμ_581
          have hRn : Rp (μ_580 1) 3648 (mset s.2.1 0 1 (nI vnu_577)) := by rw [eμ_581, mset_row, nu_577o 1 (by decide), eμ_573, mset_oth (by decide)]; exact rp_up01 s2 _ (by omega)
          exact mM_retV C hlk hr hS hP dX2_readOther_186 ⟨rfl, fr, fun c q hcq => (by rw [eC] at hcq; cases hcq), fun u hu => by rw [eC] at hu; have z := Sum.inr.inj hu; subst z; exact ⟨by rw [q0]; exact nu_5772, by rw [q0]; exact nu_5773, hRn, by rw [q0, nu_577j 15 (by omega), eμ_573, mset_self]; rfl, by rw [q0, nu_577j 16 (by omega), eμ_573, mset_ne (Or.inr (by decide))]; exact s4⟩⟩
    · have hag := bI_ne0.mp c_566
      simp only [Bool.or_eq_true, Bool.and_eq_true, decide_eq_true_eq] at hag
      have eC : wordP n tx s p = .inl (4, p) := by
        unfold wordP
        rw [← etp, if_neg (by omega)]
        rcases hag with ⟨q1, q2⟩ | ⟨q1, q2⟩
        · rw [if_pos q1]; exact if_pos q2
        · rw [if_neg (by omega), if_pos q1]; exact if_pos q2
      refine lv_aload_n hx hb dX2_readOther_38 rfl (lv_at hl 1 rfl) ?_
      refine lv_iconst (v := nI 4) hx hb dX2_readOther_39 (by decide) ?_
      refine lv_iload_n hx hb dX2_readOther_40 rfl (lv_at hl 3 rfl) ?_
      refine m_cM [.int (nI 4), .int (nI p)] C hml hl.1 hP hS (mX2_fail l D T ad μ hw (nI (4)) (nI (p))) (lw_V q867 q869 qs38 q71 q870) hdX2_fail ⟨rfl, rfl⟩ ⟨Nat.le_of_ble_eq_true rfl, Nat.le_of_ble_eq_true rfl⟩ rfl (Nat.le_of_ble_eq_true rfl) dX2_readOther_41 ⟨Nat.zero_le _, Nat.zero_le _⟩ (fun v_567 μ_568 H locs hp_569 hP hS => ?_)
      obtain ⟨rfl, fl_570a, fl_570b, fl_570c, fl_570d⟩ := hp_569
      refine lv_goto (tgt := 186) hx hb dX2_readOther_44 (by decide) ?_
      exact mM_retV C hlk hr hS hP dX2_readOther_186 ⟨rfl, FRm.fld (fun k hk => fl_570c k (by omega) (by omega)) fl_570d, fun c q hcq => by rw [eC] at hcq; have z := Sum.inl.inj hcq; have z1 := congrArg Prod.fst z; have z2 := congrArg Prod.snd z; dsimp only at z1 z2; subst z1; subst z2; exact ⟨by omega, fl_570a, fl_570b, p + 1, by omega, by rw [fl_570c 11 (by decide) (by decide)]; exact s1⟩, fun u hu => (by rw [eC] at hu; cases hu)⟩
  · refine lv_iload_n hx hb dX2_readOther_0 rfl (lv_at hl 1 rfl) ?_
    refine lv_bipush (v := nI 102) hx hb dX2_readOther_1 (by decide) ?_
    refine w_icmpN_ne (tgt := 14) hx hb dX2_readOther_3 (by decide) (by omega) (by omega) (fun c_560 => ?_) (fun c_560 => ?_)
    · refine lv_iload_n hx hb dX2_readOther_14 rfl (lv_at hl 1 rfl) ?_
      refine lv_bipush (v := nI 115) hx hb dX2_readOther_15 (by decide) ?_
      refine w_icmpN_ne (tgt := 32) hx hb dX2_readOther_17 (by decide) (by omega) (by omega) (fun c_561 => ?_) (fun c_561 => ?_)
      · refine lv_iconst (v := 0) hx hb dX2_readOther_32 (by decide) ?_
        exact hJv_559 _ (by rw [decide_eq_false c_560, Bool.false_and, decide_eq_false c_561]; rfl)
      · refine lv_aload_n hx hb dX2_readOther_20 rfl (lv_at hl 0 rfl) ?_
        refine mg_toldS C hP dX2_readOther_21 ?_
        refine w_eqi (y := bI s.2.2.2) (s4) ?_
        refine lv_iconst (v := 1) hx hb dX2_readOther_24 (by decide) ?_
        refine lv_icmp_ne (tgt := 32) hx hb dX2_readOther_25 (by decide) (fun c_562 => ?_) (fun c_562 => ?_)
        · refine lv_iconst (v := 0) hx hb dX2_readOther_32 (by decide) ?_
          exact hJv_559 _ (by rw [decide_eq_false c_560, Bool.false_and, decide_eq_true c_561, Bool.eq_false_iff.mpr (fun q => c_562 (bI_eq1.mpr q))]; rfl)
        · refine lv_iconst (v := 1) hx hb dX2_readOther_28 (by decide) ?_
          refine lv_goto (tgt := 33) hx hb dX2_readOther_29 (by decide) ?_
          exact hJv_559 _ (by rw [decide_eq_false c_560, Bool.false_and, decide_eq_true c_561, bI_eq1.mp c_562]; rfl)
    · refine lv_aload_n hx hb dX2_readOther_6 rfl (lv_at hl 0 rfl) ?_
      refine mg_toldF C hP dX2_readOther_7 ?_
      refine w_eqi (y := bI s.2.2.1) (s3) ?_
      refine lv_iconst (v := 1) hx hb dX2_readOther_10 (by decide) ?_
      refine lv_icmp_eq (tgt := 28) hx hb dX2_readOther_11 (by decide) (fun c_563 => ?_) (fun c_563 => ?_)
      · refine lv_iconst (v := 1) hx hb dX2_readOther_28 (by decide) ?_
        refine lv_goto (tgt := 33) hx hb dX2_readOther_29 (by decide) ?_
        exact hJv_559 _ (by rw [decide_eq_true c_560, bI_eq1.mp c_563]; rfl)
      · refine lv_iload_n hx hb dX2_readOther_14 rfl (lv_at hl 1 rfl) ?_
        refine lv_bipush (v := nI 115) hx hb dX2_readOther_15 (by decide) ?_
        refine w_icmpN_ne (tgt := 32) hx hb dX2_readOther_17 (by decide) (by omega) (by omega) (fun c_564 => ?_) (fun c_564 => ?_)
        · refine lv_iconst (v := 0) hx hb dX2_readOther_32 (by decide) ?_
          exact hJv_559 _ (by rw [Bool.eq_false_iff.mpr (fun q => c_563 (bI_eq1.mpr q)), Bool.and_false, decide_eq_false c_564]; rfl)
        · refine lv_aload_n hx hb dX2_readOther_20 rfl (lv_at hl 0 rfl) ?_
          refine mg_toldS C hP dX2_readOther_21 ?_
          refine w_eqi (y := bI s.2.2.2) (s4) ?_
          refine lv_iconst (v := 1) hx hb dX2_readOther_24 (by decide) ?_
          refine lv_icmp_ne (tgt := 32) hx hb dX2_readOther_25 (by decide) (fun c_565 => ?_) (fun c_565 => ?_)
          · refine lv_iconst (v := 0) hx hb dX2_readOther_32 (by decide) ?_
            exact hJv_559 _ (by rw [Bool.eq_false_iff.mpr (fun q => c_563 (bI_eq1.mpr q)), Bool.and_false, decide_eq_true c_564, Bool.eq_false_iff.mpr (fun q => c_565 (bI_eq1.mpr q))]; rfl)
          · refine lv_iconst (v := 1) hx hb dX2_readOther_28 (by decide) ?_
            refine lv_goto (tgt := 33) hx hb dX2_readOther_29 (by decide) ?_
            exact hJv_559 _ (by rw [Bool.eq_false_iff.mpr (fun q => c_563 (bI_eq1.mpr q)), Bool.and_false, decide_eq_true c_564, bI_eq1.mp c_565]; rfl)

