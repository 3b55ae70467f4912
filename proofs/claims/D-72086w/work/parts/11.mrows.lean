/-! THE MODEL'S WORLD: its object and six arrays, by a state μ: μ 0 k the number in field k, μ j the contents of array j (1 w, 2 text, 3 bookOf, 4 bookAim, 5 order, 6 next) -/
set_option maxRecDepth 100000
abbrev vwCl : List vw_C := [(RX0, TX0, 19), (RX1, TX1, 15), (RX2, TX2, 17), (RX3, TX3, 5), (RX4, TX4, 6), (RX5, TX5, 6), (RX6, TX6, 6), (RX7, TX7, 7), (RX8, TX8, 6), (RX9, TX9, 6), (RX10, TX10, 6)]
abbrev gTys (T : Nat → ClassId) : List (ClassId × FieldType) := [(T 0, .int), (T 1, .boolean), (T 2, .byte), (T 3, .object "LiarClocks$House")]
def KK (D : va_G) (T : Nat → ClassId) (U : State) : Prop := va_K D vwCl (gTys T) U
def mlen (j : Nat) : Nat := if j = 1 then 3840 else if j = 2 then 200 else if j = 3 then 20 else if j = 4 then 20 else 8
abbrev mfs (ad : Nat → Nat) (μ : Nat → Nat → Int32) : List Value := [.ref (ad 1), .int (μ 0 1), .int (μ 0 2), .ref (ad 2), .int (μ 0 4), .int (μ 0 5), .ref (ad 3), .ref (ad 4), .int (μ 0 8), .ref (ad 5), .ref (ad 6), .int (μ 0 11), .int (μ 0 12), .int (μ 0 13), .int (μ 0 14), .int (μ 0 15), .int (μ 0 16)]
def mf (T : Nat → ClassId) (ad : Nat → Nat) (μ : Nat → Nat → Int32) : Nat → va_E := fun i => if i = 0 then .inr (2, mfs ad μ) else .inl (T 0, mlen i, .inl (μ i))
def mW (D : va_G) (T : Nat → ClassId) (ad : Nat → Nat) (μ : Nat → Nat → Int32) (H : Heap) : Prop := va_P D vwCl (wf 7 ad (mf T ad μ)) H
def mset (μ : Nat → Nat → Int32) (j i : Nat) (x : Int32) : Nat → Nat → Int32 := va_up μ j (upd (μ j) i x)
def mCx (p : Program) (s : State) (m : MethodId) (args : Array Value) (c : Code) (cc : ByteArray) (D : va_G) (T : Nat → ClassId) (ad : Nat → Nat) : Prop := p.tables.exec = Jvm.exec ∧ c.code = cc ∧ s.vm.findClass RX2 = some m.cls ∧ (∀ w ∈ lw_all, w.before args s = true) ∧ KK D T s ∧ gJ 7 ad
theorem mset_self {μ : Nat → Nat → Int32} {j i : Nat} {x : Int32} : mset μ j i x j i = x := by simp [mset, va_up, upd]
theorem mset_ne {μ : Nat → Nat → Int32} {j i j' i' : Nat} {x : Int32} (h : j' ≠ j ∨ i' ≠ i) : mset μ j i x j' i' = μ j' i' := by
  unfold mset va_up
  by_cases hj : j' = j
  · subst hj
    rw [if_pos rfl]
    exact pk_un (h.resolve_left (fun q => q rfl))
  · rw [if_neg hj]
theorem mset_row {μ : Nat → Nat → Int32} {j i : Nat} {x : Int32} : mset μ j i x j = upd (μ j) i x := va_up_self _ _ _
theorem mset_oth {μ : Nat → Nat → Int32} {j i j' : Nat} {x : Int32} (h : j' ≠ j) : mset μ j i x j' = μ j' := va_up_ne _ _ h
theorem mf_arr {T : Nat → ClassId} {ad : Nat → Nat} {μ : Nat → Nat → Int32} {j i : Nat} {x : Int32} (hj : j ≠ 0) : va_up (mf T ad μ) j (.inl (T 0, mlen j, .inl (upd (μ j) i x))) = mf T ad (mset μ j i x) := by
  funext i'
  by_cases h : i' = j
  · subst h
    rw [va_up_self]
    unfold mf
    rw [if_neg hj, mset_row]
  · rw [va_up_ne _ _ h]
    unfold mf
    by_cases h0 : i' = 0
    · rw [if_pos h0, if_pos h0]
      unfold mfs
      rw [mset_oth (Ne.symm hj)]
    · rw [if_neg h0, if_neg h0, mset_oth h]
theorem mf_obj {T : Nat → ClassId} {ad : Nat → Nat} {μ : Nat → Nat → Int32} {k : Nat} {x : Int32} (h : (mfs ad μ).set k (.int x) = mfs ad (mset μ 0 k x)) : va_up (mf T ad μ) 0 (.inr (2, (mfs ad μ).set k (.int x))) = mf T ad (mset μ 0 k x) := by
  funext i'
  by_cases h0 : i' = 0
  · subst h0
    rw [va_up_self, h]
    unfold mf
    rw [if_pos rfl]
  · rw [va_up_ne _ _ h0]
    unfold mf
    rw [if_neg h0, if_neg h0, mset_oth h0]
/-- contents may be changed where an array has no place -/
theorem mW_ext {D : va_G} {T : Nat → ClassId} {ad : Nat → Nat} {μ μ' : Nat → Nat → Int32} {H : Heap} (h : mW D T ad μ H) (h0 : μ 0 = μ' 0) (hj : ∀ j, 1 ≤ j → j < 7 → ∀ i, i < mlen j → μ j i = μ' j i) : mW D T ad μ' H := by
  refine wf_P.mpr fun i hi => ?_
  have h1 := wf_P.mp h i hi
  by_cases e : i = 0
  · subst e
    have e2 : mf T ad μ' 0 = mf T ad μ 0 := by unfold mf mfs; rw [h0]
    rw [e2]; exact h1
  · unfold mf at h1 ⊢
    rw [if_neg e] at h1 ⊢
    show H[ad i]? = some (vp_cell (T 0) (mlen i, .inl (μ' i)))
    rw [← vp_cell_ext (hj i (by omega) hi)]
    exact h1
section
variable {p : Program} {l : Launch} {e : Env} {R : Room} {s : State} {m : MethodId} {args : Array Value} {below : List Frame} {meth : Method} {c : Code} {H : Heap} {locs : List Loc} {cells slots : Nat} {Q : State → Prop} {cc : ByteArray} {pc : Nat} {ls : Array Slot} {rest : List Value} {D : va_G} {T : Nat → ClassId} {ad : Nat → Nat} {μ : Nat → Nat → Int32}
theorem m_get {k index : Nat} {f d : String} {v : Value} (C : mCx p s m args c cc D T ad) (hP : mW D T ad μ H) (hk : k < 17) (ht : TX2 k = ("LiarClocksModel", f, d, (TX2 k).2.2.2)) (hl : (Cond.fieldLink "LiarClocksModel" index "LiarClocksModel" f d) ∈ lw_all) (hv : (mfs ad μ)[k]? = some v) (hdg : decode cc pc = .ok (.getfield index, 3)) (kk : W p l e R s m args below meth c H locs cells slots Q (F0 m (pc + 3) ls (v :: rest))) : W p l e R s m args below meth c H locs cells slots Q (F0 m pc ls (.ref (ad 0) :: rest)) := by
  obtain ⟨hx, hb, hown, hts, hK, hJ⟩ := C
  have h0 : mf T ad μ 0 = .inr (2, mfs ad μ) := rfl
  refine va_get (D := D) (ci := 2) (v := v) (C := RX2) (T := TX2) (N := 17) (own := "LiarClocksModel") (ref := "LiarClocksModel") hx hb hts in_X2 hown hK hP 0 (by rw [wf_get (by decide), h0]) rfl k hk ?_ ?_ hv hdg kk
  · rw [ht]; exact hts _ hl
  · rw [ht]; exact fun _ h => h
theorem m_put {k index : Nat} {f : String} {x : Int32} (C : mCx p s m args c cc D T ad) (hP : mW D T ad μ H) (hS : va_S (gA 7 ad s.heap.size) s.heap H locs) (hk : k < 17) (ht : TX2 k = ("LiarClocksModel", f, "I", false)) (hl : (Cond.fieldLink "LiarClocksModel" index "LiarClocksModel" f "I") ∈ lw_all) (hs : (mfs ad μ).set k (.int x) = mfs ad (mset μ 0 k x)) (hdg : decode cc pc = .ok (.putfield index, 3)) (kk : ∀ (H1 : Heap) (locs1 : List Loc), mW D T ad (mset μ 0 k x) H1 → va_S (gA 7 ad s.heap.size) s.heap H1 locs1 → W p l e R s m args below meth c H1 locs1 cells slots Q (F0 m (pc + 3) ls rest)) : W p l e R s m args below meth c H locs cells slots Q (F0 m pc ls (.int x :: .ref (ad 0) :: rest)) := by
  obtain ⟨hx, hb, hown, hts, hK, hJ⟩ := C
  have h0 : mf T ad μ 0 = .inr (2, mfs ad μ) := rfl
  refine va_put (D := D) (ci := 2) (v := .int x) (ty := .int) (C := RX2) (T := TX2) (N := 17) (own := "LiarClocksModel") (ref := "LiarClocksModel") hx hb hts in_X2 tyX2 tyX2_ok nmX2 hown hK hP (gD hJ) hS 0 (by rw [wf_get (by decide), h0]) rfl k hk ?_ ?_ ?_ ?_ rfl rfl (show k < (mfs ad μ).length from hk) hdg (fun H1 locs1 hP1 _ hS1 => kk H1 locs1 ?_ hS1)
  · rw [ht]; exact hts _ hl
  · rw [ht]; exact fun _ h => h
  · rw [ht]
  · rw [ht]; show parseFieldDescriptor "I" = some FieldType.int; decide +kernel
  · rw [wf_set (by decide), mf_obj hs] at hP1
    exact hP1
theorem m_ald {j i : Nat} (C : mCx p s m args c cc D T ad) (hP : mW D T ad μ H) (hj : 0 < j ∧ j < 7) (hi : i < mlen j) (hdg : decode cc pc = .ok (.iaload, 1)) (kk : W p l e R s m args below meth c H locs cells slots Q (F0 m (pc + 1) ls (.int (μ j i) :: rest))) : W p l e R s m args below meth c H locs cells slots Q (F0 m pc ls (.int (nI i) :: .ref (ad j) :: rest)) := by
  obtain ⟨hx, hb, hown, hts, hK, hJ⟩ := C
  have h0 : mf T ad μ j = .inl (T 0, mlen j, .inl (μ j)) := if_neg (by omega)
  have hm : mlen j < 2 ^ 31 := by unfold mlen; split <;> try omega
                                  split <;> try omega
                                  split <;> try omega
                                  split <;> omega
  refine va_iald hx hb hK hP j 0 (by rw [wf_get hj.2, h0]) rfl (vp_in_nI hi hm) hdg ?_
  rw [nI_clamp (by omega)]
  exact kk
theorem m_ast {j i : Nat} {x : Int32} (C : mCx p s m args c cc D T ad) (hP : mW D T ad μ H) (hS : va_S (gA 7 ad s.heap.size) s.heap H locs) (hj : 0 < j ∧ j < 7) (hi : i < mlen j) (hdg : decode cc pc = .ok (.iastore, 1)) (kk : ∀ (H1 : Heap) (locs1 : List Loc), mW D T ad (mset μ j i x) H1 → va_S (gA 7 ad s.heap.size) s.heap H1 locs1 → W p l e R s m args below meth c H1 locs1 cells slots Q (F0 m (pc + 1) ls rest)) : W p l e R s m args below meth c H locs cells slots Q (F0 m pc ls (.int x :: .int (nI i) :: .ref (ad j) :: rest)) := by
  obtain ⟨hx, hb, hown, hts, hK, hJ⟩ := C
  have h0 : mf T ad μ j = .inl (T 0, mlen j, .inl (μ j)) := if_neg (by omega)
  have hm : mlen j < 2 ^ 31 := by unfold mlen; split <;> try omega
                                  split <;> try omega
                                  split <;> try omega
                                  split <;> omega
  refine va_iast hx hb hK hP (gD hJ) hS j 0 (by rw [wf_get hj.2, h0]) rfl (vp_in_nI hi hm) hdg (fun H1 locs1 hP1 _ hS1 => kk H1 locs1 ?_ hS1)
  rw [nI_clamp (by omega), wf_set hj.2, mf_arr (by omega)] at hP1
  exact hP1
theorem m_ald1 {i : Nat} (C : mCx p s m args c cc D T ad) (hP : mW D T ad μ H) (hi : i < 3840) (hdg : decode cc pc = .ok (.iaload, 1)) (kk : W p l e R s m args below meth c H locs cells slots Q (F0 m (pc + 1) ls (.int (μ 1 i) :: rest))) : W p l e R s m args below meth c H locs cells slots Q (F0 m pc ls (.int (nI i) :: .ref (ad 1) :: rest)) := m_ald C hP (by decide) hi hdg kk
theorem m_ast1 {i : Nat} {x : Int32} (C : mCx p s m args c cc D T ad) (hP : mW D T ad μ H) (hS : va_S (gA 7 ad s.heap.size) s.heap H locs) (hi : i < 3840) (hdg : decode cc pc = .ok (.iastore, 1)) (kk : ∀ (H1 : Heap) (locs1 : List Loc), mW D T ad (mset μ 1 i x) H1 → va_S (gA 7 ad s.heap.size) s.heap H1 locs1 → W p l e R s m args below meth c H1 locs1 cells slots Q (F0 m (pc + 1) ls rest)) : W p l e R s m args below meth c H locs cells slots Q (F0 m pc ls (.int x :: .int (nI i) :: .ref (ad 1) :: rest)) := m_ast C hP hS (by decide) hi hdg kk
theorem m_ald2 {i : Nat} (C : mCx p s m args c cc D T ad) (hP : mW D T ad μ H) (hi : i < 200) (hdg : decode cc pc = .ok (.iaload, 1)) (kk : W p l e R s m args below meth c H locs cells slots Q (F0 m (pc + 1) ls (.int (μ 2 i) :: rest))) : W p l e R s m args below meth c H locs cells slots Q (F0 m pc ls (.int (nI i) :: .ref (ad 2) :: rest)) := m_ald C hP (by decide) hi hdg kk
theorem m_ast2 {i : Nat} {x : Int32} (C : mCx p s m args c cc D T ad) (hP : mW D T ad μ H) (hS : va_S (gA 7 ad s.heap.size) s.heap H locs) (hi : i < 200) (hdg : decode cc pc = .ok (.iastore, 1)) (kk : ∀ (H1 : Heap) (locs1 : List Loc), mW D T ad (mset μ 2 i x) H1 → va_S (gA 7 ad s.heap.size) s.heap H1 locs1 → W p l e R s m args below meth c H1 locs1 cells slots Q (F0 m (pc + 1) ls rest)) : W p l e R s m args below meth c H locs cells slots Q (F0 m pc ls (.int x :: .int (nI i) :: .ref (ad 2) :: rest)) := m_ast C hP hS (by decide) hi hdg kk
theorem m_ald3 {i : Nat} (C : mCx p s m args c cc D T ad) (hP : mW D T ad μ H) (hi : i < 20) (hdg : decode cc pc = .ok (.iaload, 1)) (kk : W p l e R s m args below meth c H locs cells slots Q (F0 m (pc + 1) ls (.int (μ 3 i) :: rest))) : W p l e R s m args below meth c H locs cells slots Q (F0 m pc ls (.int (nI i) :: .ref (ad 3) :: rest)) := m_ald C hP (by decide) hi hdg kk
theorem m_ast3 {i : Nat} {x : Int32} (C : mCx p s m args c cc D T ad) (hP : mW D T ad μ H) (hS : va_S (gA 7 ad s.heap.size) s.heap H locs) (hi : i < 20) (hdg : decode cc pc = .ok (.iastore, 1)) (kk : ∀ (H1 : Heap) (locs1 : List Loc), mW D T ad (mset μ 3 i x) H1 → va_S (gA 7 ad s.heap.size) s.heap H1 locs1 → W p l e R s m args below meth c H1 locs1 cells slots Q (F0 m (pc + 1) ls rest)) : W p l e R s m args below meth c H locs cells slots Q (F0 m pc ls (.int x :: .int (nI i) :: .ref (ad 3) :: rest)) := m_ast C hP hS (by decide) hi hdg kk
theorem m_ald4 {i : Nat} (C : mCx p s m args c cc D T ad) (hP : mW D T ad μ H) (hi : i < 20) (hdg : decode cc pc = .ok (.iaload, 1)) (kk : W p l e R s m args below meth c H locs cells slots Q (F0 m (pc + 1) ls (.int (μ 4 i) :: rest))) : W p l e R s m args below meth c H locs cells slots Q (F0 m pc ls (.int (nI i) :: .ref (ad 4) :: rest)) := m_ald C hP (by decide) hi hdg kk
theorem m_ast4 {i : Nat} {x : Int32} (C : mCx p s m args c cc D T ad) (hP : mW D T ad μ H) (hS : va_S (gA 7 ad s.heap.size) s.heap H locs) (hi : i < 20) (hdg : decode cc pc = .ok (.iastore, 1)) (kk : ∀ (H1 : Heap) (locs1 : List Loc), mW D T ad (mset μ 4 i x) H1 → va_S (gA 7 ad s.heap.size) s.heap H1 locs1 → W p l e R s m args below meth c H1 locs1 cells slots Q (F0 m (pc + 1) ls rest)) : W p l e R s m args below meth c H locs cells slots Q (F0 m pc ls (.int x :: .int (nI i) :: .ref (ad 4) :: rest)) := m_ast C hP hS (by decide) hi hdg kk
theorem m_ald5 {i : Nat} (C : mCx p s m args c cc D T ad) (hP : mW D T ad μ H) (hi : i < 8) (hdg : decode cc pc = .ok (.iaload, 1)) (kk : W p l e R s m args below meth c H locs cells slots Q (F0 m (pc + 1) ls (.int (μ 5 i) :: rest))) : W p l e R s m args below meth c H locs cells slots Q (F0 m pc ls (.int (nI i) :: .ref (ad 5) :: rest)) := m_ald C hP (by decide) hi hdg kk
theorem m_ast5 {i : Nat} {x : Int32} (C : mCx p s m args c cc D T ad) (hP : mW D T ad μ H) (hS : va_S (gA 7 ad s.heap.size) s.heap H locs) (hi : i < 8) (hdg : decode cc pc = .ok (.iastore, 1)) (kk : ∀ (H1 : Heap) (locs1 : List Loc), mW D T ad (mset μ 5 i x) H1 → va_S (gA 7 ad s.heap.size) s.heap H1 locs1 → W p l e R s m args below meth c H1 locs1 cells slots Q (F0 m (pc + 1) ls rest)) : W p l e R s m args below meth c H locs cells slots Q (F0 m pc ls (.int x :: .int (nI i) :: .ref (ad 5) :: rest)) := m_ast C hP hS (by decide) hi hdg kk
theorem m_ald6 {i : Nat} (C : mCx p s m args c cc D T ad) (hP : mW D T ad μ H) (hi : i < 8) (hdg : decode cc pc = .ok (.iaload, 1)) (kk : W p l e R s m args below meth c H locs cells slots Q (F0 m (pc + 1) ls (.int (μ 6 i) :: rest))) : W p l e R s m args below meth c H locs cells slots Q (F0 m pc ls (.int (nI i) :: .ref (ad 6) :: rest)) := m_ald C hP (by decide) hi hdg kk
theorem m_ast6 {i : Nat} {x : Int32} (C : mCx p s m args c cc D T ad) (hP : mW D T ad μ H) (hS : va_S (gA 7 ad s.heap.size) s.heap H locs) (hi : i < 8) (hdg : decode cc pc = .ok (.iastore, 1)) (kk : ∀ (H1 : Heap) (locs1 : List Loc), mW D T ad (mset μ 6 i x) H1 → va_S (gA 7 ad s.heap.size) s.heap H1 locs1 → W p l e R s m args below meth c H1 locs1 cells slots Q (F0 m (pc + 1) ls rest)) : W p l e R s m args below meth c H locs cells slots Q (F0 m pc ls (.int x :: .int (nI i) :: .ref (ad 6) :: rest)) := m_ast C hP hS (by decide) hi hdg kk
theorem mg_w (C : mCx p s m args c cc D T ad) (hP : mW D T ad μ H) (hdg : decode cc pc = .ok (.getfield 7, 3)) (kk : W p l e R s m args below meth c H locs cells slots Q (F0 m (pc + 3) ls (.ref (ad 1) :: rest))) : W p l e R s m args below meth c H locs cells slots Q (F0 m pc ls (.ref (ad 0) :: rest)) := m_get (k := 0) C hP (by decide) rfl q786 rfl hdg kk
theorem mg_known (C : mCx p s m args c cc D T ad) (hP : mW D T ad μ H) (hdg : decode cc pc = .ok (.getfield 88, 3)) (kk : W p l e R s m args below meth c H locs cells slots Q (F0 m (pc + 3) ls (.int (μ 0 1) :: rest))) : W p l e R s m args below meth c H locs cells slots Q (F0 m pc ls (.ref (ad 0) :: rest)) := m_get (k := 1) C hP (by decide) rfl q787 rfl hdg kk
theorem mp_known {x : Int32} (C : mCx p s m args c cc D T ad) (hP : mW D T ad μ H) (hS : va_S (gA 7 ad s.heap.size) s.heap H locs) (hdg : decode cc pc = .ok (.putfield 88, 3)) (kk : ∀ (H1 : Heap) (locs1 : List Loc), mW D T ad (mset μ 0 1 x) H1 → va_S (gA 7 ad s.heap.size) s.heap H1 locs1 → W p l e R s m args below meth c H1 locs1 cells slots Q (F0 m (pc + 3) ls rest)) : W p l e R s m args below meth c H locs cells slots Q (F0 m pc ls (.int x :: .ref (ad 0) :: rest)) := m_put (k := 1) C hP hS (by decide) rfl q787 (by simp [mfs, mset, va_up, upd]) hdg kk
theorem mg_kept (C : mCx p s m args c cc D T ad) (hP : mW D T ad μ H) (hdg : decode cc pc = .ok (.getfield 91, 3)) (kk : W p l e R s m args below meth c H locs cells slots Q (F0 m (pc + 3) ls (.int (μ 0 2) :: rest))) : W p l e R s m args below meth c H locs cells slots Q (F0 m pc ls (.ref (ad 0) :: rest)) := m_get (k := 2) C hP (by decide) rfl q788 rfl hdg kk
theorem mp_kept {x : Int32} (C : mCx p s m args c cc D T ad) (hP : mW D T ad μ H) (hS : va_S (gA 7 ad s.heap.size) s.heap H locs) (hdg : decode cc pc = .ok (.putfield 91, 3)) (kk : ∀ (H1 : Heap) (locs1 : List Loc), mW D T ad (mset μ 0 2 x) H1 → va_S (gA 7 ad s.heap.size) s.heap H1 locs1 → W p l e R s m args below meth c H1 locs1 cells slots Q (F0 m (pc + 3) ls rest)) : W p l e R s m args below meth c H locs cells slots Q (F0 m pc ls (.int x :: .ref (ad 0) :: rest)) := m_put (k := 2) C hP hS (by decide) rfl q788 (by simp [mfs, mset, va_up, upd]) hdg kk
theorem mg_text (C : mCx p s m args c cc D T ad) (hP : mW D T ad μ H) (hdg : decode cc pc = .ok (.getfield 13, 3)) (kk : W p l e R s m args below meth c H locs cells slots Q (F0 m (pc + 3) ls (.ref (ad 2) :: rest))) : W p l e R s m args below meth c H locs cells slots Q (F0 m pc ls (.ref (ad 0) :: rest)) := m_get (k := 3) C hP (by decide) rfl q789 rfl hdg kk
theorem mg_size (C : mCx p s m args c cc D T ad) (hP : mW D T ad μ H) (hdg : decode cc pc = .ok (.getfield 37, 3)) (kk : W p l e R s m args below meth c H locs cells slots Q (F0 m (pc + 3) ls (.int (μ 0 4) :: rest))) : W p l e R s m args below meth c H locs cells slots Q (F0 m pc ls (.ref (ad 0) :: rest)) := m_get (k := 4) C hP (by decide) rfl q790 rfl hdg kk
theorem mp_size {x : Int32} (C : mCx p s m args c cc D T ad) (hP : mW D T ad μ H) (hS : va_S (gA 7 ad s.heap.size) s.heap H locs) (hdg : decode cc pc = .ok (.putfield 37, 3)) (kk : ∀ (H1 : Heap) (locs1 : List Loc), mW D T ad (mset μ 0 4 x) H1 → va_S (gA 7 ad s.heap.size) s.heap H1 locs1 → W p l e R s m args below meth c H1 locs1 cells slots Q (F0 m (pc + 3) ls rest)) : W p l e R s m args below meth c H locs cells slots Q (F0 m pc ls (.int x :: .ref (ad 0) :: rest)) := m_put (k := 4) C hP hS (by decide) rfl q790 (by simp [mfs, mset, va_up, upd]) hdg kk
theorem mg_fault (C : mCx p s m args c cc D T ad) (hP : mW D T ad μ H) (hdg : decode cc pc = .ok (.getfield 16, 3)) (kk : W p l e R s m args below meth c H locs cells slots Q (F0 m (pc + 3) ls (.int (μ 0 5) :: rest))) : W p l e R s m args below meth c H locs cells slots Q (F0 m pc ls (.ref (ad 0) :: rest)) := m_get (k := 5) C hP (by decide) rfl q791 rfl hdg kk
theorem mp_fault {x : Int32} (C : mCx p s m args c cc D T ad) (hP : mW D T ad μ H) (hS : va_S (gA 7 ad s.heap.size) s.heap H locs) (hdg : decode cc pc = .ok (.putfield 16, 3)) (kk : ∀ (H1 : Heap) (locs1 : List Loc), mW D T ad (mset μ 0 5 x) H1 → va_S (gA 7 ad s.heap.size) s.heap H1 locs1 → W p l e R s m args below meth c H1 locs1 cells slots Q (F0 m (pc + 3) ls rest)) : W p l e R s m args below meth c H locs cells slots Q (F0 m pc ls (.int x :: .ref (ad 0) :: rest)) := m_put (k := 5) C hP hS (by decide) rfl q791 (by simp [mfs, mset, va_up, upd]) hdg kk
theorem mg_bookOf (C : mCx p s m args c cc D T ad) (hP : mW D T ad μ H) (hdg : decode cc pc = .ok (.getfield 20, 3)) (kk : W p l e R s m args below meth c H locs cells slots Q (F0 m (pc + 3) ls (.ref (ad 3) :: rest))) : W p l e R s m args below meth c H locs cells slots Q (F0 m pc ls (.ref (ad 0) :: rest)) := m_get (k := 6) C hP (by decide) rfl q792 rfl hdg kk
theorem mg_bookAim (C : mCx p s m args c cc D T ad) (hP : mW D T ad μ H) (hdg : decode cc pc = .ok (.getfield 23, 3)) (kk : W p l e R s m args below meth c H locs cells slots Q (F0 m (pc + 3) ls (.ref (ad 4) :: rest))) : W p l e R s m args below meth c H locs cells slots Q (F0 m pc ls (.ref (ad 0) :: rest)) := m_get (k := 7) C hP (by decide) rfl q793 rfl hdg kk
theorem mg_written (C : mCx p s m args c cc D T ad) (hP : mW D T ad μ H) (hdg : decode cc pc = .ok (.getfield 94, 3)) (kk : W p l e R s m args below meth c H locs cells slots Q (F0 m (pc + 3) ls (.int (μ 0 8) :: rest))) : W p l e R s m args below meth c H locs cells slots Q (F0 m pc ls (.ref (ad 0) :: rest)) := m_get (k := 8) C hP (by decide) rfl q794 rfl hdg kk
theorem mp_written {x : Int32} (C : mCx p s m args c cc D T ad) (hP : mW D T ad μ H) (hS : va_S (gA 7 ad s.heap.size) s.heap H locs) (hdg : decode cc pc = .ok (.putfield 94, 3)) (kk : ∀ (H1 : Heap) (locs1 : List Loc), mW D T ad (mset μ 0 8 x) H1 → va_S (gA 7 ad s.heap.size) s.heap H1 locs1 → W p l e R s m args below meth c H1 locs1 cells slots Q (F0 m (pc + 3) ls rest)) : W p l e R s m args below meth c H locs cells slots Q (F0 m pc ls (.int x :: .ref (ad 0) :: rest)) := m_put (k := 8) C hP hS (by decide) rfl q794 (by simp [mfs, mset, va_up, upd]) hdg kk
theorem mg_order (C : mCx p s m args c cc D T ad) (hP : mW D T ad μ H) (hdg : decode cc pc = .ok (.getfield 26, 3)) (kk : W p l e R s m args below meth c H locs cells slots Q (F0 m (pc + 3) ls (.ref (ad 5) :: rest))) : W p l e R s m args below meth c H locs cells slots Q (F0 m pc ls (.ref (ad 0) :: rest)) := m_get (k := 9) C hP (by decide) rfl q795 rfl hdg kk
theorem mg_next (C : mCx p s m args c cc D T ad) (hP : mW D T ad μ H) (hdg : decode cc pc = .ok (.getfield 29, 3)) (kk : W p l e R s m args below meth c H locs cells slots Q (F0 m (pc + 3) ls (.ref (ad 6) :: rest))) : W p l e R s m args below meth c H locs cells slots Q (F0 m pc ls (.ref (ad 0) :: rest)) := m_get (k := 10) C hP (by decide) rfl q796 rfl hdg kk
theorem mg_at (C : mCx p s m args c cc D T ad) (hP : mW D T ad μ H) (hdg : decode cc pc = .ok (.getfield 51, 3)) (kk : W p l e R s m args below meth c H locs cells slots Q (F0 m (pc + 3) ls (.int (μ 0 11) :: rest))) : W p l e R s m args below meth c H locs cells slots Q (F0 m pc ls (.ref (ad 0) :: rest)) := m_get (k := 11) C hP (by decide) rfl q797 rfl hdg kk
theorem mp_at {x : Int32} (C : mCx p s m args c cc D T ad) (hP : mW D T ad μ H) (hS : va_S (gA 7 ad s.heap.size) s.heap H locs) (hdg : decode cc pc = .ok (.putfield 51, 3)) (kk : ∀ (H1 : Heap) (locs1 : List Loc), mW D T ad (mset μ 0 11 x) H1 → va_S (gA 7 ad s.heap.size) s.heap H1 locs1 → W p l e R s m args below meth c H1 locs1 cells slots Q (F0 m (pc + 3) ls rest)) : W p l e R s m args below meth c H locs cells slots Q (F0 m pc ls (.int x :: .ref (ad 0) :: rest)) := m_put (k := 11) C hP hS (by decide) rfl q797 (by simp [mfs, mset, va_up, upd]) hdg kk
theorem mg_wrong (C : mCx p s m args c cc D T ad) (hP : mW D T ad μ H) (hdg : decode cc pc = .ok (.getfield 41, 3)) (kk : W p l e R s m args below meth c H locs cells slots Q (F0 m (pc + 3) ls (.int (μ 0 12) :: rest))) : W p l e R s m args below meth c H locs cells slots Q (F0 m pc ls (.ref (ad 0) :: rest)) := m_get (k := 12) C hP (by decide) rfl q798 rfl hdg kk
theorem mp_wrong {x : Int32} (C : mCx p s m args c cc D T ad) (hP : mW D T ad μ H) (hS : va_S (gA 7 ad s.heap.size) s.heap H locs) (hdg : decode cc pc = .ok (.putfield 41, 3)) (kk : ∀ (H1 : Heap) (locs1 : List Loc), mW D T ad (mset μ 0 12 x) H1 → va_S (gA 7 ad s.heap.size) s.heap H1 locs1 → W p l e R s m args below meth c H1 locs1 cells slots Q (F0 m (pc + 3) ls rest)) : W p l e R s m args below meth c H locs cells slots Q (F0 m pc ls (.int x :: .ref (ad 0) :: rest)) := m_put (k := 12) C hP hS (by decide) rfl q798 (by simp [mfs, mset, va_up, upd]) hdg kk
theorem mg_place (C : mCx p s m args c cc D T ad) (hP : mW D T ad μ H) (hdg : decode cc pc = .ok (.getfield 48, 3)) (kk : W p l e R s m args below meth c H locs cells slots Q (F0 m (pc + 3) ls (.int (μ 0 13) :: rest))) : W p l e R s m args below meth c H locs cells slots Q (F0 m pc ls (.ref (ad 0) :: rest)) := m_get (k := 13) C hP (by decide) rfl q799 rfl hdg kk
theorem mp_place {x : Int32} (C : mCx p s m args c cc D T ad) (hP : mW D T ad μ H) (hS : va_S (gA 7 ad s.heap.size) s.heap H locs) (hdg : decode cc pc = .ok (.putfield 48, 3)) (kk : ∀ (H1 : Heap) (locs1 : List Loc), mW D T ad (mset μ 0 13 x) H1 → va_S (gA 7 ad s.heap.size) s.heap H1 locs1 → W p l e R s m args below meth c H1 locs1 cells slots Q (F0 m (pc + 3) ls rest)) : W p l e R s m args below meth c H locs cells slots Q (F0 m pc ls (.int x :: .ref (ad 0) :: rest)) := m_put (k := 13) C hP hS (by decide) rfl q799 (by simp [mfs, mset, va_up, upd]) hdg kk
theorem mg_from (C : mCx p s m args c cc D T ad) (hP : mW D T ad μ H) (hdg : decode cc pc = .ok (.getfield 58, 3)) (kk : W p l e R s m args below meth c H locs cells slots Q (F0 m (pc + 3) ls (.int (μ 0 14) :: rest))) : W p l e R s m args below meth c H locs cells slots Q (F0 m pc ls (.ref (ad 0) :: rest)) := m_get (k := 14) C hP (by decide) rfl q800 rfl hdg kk
theorem mp_from {x : Int32} (C : mCx p s m args c cc D T ad) (hP : mW D T ad μ H) (hS : va_S (gA 7 ad s.heap.size) s.heap H locs) (hdg : decode cc pc = .ok (.putfield 58, 3)) (kk : ∀ (H1 : Heap) (locs1 : List Loc), mW D T ad (mset μ 0 14 x) H1 → va_S (gA 7 ad s.heap.size) s.heap H1 locs1 → W p l e R s m args below meth c H1 locs1 cells slots Q (F0 m (pc + 3) ls rest)) : W p l e R s m args below meth c H locs cells slots Q (F0 m pc ls (.int x :: .ref (ad 0) :: rest)) := m_put (k := 14) C hP hS (by decide) rfl q800 (by simp [mfs, mset, va_up, upd]) hdg kk
theorem mg_toldF (C : mCx p s m args c cc D T ad) (hP : mW D T ad μ H) (hdg : decode cc pc = .ok (.getfield 69, 3)) (kk : W p l e R s m args below meth c H locs cells slots Q (F0 m (pc + 3) ls (.int (μ 0 15) :: rest))) : W p l e R s m args below meth c H locs cells slots Q (F0 m pc ls (.ref (ad 0) :: rest)) := m_get (k := 15) C hP (by decide) rfl q801 rfl hdg kk
theorem mp_toldF {x : Int32} (C : mCx p s m args c cc D T ad) (hP : mW D T ad μ H) (hS : va_S (gA 7 ad s.heap.size) s.heap H locs) (hdg : decode cc pc = .ok (.putfield 69, 3)) (kk : ∀ (H1 : Heap) (locs1 : List Loc), mW D T ad (mset μ 0 15 x) H1 → va_S (gA 7 ad s.heap.size) s.heap H1 locs1 → W p l e R s m args below meth c H1 locs1 cells slots Q (F0 m (pc + 3) ls rest)) : W p l e R s m args below meth c H locs cells slots Q (F0 m pc ls (.int x :: .ref (ad 0) :: rest)) := m_put (k := 15) C hP hS (by decide) rfl q801 (by simp [mfs, mset, va_up, upd]) hdg kk
theorem mg_toldS (C : mCx p s m args c cc D T ad) (hP : mW D T ad μ H) (hdg : decode cc pc = .ok (.getfield 72, 3)) (kk : W p l e R s m args below meth c H locs cells slots Q (F0 m (pc + 3) ls (.int (μ 0 16) :: rest))) : W p l e R s m args below meth c H locs cells slots Q (F0 m pc ls (.ref (ad 0) :: rest)) := m_get (k := 16) C hP (by decide) rfl q802 rfl hdg kk
theorem mp_toldS {x : Int32} (C : mCx p s m args c cc D T ad) (hP : mW D T ad μ H) (hS : va_S (gA 7 ad s.heap.size) s.heap H locs) (hdg : decode cc pc = .ok (.putfield 72, 3)) (kk : ∀ (H1 : Heap) (locs1 : List Loc), mW D T ad (mset μ 0 16 x) H1 → va_S (gA 7 ad s.heap.size) s.heap H1 locs1 → W p l e R s m args below meth c H1 locs1 cells slots Q (F0 m (pc + 3) ls rest)) : W p l e R s m args below meth c H locs cells slots Q (F0 m pc ls (.int x :: .ref (ad 0) :: rest)) := m_put (k := 16) C hP hS (by decide) rfl q802 (by simp [mfs, mset, va_up, upd]) hdg kk
end
/-- a method's start: the model's world, the tables -/
def mPc (D : va_G) (T : Nat → ClassId) (ad : Nat → Nat) (μ : Nat → Nat → Int32) (av : List Value) : Array Value → State → Prop := va_Pc av (fun U => mW D T ad μ U.heap ∧ KK D T U ∧ gJ 7 ad)
def mPs (D : va_G) (T : Nat → ClassId) (ad : Nat → Nat) (μ : Nat → Nat → Int32) (av : List Value) (sz : Nat) : Array Value → State → Prop := va_Pc av (fun U => U.heap.size = sz ∧ mW D T ad μ U.heap ∧ KK D T U ∧ gJ 7 ad)
/-- a method's end: the world P, nothing else changed -/
def gQ (n : Nat) (ad : Nat → Nat) (P : Option Value → Heap → Prop) : Array Value → State → Outcome → State → Prop := fun _ st oc t => ∃ v, oc = .returned v ∧ P v t.heap ∧ va_F (gA n ad st.heap.size) st t
def mQ (D : va_G) (T : Nat → ClassId) (ad : Nat → Nat) (post : Option Value → (Nat → Nat → Int32) → Prop) : Array Value → State → Outcome → State → Prop := gQ 7 ad (fun v H' => ∃ μ', post v μ' ∧ mW D T ad μ' H')
theorem mPc_blind {D : va_G} {T : Nat → ClassId} {ad : Nat → Nat} {μ : Nat → Nat → Int32} {av : List Value} : FrameBlind (mPc D T ad μ av) := fun a U g mk q => by
  obtain ⟨q0, qP, qK, qJ⟩ := q
  exact ⟨q0, qP, va_K.moved (u := U) (U := U.calling g mk a) (Vm.Alike.refl U.vm) qK, qJ⟩
theorem mPs_blind {D : va_G} {T : Nat → ClassId} {ad : Nat → Nat} {μ : Nat → Nat → Int32} {av : List Value} {sz : Nat} : FrameBlind (mPs D T ad μ av sz) := fun a U g mk q => by
  obtain ⟨q0, q1, qP, qK, qJ⟩ := q
  exact ⟨q0, q1, qP, va_K.moved (u := U) (U := U.calling g mk a) (Vm.Alike.refl U.vm) qK, qJ⟩
theorem mR_intro {l : Launch} {y : MethodName} {cc : ByteArray} {maxL : Nat} {ret : Option FieldType} {rm : Room} {D : va_G} {T : Nat → ClassId} {ad : Nat → Nat} {μ : Nat → Nat → Int32} {r : Int32} (av : List Value) (hy : plainName y.cls = true) (hy2 : y.cls = RX2) (hlen : (lg_sl av).length ≤ maxL)
    (body : ∀ (p : Program) (e : Env) (s : State) (m : MethodId) (below : List Frame) (meth : Method) (c : Code) (ls : Array Slot), mCx p s m av.toArray c cc D T ad → meth.sig.returnType = ret → meth.locks = false → c.maxLocals = maxL → mW D T ad μ s.heap → lv_has ls maxL (lv_args 0 av) → W p l e rm s m av.toArray below meth c s.heap [] 0 0 (MQ below (QcRead r) av.toArray s 0 0 (fun _ => False)) (F0 m 0 ls [])) :
    Met l y (ws_ y cc maxL ret) rm (mPc D T ad μ av) (QcRead r) 0 0 (fun _ => False) := by
  refine Met.ofW (cc := cc) (maxL := maxL) (ret := ret) hy rfl ?_
  intro p e s m args below meth c s₁ B hml hv
  obtain ⟨rfl, hP, hK, hJ⟩ := hv
  have hts := atoms_spec (ws := ws_ y cc maxL ret) B.pre
  have hts : ∀ w ∈ lw_all, w.before _ s = true := fun w h => hts w (List.mem_cons_of_mem _ h)
  have hown : s.vm.findClass y.cls = some m.cls := findClass_of_methodNamed B.named
  rw [hy2] at hown
  rw [lg_entry_eq]
  exact body p e s m below meth c _ ⟨B.exec, B.bytes, hown, hts, hK, hJ⟩ B.returns B.notSynchronized hml hP (lv_entry av hlen)
theorem mM_intro {l : Launch} {y : MethodName} {cc : ByteArray} {maxL : Nat} {ret : Option FieldType} {rm : Room} {D : va_G} {T : Nat → ClassId} {ad : Nat → Nat} {μ : Nat → Nat → Int32} {post : Option Value → (Nat → Nat → Int32) → Prop} (av : List Value) (hy : plainName y.cls = true) (hy2 : y.cls = RX2) (hlen : (lg_sl av).length ≤ maxL)
    (body : ∀ (p : Program) (e : Env) (s : State) (m : MethodId) (below : List Frame) (meth : Method) (c : Code) (ls : Array Slot), mCx p s m av.toArray c cc D T ad → meth.sig.returnType = ret → meth.locks = false → c.maxLocals = maxL → mW D T ad μ s.heap → va_S (gA 7 ad s.heap.size) s.heap s.heap [] → lv_has ls maxL (lv_args 0 av) → W p l e rm s m av.toArray below meth c s.heap [] 0 0 (MQ below (mQ D T ad post) av.toArray s 0 0 (gA 7 ad s.heap.size)) (F0 m 0 ls [])) :
    ∀ sz, Met l y (ws_ y cc maxL ret) rm (mPs D T ad μ av sz) (mQ D T ad post) 0 0 (gA 7 ad sz) := by
  intro sz
  refine Met.ofW (cc := cc) (maxL := maxL) (ret := ret) hy rfl ?_
  intro p e s m args below meth c s₁ B hml hv
  obtain ⟨rfl, hsz, hP, hK, hJ⟩ := hv
  subst hsz
  have hts := atoms_spec (ws := ws_ y cc maxL ret) B.pre
  have hts : ∀ w ∈ lw_all, w.before _ s = true := fun w h => hts w (List.mem_cons_of_mem _ h)
  have hown : s.vm.findClass y.cls = some m.cls := findClass_of_methodNamed B.named
  rw [hy2] at hown
  rw [lg_entry_eq]
  exact body p e s m below meth c _ ⟨B.exec, B.bytes, hown, hts, hK, hJ⟩ B.returns B.notSynchronized hml hP va_S.rf (lv_entry av hlen)
/-- what a call leaves of the frame -/
theorem gS_call {n : Nat} {ad : Nat → Nat} {H0 H H1 : Heap} {locs L : List Loc} (hS : va_S (gA n ad H0.size) H0 H locs) (h1 : H.size ≤ H1.size) (h2 : ∀ q : Nat, q < H.size → ¬ gA n ad H.size q → H1[q]? = H[q]?) (hL : ∀ q ∈ L, gA n ad H.size q.base) : va_S (gA n ad H0.size) H0 H1 (locs ++ L) := by
  have up : ∀ q, gA n ad H.size q → gA n ad H0.size q := fun q h => h.elim Or.inl (fun h => Or.inr (Nat.le_trans hS.1 h))
  refine ⟨Nat.le_trans hS.1 h1, fun q hq hA => ?_, fun q hq => ?_⟩
  · rw [h2 q (Nat.lt_of_lt_of_le hq hS.1) (fun h => hA (up q h))]
    exact hS.2.1 q hq hA
  · rcases List.mem_append.mp hq with h | h
    · exact hS.2.2 q h
    · exact up _ (hL q h)
section
variable {p : Program} {l : Launch} {e : Env} {R : Room} {s : State} {m : MethodId} {args : Array Value} {below : List Frame} {meth : Method} {c : Code} {H : Heap} {locs : List Loc} {cells slots : Nat} {Q : State → Prop} {cc : ByteArray} {pc : Nat} {ls : Array Slot} {rest : List Value} {D : va_G} {T : Nat → ClassId} {ad : Nat → Nat} {μ : Nat → Nat → Int32}
theorem mM_retI {v : Int32} {μ' : Nat → Nat → Int32} {post : Option Value → (Nat → Nat → Int32) → Prop} (C : mCx p s m args c cc D T ad) (hlk : meth.locks = false) (hr : meth.sig.returnType = some .int) (hS : va_S (gA 7 ad s.heap.size) s.heap H locs) (hP : mW D T ad μ' H) (hdg : decode cc pc = .ok (.ireturn, 1)) (hpost : post (some (.int v)) μ') : W p l e R s m args below meth c H locs 0 0 (MQ below (mQ D T ad post) args s 0 0 (gA 7 ad s.heap.size)) (F0 m pc ls [.int v]) :=
  W.iret C.1 C.2.1 hr (fun t ht _ => ⟨_, rfl, ⟨μ', hpost, by rw [ht]; exact hP⟩, hS.F ht⟩) hS.2.2 hdg hlk
theorem mM_retV {μ' : Nat → Nat → Int32} {post : Option Value → (Nat → Nat → Int32) → Prop} (C : mCx p s m args c cc D T ad) (hlk : meth.locks = false) (hr : meth.sig.returnType = none) (hS : va_S (gA 7 ad s.heap.size) s.heap H locs) (hP : mW D T ad μ' H) (hdg : decode cc pc = .ok (.return_, 1)) (hpost : post none μ') : W p l e R s m args below meth c H locs 0 0 (MQ below (mQ D T ad post) args s 0 0 (gA 7 ad s.heap.size)) (F0 m pc ls []) :=
  W.vret C.1 C.2.1 hr (fun t ht _ => ⟨_, rfl, ⟨μ', hpost, by rw [ht]; exact hP⟩, hS.F ht⟩) hS.2.2 hdg hlk
theorem m_recv (C : mCx p s m args c cc D T ad) (hP : mW D T ad μ H) : ∃ cell : Cell, H[ad 0]? = some cell ∧ cell.vm.isStatics = false ∧ s.vm.findClass RX2 = some cell.cls :=
  va_recv (ci := 2) (q0 := 0) C.2.2.2.2.1 hP rfl (by rw [wf_get (by decide)]; rfl)
/-- a call of a method that only reads -/
theorem m_cR {y : MethodName} {bytes : ByteArray} {maxL index nL n : Nat} {ret : Option FieldType} {rm : Room} {r : Int32} (As : List Value) (C : mCx p s m args c cc D T ad) (hml : c.maxLocals = nL) (hsz : ls.size = nL) (hP : mW D T ad μ H) (hM : Met l y (ws_ y bytes maxL ret) rm (mPc D T ad μ (.ref (ad 0) :: As)) (QcRead r) 0 0 (fun _ => False)) (hq : GoodIn lw_all (wsV "LiarClocksModel" index "LiarClocksModel" y (ws_ y bytes maxL ret)))
    (hd : y.cls = "LiarClocksModel" ∧ y.cls ≠ "java/lang/invoke/MethodHandle" ∧ y.cls ≠ "java/lang/invoke/VarHandle" ∧ (parseMethodDescriptor y.desc).map (fun d => d.parameters.length) = some n) (hz : rm.cells = 0 ∧ rm.slots = 0) (hR : rm.frames + 1 ≤ R.frames ∧ 8 + (maxL + 11) + rm.locals ≤ R.locals) (hn : As.length = n) (hW : (rest.map fun v => v.category).sum ≤ 8) (hdg : decode cc pc = .ok (.invokevirtual index, 3)) (hcs : cells ≤ R.cells ∧ slots ≤ R.slots)
    (kk : W p l e R s m args below meth c H locs cells slots Q (F0 m (pc + 3) ls (.int r :: rest))) : W p l e R s m args below meth c H locs cells slots Q (F0 m pc ls (As.reverse ++ .ref (ad 0) :: rest)) := by
  refine W.callR (r := r) (a := (Value.ref (ad 0) :: As).toArray) (rest := rest) (W.runV (As := As) (rest := rest) (C := "LiarClocksModel") (own := "LiarClocksModel") (Ts := lw_all) ⟨C.1, C.2.1, hml, C.2.2.1, C.2.2.2.1⟩ hM (cwV n C.2.2.2.1 hq rfl hz.1 hz.2 hd hR) ⟨mPc_blind, m_recv C hP, fun U hU hW => ⟨rfl, by rw [hU]; exact hP, va_K.moved hW.alike C.2.2.2.2.1, C.2.2.2.2.2⟩⟩ rfl hn hsz rfl (lv_room hW) hdg hcs) kk
/-- a call of a method that writes -/
theorem m_cM {y : MethodName} {bytes : ByteArray} {maxL index nL n : Nat} {ret : Option FieldType} {rm : Room} {post : Option Value → (Nat → Nat → Int32) → Prop} (As : List Value) (C : mCx p s m args c cc D T ad) (hml : c.maxLocals = nL) (hsz : ls.size = nL) (hP : mW D T ad μ H) (hS : va_S (gA 7 ad s.heap.size) s.heap H locs) (hM : ∀ sz, Met l y (ws_ y bytes maxL ret) rm (mPs D T ad μ (.ref (ad 0) :: As) sz) (mQ D T ad post) 0 0 (gA 7 ad sz)) (hq : GoodIn lw_all (wsV "LiarClocksModel" index "LiarClocksModel" y (ws_ y bytes maxL ret)))
    (hd : y.cls = "LiarClocksModel" ∧ y.cls ≠ "java/lang/invoke/MethodHandle" ∧ y.cls ≠ "java/lang/invoke/VarHandle" ∧ (parseMethodDescriptor y.desc).map (fun d => d.parameters.length) = some n) (hz : rm.cells = 0 ∧ rm.slots = 0) (hR : rm.frames + 1 ≤ R.frames ∧ 8 + (maxL + 11) + rm.locals ≤ R.locals) (hn : As.length = n) (hW : (rest.map fun v => v.category).sum ≤ 8) (hdg : decode cc pc = .ok (.invokevirtual index, 3)) (hcs : cells ≤ R.cells ∧ slots ≤ R.slots)
    (kk : ∀ (v : Option Value) (μ' : Nat → Nat → Int32) (H1 : Heap) (locs1 : List Loc), post v μ' → mW D T ad μ' H1 → va_S (gA 7 ad s.heap.size) s.heap H1 locs1 → W p l e R s m args below meth c H1 locs1 cells slots Q (F0 m (pc + 3) ls (v.toList ++ rest))) : W p l e R s m args below meth c H locs cells slots Q (F0 m pc ls (As.reverse ++ .ref (ad 0) :: rest)) := by
  have run := va_runV (H := H) (locs := locs) (cells := cells) (slots := slots) (below := below) (meth := meth) (e := e) (g := F0 m pc ls (As.reverse ++ .ref (ad 0) :: rest)) (As := As) (rest := rest) (C := "LiarClocksModel") (own := "LiarClocksModel") (Ts := lw_all) ⟨C.1, C.2.1, hml, C.2.2.1, C.2.2.2.1⟩ (hM H.size) (cwV n C.2.2.2.1 hq rfl hz.1 hz.2 hd hR) ⟨mPs_blind, m_recv C hP, fun U hU hW => ⟨rfl, by rw [hU], by rw [hU]; exact hP, va_K.moved hW.alike C.2.2.2.2.1, C.2.2.2.2.2⟩⟩ rfl hn hsz rfl (lv_room hW) hdg hcs
  intro T₀ hT X
  obtain ⟨v, st₀, t, T', L, h0, X', hL, e1, e2, ⟨v', hv, ⟨μ', hpost, hP'⟩, hF⟩, st⟩ := run T₀ hT X
  cases hv
  subst h0
  obtain ⟨t2, a1, b1⟩ := kk v μ' t.heap (locs ++ L) hpost hP' (gS_call hS hF.1 hF.2 hL) T' e1 X'
  exact ⟨t2, st t2 a1, b1⟩
/-- a static method of the model's that reads nothing -/
theorem m_cS {y : MethodName} {bytes : ByteArray} {maxL index nL n : Nat} {ret : Option FieldType} {rm : Room} {r : Int32} (As : List Value) (C : mCx p s m args c cc D T ad) (hml : c.maxLocals = nL) (hsz : ls.size = nL) (hM : Met l y (ws_ y bytes maxL ret) rm (fun v _ => v = As.toArray) (QcRead r) 0 0 (fun _ => False)) (hq : GoodIn lw_all (va_wsS "LiarClocksModel" index y (ws_ y bytes maxL ret)))
    (hd : y.cls ≠ "java/lang/invoke/MethodHandle" ∧ y.cls ≠ "java/lang/invoke/VarHandle" ∧ (parseMethodDescriptor y.desc).map (fun d => d.parameters.length) = some n) (hz : rm.cells = 0 ∧ rm.slots = 0) (hR : rm.frames + 1 ≤ R.frames ∧ 8 + (maxL + 11) + rm.locals ≤ R.locals) (hn : As.length = n) (hW : (rest.map fun v => v.category).sum ≤ 8) (hdg : decode cc pc = .ok (.invokestatic index, 3)) (hcs : cells ≤ R.cells ∧ slots ≤ R.slots)
    (kk : W p l e R s m args below meth c H locs cells slots Q (F0 m (pc + 3) ls (.int r :: rest))) : W p l e R s m args below meth c H locs cells slots Q (F0 m pc ls (As.reverse ++ rest)) := by
  refine W.callR (r := r) (a := As.toArray) (rest := rest) (W.runS (As := As) (rest := rest) (own := "LiarClocksModel") (Ts := lw_all) ⟨C.1, C.2.1, hml, C.2.2.1, C.2.2.2.1⟩ hM (va_cwS n C.2.2.2.1 hq rfl hz.1 hz.2 hd hR) preEq rfl hn hsz rfl (lv_room hW) hdg hcs) kk
end
/-- a static method that reads nothing -/
theorem sR_intro {l : Launch} {y : MethodName} {cc : ByteArray} {maxL : Nat} {ret : Option FieldType} {rm : Room} {r : Int32} (av : List Value) (hy : plainName y.cls = true) (hlen : (lg_sl av).length ≤ maxL)
    (body : ∀ (p : Program) (e : Env) (s : State) (m : MethodId) (below : List Frame) (meth : Method) (c : Code) (ls : Array Slot), p.tables.exec = Jvm.exec → c.code = cc → s.vm.findClass y.cls = some m.cls → (∀ w ∈ lw_all, w.before av.toArray s = true) → meth.sig.returnType = ret → meth.locks = false → c.maxLocals = maxL → lv_has ls maxL (lv_args 0 av) → W p l e rm s m av.toArray below meth c s.heap [] 0 0 (MQ below (QcRead r) av.toArray s 0 0 (fun _ => False)) (F0 m 0 ls [])) :
    Met l y (ws_ y cc maxL ret) rm (fun v _ => v = av.toArray) (QcRead r) 0 0 (fun _ => False) := by
  refine Met.ofW (cc := cc) (maxL := maxL) (ret := ret) hy rfl ?_
  intro p e s m args below meth c s₁ B hml hv
  subst hv
  have hts := atoms_spec (ws := ws_ y cc maxL ret) B.pre
  have hts : ∀ w ∈ lw_all, w.before _ s = true := fun w h => hts w (List.mem_cons_of_mem _ h)
  rw [lg_entry_eq]
  exact body p e s m below meth c _ B.exec B.bytes (findClass_of_methodNamed B.named) hts B.returns B.notSynchronized hml (lv_entry av hlen)
