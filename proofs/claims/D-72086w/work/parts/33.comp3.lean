/-! THE COMPONENT: isIn, LiarClocks' reading methods; CS: what the component holds of the abstract state -/
set_option maxRecDepth 100000
def lcmpI (x y : Int64) : Int32 := if y < x then 1 else if x = y then 0 else -1
section
variable {p : Program} {l : Launch} {e : Env} {R : Room} {s : State} {m : MethodId} {args : Array Value} {below : List Frame} {meth : Method} {c : Code} {H : Heap} {locs : List Loc} {cells slots : Nat} {Q : State → Prop} {cc : ByteArray} {pc : Nat} {ls : Array Slot} {rest : List Value}
theorem w_lcmp (hexec : p.tables.exec = Jvm.exec) (hb : c.code = cc) {x y : Int64} (hdg : decode cc pc = .ok (.lcmp, 1)) (k : W p l e R s m args below meth c H locs cells slots Q (F0 m (pc + 1) ls (.int (lcmpI x y) :: rest))) : W p l e R s m args below meth c H locs cells slots Q (F0 m pc ls (.long y :: .long x :: rest)) := by
  intro T hT X
  obtain ⟨t, a, b⟩ := k T hT X
  refine ⟨t, ?_, b⟩
  unfold lcmpI at a
  by_cases c1 : x > y
  · rw [if_pos c1] at a
    jvm_step X.here [X.here.top, hexec, hb, hdg, c1]
    exact a
  · rw [if_neg c1] at a
    by_cases c2 : x = y
    · rw [if_pos c2] at a
      jvm_step X.here [X.here.top, hexec, hb, hdg, c1, c2]
      exact a
    · rw [if_neg c2] at a
      jvm_step X.here [X.here.top, hexec, hb, hdg, c1, c2]
      exact a
end
theorem lc_lt {x y : Int64} : lcmpI x y < 0 ↔ ¬ y ≤ x := by
  unfold lcmpI
  rw [Int64.le_iff_toInt_le]
  by_cases q : y < x
  · rw [if_pos q, Int64.lt_iff_toInt_lt] at *
    constructor
    · intro h; exact absurd h (by decide)
    · intro h; omega
  · rw [if_neg q]
    rw [Int64.lt_iff_toInt_lt] at q
    by_cases e : x = y
    · rw [if_pos e]; subst e
      constructor
      · intro h; exact absurd h (by decide)
      · intro h; omega
    · rw [if_neg e]
      have e2 : x.toInt ≠ y.toInt := fun z => e (Int64.toInt_inj.mp z)
      constructor
      · intro _; omega
      · intro _; decide
theorem lc_gt {x y : Int64} : 0 < lcmpI x y ↔ ¬ x ≤ y := by
  unfold lcmpI
  rw [Int64.le_iff_toInt_le]
  by_cases q : y < x
  · rw [if_pos q, Int64.lt_iff_toInt_lt] at *
    constructor
    · intro _; omega
    · intro _; decide
  · rw [if_neg q]
    rw [Int64.lt_iff_toInt_lt] at q
    constructor
    · intro h; split at h <;> exact absurd h (by decide)
    · intro h; omega
theorem hdX0_isIn : yX0_isIn.cls = "LiarClocks" ∧ yX0_isIn.cls ≠ "java/lang/invoke/MethodHandle" ∧ yX0_isIn.cls ≠ "java/lang/invoke/VarHandle" ∧ (parseMethodDescriptor yX0_isIn.desc).map (fun d => d.parameters.length) = some 3 := by decide +kernel
set_option maxHeartbeats 4000000 in
/-- isIn -/
theorem mX0_isIn (l : Launch) (v lo hi : Int64) : Met l yX0_isIn (ws_ yX0_isIn cX0_isIn 6 (some .boolean)) ({ frames := 0, cells := 0, slots := 0, locals := 0 } : Room) (fun v9 _ => v9 = ([.long v, .long lo, .long hi] : List Value).toArray) (QcRead (bI (decide (lo ≤ v) && decide (v ≤ hi)))) 0 0 (fun _ => False) := by
  refine sR_intro [.long v, .long lo, .long hi] (by decide) (Nat.le_of_ble_eq_true rfl) ?_
  intro pg en s0 mi below meth cd ls hx hb hown hts hr hlk hml hl
  have hl : lv_has ls 6 [(0, .long v), (2, .long lo), (4, .long hi)] := hl
  refine lv_lload_n hx hb dX0_isIn_0 rfl (lv_at hl 0 rfl) ?_
  refine lv_lload_n hx hb dX0_isIn_1 rfl (lv_at hl 1 rfl) ?_
  refine w_lcmp hx hb dX0_isIn_2 ?_
  refine lv_if_lt (tgt := 17) hx hb dX0_isIn_3 (by decide) (fun c_170 => ?_) (fun c_170 => ?_)
  · refine lv_iconst (v := 0) hx hb dX0_isIn_17 (by decide) ?_
    exact w_retZ hx hb hlk hr dX0_isIn_18 (by simp [bI, lc_lt.mp c_170])
  · refine lv_lload_n hx hb dX0_isIn_6 rfl (lv_at hl 0 rfl) ?_
    refine lv_lload hx hb dX0_isIn_7 (lv_at hl 2 rfl) ?_
    refine w_lcmp hx hb dX0_isIn_9 ?_
    refine lv_if_gt (tgt := 17) hx hb dX0_isIn_10 (by decide) (fun c_171 => ?_) (fun c_171 => ?_)
    · refine lv_iconst (v := 0) hx hb dX0_isIn_17 (by decide) ?_
      exact w_retZ hx hb hlk hr dX0_isIn_18 (by simp [bI, lc_gt.mp c_171])
    · refine lv_iconst (v := 1) hx hb dX0_isIn_13 (by decide) ?_
      refine lv_goto (tgt := 18) hx hb dX0_isIn_14 (by decide) ?_
      exact w_retZ hx hb hlk hr dX0_isIn_18 (by simp [bI, Decidable.not_not.mp (fun q => c_170 (lc_lt.mpr q)), Decidable.not_not.mp (fun q => c_171 (lc_gt.mpr q))])

theorem inL {x : Int32} {lo hi : Int64} {l u : Int} (hl : lo.toInt = l) (hu : hi.toInt = u) : (decide (lo ≤ x.toInt64) && decide (x.toInt64 ≤ hi)) = inB x l u := by
  have e : x.toInt64.toInt = x.toInt := Int32.toInt_toInt64 x
  unfold inB
  simp only [Int64.le_iff_toInt_le, hl, hu, e]
theorem isC_inB {h : Vw} {c : Int32} : inB c 0 ((nM h : Int) - 1) = isC h c := by
  unfold inB isC
  congr 1
  apply decide_eq_decide.mpr
  omega
theorem isH10 {n : Nat} (hn : 230 ≤ n ∧ n ≤ 242) : isH n 10 := ⟨hn.2, by decide, by decide, by omega⟩
theorem isH21 {n : Nat} (hn : 230 ≤ n ∧ n ≤ 242) : isH n 21 := ⟨hn.2, by decide, by decide, by omega⟩
theorem isHp {n k : Nat} (hn : 230 ≤ n ∧ n ≤ 242) (hk : k < 16) : isH n (32 + 11 * k) := ⟨hn.2, by omega, by omega, by omega⟩
theorem isHi {n k : Nat} (hn : 230 ≤ n ∧ n ≤ 242) (hk : k < 2) : isH n (208 + 11 * k) := ⟨hn.2, by omega, by omega, by omega⟩
theorem n10 {n : Nat} (hn : 230 ≤ n ∧ n ≤ 242) : 10 ≤ n := by omega
theorem hdX0_isClock : yX0_isClock.cls = "LiarClocks" ∧ yX0_isClock.cls ≠ "java/lang/invoke/MethodHandle" ∧ yX0_isClock.cls ≠ "java/lang/invoke/VarHandle" ∧ (parseMethodDescriptor yX0_isClock.desc).map (fun d => d.parameters.length) = some 1 := by decide +kernel
set_option maxHeartbeats 4000000 in
/-- isClock -/
theorem mX0_isClock (l : Launch) (D : va_G) (T : Nat → ClassId) (ad : Nat → Nat) (n : Nat) (σ : Nat → Nat → Int32) (hn : 230 ≤ n ∧ n ≤ 242) (h : Vw) (hR : Rc σ 10 h) (hB : HB h) (c : Int32) : Met l yX0_isClock (ws_ yX0_isClock cX0_isClock 2 (some .boolean)) ({ frames := 1, cells := 0, slots := 0, locals := 25 } : Room) (cPc D T ad n σ [.ref (ad 0), .int c]) (QcRead (bI (isC h c))) 0 0 (fun _ => False) := by
  have h8 := hB.many8
  have h3 := hB.strike3
  have h6 := hB.alarms6
  refine cR_intro (own := "LiarClocks") [.ref (ad 0), .int c] (by decide) rfl (Nat.le_of_ble_eq_true rfl) ?_
  intro pg en s0 mi below meth cd ls C hr hlk hml hP hl
  have hx := C.1
  have hb := C.2.1
  have hown := C.2.2.1
  have hts := C.2.2.2.1
  have hl : lv_has ls 2 [(0, .ref (ad 0)), (1, .int c)] := hl
  refine lv_iload_n hx hb dX0_isClock_0 rfl (lv_at hl 1 rfl) ?_
  refine lv_i2l (v := (c).toInt64) hx hb dX0_isClock_1 rfl ?_
  refine lv_lconst (v := 0) hx hb dX0_isClock_2 (by decide) ?_
  refine lv_aload_n hx hb dX0_isClock_3 rfl (lv_at hl 0 rfl) ?_
  refine cg_C_now C hP (n10 hn) dX0_isClock_4 ?_
  refine cg_H_many C hP (isH10 hn) dX0_isClock_7 ?_
  refine w_eqi (rc0 hR 0 (by decide)) ?_
  refine w_eqi (hB.many) ?_
  refine lv_iconst (v := nI 1) hx hb dX0_isClock_10 (by decide) ?_
  refine lv_isub hx hb dX0_isClock_11 ?_
  refine lv_i2l (v := ((nI (nM h)) - (nI (1))).toInt64) hx hb dX0_isClock_12 rfl ?_
  refine c_cS [.long ((c).toInt64), .long 0, .long (((nI (nM h)) - (nI (1))).toInt64)] C hml hl.1 (mX0_isIn l ((c).toInt64) 0 (((nI (nM h)) - (nI (1))).toInt64)) (lw_S q90 q91 q69 q92) hdX0_isIn.2 ⟨rfl, rfl⟩ ⟨Nat.le_of_ble_eq_true rfl, Nat.le_of_ble_eq_true rfl⟩ rfl (Nat.le_of_ble_eq_true rfl) dX0_isClock_13 ⟨Nat.zero_le _, Nat.zero_le _⟩ ?_
  exact w_retZ hx hb hlk hr dX0_isClock_16 (by rw [inL (l := 0) (u := (nM h : Int) - 1) (by decide) (by rw [Int32.toInt_toInt64, pk_sub_toInt (by omega) (by decide)]; rfl), isC_inB])

theorem hdX0_arePair : yX0_arePair.cls = "LiarClocks" ∧ yX0_arePair.cls ≠ "java/lang/invoke/MethodHandle" ∧ yX0_arePair.cls ≠ "java/lang/invoke/VarHandle" ∧ (parseMethodDescriptor yX0_arePair.desc).map (fun d => d.parameters.length) = some 2 := by decide +kernel
set_option maxHeartbeats 4000000 in
/-- arePair -/
theorem mX0_arePair (l : Launch) (D : va_G) (T : Nat → ClassId) (ad : Nat → Nat) (n : Nat) (σ : Nat → Nat → Int32) (hn : 230 ≤ n ∧ n ≤ 242) (h : Vw) (hR : Rc σ 10 h) (hB : HB h) (j i : Int32) : Met l yX0_arePair (ws_ yX0_arePair cX0_arePair 3 (some .boolean)) ({ frames := 2, cells := 0, slots := 0, locals := 46 } : Room) (cPc D T ad n σ [.ref (ad 0), .int j, .int i]) (QcRead (bI (pairB h j i))) 0 0 (fun _ => False) := by
  have h8 := hB.many8
  have h3 := hB.strike3
  have h6 := hB.alarms6
  refine cR_intro (own := "LiarClocks") [.ref (ad 0), .int j, .int i] (by decide) rfl (Nat.le_of_ble_eq_true rfl) ?_
  intro pg en s0 mi below meth cd ls C hr hlk hml hP hl
  have hx := C.1
  have hb := C.2.1
  have hown := C.2.2.1
  have hts := C.2.2.2.1
  have hl : lv_has ls 3 [(0, .ref (ad 0)), (1, .int j), (2, .int i)] := hl
  refine lv_aload_n hx hb dX0_arePair_0 rfl (lv_at hl 0 rfl) ?_
  refine lv_iload_n hx hb dX0_arePair_1 rfl (lv_at hl 1 rfl) ?_
  refine c_cR [.int j] C hml hl.1 hP (c_recvC C hP (n10 hn)) (mX0_isClock l D T ad n σ hn h hR hB j) (lw_V q539 q541 qs20 q69 q542) hdX0_isClock ⟨rfl, rfl⟩ ⟨Nat.le_of_ble_eq_true rfl, Nat.le_of_ble_eq_true rfl⟩ rfl (Nat.le_of_ble_eq_true rfl) dX0_arePair_2 ⟨Nat.zero_le _, Nat.zero_le _⟩ ?_
  refine lv_if_eq (tgt := 25) hx hb dX0_arePair_5 (by decide) (fun c_172 => ?_) (fun c_172 => ?_)
  · refine lv_iconst (v := 0) hx hb dX0_arePair_25 (by decide) ?_
    exact w_retZ hx hb hlk hr dX0_arePair_26 (by simp [bI, pairB, bI_eq0.mp c_172])
  · refine lv_aload_n hx hb dX0_arePair_8 rfl (lv_at hl 0 rfl) ?_
    refine lv_iload_n hx hb dX0_arePair_9 rfl (lv_at hl 2 rfl) ?_
    refine c_cR [.int i] C hml hl.1 hP (c_recvC C hP (n10 hn)) (mX0_isClock l D T ad n σ hn h hR hB i) (lw_V q539 q541 qs20 q69 q542) hdX0_isClock ⟨rfl, rfl⟩ ⟨Nat.le_of_ble_eq_true rfl, Nat.le_of_ble_eq_true rfl⟩ rfl (Nat.le_of_ble_eq_true rfl) dX0_arePair_10 ⟨Nat.zero_le _, Nat.zero_le _⟩ ?_
    refine lv_if_eq (tgt := 25) hx hb dX0_arePair_13 (by decide) (fun c_173 => ?_) (fun c_173 => ?_)
    · refine lv_iconst (v := 0) hx hb dX0_arePair_25 (by decide) ?_
      exact w_retZ hx hb hlk hr dX0_arePair_26 (by simp [bI, pairB, bI_eq0.mp c_173])
    · refine lv_iload_n hx hb dX0_arePair_16 rfl (lv_at hl 1 rfl) ?_
      refine lv_iload_n hx hb dX0_arePair_17 rfl (lv_at hl 2 rfl) ?_
      refine lv_icmp_eq (tgt := 25) hx hb dX0_arePair_18 (by decide) (fun c_174 => ?_) (fun c_174 => ?_)
      · refine lv_iconst (v := 0) hx hb dX0_arePair_25 (by decide) ?_
        exact w_retZ hx hb hlk hr dX0_arePair_26 (by simp [bI, pairB, bI_ne0.mp c_172, bI_ne0.mp c_173, c_174])
      · refine lv_iconst (v := 1) hx hb dX0_arePair_21 (by decide) ?_
        refine lv_goto (tgt := 26) hx hb dX0_arePair_22 (by decide) ?_
        exact w_retZ hx hb hlk hr dX0_arePair_26 (by simp [bI, pairB, bI_ne0.mp c_172, bI_ne0.mp c_173, c_174])

theorem hdX0_rank : yX0_rank.cls = "LiarClocks" ∧ yX0_rank.cls ≠ "java/lang/invoke/MethodHandle" ∧ yX0_rank.cls ≠ "java/lang/invoke/VarHandle" ∧ (parseMethodDescriptor yX0_rank.desc).map (fun d => d.parameters.length) = some 2 := by decide +kernel
set_option maxHeartbeats 4000000 in
/-- rank -/
theorem mX0_rank (l : Launch) (D : va_G) (T : Nat → ClassId) (ad : Nat → Nat) (n : Nat) (σ : Nat → Nat → Int32) (hn : 230 ≤ n ∧ n ≤ 242) (h : Vw) (hR : Rc σ 10 h) (hB : HB h) (j i : Nat) (hj : j < 8) (hi : i < 8) : Met l yX0_rank (ws_ yX0_rank cX0_rank 7 (some .int)) ({ frames := 2, cells := 0, slots := 0, locals := 43 } : Room) (cPc D T ad n σ [.ref (ad 0), .int (nI j), .int (nI i)]) (QcRead (rankS h j i)) 0 0 (fun _ => False) := by
  have h8 := hB.many8
  have h3 := hB.strike3
  have h6 := hB.alarms6
  refine cR_intro (own := "LiarClocks") [.ref (ad 0), .int (nI j), .int (nI i)] (by decide) rfl (Nat.le_of_ble_eq_true rfl) ?_
  intro pg en s0 mi below meth cd ls C hr hlk hml hP hl
  have hx := C.1
  have hb := C.2.1
  have hown := C.2.2.1
  have hts := C.2.2.2.1
  have hl : lv_has ls 7 [(0, .ref (ad 0)), (1, .int (nI j)), (2, .int (nI i))] := hl
  refine lv_aload_n hx hb dX0_rank_0 rfl (lv_at hl 0 rfl) ?_
  refine cg_C_now C hP (n10 hn) dX0_rank_1 ?_
  refine lv_iload_n hx hb dX0_rank_4 rfl (lv_at hl 2 rfl) ?_
  refine lv_iload_n hx hb dX0_rank_5 rfl (lv_at hl 1 rfl) ?_
  refine c_cR [.int (nI i), .int (nI j)] C hml hl.1 hP (c_recvH C hP (isH10 hn)) (mX1_heardBy l D T ad n σ 10 h (isH10 hn) hR hB i j (by omega) (by omega)) (lw_V q471 q472 q473 q70 q474) hdX1_heardBy ⟨rfl, rfl⟩ ⟨Nat.le_of_ble_eq_true rfl, Nat.le_of_ble_eq_true rfl⟩ rfl (Nat.le_of_ble_eq_true rfl) dX0_rank_6 ⟨Nat.zero_le _, Nat.zero_le _⟩ ?_
  refine lv_istore_n (lv' := [(3, .int (heardS h i j)), (0, .ref (ad 0)), (1, .int (nI j)), (2, .int (nI i))]) hx hb dX0_rank_9 rfl hl (by decide) rfl (fun ls hl => ?_)
  refine lv_iconst (v := nI 0) hx hb dX0_rank_10 (by decide) ?_
  refine lv_istore (lv' := [(4, .int (nI 0)), (3, .int (heardS h i j)), (0, .ref (ad 0)), (1, .int (nI j)), (2, .int (nI i))]) hx hb dX0_rank_11 hl (by decide) rfl (fun ls hl => ?_)
  refine lv_iconst (v := nI 0) hx hb dX0_rank_13 (by decide) ?_
  refine lv_istore (lv' := [(5, .int (nI 0)), (4, .int (nI 0)), (3, .int (heardS h i j)), (0, .ref (ad 0)), (1, .int (nI j)), (2, .int (nI i))]) hx hb dX0_rank_14 hl (by decide) rfl (fun ls hl => ?_)
  refine w_up (nM h) 16 7 (fun k => [(0, .ref (ad 0)), (1, .int (nI j)), (2, .int (nI i)), (3, .int (heardS h i j)), (4, .int (nI (fa_cnt (rkS h i j) k))), (5, .int (nI k))]) ?_ ?_ 0 (Nat.zero_le _) _ (lv_sub hl [3, 4, 5, 2, 1, 0] rfl)
  · intro k ls hi_k hl ih_k
    have hl : lv_has ls 7 [(0, .ref (ad 0)), (1, .int (nI j)), (2, .int (nI i)), (3, .int (heardS h i j)), (4, .int (nI (fa_cnt (rkS h i j) k))), (5, .int (nI k))] := hl
    refine lv_iload hx hb dX0_rank_16 (lv_at hl 5 rfl) ?_
    refine lv_aload_n hx hb dX0_rank_18 rfl (lv_at hl 0 rfl) ?_
    refine cg_C_now C hP (n10 hn) dX0_rank_19 ?_
    refine cg_H_many C hP (isH10 hn) dX0_rank_22 ?_
    refine w_eqi (rc0 hR 0 (by decide)) ?_
    refine w_eqi (hB.many) ?_
    refine w_icmpN_ge (tgt := 74) hx hb dX0_rank_25 (by decide) (by omega) (by omega) (fun c_175 => ?_) (fun c_175 => ?_)
    · exact absurd c_175 (by omega)
    · refine lv_aload_n hx hb dX0_rank_28 rfl (lv_at hl 0 rfl) ?_
      refine cg_C_now C hP (n10 hn) dX0_rank_29 ?_
      refine lv_iload_n hx hb dX0_rank_32 rfl (lv_at hl 2 rfl) ?_
      refine lv_iload hx hb dX0_rank_33 (lv_at hl 5 rfl) ?_
      refine c_cR [.int (nI i), .int (nI k)] C hml hl.1 hP (c_recvH C hP (isH10 hn)) (mX1_heardBy l D T ad n σ 10 h (isH10 hn) hR hB i k (by omega) (by omega)) (lw_V q471 q472 q473 q70 q474) hdX1_heardBy ⟨rfl, rfl⟩ ⟨Nat.le_of_ble_eq_true rfl, Nat.le_of_ble_eq_true rfl⟩ rfl (Nat.le_of_ble_eq_true rfl) dX0_rank_35 ⟨Nat.zero_le _, Nat.zero_le _⟩ ?_
      refine lv_istore (lv' := [(6, .int (heardS h i k)), (0, .ref (ad 0)), (1, .int (nI j)), (2, .int (nI i)), (3, .int (heardS h i j)), (4, .int (nI (fa_cnt (rkS h i j) k))), (5, .int (nI k))]) hx hb dX0_rank_38 hl (by decide) rfl (fun ls hl => ?_)
      refine lv_iload hx hb dX0_rank_40 (lv_at hl 5 rfl) ?_
      refine lv_iload hx hb dX0_rank_42 (lv_at hl 0 rfl) ?_
      refine lv_iload_n hx hb dX0_rank_44 rfl (lv_at hl 4 rfl) ?_
      refine lv_icmp_lt (tgt := 60) hx hb dX0_rank_45 (by decide) (fun c_176 => ?_) (fun c_176 => ?_)
      · have hp : rkS h i j k = true := by
          unfold rkS
          rw [decide_eq_true c_176]; rfl
        refine lv_iconst (v := nI 1) hx hb dX0_rank_60 (by decide) ?_
        refine lv_goto (tgt := 65) hx hb dX0_rank_61 (by decide) ?_
        refine w_iaddN hx hb dX0_rank_65 ?_
        refine w_eqi (y := nI (fa_cnt (rkS h i j) (k + 1))) (by rw [fa_cnt_yes hp]) ?_
        refine lv_istore (lv' := [(4, .int (nI (fa_cnt (rkS h i j) (k + 1)))), (6, .int (heardS h i k)), (0, .ref (ad 0)), (1, .int (nI j)), (2, .int (nI i)), (3, .int (heardS h i j)), (5, .int (nI k))]) hx hb dX0_rank_66 hl (by decide) rfl (fun ls hl => ?_)
        refine lv_iinc (v := nI (k + 1)) (lv' := [(5, .int (nI (k + 1))), (4, .int (nI (fa_cnt (rkS h i j) (k + 1)))), (6, .int (heardS h i k)), (0, .ref (ad 0)), (1, .int (nI j)), (2, .int (nI i)), (3, .int (heardS h i j))]) hx hb dX0_rank_68 hl (k := 6) rfl (w_inc _ _) (by decide) rfl (fun ls hl => ?_)
        refine lv_goto (tgt := 16) hx hb dX0_rank_71 (by decide) ?_
        refine ih_k _ ?_
        show lv_has ls 7 [(0, .ref (ad 0)), (1, .int (nI j)), (2, .int (nI i)), (3, .int (heardS h i j)), (4, .int (nI (fa_cnt (rkS h i j) (k + 1)))), (5, .int (nI (k + 1)))]
        exact lv_sub hl [3, 4, 5, 6, 1, 0] rfl
      · refine lv_iload hx hb dX0_rank_48 (lv_at hl 0 rfl) ?_
        refine lv_iload_n hx hb dX0_rank_50 rfl (lv_at hl 4 rfl) ?_
        refine lv_icmp_ne (tgt := 64) hx hb dX0_rank_51 (by decide) (fun c_177 => ?_) (fun c_177 => ?_)
        · have hp : rkS h i j k = false := by
            unfold rkS
            rw [decide_eq_false c_176, decide_eq_false c_177]; rfl
          refine lv_iconst (v := nI 0) hx hb dX0_rank_64 (by decide) ?_
          refine w_iaddN hx hb dX0_rank_65 ?_
          refine w_eqi (y := nI (fa_cnt (rkS h i j) (k + 1))) (by rw [Nat.add_zero, fa_cnt_no hp]) ?_
          refine lv_istore (lv' := [(4, .int (nI (fa_cnt (rkS h i j) (k + 1)))), (6, .int (heardS h i k)), (0, .ref (ad 0)), (1, .int (nI j)), (2, .int (nI i)), (3, .int (heardS h i j)), (5, .int (nI k))]) hx hb dX0_rank_66 hl (by decide) rfl (fun ls hl => ?_)
          refine lv_iinc (v := nI (k + 1)) (lv' := [(5, .int (nI (k + 1))), (4, .int (nI (fa_cnt (rkS h i j) (k + 1)))), (6, .int (heardS h i k)), (0, .ref (ad 0)), (1, .int (nI j)), (2, .int (nI i)), (3, .int (heardS h i j))]) hx hb dX0_rank_68 hl (k := 6) rfl (w_inc _ _) (by decide) rfl (fun ls hl => ?_)
          refine lv_goto (tgt := 16) hx hb dX0_rank_71 (by decide) ?_
          refine ih_k _ ?_
          show lv_has ls 7 [(0, .ref (ad 0)), (1, .int (nI j)), (2, .int (nI i)), (3, .int (heardS h i j)), (4, .int (nI (fa_cnt (rkS h i j) (k + 1)))), (5, .int (nI (k + 1)))]
          exact lv_sub hl [3, 4, 5, 6, 1, 0] rfl
        · refine lv_iload hx hb dX0_rank_54 (lv_at hl 6 rfl) ?_
          refine lv_iload_n hx hb dX0_rank_56 rfl (lv_at hl 2 rfl) ?_
          refine w_icmpN_ge (tgt := 64) hx hb dX0_rank_57 (by decide) (by omega) (by omega) (fun c_178 => ?_) (fun c_178 => ?_)
          · have hp : rkS h i j k = false := by
              unfold rkS
              rw [decide_eq_false c_176, decide_eq_false (show ¬ k < j by omega), Bool.and_false]; rfl
            refine lv_iconst (v := nI 0) hx hb dX0_rank_64 (by decide) ?_
            refine w_iaddN hx hb dX0_rank_65 ?_
            refine w_eqi (y := nI (fa_cnt (rkS h i j) (k + 1))) (by rw [Nat.add_zero, fa_cnt_no hp]) ?_
            refine lv_istore (lv' := [(4, .int (nI (fa_cnt (rkS h i j) (k + 1)))), (6, .int (heardS h i k)), (0, .ref (ad 0)), (1, .int (nI j)), (2, .int (nI i)), (3, .int (heardS h i j)), (5, .int (nI k))]) hx hb dX0_rank_66 hl (by decide) rfl (fun ls hl => ?_)
            refine lv_iinc (v := nI (k + 1)) (lv' := [(5, .int (nI (k + 1))), (4, .int (nI (fa_cnt (rkS h i j) (k + 1)))), (6, .int (heardS h i k)), (0, .ref (ad 0)), (1, .int (nI j)), (2, .int (nI i)), (3, .int (heardS h i j))]) hx hb dX0_rank_68 hl (k := 6) rfl (w_inc _ _) (by decide) rfl (fun ls hl => ?_)
            refine lv_goto (tgt := 16) hx hb dX0_rank_71 (by decide) ?_
            refine ih_k _ ?_
            show lv_has ls 7 [(0, .ref (ad 0)), (1, .int (nI j)), (2, .int (nI i)), (3, .int (heardS h i j)), (4, .int (nI (fa_cnt (rkS h i j) (k + 1)))), (5, .int (nI (k + 1)))]
            exact lv_sub hl [3, 4, 5, 6, 1, 0] rfl
          · have hp : rkS h i j k = true := by
              unfold rkS
              rw [decide_eq_true c_177, decide_eq_true (show k < j by omega)]; simp
            refine lv_iconst (v := nI 1) hx hb dX0_rank_60 (by decide) ?_
            refine lv_goto (tgt := 65) hx hb dX0_rank_61 (by decide) ?_
            refine w_iaddN hx hb dX0_rank_65 ?_
            refine w_eqi (y := nI (fa_cnt (rkS h i j) (k + 1))) (by rw [fa_cnt_yes hp]) ?_
            refine lv_istore (lv' := [(4, .int (nI (fa_cnt (rkS h i j) (k + 1)))), (6, .int (heardS h i k)), (0, .ref (ad 0)), (1, .int (nI j)), (2, .int (nI i)), (3, .int (heardS h i j)), (5, .int (nI k))]) hx hb dX0_rank_66 hl (by decide) rfl (fun ls hl => ?_)
            refine lv_iinc (v := nI (k + 1)) (lv' := [(5, .int (nI (k + 1))), (4, .int (nI (fa_cnt (rkS h i j) (k + 1)))), (6, .int (heardS h i k)), (0, .ref (ad 0)), (1, .int (nI j)), (2, .int (nI i)), (3, .int (heardS h i j))]) hx hb dX0_rank_68 hl (k := 6) rfl (w_inc _ _) (by decide) rfl (fun ls hl => ?_)
            refine lv_goto (tgt := 16) hx hb dX0_rank_71 (by decide) ?_
            refine ih_k _ ?_
            show lv_has ls 7 [(0, .ref (ad 0)), (1, .int (nI j)), (2, .int (nI i)), (3, .int (heardS h i j)), (4, .int (nI (fa_cnt (rkS h i j) (k + 1)))), (5, .int (nI (k + 1)))]
            exact lv_sub hl [3, 4, 5, 6, 1, 0] rfl
  · intro ls hl
    have hl : lv_has ls 7 [(0, .ref (ad 0)), (1, .int (nI j)), (2, .int (nI i)), (3, .int (heardS h i j)), (4, .int (nI (fa_cnt (rkS h i j) (nM h)))), (5, .int (nI (nM h)))] := hl
    refine lv_iload hx hb dX0_rank_16 (lv_at hl 5 rfl) ?_
    refine lv_aload_n hx hb dX0_rank_18 rfl (lv_at hl 0 rfl) ?_
    refine cg_C_now C hP (n10 hn) dX0_rank_19 ?_
    refine cg_H_many C hP (isH10 hn) dX0_rank_22 ?_
    refine w_eqi (rc0 hR 0 (by decide)) ?_
    refine w_eqi (hB.many) ?_
    refine w_icmpN_ge (tgt := 74) hx hb dX0_rank_25 (by decide) (by omega) (by omega) (fun c_179 => ?_) (fun c_179 => ?_)
    · refine lv_iload hx hb dX0_rank_74 (lv_at hl 4 rfl) ?_
      exact w_retR hx hb hlk hr dX0_rank_76 rfl
    · exact absurd c_179 (by omega)

theorem cnt_comp {p q : Nat → Bool} : ∀ (m : Nat), (∀ k, k < m → p k = !q k) → fa_cnt p m + fa_cnt q m = m := by
  intro m
  induction m with
  | zero => intro _; simp [fa_cnt]
  | succ m ih =>
    intro h
    have e := h m (by omega)
    have ih2 := ih (fun k hk => h k (by omega))
    cases hq : q m
    · rw [hq] at e
      rw [fa_cnt_yes (by simpa using e), fa_cnt_no hq]; omega
    · rw [hq] at e
      rw [fa_cnt_no (by simpa using e), fa_cnt_yes hq]; omega
theorem go_st {h : Vw} (hB : HB h) : goN h + fa_cnt (eq1 h 5) (nM h) = nM h := by
  have h8 := hB.many8
  refine cnt_comp _ (fun k hk => ?_)
  rcases hB.stands (c := k) (by omega) with q | q <;> simp [eq1, q]
theorem ml_min {h : Vw} (hB : HB h) (h0 : 0 < goN h) : minI (nI (nF h)) (nI ((goN h - 1) / 3)) = mayLieS h := by
  have h8 := hB.many8
  have h3 := hB.strike3
  have hg := go_st hB
  unfold minI mayLieS
  rw [if_neg (show ¬ goN h = 0 by omega)]
  by_cases q : (goN h - 1) / 3 < nF h
  · rw [if_neg (fun z => by rw [w_le, nI_toInt (by omega), nI_toInt (by omega)] at z; omega), if_pos q]
  · rw [if_pos (by rw [w_le, nI_toInt (by omega), nI_toInt (by omega)]; omega), if_neg q]
theorem nI_div3 : ∀ k, k < 9 → nI k / nI 3 = nI (k / 3) := by decide
theorem hdX0_mayLie : yX0_mayLie.cls = "LiarClocks" ∧ yX0_mayLie.cls ≠ "java/lang/invoke/MethodHandle" ∧ yX0_mayLie.cls ≠ "java/lang/invoke/VarHandle" ∧ (parseMethodDescriptor yX0_mayLie.desc).map (fun d => d.parameters.length) = some 0 := by decide +kernel
set_option maxHeartbeats 4000000 in
/-- mayLie -/
theorem mX0_mayLie (l : Launch) (D : va_G) (T : Nat → ClassId) (ad : Nat → Nat) (n : Nat) (σ : Nat → Nat → Int32) (hn : 230 ≤ n ∧ n ≤ 242) (h : Vw) (hR : Rc σ 10 h) (hB : HB h) : Met l yX0_mayLie (ws_ yX0_mayLie cX0_mayLie 2 (some .int)) ({ frames := 1, cells := 0, slots := 0, locals := 23 } : Room) (cPc D T ad n σ [.ref (ad 0)]) (QcRead (mayLieS h)) 0 0 (fun _ => False) := by
  have h8 := hB.many8
  have h3 := hB.strike3
  have h6 := hB.alarms6
  refine cR_intro (own := "LiarClocks") [.ref (ad 0)] (by decide) rfl (Nat.le_of_ble_eq_true rfl) ?_
  intro pg en s0 mi below meth cd ls C hr hlk hml hP hl
  have hx := C.1
  have hb := C.2.1
  have hown := C.2.2.1
  have hts := C.2.2.2.1
  have hl : lv_has ls 2 [(0, .ref (ad 0))] := hl
  have hg := go_st hB
  refine lv_aload_n hx hb dX0_mayLie_0 rfl (lv_at hl 0 rfl) ?_
  refine cg_C_now C hP (n10 hn) dX0_mayLie_1 ?_
  refine cg_H_many C hP (isH10 hn) dX0_mayLie_4 ?_
  refine w_eqi (rc0 hR 0 (by decide)) ?_
  refine w_eqi (hB.many) ?_
  refine lv_aload_n hx hb dX0_mayLie_7 rfl (lv_at hl 0 rfl) ?_
  refine cg_C_now C hP (n10 hn) dX0_mayLie_8 ?_
  refine lv_aload_n hx hb dX0_mayLie_11 rfl (lv_at hl 0 rfl) ?_
  refine cg_C_now C hP (n10 hn) dX0_mayLie_12 ?_
  refine cg_H_stands C hP (isH10 hn) dX0_mayLie_15 ?_
  refine c_cR [.ref (ad (10 + 5))] C hml hl.1 hP (c_recvH C hP (isH10 hn)) (mX1_setOf l D T ad n σ 10 h (isH10 hn) hR hB 5 (by decide)) (lw_V q424 q425 q426 q70 q427) hdX1_setOf ⟨rfl, rfl⟩ ⟨Nat.le_of_ble_eq_true rfl, Nat.le_of_ble_eq_true rfl⟩ rfl (Nat.le_of_ble_eq_true rfl) dX0_mayLie_18 ⟨Nat.zero_le _, Nat.zero_le _⟩ ?_
  refine c_cS [.int (nI (setN (eq1 h 5) (nM h)))] C hml hl.1 (mJ3_bitCount l (setN (eq1 h 5) (nM h)) (setN_256 h8)) (lw_S q456 q457 q82 q458) hdJ3_bitCount.2 ⟨rfl, rfl⟩ ⟨Nat.le_of_ble_eq_true rfl, Nat.le_of_ble_eq_true rfl⟩ rfl (Nat.le_of_ble_eq_true rfl) dX0_mayLie_21 ⟨Nat.zero_le _, Nat.zero_le _⟩ ?_
  refine w_eqi (y := nI (fa_cnt (eq1 h 5) (nM h))) (by rw [bc_setN _ _ h8]) ?_
  refine w_isubN hx hb dX0_mayLie_24 (by omega) ?_
  refine w_eqi (y := nI (goN h)) (by congr 1; omega) ?_
  refine lv_istore_n (lv' := [(1, .int (nI (goN h))), (0, .ref (ad 0))]) hx hb dX0_mayLie_25 rfl hl (by decide) rfl (fun ls hl => ?_)
  refine lv_iload_n hx hb dX0_mayLie_26 rfl (lv_at hl 0 rfl) ?_
  refine w_ifN_ne (tgt := 34) hx hb dX0_mayLie_27 (by decide) (by omega) (fun c_180 => ?_) (fun c_180 => ?_)
  · refine lv_aload_n hx hb dX0_mayLie_34 rfl (lv_at hl 1 rfl) ?_
    refine cg_C_now C hP (n10 hn) dX0_mayLie_35 ?_
    refine cg_H_strike C hP (isH10 hn) dX0_mayLie_38 ?_
    refine w_eqi (rc0 hR 1 (by decide)) ?_
    refine w_eqi (hB.strike) ?_
    refine lv_iload_n hx hb dX0_mayLie_41 rfl (lv_at hl 0 rfl) ?_
    refine lv_iconst (v := nI 1) hx hb dX0_mayLie_42 (by decide) ?_
    refine w_isubN hx hb dX0_mayLie_43 (by omega) ?_
    refine lv_iconst (v := nI 3) hx hb dX0_mayLie_44 (by decide) ?_
    refine lv_idiv hx hb dX0_mayLie_45 (by decide) ?_
    refine w_eqi (nI_div3 (goN h - 1) (by omega)) ?_
    refine c_cS [.int (nI (nF h)), .int (nI ((goN h - 1) / 3))] C hml hl.1 (mJ2_min l (nI (nF h)) (nI ((goN h - 1) / 3))) (lw_S q530 q367 q79 q368) hdJ2_min.2 ⟨rfl, rfl⟩ ⟨Nat.le_of_ble_eq_true rfl, Nat.le_of_ble_eq_true rfl⟩ rfl (Nat.le_of_ble_eq_true rfl) dX0_mayLie_46 ⟨Nat.zero_le _, Nat.zero_le _⟩ ?_
    exact w_retR hx hb hlk hr dX0_mayLie_49 (ml_min hB c_180)
  · refine lv_iconst (v := -1) hx hb dX0_mayLie_30 (by decide) ?_
    refine lv_goto (tgt := 49) hx hb dX0_mayLie_31 (by decide) ?_
    exact w_retR hx hb hlk hr dX0_mayLie_49 (by unfold mayLieS; rw [if_pos c_180])

theorem hdX0_rungOnes : yX0_rungOnes.cls = "LiarClocks" ∧ yX0_rungOnes.cls ≠ "java/lang/invoke/MethodHandle" ∧ yX0_rungOnes.cls ≠ "java/lang/invoke/VarHandle" ∧ (parseMethodDescriptor yX0_rungOnes.desc).map (fun d => d.parameters.length) = some 0 := by decide +kernel
set_option maxHeartbeats 4000000 in
/-- rungOnes -/
theorem mX0_rungOnes (l : Launch) (D : va_G) (T : Nat → ClassId) (ad : Nat → Nat) (n : Nat) (σ : Nat → Nat → Int32) (hn : 230 ≤ n ∧ n ≤ 242) (h : Vw) (hR : Rc σ 10 h) (hB : HB h) : Met l yX0_rungOnes (ws_ yX0_rungOnes cX0_rungOnes 3 (some .int)) ({ frames := 0, cells := 0, slots := 0, locals := 0 } : Room) (cPc D T ad n σ [.ref (ad 0)]) (QcRead (rungN h)) 0 0 (fun _ => False) := by
  have h8 := hB.many8
  have h3 := hB.strike3
  have h6 := hB.alarms6
  refine cR_intro (own := "LiarClocks") [.ref (ad 0)] (by decide) rfl (Nat.le_of_ble_eq_true rfl) ?_
  intro pg en s0 mi below meth cd ls C hr hlk hml hP hl
  have hx := C.1
  have hb := C.2.1
  have hown := C.2.2.1
  have hts := C.2.2.2.1
  have hl : lv_has ls 3 [(0, .ref (ad 0))] := hl
  refine lv_iconst (v := nI 0) hx hb dX0_rungOnes_0 (by decide) ?_
  refine lv_istore_n (lv' := [(1, .int (nI 0)), (0, .ref (ad 0))]) hx hb dX0_rungOnes_1 rfl hl (by decide) rfl (fun ls hl => ?_)
  refine lv_iconst (v := nI 0) hx hb dX0_rungOnes_2 (by decide) ?_
  refine lv_istore_n (lv' := [(2, .int (nI 0)), (1, .int (nI 0)), (0, .ref (ad 0))]) hx hb dX0_rungOnes_3 rfl hl (by decide) rfl (fun ls hl => ?_)
  refine w_up (nA h) 4 3 (fun c => [(0, .ref (ad 0)), (1, .int (nI (setN (eq1 h 10) c))), (2, .int (nI c))]) ?_ ?_ 0 (Nat.zero_le _) _ (lv_sub hl [2, 1, 0] rfl)
  · intro c ls hi_c hl ih_c
    have hl : lv_has ls 3 [(0, .ref (ad 0)), (1, .int (nI (setN (eq1 h 10) c))), (2, .int (nI c))] := hl
    refine lv_iload_n hx hb dX0_rungOnes_4 rfl (lv_at hl 2 rfl) ?_
    refine lv_aload_n hx hb dX0_rungOnes_5 rfl (lv_at hl 0 rfl) ?_
    refine cg_C_now C hP (n10 hn) dX0_rungOnes_6 ?_
    refine cg_H_alarms C hP (isH10 hn) dX0_rungOnes_9 ?_
    refine w_eqi (rc0 hR 10 (by decide)) ?_
    refine w_eqi (hB.alarms) ?_
    refine w_icmpN_ge (tgt := 43) hx hb dX0_rungOnes_12 (by decide) (by omega) (by omega) (fun c_181 => ?_) (fun c_181 => ?_)
    · exact absurd c_181 (by omega)
    · refine lv_iload_n hx hb dX0_rungOnes_15 rfl (lv_at hl 1 rfl) ?_
      refine lv_aload_n hx hb dX0_rungOnes_16 rfl (lv_at hl 0 rfl) ?_
      refine cg_C_now C hP (n10 hn) dX0_rungOnes_17 ?_
      refine cg_H_isRung C hP (isH10 hn) dX0_rungOnes_20 ?_
      refine lv_iload_n hx hb dX0_rungOnes_23 rfl (lv_at hl 2 rfl) ?_
      refine c_zald C hP (arH10 (isH10 hn)) (by omega) dX0_rungOnes_24 ?_
      refine w_eqi (rcA hR 10 c (by unfold vd; omega)) ?_
      refine lv_if_eq (tgt := 34) hx hb dX0_rungOnes_25 (by decide) (fun c_182 => ?_) (fun c_182 => ?_)
      · have hp : eq1 h 10 c = false := decide_eq_false (b01_0 c_182)
        refine lv_iconst (v := 0) hx hb dX0_rungOnes_34 (by decide) ?_
        refine lv_ior hx hb dX0_rungOnes_35 ?_
        refine w_eqi (so_f hp) ?_
        refine lv_istore_n (lv' := [(1, .int (nI (setN (eq1 h 10) (c + 1)))), (0, .ref (ad 0)), (2, .int (nI c))]) hx hb dX0_rungOnes_36 rfl hl (by decide) rfl (fun ls hl => ?_)
        refine lv_iinc (v := nI (c + 1)) (lv' := [(2, .int (nI (c + 1))), (1, .int (nI (setN (eq1 h 10) (c + 1)))), (0, .ref (ad 0))]) hx hb dX0_rungOnes_37 hl (k := 2) rfl (w_inc _ _) (by decide) rfl (fun ls hl => ?_)
        refine lv_goto (tgt := 4) hx hb dX0_rungOnes_40 (by decide) ?_
        refine ih_c _ ?_
        show lv_has ls 3 [(0, .ref (ad 0)), (1, .int (nI (setN (eq1 h 10) (c + 1)))), (2, .int (nI (c + 1)))]
        exact lv_sub hl [2, 1, 0] rfl
      · have hp : eq1 h 10 c = true := decide_eq_true (b01_n0 (hB.rung (by omega)) c_182)
        refine lv_iconst (v := 1) hx hb dX0_rungOnes_28 (by decide) ?_
        refine lv_iload_n hx hb dX0_rungOnes_29 rfl (lv_at hl 2 rfl) ?_
        refine lv_ishl hx hb dX0_rungOnes_30 ?_
        refine lv_goto (tgt := 35) hx hb dX0_rungOnes_31 (by decide) ?_
        refine lv_ior hx hb dX0_rungOnes_35 ?_
        refine w_eqi (so_t (by omega) hp) ?_
        refine lv_istore_n (lv' := [(1, .int (nI (setN (eq1 h 10) (c + 1)))), (0, .ref (ad 0)), (2, .int (nI c))]) hx hb dX0_rungOnes_36 rfl hl (by decide) rfl (fun ls hl => ?_)
        refine lv_iinc (v := nI (c + 1)) (lv' := [(2, .int (nI (c + 1))), (1, .int (nI (setN (eq1 h 10) (c + 1)))), (0, .ref (ad 0))]) hx hb dX0_rungOnes_37 hl (k := 2) rfl (w_inc _ _) (by decide) rfl (fun ls hl => ?_)
        refine lv_goto (tgt := 4) hx hb dX0_rungOnes_40 (by decide) ?_
        refine ih_c _ ?_
        show lv_has ls 3 [(0, .ref (ad 0)), (1, .int (nI (setN (eq1 h 10) (c + 1)))), (2, .int (nI (c + 1)))]
        exact lv_sub hl [2, 1, 0] rfl
  · intro ls hl
    have hl : lv_has ls 3 [(0, .ref (ad 0)), (1, .int (nI (setN (eq1 h 10) (nA h)))), (2, .int (nI (nA h)))] := hl
    refine lv_iload_n hx hb dX0_rungOnes_4 rfl (lv_at hl 2 rfl) ?_
    refine lv_aload_n hx hb dX0_rungOnes_5 rfl (lv_at hl 0 rfl) ?_
    refine cg_C_now C hP (n10 hn) dX0_rungOnes_6 ?_
    refine cg_H_alarms C hP (isH10 hn) dX0_rungOnes_9 ?_
    refine w_eqi (rc0 hR 10 (by decide)) ?_
    refine w_eqi (hB.alarms) ?_
    refine w_icmpN_ge (tgt := 43) hx hb dX0_rungOnes_12 (by decide) (by omega) (by omega) (fun c_183 => ?_) (fun c_183 => ?_)
    · refine lv_iload_n hx hb dX0_rungOnes_43 rfl (lv_at hl 1 rfl) ?_
      exact w_retR hx hb hlk hr dX0_rungOnes_44 rfl
    · exact absurd c_183 (by omega)

theorem hdX0_judge : yX0_judge.cls = "LiarClocks" ∧ yX0_judge.cls ≠ "java/lang/invoke/MethodHandle" ∧ yX0_judge.cls ≠ "java/lang/invoke/VarHandle" ∧ (parseMethodDescriptor yX0_judge.desc).map (fun d => d.parameters.length) = some 0 := by decide +kernel
set_option maxHeartbeats 4000000 in
/-- judge -/
theorem mX0_judge (l : Launch) (D : va_G) (T : Nat → ClassId) (ad : Nat → Nat) (n : Nat) (σ : Nat → Nat → Int32) (hn : 230 ≤ n ∧ n ≤ 242) (h : Vw) (hR : Rc σ 10 h) (hB : HB h) (bn : Nat) (bo ba : Nat → Int32) (hbn : σ 0 13 = nI bn) (hb20 : bn ≤ 20) (hbk : ∀ k, k < bn → σ 5 k = bo k ∧ σ 6 k = ba k) : Met l yX0_judge (ws_ yX0_judge cX0_judge 2 (some .int)) ({ frames := 2, cells := 0, slots := 0, locals := 46 } : Room) (cPc D T ad n σ [.ref (ad 0)]) (QcRead (wrongS h bo ba bn)) 0 0 (fun _ => False) := by
  have h8 := hB.many8
  have h3 := hB.strike3
  have h6 := hB.alarms6
  refine cR_intro (own := "LiarClocks") [.ref (ad 0)] (by decide) rfl (Nat.le_of_ble_eq_true rfl) ?_
  intro pg en s0 mi below meth cd ls C hr hlk hml hP hl
  have hx := C.1
  have hb := C.2.1
  have hown := C.2.2.1
  have hts := C.2.2.2.1
  have hl : lv_has ls 2 [(0, .ref (ad 0))] := hl
  refine lv_iconst (v := nI 0) hx hb dX0_judge_0 (by decide) ?_
  refine lv_istore_n (lv' := [(1, .int (nI 0)), (0, .ref (ad 0))]) hx hb dX0_judge_1 rfl hl (by decide) rfl (fun ls hl => ?_)
  refine w_upF (bn) 2 2 (fun k => [(0, .ref (ad 0)), (1, .int (nI k))]) (fun k => ∀ j, j < k → wrS h bo ba j = false) ?_ ?_ 0 (Nat.zero_le _) _ (lv_sub hl [1, 0] rfl) (fun j hj => absurd hj (Nat.not_lt_zero j))
  · intro k ls hk hl hF ih
    have hl : lv_has ls 2 [(0, .ref (ad 0)), (1, .int (nI k))] := hl
    refine lv_iload_n hx hb dX0_judge_2 rfl (lv_at hl 1 rfl) ?_
    refine lv_aload_n hx hb dX0_judge_3 rfl (lv_at hl 0 rfl) ?_
    refine cg_C_booked C hP (n10 hn) dX0_judge_4 ?_
    refine w_eqi (y := nI (bn)) (hbn) ?_
    refine w_icmpN_ge (tgt := 53) hx hb dX0_judge_7 (by decide) (by omega) (by omega) (fun c_184 => ?_) (fun c_184 => ?_)
    · exact absurd c_184 (by omega)
    · refine lv_aload_n hx hb dX0_judge_10 rfl (lv_at hl 0 rfl) ?_
      refine lv_aload_n hx hb dX0_judge_11 rfl (lv_at hl 0 rfl) ?_
      refine cg_C_bookOf C hP (n10 hn) dX0_judge_12 ?_
      refine lv_iload_n hx hb dX0_judge_15 rfl (lv_at hl 1 rfl) ?_
      refine c_iald C hP (ar5 (n10 hn)) (by omega) dX0_judge_16 ?_
      refine w_eqi (y := bo k) ((hbk k hk).1) ?_
      refine c_cR [.int (bo k)] C hml hl.1 hP (c_recvC C hP (n10 hn)) (mX0_isClock l D T ad n σ hn h hR hB (bo k)) (lw_V q539 q541 qs20 q69 q542) hdX0_isClock ⟨rfl, rfl⟩ ⟨Nat.le_of_ble_eq_true rfl, Nat.le_of_ble_eq_true rfl⟩ rfl (Nat.le_of_ble_eq_true rfl) dX0_judge_17 ⟨Nat.zero_le _, Nat.zero_le _⟩ ?_
      refine lv_if_eq (tgt := 45) hx hb dX0_judge_20 (by decide) (fun c_185 => ?_) (fun c_185 => ?_)
      · have hw : wrS h bo ba k = true := by
          unfold wrS
          rw [bI_eq0.mp c_185]; rfl
        refine lv_iload_n hx hb dX0_judge_45 rfl (lv_at hl 1 rfl) ?_
        exact w_retR hx hb hlk hr dX0_judge_46 (by unfold wrongS; rw [first_some hk hw hF, if_pos hk])
      · obtain ⟨q, hq8, hq⟩ := isC_spec (bI_ne0.mp c_185)
        have hcl : (bo k).toNatClampNeg = q := by rw [hq]; exact nI_clamp (by omega)
        refine lv_aload_n hx hb dX0_judge_23 rfl (lv_at hl 0 rfl) ?_
        refine cg_C_now C hP (n10 hn) dX0_judge_24 ?_
        refine lv_aload_n hx hb dX0_judge_27 rfl (lv_at hl 0 rfl) ?_
        refine cg_C_bookOf C hP (n10 hn) dX0_judge_28 ?_
        refine lv_iload_n hx hb dX0_judge_31 rfl (lv_at hl 1 rfl) ?_
        refine c_iald C hP (ar5 (n10 hn)) (by omega) dX0_judge_32 ?_
        refine w_eqi (y := bo k) ((hbk k hk).1) ?_
        refine w_eqi hq ?_
        refine c_cR [.int (nI q)] C hml hl.1 hP (c_recvH C hP (isH10 hn)) (mX1_aim l D T ad n σ 10 h (isH10 hn) hR q (by omega)) (lw_V q543 q444 q445 q70 q446) hdX1_aim ⟨rfl, rfl⟩ ⟨Nat.le_of_ble_eq_true rfl, Nat.le_of_ble_eq_true rfl⟩ rfl (Nat.le_of_ble_eq_true rfl) dX0_judge_33 ⟨Nat.zero_le _, Nat.zero_le _⟩ ?_
        refine lv_aload_n hx hb dX0_judge_36 rfl (lv_at hl 0 rfl) ?_
        refine cg_C_bookIs C hP (n10 hn) dX0_judge_37 ?_
        refine lv_iload_n hx hb dX0_judge_40 rfl (lv_at hl 1 rfl) ?_
        refine c_iald C hP (ar6 (n10 hn)) (by omega) dX0_judge_41 ?_
        refine w_eqi (y := ba k) ((hbk k hk).2) ?_
        refine lv_icmp_eq (tgt := 47) hx hb dX0_judge_42 (by decide) (fun c_186 => ?_) (fun c_186 => ?_)
        · refine lv_iinc (v := nI (k + 1)) (lv' := [(1, .int (nI (k + 1))), (0, .ref (ad 0))]) hx hb dX0_judge_47 hl (k := 1) rfl (w_inc _ _) (by decide) rfl (fun ls hl => ?_)
          refine lv_goto (tgt := 2) hx hb dX0_judge_50 (by decide) ?_
          refine ih _ (lv_sub hl [1, 0] rfl) (fun j hj => ?_)
          by_cases e : j = k
          · subst e
            unfold wrS
            rw [bI_ne0.mp c_185, hcl, decide_eq_true c_186]; rfl
          · exact hF j (by omega)
        · have hw : wrS h bo ba k = true := by
            unfold wrS
            rw [hcl, decide_eq_false c_186, Bool.and_false]; rfl
          refine lv_iload_n hx hb dX0_judge_45 rfl (lv_at hl 1 rfl) ?_
          exact w_retR hx hb hlk hr dX0_judge_46 (by unfold wrongS; rw [first_some hk hw hF, if_pos hk])
  · intro ls hl hF
    have hl : lv_has ls 2 [(0, .ref (ad 0)), (1, .int (nI bn))] := hl
    refine lv_iload_n hx hb dX0_judge_2 rfl (lv_at hl 1 rfl) ?_
    refine lv_aload_n hx hb dX0_judge_3 rfl (lv_at hl 0 rfl) ?_
    refine cg_C_booked C hP (n10 hn) dX0_judge_4 ?_
    refine w_eqi (y := nI (bn)) (hbn) ?_
    refine w_icmpN_ge (tgt := 53) hx hb dX0_judge_7 (by decide) (by omega) (by omega) (fun c_187 => ?_) (fun c_187 => ?_)
    · refine lv_iconst (v := -1) hx hb dX0_judge_53 (by decide) ?_
      exact w_retR hx hb hlk hr dX0_judge_54 (by unfold wrongS; rw [if_neg (first_none hF)])
    · exact absurd c_187 (by omega)

