/-! THE COMPONENT: statics, House's reading methods -/
set_option maxRecDepth 100000
theorem b01_bI (b : Bool) : b01 (bI b) := by cases b; exact Or.inl rfl; exact Or.inr rfl
def minI (x y : Int32) : Int32 := if x ≤ y then x else y
def maxI (x y : Int32) : Int32 := if y ≤ x then x else y
def absI (x : Int32) : Int32 := if 0 ≤ x then x else -x
theorem td2 (a : Int) : a.tdiv 2 = if 0 ≤ a then a / 2 else -((-a) / 2) := by
  split
  · rename_i h; exact Int.tdiv_eq_ediv_of_nonneg h
  · rename_i h
    have e : a = -(-a) := by omega
    conv => lhs; rw [e]
    rw [Int.neg_tdiv, Int.tdiv_eq_ediv_of_nonneg (by omega)]
/-- a static method of a JDK class that the machine has no entry for -/
theorem sF_intro {l : Launch} {y : MethodName} {cc : ByteArray} {maxL : Nat} {ret : Option FieldType} {rm : Room} {r : Int32} (av : List Value) (hy : plainFor y = true) (hlen : (lg_sl av).length ≤ maxL)
    (body : ∀ (p : Program) (e : Env) (s : State) (m : MethodId) (below : List Frame) (meth : Method) (c : Code) (ls : Array Slot), p.tables.exec = Jvm.exec → c.code = cc → s.vm.findClass y.cls = some m.cls → (∀ w ∈ lw_all, w.before av.toArray s = true) → meth.sig.returnType = ret → meth.locks = false → c.maxLocals = maxL → lv_has ls maxL (lv_args 0 av) → W p l e rm s m av.toArray below meth c s.heap [] 0 0 (MQ below (QcRead r) av.toArray s 0 0 (fun _ => False)) (F0 m 0 ls [])) :
    Met l y (ws_ y cc maxL ret) rm (fun v _ => v = av.toArray) (QcRead r) 0 0 (fun _ => False) := by
  refine va_MetF (cc := cc) (maxL := maxL) (ret := ret) hy rfl ?_
  intro p e s m args below meth c s₁ B hml hv
  subst hv
  have hts := atoms_spec (ws := ws_ y cc maxL ret) B.pre
  have hts : ∀ w ∈ lw_all, w.before _ s = true := fun w h => hts w (List.mem_cons_of_mem _ h)
  rw [lg_entry_eq]
  exact body p e s m below meth c _ B.exec B.bytes (findClass_of_methodNamed B.named) hts B.returns B.notSynchronized hml (lv_entry av hlen)
theorem hdJ2_min : yJ2_min.cls = "java/lang/Math" ∧ yJ2_min.cls ≠ "java/lang/invoke/MethodHandle" ∧ yJ2_min.cls ≠ "java/lang/invoke/VarHandle" ∧ (parseMethodDescriptor yJ2_min.desc).map (fun d => d.parameters.length) = some 2 := by decide +kernel
set_option maxHeartbeats 4000000 in
theorem mJ2_min (l : Launch) (x y : Int32) : Met l yJ2_min (ws_ yJ2_min cJ2_min 2 (some .int)) ({ frames := 0, cells := 0, slots := 0, locals := 0 } : Room) (fun v9 _ => v9 = ([.int x, .int y] : List Value).toArray) (QcRead (minI x y)) 0 0 (fun _ => False) := by
  refine sF_intro [.int x, .int y] (by decide +kernel) (Nat.le_of_ble_eq_true rfl) ?_
  intro pg en s0 mi below meth cd ls hx hb hown hts hr hlk hml hl
  have hl : lv_has ls 2 [(0, .int x), (1, .int y)] := hl
  refine lv_iload_n hx hb dJ2_min_0 rfl (lv_at hl 0 rfl) ?_
  refine lv_iload_n hx hb dJ2_min_1 rfl (lv_at hl 1 rfl) ?_
  refine lv_icmp_gt (tgt := 9) hx hb dJ2_min_2 (by decide) (fun c_1 => ?_) (fun c_1 => ?_)
  · refine lv_iload_n hx hb dJ2_min_9 rfl (lv_at hl 1 rfl) ?_
    exact w_retR hx hb hlk hr dJ2_min_10 (by unfold minI; rw [if_neg (Int32.not_le.mpr c_1)])
  · refine lv_iload_n hx hb dJ2_min_5 rfl (lv_at hl 0 rfl) ?_
    refine lv_goto (tgt := 10) hx hb dJ2_min_6 (by decide) ?_
    exact w_retR hx hb hlk hr dJ2_min_10 (by unfold minI; rw [if_pos (Int32.not_lt.mp c_1)])

theorem hdJ2_max : yJ2_max.cls = "java/lang/Math" ∧ yJ2_max.cls ≠ "java/lang/invoke/MethodHandle" ∧ yJ2_max.cls ≠ "java/lang/invoke/VarHandle" ∧ (parseMethodDescriptor yJ2_max.desc).map (fun d => d.parameters.length) = some 2 := by decide +kernel
set_option maxHeartbeats 4000000 in
theorem mJ2_max (l : Launch) (x y : Int32) : Met l yJ2_max (ws_ yJ2_max cJ2_max 2 (some .int)) ({ frames := 0, cells := 0, slots := 0, locals := 0 } : Room) (fun v9 _ => v9 = ([.int x, .int y] : List Value).toArray) (QcRead (maxI x y)) 0 0 (fun _ => False) := by
  refine sF_intro [.int x, .int y] (by decide +kernel) (Nat.le_of_ble_eq_true rfl) ?_
  intro pg en s0 mi below meth cd ls hx hb hown hts hr hlk hml hl
  have hl : lv_has ls 2 [(0, .int x), (1, .int y)] := hl
  refine lv_iload_n hx hb dJ2_max_0 rfl (lv_at hl 0 rfl) ?_
  refine lv_iload_n hx hb dJ2_max_1 rfl (lv_at hl 1 rfl) ?_
  refine lv_icmp_lt (tgt := 9) hx hb dJ2_max_2 (by decide) (fun c_2 => ?_) (fun c_2 => ?_)
  · refine lv_iload_n hx hb dJ2_max_9 rfl (lv_at hl 1 rfl) ?_
    exact w_retR hx hb hlk hr dJ2_max_10 (by unfold maxI; rw [if_neg (Int32.not_le.mpr c_2)])
  · refine lv_iload_n hx hb dJ2_max_5 rfl (lv_at hl 0 rfl) ?_
    refine lv_goto (tgt := 10) hx hb dJ2_max_6 (by decide) ?_
    exact w_retR hx hb hlk hr dJ2_max_10 (by unfold maxI; rw [if_pos (Int32.not_lt.mp c_2)])

theorem hdJ2_abs : yJ2_abs.cls = "java/lang/Math" ∧ yJ2_abs.cls ≠ "java/lang/invoke/MethodHandle" ∧ yJ2_abs.cls ≠ "java/lang/invoke/VarHandle" ∧ (parseMethodDescriptor yJ2_abs.desc).map (fun d => d.parameters.length) = some 1 := by decide +kernel
set_option maxHeartbeats 4000000 in
theorem mJ2_abs (l : Launch) (x : Int32) : Met l yJ2_abs (ws_ yJ2_abs cJ2_abs 1 (some .int)) ({ frames := 0, cells := 0, slots := 0, locals := 0 } : Room) (fun v9 _ => v9 = ([.int x] : List Value).toArray) (QcRead (absI x)) 0 0 (fun _ => False) := by
  refine sF_intro [.int x] (by decide +kernel) (Nat.le_of_ble_eq_true rfl) ?_
  intro pg en s0 mi below meth cd ls hx hb hown hts hr hlk hml hl
  have hl : lv_has ls 1 [(0, .int x)] := hl
  refine lv_iload_n hx hb dJ2_abs_0 rfl (lv_at hl 0 rfl) ?_
  refine lv_if_ge (tgt := 9) hx hb dJ2_abs_1 (by decide) (fun c_3 => ?_) (fun c_3 => ?_)
  · refine lv_iload_n hx hb dJ2_abs_9 rfl (lv_at hl 0 rfl) ?_
    exact w_retR hx hb hlk hr dJ2_abs_10 (by unfold absI; rw [if_pos c_3])
  · refine lv_iload_n hx hb dJ2_abs_4 rfl (lv_at hl 0 rfl) ?_
    refine lv_ineg hx hb dJ2_abs_5 ?_
    refine lv_goto (tgt := 10) hx hb dJ2_abs_6 (by decide) ?_
    exact w_retR hx hb hlk hr dJ2_abs_10 (by unfold absI; rw [if_neg c_3])

theorem fl_sgn (x : Int32) : (0 ≤ x ^^^ nI 2) ↔ 0 ≤ x := by
  have e : (x ^^^ nI 2).toBitVec.msb = x.toBitVec.msb := by
    show (x.toBitVec ^^^ (nI 2).toBitVec).msb = _
    rw [BitVec.msb_xor]
    have : (nI 2).toBitVec.msb = false := by decide
    rw [this, Bool.xor_false]
  have key : ∀ z : Int32, (0 ≤ z) ↔ z.toBitVec.msb = false := by
    intro z
    rw [w_le, i_0]
    show 0 ≤ z.toBitVec.toInt ↔ _
    rw [BitVec.msb_eq_toInt, decide_eq_false_iff_not]
    omega
  rw [key, key, e]
theorem fl_a {x : Int32} (h : 0 ≤ x ^^^ nI 2) : x / nI 2 = halfS x := half_pos (fun q => by have := (fl_sgn x).mp h; rw [w_le, i_0] at this; rw [w_lt, i_0] at q; omega)
theorem fl_m (x : Int32) : (x / nI 2).toInt = x.toInt.tdiv 2 := by
  rw [Int32.toInt_div_of_ne_right _ _ (by decide), show (nI 2).toInt = 2 by decide]
theorem fl_b {x : Int32} (h : (x / nI 2) * nI 2 = x) : x / nI 2 = halfS x := by
  apply Int32.toInt_inj.mp
  have e := congrArg Int32.toInt h
  have h1 := i_lo x
  have h2 := i_hi x
  rw [Int32.toInt_mul, fl_m, show (nI 2).toInt = 2 by decide, i_bm (by rw [td2]; split <;> omega) (by rw [td2]; split <;> omega)] at e
  rw [fl_m, i_half]
  omega
theorem fl_c {x : Int32} (h : ¬ 0 ≤ x ^^^ nI 2) (h3 : ¬ (x / nI 2) * nI 2 = x) : x / nI 2 - nI 1 = halfS x := by
  apply Int32.toInt_inj.mp
  have h1 := i_lo x
  have h2 := i_hi x
  rw [fl_sgn, w_le, i_0] at h
  have e : ¬ x.toInt.tdiv 2 * 2 = x.toInt := fun q => h3 (Int32.toInt_inj.mp (by rw [Int32.toInt_mul, fl_m, show (nI 2).toInt = 2 by decide, i_bm (by rw [td2]; split <;> omega) (by rw [td2]; split <;> omega)]; exact q))
  have z1 : (nI 1).toInt = 1 := by decide
  rw [td2, if_neg h] at e
  have e3 := fl_m x
  rw [td2, if_neg h] at e3
  rw [i_sub (by omega) (by omega), i_half, z1]
  omega
theorem hdJ2_floorDiv : yJ2_floorDiv.cls = "java/lang/Math" ∧ yJ2_floorDiv.cls ≠ "java/lang/invoke/MethodHandle" ∧ yJ2_floorDiv.cls ≠ "java/lang/invoke/VarHandle" ∧ (parseMethodDescriptor yJ2_floorDiv.desc).map (fun d => d.parameters.length) = some 2 := by decide +kernel
set_option maxHeartbeats 4000000 in
theorem mJ2_floorDiv (l : Launch) (x : Int32) : Met l yJ2_floorDiv (ws_ yJ2_floorDiv cJ2_floorDiv 3 (some .int)) ({ frames := 0, cells := 0, slots := 0, locals := 0 } : Room) (fun v9 _ => v9 = ([.int x, .int (nI 2)] : List Value).toArray) (QcRead (halfS x)) 0 0 (fun _ => False) := by
  refine sF_intro [.int x, .int (nI 2)] (by decide +kernel) (Nat.le_of_ble_eq_true rfl) ?_
  intro pg en s0 mi below meth cd ls hx hb hown hts hr hlk hml hl
  have hl : lv_has ls 3 [(0, .int x), (1, .int (nI 2))] := hl
  refine lv_iload_n hx hb dJ2_floorDiv_0 rfl (lv_at hl 0 rfl) ?_
  refine lv_iload_n hx hb dJ2_floorDiv_1 rfl (lv_at hl 1 rfl) ?_
  refine lv_idiv hx hb dJ2_floorDiv_2 (by decide) ?_
  refine lv_istore_n (lv' := [(2, .int (x / (nI (2)))), (0, .int x), (1, .int (nI 2))]) hx hb dJ2_floorDiv_3 rfl hl (by decide) rfl (fun ls hl => ?_)
  refine lv_iload_n hx hb dJ2_floorDiv_4 rfl (lv_at hl 1 rfl) ?_
  refine lv_iload_n hx hb dJ2_floorDiv_5 rfl (lv_at hl 2 rfl) ?_
  refine lv_ixor hx hb dJ2_floorDiv_6 ?_
  refine lv_if_ge (tgt := 21) hx hb dJ2_floorDiv_7 (by decide) (fun c_4 => ?_) (fun c_4 => ?_)
  · refine lv_iload_n hx hb dJ2_floorDiv_21 rfl (lv_at hl 0 rfl) ?_
    exact w_retR hx hb hlk hr dJ2_floorDiv_22 (fl_a c_4)
  · refine lv_iload_n hx hb dJ2_floorDiv_10 rfl (lv_at hl 0 rfl) ?_
    refine lv_iload_n hx hb dJ2_floorDiv_11 rfl (lv_at hl 2 rfl) ?_
    refine lv_imul hx hb dJ2_floorDiv_12 ?_
    refine lv_iload_n hx hb dJ2_floorDiv_13 rfl (lv_at hl 1 rfl) ?_
    refine lv_icmp_eq (tgt := 21) hx hb dJ2_floorDiv_14 (by decide) (fun c_5 => ?_) (fun c_5 => ?_)
    · refine lv_iload_n hx hb dJ2_floorDiv_21 rfl (lv_at hl 0 rfl) ?_
      exact w_retR hx hb hlk hr dJ2_floorDiv_22 (fl_b c_5)
    · refine lv_iload_n hx hb dJ2_floorDiv_17 rfl (lv_at hl 0 rfl) ?_
      refine lv_iconst (v := nI 1) hx hb dJ2_floorDiv_18 (by decide) ?_
      refine lv_isub hx hb dJ2_floorDiv_19 ?_
      exact w_retR hx hb hlk hr dJ2_floorDiv_20 (fl_c c_4 c_5)

def bcN (u : Nat) : Nat := u % 2 + u / 2 % 2 + u / 4 % 2 + u / 8 % 2 + u / 16 % 2 + u / 32 % 2 + u / 64 % 2 + u / 128 % 2
def bc0 (x : Int32) : Int32 := x - (((x.toUInt32 >>> ((nI (1)).toUInt32 &&& Int32.toUInt32 31)).toInt32) &&& 1431655765)
def bc1 (x : Int32) : Int32 := (x &&& 858993459) + (((x.toUInt32 >>> ((nI (2)).toUInt32 &&& Int32.toUInt32 31)).toInt32) &&& 858993459)
def bc2 (x : Int32) : Int32 := (x + ((x.toUInt32 >>> ((nI (4)).toUInt32 &&& Int32.toUInt32 31)).toInt32)) &&& 252645135
def bc3 (x : Int32) : Int32 := x + ((x.toUInt32 >>> ((nI (8)).toUInt32 &&& Int32.toUInt32 31)).toInt32)
def bc4 (x : Int32) : Int32 := x + ((x.toUInt32 >>> ((nI (16)).toUInt32 &&& Int32.toUInt32 31)).toInt32)
def bc5 (x : Int32) : Int32 := x &&& (nI (63))
theorem bc_all : ∀ u, u < 256 → bc5 (bc4 (bc3 (bc2 (bc1 (bc0 (nI u)))))) = nI (bcN u) := by decide +kernel
theorem hdJ3_bitCount : yJ3_bitCount.cls = "java/lang/Integer" ∧ yJ3_bitCount.cls ≠ "java/lang/invoke/MethodHandle" ∧ yJ3_bitCount.cls ≠ "java/lang/invoke/VarHandle" ∧ (parseMethodDescriptor yJ3_bitCount.desc).map (fun d => d.parameters.length) = some 1 := by decide +kernel
set_option maxHeartbeats 4000000 in
theorem mJ3_bitCount (l : Launch) (u : Nat) (hu : u < 256) : Met l yJ3_bitCount (ws_ yJ3_bitCount cJ3_bitCount 1 (some .int)) ({ frames := 0, cells := 0, slots := 0, locals := 0 } : Room) (fun v9 _ => v9 = ([.int (nI u)] : List Value).toArray) (QcRead (nI (bcN u))) 0 0 (fun _ => False) := by
  refine sF_intro [.int (nI u)] (by decide +kernel) (Nat.le_of_ble_eq_true rfl) ?_
  intro pg en s0 mi below meth cd ls hx hb hown hts hr hlk hml hl
  have hl : lv_has ls 1 [(0, .int (nI u))] := hl
  refine lv_iload_n hx hb dJ3_bitCount_0 rfl (lv_at hl 0 rfl) ?_
  refine lv_iload_n hx hb dJ3_bitCount_1 rfl (lv_at hl 0 rfl) ?_
  refine lv_iconst (v := nI 1) hx hb dJ3_bitCount_2 (by decide) ?_
  refine lv_iushr (v := ((nI u).toUInt32 >>> ((nI (1)).toUInt32 &&& Int32.toUInt32 31)).toInt32) hx hb dJ3_bitCount_3 rfl ?_
  refine lv_ldcw hx hb hown (hts _ q459) dJ3_bitCount_4 ?_
  refine lv_iand hx hb dJ3_bitCount_7 ?_
  refine lv_isub hx hb dJ3_bitCount_8 ?_
  refine w_eqi (y := bc0 (nI u)) (by unfold bc0; rfl) ?_
  refine lv_istore_n (lv' := [(0, .int (bc0 (nI u)))]) hx hb dJ3_bitCount_9 rfl hl (by decide) rfl (fun ls hl => ?_)
  refine lv_iload_n hx hb dJ3_bitCount_10 rfl (lv_at hl 0 rfl) ?_
  refine lv_ldcw hx hb hown (hts _ q460) dJ3_bitCount_11 ?_
  refine lv_iand hx hb dJ3_bitCount_14 ?_
  refine lv_iload_n hx hb dJ3_bitCount_15 rfl (lv_at hl 0 rfl) ?_
  refine lv_iconst (v := nI 2) hx hb dJ3_bitCount_16 (by decide) ?_
  refine lv_iushr (v := ((bc0 (nI u)).toUInt32 >>> ((nI (2)).toUInt32 &&& Int32.toUInt32 31)).toInt32) hx hb dJ3_bitCount_17 rfl ?_
  refine lv_ldcw hx hb hown (hts _ q460) dJ3_bitCount_18 ?_
  refine lv_iand hx hb dJ3_bitCount_21 ?_
  refine lv_iadd hx hb dJ3_bitCount_22 ?_
  refine w_eqi (y := bc1 (bc0 (nI u))) (by unfold bc1; rfl) ?_
  refine lv_istore_n (lv' := [(0, .int (bc1 (bc0 (nI u))))]) hx hb dJ3_bitCount_23 rfl hl (by decide) rfl (fun ls hl => ?_)
  refine lv_iload_n hx hb dJ3_bitCount_24 rfl (lv_at hl 0 rfl) ?_
  refine lv_iload_n hx hb dJ3_bitCount_25 rfl (lv_at hl 0 rfl) ?_
  refine lv_iconst (v := nI 4) hx hb dJ3_bitCount_26 (by decide) ?_
  refine lv_iushr (v := ((bc1 (bc0 (nI u))).toUInt32 >>> ((nI (4)).toUInt32 &&& Int32.toUInt32 31)).toInt32) hx hb dJ3_bitCount_27 rfl ?_
  refine lv_iadd hx hb dJ3_bitCount_28 ?_
  refine lv_ldcw hx hb hown (hts _ q461) dJ3_bitCount_29 ?_
  refine lv_iand hx hb dJ3_bitCount_32 ?_
  refine w_eqi (y := bc2 (bc1 (bc0 (nI u)))) (by unfold bc2; rfl) ?_
  refine lv_istore_n (lv' := [(0, .int (bc2 (bc1 (bc0 (nI u)))))]) hx hb dJ3_bitCount_33 rfl hl (by decide) rfl (fun ls hl => ?_)
  refine lv_iload_n hx hb dJ3_bitCount_34 rfl (lv_at hl 0 rfl) ?_
  refine lv_iload_n hx hb dJ3_bitCount_35 rfl (lv_at hl 0 rfl) ?_
  refine lv_bipush (v := nI 8) hx hb dJ3_bitCount_36 (by decide) ?_
  refine lv_iushr (v := ((bc2 (bc1 (bc0 (nI u)))).toUInt32 >>> ((nI (8)).toUInt32 &&& Int32.toUInt32 31)).toInt32) hx hb dJ3_bitCount_38 rfl ?_
  refine lv_iadd hx hb dJ3_bitCount_39 ?_
  refine w_eqi (y := bc3 (bc2 (bc1 (bc0 (nI u))))) (by unfold bc3; rfl) ?_
  refine lv_istore_n (lv' := [(0, .int (bc3 (bc2 (bc1 (bc0 (nI u))))))]) hx hb dJ3_bitCount_40 rfl hl (by decide) rfl (fun ls hl => ?_)
  refine lv_iload_n hx hb dJ3_bitCount_41 rfl (lv_at hl 0 rfl) ?_
  refine lv_iload_n hx hb dJ3_bitCount_42 rfl (lv_at hl 0 rfl) ?_
  refine lv_bipush (v := nI 16) hx hb dJ3_bitCount_43 (by decide) ?_
  refine lv_iushr (v := ((bc3 (bc2 (bc1 (bc0 (nI u))))).toUInt32 >>> ((nI (16)).toUInt32 &&& Int32.toUInt32 31)).toInt32) hx hb dJ3_bitCount_45 rfl ?_
  refine lv_iadd hx hb dJ3_bitCount_46 ?_
  refine w_eqi (y := bc4 (bc3 (bc2 (bc1 (bc0 (nI u)))))) (by unfold bc4; rfl) ?_
  refine lv_istore_n (lv' := [(0, .int (bc4 (bc3 (bc2 (bc1 (bc0 (nI u)))))))]) hx hb dJ3_bitCount_47 rfl hl (by decide) rfl (fun ls hl => ?_)
  refine lv_iload_n hx hb dJ3_bitCount_48 rfl (lv_at hl 0 rfl) ?_
  refine lv_bipush (v := nI 63) hx hb dJ3_bitCount_49 (by decide) ?_
  refine lv_iand hx hb dJ3_bitCount_51 ?_
  refine w_eqi (y := bc5 (bc4 (bc3 (bc2 (bc1 (bc0 (nI u))))))) (by unfold bc5; rfl) ?_
  exact w_retR hx hb hlk hr dJ3_bitCount_52 (bc_all u hu)

theorem bc_add : ∀ c, c < 8 → ∀ a, a < 256 → a < 2 ^ c → bcN (a + 2 ^ c) = bcN a + 1 := by decide +kernel
theorem bc_setN (p : Nat → Bool) : ∀ n, n ≤ 8 → bcN (setN p n) = fa_cnt p n := by
  intro n
  induction n with
  | zero => intro _; simp [setN, fa_cnt, bcN]
  | succ n ih =>
    intro hn
    have hl := setN_lt p n
    have h2 : 2 ^ n ≤ 2 ^ 7 := Nat.pow_le_pow_right (by decide) (by omega)
    unfold setN
    cases hp : p n
    · rw [fa_cnt_no hp]
      simpa using ih (by omega)
    · rw [fa_cnt_yes hp]
      simp only [if_true]
      rw [bc_add n (by omega) _ (by omega) hl, ih (by omega)]
theorem setN_256 {p : Nat → Bool} {n : Nat} (h : n ≤ 8) : setN p n < 256 := by
  have hl := setN_lt p n
  have h2 : 2 ^ n ≤ 2 ^ 8 := Nat.pow_le_pow_right (by decide) h
  omega
theorem hdX1_aim : yX1_aim.cls = "LiarClocks$House" ∧ yX1_aim.cls ≠ "java/lang/invoke/MethodHandle" ∧ yX1_aim.cls ≠ "java/lang/invoke/VarHandle" ∧ (parseMethodDescriptor yX1_aim.desc).map (fun d => d.parameters.length) = some 1 := by decide +kernel
set_option maxHeartbeats 4000000 in
/-- aim -/
theorem mX1_aim (l : Launch) (D : va_G) (T : Nat → ClassId) (ad : Nat → Nat) (n : Nat) (σ : Nat → Nat → Int32) (b : Nat) (h : Vw) (hH : isH n b) (hR : Rc σ b h) (c : Nat) (hc : c < 8) : Met l yX1_aim (ws_ yX1_aim cX1_aim 2 (some .int)) ({ frames := 0, cells := 0, slots := 0, locals := 0 } : Room) (cPc D T ad n σ [.ref (ad b), .int (nI c)]) (QcRead (aimS h c)) 0 0 (fun _ => False) := by
  refine cR_intro (own := "LiarClocks$House") [.ref (ad b), .int (nI c)] (by decide) rfl (Nat.le_of_ble_eq_true rfl) ?_
  intro pg en s0 mi below meth cd ls C hr hlk hml hP hl
  have hx := C.1
  have hb := C.2.1
  have hown := C.2.2.1
  have hts := C.2.2.2.1
  have hl : lv_has ls 2 [(0, .ref (ad b)), (1, .int (nI c))] := hl
  refine lv_aload_n hx hb dX1_aim_0 rfl (lv_at hl 0 rfl) ?_
  refine hg_H_values C hP hH dX1_aim_1 ?_
  refine lv_iload_n hx hb dX1_aim_4 rfl (lv_at hl 1 rfl) ?_
  refine c_iald C hP (arH1 hH) (by omega) dX1_aim_5 ?_
  refine w_eqi (rcA hR 1 c (by unfold vd; omega)) ?_
  refine lv_aload_n hx hb dX1_aim_6 rfl (lv_at hl 0 rfl) ?_
  refine hg_H_ahead C hP hH dX1_aim_7 ?_
  refine lv_iload_n hx hb dX1_aim_10 rfl (lv_at hl 1 rfl) ?_
  refine c_iald C hP (arH3 hH) (by omega) dX1_aim_11 ?_
  refine w_eqi (rcA hR 3 c (by unfold vd; omega)) ?_
  refine lv_iadd hx hb dX1_aim_12 ?_
  exact w_retR hx hb hlk hr dX1_aim_13 rfl

theorem hdX1_isTrue : yX1_isTrue.cls = "LiarClocks$House" ∧ yX1_isTrue.cls ≠ "java/lang/invoke/MethodHandle" ∧ yX1_isTrue.cls ≠ "java/lang/invoke/VarHandle" ∧ (parseMethodDescriptor yX1_isTrue.desc).map (fun d => d.parameters.length) = some 1 := by decide +kernel
set_option maxHeartbeats 4000000 in
/-- isTrue -/
theorem mX1_isTrue (l : Launch) (D : va_G) (T : Nat → ClassId) (ad : Nat → Nat) (n : Nat) (σ : Nat → Nat → Int32) (b : Nat) (h : Vw) (hH : isH n b) (hR : Rc σ b h) (c : Nat) (hc : c < 8) : Met l yX1_isTrue (ws_ yX1_isTrue cX1_isTrue 2 (some .boolean)) ({ frames := 0, cells := 0, slots := 0, locals := 0 } : Room) (cPc D T ad n σ [.ref (ad b), .int (nI c)]) (QcRead (bI (trS h c))) 0 0 (fun _ => False) := by
  refine cR_intro (own := "LiarClocks$House") [.ref (ad b), .int (nI c)] (by decide) rfl (Nat.le_of_ble_eq_true rfl) ?_
  intro pg en s0 mi below meth cd ls C hr hlk hml hP hl
  have hx := C.1
  have hb := C.2.1
  have hown := C.2.2.1
  have hts := C.2.2.2.1
  have hl : lv_has ls 2 [(0, .ref (ad b)), (1, .int (nI c))] := hl
  refine lv_aload_n hx hb dX1_isTrue_0 rfl (lv_at hl 0 rfl) ?_
  refine hg_H_lies C hP hH dX1_isTrue_1 ?_
  refine lv_iload_n hx hb dX1_isTrue_4 rfl (lv_at hl 1 rfl) ?_
  refine c_zald C hP (arH4 hH) (by omega) dX1_isTrue_5 ?_
  refine w_eqi (rcA hR 4 c (by unfold vd; omega)) ?_
  refine lv_if_ne (tgt := 22) hx hb dX1_isTrue_6 (by decide) (fun c_6 => ?_) (fun c_6 => ?_)
  · refine lv_iconst (v := 0) hx hb dX1_isTrue_22 (by decide) ?_
    exact w_retZ hx hb hlk hr dX1_isTrue_23 (by simp [bI, trS, c_6])
  · refine lv_aload_n hx hb dX1_isTrue_9 rfl (lv_at hl 0 rfl) ?_
    refine hg_H_stands C hP hH dX1_isTrue_10 ?_
    refine lv_iload_n hx hb dX1_isTrue_13 rfl (lv_at hl 1 rfl) ?_
    refine c_zald C hP (arH5 hH) (by omega) dX1_isTrue_14 ?_
    refine w_eqi (rcA hR 5 c (by unfold vd; omega)) ?_
    refine lv_if_ne (tgt := 22) hx hb dX1_isTrue_15 (by decide) (fun c_7 => ?_) (fun c_7 => ?_)
    · refine lv_iconst (v := 0) hx hb dX1_isTrue_22 (by decide) ?_
      exact w_retZ hx hb hlk hr dX1_isTrue_23 (by simp [bI, trS, c_7])
    · refine lv_iconst (v := 1) hx hb dX1_isTrue_18 (by decide) ?_
      refine lv_goto (tgt := 23) hx hb dX1_isTrue_19 (by decide) ?_
      exact w_retZ hx hb hlk hr dX1_isTrue_23 (by simp [bI, trS, c_6, c_7])

theorem b01_n0 {x : Int32} (h : b01 x) (q : ¬ x = 0) : x = 1 := h.resolve_left q
theorem b01_0 {x : Int32} (q : x = 0) : ¬ x = 1 := by subst q; decide
theorem hdX1_heardBy : yX1_heardBy.cls = "LiarClocks$House" ∧ yX1_heardBy.cls ≠ "java/lang/invoke/MethodHandle" ∧ yX1_heardBy.cls ≠ "java/lang/invoke/VarHandle" ∧ (parseMethodDescriptor yX1_heardBy.desc).map (fun d => d.parameters.length) = some 2 := by decide +kernel
set_option maxHeartbeats 4000000 in
/-- heardBy -/
theorem mX1_heardBy (l : Launch) (D : va_G) (T : Nat → ClassId) (ad : Nat → Nat) (n : Nat) (σ : Nat → Nat → Int32) (b : Nat) (h : Vw) (hH : isH n b) (hR : Rc σ b h) (hB : HB h) (i j : Nat) (hi : i < 8) (hj : j < 8) : Met l yX1_heardBy (ws_ yX1_heardBy cX1_heardBy 3 (some .int)) ({ frames := 1, cells := 0, slots := 0, locals := 21 } : Room) (cPc D T ad n σ [.ref (ad b), .int (nI i), .int (nI j)]) (QcRead (heardS h i j)) 0 0 (fun _ => False) := by
  refine cR_intro (own := "LiarClocks$House") [.ref (ad b), .int (nI i), .int (nI j)] (by decide) rfl (Nat.le_of_ble_eq_true rfl) ?_
  intro pg en s0 mi below meth cd ls C hr hlk hml hP hl
  have hx := C.1
  have hb := C.2.1
  have hown := C.2.2.1
  have hts := C.2.2.2.1
  have hl : lv_has ls 3 [(0, .ref (ad b)), (1, .int (nI i)), (2, .int (nI j))] := hl
  refine lv_iload_n hx hb dX1_heardBy_0 rfl (lv_at hl 2 rfl) ?_
  refine lv_iload_n hx hb dX1_heardBy_1 rfl (lv_at hl 1 rfl) ?_
  refine w_icmpN_eq (tgt := 14) hx hb dX1_heardBy_2 (by decide) (by omega) (by omega) (fun c_8 => ?_) (fun c_8 => ?_)
  · refine lv_aload_n hx hb dX1_heardBy_14 rfl (lv_at hl 0 rfl) ?_
    refine lv_iload_n hx hb dX1_heardBy_15 rfl (lv_at hl 1 rfl) ?_
    refine c_cR [.int (nI i)] C hml hl.1 hP (c_recvH C hP hH) (mX1_aim l D T ad n σ b h hH hR i (by omega)) (lw_V q443 q444 q445 q70 q446) hdX1_aim ⟨rfl, rfl⟩ ⟨Nat.le_of_ble_eq_true rfl, Nat.le_of_ble_eq_true rfl⟩ rfl (Nat.le_of_ble_eq_true rfl) dX1_heardBy_16 ⟨Nat.zero_le _, Nat.zero_le _⟩ ?_
    exact w_retR hx hb hlk hr dX1_heardBy_19 (by unfold heardS; rw [if_pos (Or.inl c_8)])
  · refine lv_aload_n hx hb dX1_heardBy_5 rfl (lv_at hl 0 rfl) ?_
    refine hg_H_stands C hP hH dX1_heardBy_6 ?_
    refine lv_iload_n hx hb dX1_heardBy_9 rfl (lv_at hl 2 rfl) ?_
    refine c_zald C hP (arH5 hH) (by omega) dX1_heardBy_10 ?_
    refine w_eqi (rcA hR 5 j (by unfold vd; omega)) ?_
    refine lv_if_eq (tgt := 20) hx hb dX1_heardBy_11 (by decide) (fun c_9 => ?_) (fun c_9 => ?_)
    · refine lv_aload_n hx hb dX1_heardBy_20 rfl (lv_at hl 0 rfl) ?_
      refine hg_H_lies C hP hH dX1_heardBy_21 ?_
      refine lv_iload_n hx hb dX1_heardBy_24 rfl (lv_at hl 2 rfl) ?_
      refine c_zald C hP (arH4 hH) (by omega) dX1_heardBy_25 ?_
      refine w_eqi (rcA hR 4 j (by unfold vd; omega)) ?_
      refine lv_if_eq (tgt := 49) hx hb dX1_heardBy_26 (by decide) (fun c_10 => ?_) (fun c_10 => ?_)
      · refine lv_aload_n hx hb dX1_heardBy_49 rfl (lv_at hl 0 rfl) ?_
        refine lv_iload_n hx hb dX1_heardBy_50 rfl (lv_at hl 2 rfl) ?_
        refine c_cR [.int (nI j)] C hml hl.1 hP (c_recvH C hP hH) (mX1_aim l D T ad n σ b h hH hR j (by omega)) (lw_V q443 q444 q445 q70 q446) hdX1_aim ⟨rfl, rfl⟩ ⟨Nat.le_of_ble_eq_true rfl, Nat.le_of_ble_eq_true rfl⟩ rfl (Nat.le_of_ble_eq_true rfl) dX1_heardBy_51 ⟨Nat.zero_le _, Nat.zero_le _⟩ ?_
        refine lv_aload_n hx hb dX1_heardBy_54 rfl (lv_at hl 0 rfl) ?_
        refine hg_H_error C hP hH dX1_heardBy_55 ?_
        refine lv_bipush (v := nI 8) hx hb dX1_heardBy_58 (by decide) ?_
        refine lv_iload_n hx hb dX1_heardBy_60 rfl (lv_at hl 2 rfl) ?_
        refine w_imulN hx hb dX1_heardBy_61 ?_
        refine lv_iload_n hx hb dX1_heardBy_62 rfl (lv_at hl 1 rfl) ?_
        refine w_iaddN hx hb dX1_heardBy_63 ?_
        refine c_iald C hP (arH7 hH) (by omega) dX1_heardBy_64 ?_
        refine w_eqi (rcA hR 7 (8 * j + i) (by unfold vd; omega)) ?_
        refine lv_iadd hx hb dX1_heardBy_65 ?_
        exact w_retR hx hb hlk hr dX1_heardBy_66 (by unfold heardS; rw [if_neg (fun q => q.elim c_8 (b01_0 c_9)), if_neg (b01_0 c_10)])
      · refine lv_aload_n hx hb dX1_heardBy_29 rfl (lv_at hl 0 rfl) ?_
        refine lv_iload_n hx hb dX1_heardBy_30 rfl (lv_at hl 1 rfl) ?_
        refine c_cR [.int (nI i)] C hml hl.1 hP (c_recvH C hP hH) (mX1_aim l D T ad n σ b h hH hR i (by omega)) (lw_V q443 q444 q445 q70 q446) hdX1_aim ⟨rfl, rfl⟩ ⟨Nat.le_of_ble_eq_true rfl, Nat.le_of_ble_eq_true rfl⟩ rfl (Nat.le_of_ble_eq_true rfl) dX1_heardBy_31 ⟨Nat.zero_le _, Nat.zero_le _⟩ ?_
        refine lv_aload_n hx hb dX1_heardBy_34 rfl (lv_at hl 0 rfl) ?_
        refine hg_H_lie C hP hH dX1_heardBy_35 ?_
        refine lv_bipush (v := nI 8) hx hb dX1_heardBy_38 (by decide) ?_
        refine lv_iload_n hx hb dX1_heardBy_40 rfl (lv_at hl 2 rfl) ?_
        refine w_imulN hx hb dX1_heardBy_41 ?_
        refine lv_iload_n hx hb dX1_heardBy_42 rfl (lv_at hl 1 rfl) ?_
        refine w_iaddN hx hb dX1_heardBy_43 ?_
        refine c_iald C hP (arH6 hH) (by omega) dX1_heardBy_44 ?_
        refine w_eqi (rcA hR 6 (8 * j + i) (by unfold vd; omega)) ?_
        refine lv_iadd hx hb dX1_heardBy_45 ?_
        refine lv_goto (tgt := 66) hx hb dX1_heardBy_46 (by decide) ?_
        exact w_retR hx hb hlk hr dX1_heardBy_66 (by unfold heardS; rw [if_neg (fun q => q.elim c_8 (b01_0 c_9)), if_pos (b01_n0 (hB.lies (by omega)) c_10)])
    · refine lv_aload_n hx hb dX1_heardBy_14 rfl (lv_at hl 0 rfl) ?_
      refine lv_iload_n hx hb dX1_heardBy_15 rfl (lv_at hl 1 rfl) ?_
      refine c_cR [.int (nI i)] C hml hl.1 hP (c_recvH C hP hH) (mX1_aim l D T ad n σ b h hH hR i (by omega)) (lw_V q443 q444 q445 q70 q446) hdX1_aim ⟨rfl, rfl⟩ ⟨Nat.le_of_ble_eq_true rfl, Nat.le_of_ble_eq_true rfl⟩ rfl (Nat.le_of_ble_eq_true rfl) dX1_heardBy_16 ⟨Nat.zero_le _, Nat.zero_le _⟩ ?_
      exact w_retR hx hb hlk hr dX1_heardBy_19 (by unfold heardS; rw [if_pos (Or.inr (b01_n0 (hB.stands (by omega)) c_9))])

theorem arHz {n b f : Nat} {T : Nat → ClassId} {ad : Nat → Nat} (h : isH n b) (hf : f = 4 ∨ f = 5) : arA n T ad (b + f) 1 8 := by
  rcases hf with rfl | rfl
  · exact arH4 h
  · exact arH5 h
theorem vd45 {f c : Nat} (hf : f = 4 ∨ f = 5) (hc : c < 8) : vd f c := by unfold vd; omega
theorem so_t {p : Nat → Bool} {c : Nat} (hc : c < 31) (hp : p c = true) : nI (setN p c) ||| ((1 : Int32) <<< (nI c &&& 31)) = nI (setN p (c + 1)) := by
  rw [nI_shl1 c hc, ← setN_or, if_pos hp]
theorem so_f {p : Nat → Bool} {c : Nat} (hp : p c = false) : nI (setN p c) ||| 0 = nI (setN p (c + 1)) := by
  rw [← setN_or, hp]; rfl
theorem hdX1_setOf : yX1_setOf.cls = "LiarClocks$House" ∧ yX1_setOf.cls ≠ "java/lang/invoke/MethodHandle" ∧ yX1_setOf.cls ≠ "java/lang/invoke/VarHandle" ∧ (parseMethodDescriptor yX1_setOf.desc).map (fun d => d.parameters.length) = some 1 := by decide +kernel
set_option maxHeartbeats 4000000 in
/-- setOf -/
theorem mX1_setOf (l : Launch) (D : va_G) (T : Nat → ClassId) (ad : Nat → Nat) (n : Nat) (σ : Nat → Nat → Int32) (b : Nat) (h : Vw) (hH : isH n b) (hR : Rc σ b h) (hB : HB h) (f : Nat) (hf : f = 4 ∨ f = 5) : Met l yX1_setOf (ws_ yX1_setOf cX1_setOf 4 (some .int)) ({ frames := 0, cells := 0, slots := 0, locals := 0 } : Room) (cPc D T ad n σ [.ref (ad b), .ref (ad (b + f))]) (QcRead (nI (setN (eq1 h f) (nM h)))) 0 0 (fun _ => False) := by
  have h8 := hB.many8
  refine cR_intro (own := "LiarClocks$House") [.ref (ad b), .ref (ad (b + f))] (by decide) rfl (Nat.le_of_ble_eq_true rfl) ?_
  intro pg en s0 mi below meth cd ls C hr hlk hml hP hl
  have hx := C.1
  have hb := C.2.1
  have hown := C.2.2.1
  have hts := C.2.2.2.1
  have hl : lv_has ls 4 [(0, .ref (ad b)), (1, .ref (ad (b + f)))] := hl
  refine lv_iconst (v := nI 0) hx hb dX1_setOf_0 (by decide) ?_
  refine lv_istore_n (lv' := [(2, .int (nI 0)), (0, .ref (ad b)), (1, .ref (ad (b + f)))]) hx hb dX1_setOf_1 rfl hl (by decide) rfl (fun ls hl => ?_)
  refine lv_iconst (v := nI 0) hx hb dX1_setOf_2 (by decide) ?_
  refine lv_istore_n (lv' := [(3, .int (nI 0)), (2, .int (nI 0)), (0, .ref (ad b)), (1, .ref (ad (b + f)))]) hx hb dX1_setOf_3 rfl hl (by decide) rfl (fun ls hl => ?_)
  refine w_up (nM h) 4 4 (fun c => [(0, .ref (ad b)), (1, .ref (ad (b + f))), (2, .int (nI (setN (eq1 h f) c))), (3, .int (nI c))]) ?_ ?_ 0 (Nat.zero_le _) _ (lv_sub hl [2, 3, 1, 0] rfl)
  · intro c ls hi_c hl ih_c
    have hl : lv_has ls 4 [(0, .ref (ad b)), (1, .ref (ad (b + f))), (2, .int (nI (setN (eq1 h f) c))), (3, .int (nI c))] := hl
    refine lv_iload_n hx hb dX1_setOf_4 rfl (lv_at hl 3 rfl) ?_
    refine lv_aload_n hx hb dX1_setOf_5 rfl (lv_at hl 0 rfl) ?_
    refine hg_H_many C hP hH dX1_setOf_6 ?_
    refine w_eqi (rc0 hR 0 (by decide)) ?_
    refine w_eqi (hB.many) ?_
    refine w_icmpN_ge (tgt := 34) hx hb dX1_setOf_9 (by decide) (by omega) (by omega) (fun c_11 => ?_) (fun c_11 => ?_)
    · exact absurd c_11 (by omega)
    · refine lv_iload_n hx hb dX1_setOf_12 rfl (lv_at hl 2 rfl) ?_
      refine lv_aload_n hx hb dX1_setOf_13 rfl (lv_at hl 1 rfl) ?_
      refine lv_iload_n hx hb dX1_setOf_14 rfl (lv_at hl 3 rfl) ?_
      refine c_zald C hP (arHz hH hf) (by omega) dX1_setOf_15 ?_
      refine w_eqi (rcA hR f c (by unfold vd; omega)) ?_
      refine lv_if_eq (tgt := 25) hx hb dX1_setOf_16 (by decide) (fun c_12 => ?_) (fun c_12 => ?_)
      · have hp : eq1 h f c = false := decide_eq_false (b01_0 c_12)
        refine lv_iconst (v := 0) hx hb dX1_setOf_25 (by decide) ?_
        refine lv_ior hx hb dX1_setOf_26 ?_
        refine w_eqi (so_f hp) ?_
        refine lv_istore_n (lv' := [(2, .int (nI (setN (eq1 h f) (c + 1)))), (0, .ref (ad b)), (1, .ref (ad (b + f))), (3, .int (nI c))]) hx hb dX1_setOf_27 rfl hl (by decide) rfl (fun ls hl => ?_)
        refine lv_iinc (v := nI (c + 1)) (lv' := [(3, .int (nI (c + 1))), (2, .int (nI (setN (eq1 h f) (c + 1)))), (0, .ref (ad b)), (1, .ref (ad (b + f)))]) hx hb dX1_setOf_28 hl (k := 3) rfl (w_inc _ _) (by decide) rfl (fun ls hl => ?_)
        refine lv_goto (tgt := 4) hx hb dX1_setOf_31 (by decide) ?_
        refine ih_c _ ?_
        show lv_has ls 4 [(0, .ref (ad b)), (1, .ref (ad (b + f))), (2, .int (nI (setN (eq1 h f) (c + 1)))), (3, .int (nI (c + 1)))]
        exact lv_sub hl [2, 3, 1, 0] rfl
      · have hp : eq1 h f c = true := decide_eq_true (b01_n0 (hf.elim (fun q => q ▸ hB.lies (by omega)) (fun q => q ▸ hB.stands (by omega))) c_12)
        refine lv_iconst (v := 1) hx hb dX1_setOf_19 (by decide) ?_
        refine lv_iload_n hx hb dX1_setOf_20 rfl (lv_at hl 3 rfl) ?_
        refine lv_ishl hx hb dX1_setOf_21 ?_
        refine lv_goto (tgt := 26) hx hb dX1_setOf_22 (by decide) ?_
        refine lv_ior hx hb dX1_setOf_26 ?_
        refine w_eqi (so_t (by omega) hp) ?_
        refine lv_istore_n (lv' := [(2, .int (nI (setN (eq1 h f) (c + 1)))), (0, .ref (ad b)), (1, .ref (ad (b + f))), (3, .int (nI c))]) hx hb dX1_setOf_27 rfl hl (by decide) rfl (fun ls hl => ?_)
        refine lv_iinc (v := nI (c + 1)) (lv' := [(3, .int (nI (c + 1))), (2, .int (nI (setN (eq1 h f) (c + 1)))), (0, .ref (ad b)), (1, .ref (ad (b + f)))]) hx hb dX1_setOf_28 hl (k := 3) rfl (w_inc _ _) (by decide) rfl (fun ls hl => ?_)
        refine lv_goto (tgt := 4) hx hb dX1_setOf_31 (by decide) ?_
        refine ih_c _ ?_
        show lv_has ls 4 [(0, .ref (ad b)), (1, .ref (ad (b + f))), (2, .int (nI (setN (eq1 h f) (c + 1)))), (3, .int (nI (c + 1)))]
        exact lv_sub hl [2, 3, 1, 0] rfl
  · intro ls hl
    have hl : lv_has ls 4 [(0, .ref (ad b)), (1, .ref (ad (b + f))), (2, .int (nI (setN (eq1 h f) (nM h)))), (3, .int (nI (nM h)))] := hl
    refine lv_iload_n hx hb dX1_setOf_4 rfl (lv_at hl 3 rfl) ?_
    refine lv_aload_n hx hb dX1_setOf_5 rfl (lv_at hl 0 rfl) ?_
    refine hg_H_many C hP hH dX1_setOf_6 ?_
    refine w_eqi (rc0 hR 0 (by decide)) ?_
    refine w_eqi (hB.many) ?_
    refine w_icmpN_ge (tgt := 34) hx hb dX1_setOf_9 (by decide) (by omega) (by omega) (fun c_13 => ?_) (fun c_13 => ?_)
    · refine lv_iload_n hx hb dX1_setOf_34 rfl (lv_at hl 2 rfl) ?_
      exact w_retR hx hb hlk hr dX1_setOf_35 rfl
    · exact absurd c_13 (by omega)

theorem nx_xor (a b : Nat) : nI a ^^^ nI b = nI (a ^^^ b) := by
  show Int32.ofNat a ^^^ Int32.ofNat b = Int32.ofNat (a ^^^ b)
  apply Int32.toBitVec_inj.mp
  rw [Int32.toBitVec_xor]
  show BitVec.ofNat 32 a ^^^ BitVec.ofNat 32 b = BitVec.ofNat 32 (a ^^^ b)
  apply BitVec.eq_of_getLsbD_eq
  intro i hi
  simp [BitVec.getLsbD_ofNat, BitVec.getLsbD_xor, Nat.testBit_xor, hi]
theorem and_not (u a : Nat) : nI u &&& (nI a ^^^ (-1)) = nI (u &&& (4294967295 ^^^ a)) := by
  rw [show (-1 : Int32) = nI 4294967295 by decide, nx_xor, fa_and, Nat.xor_comm]
theorem sh_m1 : ∀ m, m ≤ 8 → ((1 : Int32) <<< (nI m &&& 31)) - 1 = nI (2 ^ m - 1) := by decide
theorem tr_set {h : Vw} (hB : HB h) : (((1 : Int32) <<< (nI (nM h) &&& 31)) - 1) &&& (nI (setN (eq1 h 4) (nM h)) ^^^ (-1)) &&& (nI (setN (eq1 h 5) (nM h)) ^^^ (-1)) = nI (setN (trS h) (nM h)) := by
  have h8 := hB.many8
  have h2 : 2 ^ nM h ≤ 2 ^ 8 := Nat.pow_le_pow_right (by decide) h8
  have hp := Nat.two_pow_pos (nM h)
  rw [sh_m1 _ h8, and_not, and_not]
  congr 1
  apply Nat.eq_of_testBit_eq
  intro j
  rw [Nat.testBit_and, Nat.testBit_and, Nat.testBit_xor, Nat.testBit_xor, setN_bit, setN_bit, setN_bit, Nat.testBit_two_pow_sub_one]
  have e255 : Nat.testBit 4294967295 j = decide (j < 32) := Nat.testBit_two_pow_sub_one 32 j
  rw [e255]
  by_cases hj : j < nM h
  · have hj8 : j < 8 := by omega
    have hj32 : j < 32 := by omega
    have b4 := hB.lies hj8
    have b5 := hB.stands hj8
    unfold trS eq1
    rcases b4 with q4 | q4 <;> rcases b5 with q5 | q5 <;> simp [hj, hj32, q4, q5]
  · simp [hj]
theorem hdX1_trueOnes : yX1_trueOnes.cls = "LiarClocks$House" ∧ yX1_trueOnes.cls ≠ "java/lang/invoke/MethodHandle" ∧ yX1_trueOnes.cls ≠ "java/lang/invoke/VarHandle" ∧ (parseMethodDescriptor yX1_trueOnes.desc).map (fun d => d.parameters.length) = some 0 := by decide +kernel
set_option maxHeartbeats 4000000 in
/-- trueOnes -/
theorem mX1_trueOnes (l : Launch) (D : va_G) (T : Nat → ClassId) (ad : Nat → Nat) (n : Nat) (σ : Nat → Nat → Int32) (b : Nat) (h : Vw) (hH : isH n b) (hR : Rc σ b h) (hB : HB h) : Met l yX1_trueOnes (ws_ yX1_trueOnes cX1_trueOnes 1 (some .int)) ({ frames := 1, cells := 0, slots := 0, locals := 23 } : Room) (cPc D T ad n σ [.ref (ad b)]) (QcRead (nI (setN (trS h) (nM h)))) 0 0 (fun _ => False) := by
  have h8 := hB.many8
  refine cR_intro (own := "LiarClocks$House") [.ref (ad b)] (by decide) rfl (Nat.le_of_ble_eq_true rfl) ?_
  intro pg en s0 mi below meth cd ls C hr hlk hml hP hl
  have hx := C.1
  have hb := C.2.1
  have hown := C.2.2.1
  have hts := C.2.2.2.1
  have hl : lv_has ls 1 [(0, .ref (ad b))] := hl
  refine lv_iconst (v := 1) hx hb dX1_trueOnes_0 (by decide) ?_
  refine lv_aload_n hx hb dX1_trueOnes_1 rfl (lv_at hl 0 rfl) ?_
  refine hg_H_many C hP hH dX1_trueOnes_2 ?_
  refine w_eqi (rc0 hR 0 (by decide)) ?_
  refine w_eqi (hB.many) ?_
  refine lv_ishl hx hb dX1_trueOnes_5 ?_
  refine lv_iconst (v := 1) hx hb dX1_trueOnes_6 (by decide) ?_
  refine lv_isub hx hb dX1_trueOnes_7 ?_
  refine lv_aload_n hx hb dX1_trueOnes_8 rfl (lv_at hl 0 rfl) ?_
  refine lv_aload_n hx hb dX1_trueOnes_9 rfl (lv_at hl 0 rfl) ?_
  refine hg_H_lies C hP hH dX1_trueOnes_10 ?_
  refine c_cR [.ref (ad (b + 4))] C hml hl.1 hP (c_recvH C hP hH) (mX1_setOf l D T ad n σ b h hH hR hB 4 (by decide)) (lw_V q432 q425 q426 q70 q427) hdX1_setOf ⟨rfl, rfl⟩ ⟨Nat.le_of_ble_eq_true rfl, Nat.le_of_ble_eq_true rfl⟩ rfl (Nat.le_of_ble_eq_true rfl) dX1_trueOnes_13 ⟨Nat.zero_le _, Nat.zero_le _⟩ ?_
  refine lv_iconst (v := -1) hx hb dX1_trueOnes_16 (by decide) ?_
  refine lv_ixor hx hb dX1_trueOnes_17 ?_
  refine lv_iand hx hb dX1_trueOnes_18 ?_
  refine lv_aload_n hx hb dX1_trueOnes_19 rfl (lv_at hl 0 rfl) ?_
  refine lv_aload_n hx hb dX1_trueOnes_20 rfl (lv_at hl 0 rfl) ?_
  refine hg_H_stands C hP hH dX1_trueOnes_21 ?_
  refine c_cR [.ref (ad (b + 5))] C hml hl.1 hP (c_recvH C hP hH) (mX1_setOf l D T ad n σ b h hH hR hB 5 (by decide)) (lw_V q432 q425 q426 q70 q427) hdX1_setOf ⟨rfl, rfl⟩ ⟨Nat.le_of_ble_eq_true rfl, Nat.le_of_ble_eq_true rfl⟩ rfl (Nat.le_of_ble_eq_true rfl) dX1_trueOnes_24 ⟨Nat.zero_le _, Nat.zero_le _⟩ ?_
  refine lv_iconst (v := -1) hx hb dX1_trueOnes_27 (by decide) ?_
  refine lv_ixor hx hb dX1_trueOnes_28 ?_
  refine lv_iand hx hb dX1_trueOnes_29 ?_
  exact w_retR hx hb hlk hr dX1_trueOnes_30 (tr_set hB)

def lsS (h : Vw) (c : Nat) : Int32 := match apF h c with
  | none => 500000000
  | some p => p.1
def msS (h : Vw) (c : Nat) : Int32 := match apF h c with
  | none => -500000000
  | some p => p.2
theorem ap_f {h : Vw} {c : Nat} (ht : ¬ trS h c = true) : lsS h (c + 1) = lsS h c ∧ msS h (c + 1) = msS h c := by
  have e : apF h (c + 1) = apF h c := by conv => lhs; unfold apF
                                         rw [if_neg ht]
  unfold lsS msS
  rw [e]; exact ⟨rfl, rfl⟩
theorem ap_t {h : Vw} {c : Nat} (ht : trS h c = true) (hb : -500000000 ≤ (aimS h c).toInt ∧ (aimS h c).toInt ≤ 500000000) : minI (lsS h c) (aimS h c) = lsS h (c + 1) ∧ maxI (msS h c) (aimS h c) = msS h (c + 1) := by
  have z1 : (500000000 : Int32).toInt = 500000000 := by decide
  have z2 : (-500000000 : Int32).toInt = -500000000 := by decide
  cases e0 : apF h c with
  | none =>
    have e : apF h (c + 1) = some (aimS h c, aimS h c) := by
      conv => lhs; unfold apF
      rw [if_pos ht, e0]
    unfold lsS msS
    rw [e, e0]
    show minI 500000000 (aimS h c) = aimS h c ∧ maxI (-500000000) (aimS h c) = aimS h c
    unfold minI maxI
    constructor
    · split
      · rename_i q; rw [w_le, z1] at q; apply Int32.toInt_inj.mp; rw [z1]; omega
      · rfl
    · split
      · rename_i q; rw [w_le, z2] at q; apply Int32.toInt_inj.mp; rw [z2]; omega
      · rfl
  | some p =>
    obtain ⟨a, b⟩ := p
    have e : apF h (c + 1) = some (if aimS h c < a then aimS h c else a, if b < aimS h c then aimS h c else b) := by
      conv => lhs; unfold apF
      rw [if_pos ht, e0]
    unfold lsS msS
    rw [e, e0]
    show minI a (aimS h c) = (if aimS h c < a then aimS h c else a) ∧ maxI b (aimS h c) = (if b < aimS h c then aimS h c else b)
    unfold minI maxI
    constructor
    · by_cases q : a ≤ aimS h c
      · rw [if_pos q, if_neg (w_nlt q)]
      · rw [if_neg q, if_pos (Int32.not_le.mp q)]
    · by_cases q : aimS h c ≤ b
      · rw [if_pos q, if_neg (w_nlt q)]
      · rw [if_neg q, if_pos (Int32.not_le.mp q)]
theorem ap_bd {h : Vw} : ∀ c, (apF h c = none) ∨ ∃ a b, apF h c = some (a, b) ∧ a ≤ b := by
  intro c
  induction c with
  | zero => exact Or.inl rfl
  | succ c ih =>
    unfold apF
    by_cases ht : trS h c = true
    · rw [if_pos ht]
      refine Or.inr ?_
      rcases ih with e | ⟨a, b, e, hab⟩
      · rw [e]; exact ⟨_, _, rfl, Int32.le_refl _⟩
      · rw [e]
        refine ⟨_, _, rfl, ?_⟩
        rw [w_le] at *
        split <;> split <;> rename_i q1 q2 <;> rw [w_lt] at q1 q2 <;> omega
    · rw [if_neg ht]; exact ih
theorem ap_gt {h : Vw} (q : ¬ lsS h (nM h) ≤ msS h (nM h)) : (-1 : Int32) = apS h := by
  rcases ap_bd (h := h) (nM h) with e | ⟨a, b, e, hab⟩
  · unfold apS; rw [e]
  · unfold lsS msS at q; rw [e] at q; exact absurd hab q
theorem ap_le {h : Vw} (q : lsS h (nM h) ≤ msS h (nM h)) : msS h (nM h) - lsS h (nM h) = apS h := by
  rcases ap_bd (h := h) (nM h) with e | ⟨a, b, e, hab⟩
  · unfold lsS msS at q; rw [e] at q; exact absurd q (by decide)
  · unfold lsS msS apS; rw [e]
theorem hdX1_apart : yX1_apart.cls = "LiarClocks$House" ∧ yX1_apart.cls ≠ "java/lang/invoke/MethodHandle" ∧ yX1_apart.cls ≠ "java/lang/invoke/VarHandle" ∧ (parseMethodDescriptor yX1_apart.desc).map (fun d => d.parameters.length) = some 0 := by decide +kernel
set_option maxHeartbeats 4000000 in
/-- apart -/
theorem mX1_apart (l : Launch) (D : va_G) (T : Nat → ClassId) (ad : Nat → Nat) (n : Nat) (σ : Nat → Nat → Int32) (b : Nat) (h : Vw) (hH : isH n b) (hR : Rc σ b h) (hB : HB h) (B : Int) (hA : HA h B) (hB0 : B ≤ 500000000) : Met l yX1_apart (ws_ yX1_apart cX1_apart 4 (some .int)) ({ frames := 1, cells := 0, slots := 0, locals := 21 } : Room) (cPc D T ad n σ [.ref (ad b)]) (QcRead (apS h)) 0 0 (fun _ => False) := by
  have h8 := hB.many8
  refine cR_intro (own := "LiarClocks$House") [.ref (ad b)] (by decide) rfl (Nat.le_of_ble_eq_true rfl) ?_
  intro pg en s0 mi below meth cd ls C hr hlk hml hP hl
  have hx := C.1
  have hb := C.2.1
  have hown := C.2.2.1
  have hts := C.2.2.2.1
  have hl : lv_has ls 4 [(0, .ref (ad b))] := hl
  refine lv_ldc hx hb hown (hts _ q437) dX1_apart_0 ?_
  refine lv_istore_n (lv' := [(1, .int 500000000), (0, .ref (ad b))]) hx hb dX1_apart_2 rfl hl (by decide) rfl (fun ls hl => ?_)
  refine lv_ldc hx hb hown (hts _ q438) dX1_apart_3 ?_
  refine lv_istore_n (lv' := [(2, .int ((-500000000))), (1, .int 500000000), (0, .ref (ad b))]) hx hb dX1_apart_5 rfl hl (by decide) rfl (fun ls hl => ?_)
  refine lv_iconst (v := nI 0) hx hb dX1_apart_6 (by decide) ?_
  refine lv_istore_n (lv' := [(3, .int (nI 0)), (2, .int ((-500000000))), (1, .int 500000000), (0, .ref (ad b))]) hx hb dX1_apart_7 rfl hl (by decide) rfl (fun ls hl => ?_)
  refine w_up (nM h) 8 4 (fun c => [(0, .ref (ad b)), (1, .int (lsS h c)), (2, .int (msS h c)), (3, .int (nI c))]) ?_ ?_ 0 (Nat.zero_le _) _ (lv_sub hl [3, 2, 1, 0] rfl)
  · intro c ls hi_c hl ih_c
    have hl : lv_has ls 4 [(0, .ref (ad b)), (1, .int (lsS h c)), (2, .int (msS h c)), (3, .int (nI c))] := hl
    refine lv_iload_n hx hb dX1_apart_8 rfl (lv_at hl 3 rfl) ?_
    refine lv_aload_n hx hb dX1_apart_9 rfl (lv_at hl 0 rfl) ?_
    refine hg_H_many C hP hH dX1_apart_10 ?_
    refine w_eqi (rc0 hR 0 (by decide)) ?_
    refine w_eqi (hB.many) ?_
    refine w_icmpN_ge (tgt := 66) hx hb dX1_apart_13 (by decide) (by omega) (by omega) (fun c_14 => ?_) (fun c_14 => ?_)
    · exact absurd c_14 (by omega)
    · refine lv_aload_n hx hb dX1_apart_16 rfl (lv_at hl 0 rfl) ?_
      refine lv_iload_n hx hb dX1_apart_17 rfl (lv_at hl 3 rfl) ?_
      refine c_cR [.int (nI c)] C hml hl.1 hP (c_recvH C hP hH) (mX1_isTrue l D T ad n σ b h hH hR c (by omega)) (lw_V q439 q440 q441 q70 q442) hdX1_isTrue ⟨rfl, rfl⟩ ⟨Nat.le_of_ble_eq_true rfl, Nat.le_of_ble_eq_true rfl⟩ rfl (Nat.le_of_ble_eq_true rfl) dX1_apart_18 ⟨Nat.zero_le _, Nat.zero_le _⟩ ?_
      refine lv_if_eq (tgt := 36) hx hb dX1_apart_21 (by decide) (fun c_15 => ?_) (fun c_15 => ?_)
      · refine lv_iload_n hx hb dX1_apart_36 rfl (lv_at hl 1 rfl) ?_
        refine lv_istore_n (lv' := [(1, .int (lsS h c)), (0, .ref (ad b)), (2, .int (msS h c)), (3, .int (nI c))]) hx hb dX1_apart_37 rfl hl (by decide) rfl (fun ls hl => ?_)
        refine lv_aload_n hx hb dX1_apart_38 rfl (lv_at hl 1 rfl) ?_
        refine lv_iload_n hx hb dX1_apart_39 rfl (lv_at hl 3 rfl) ?_
        refine c_cR [.int (nI c)] C hml hl.1 hP (c_recvH C hP hH) (mX1_isTrue l D T ad n σ b h hH hR c (by omega)) (lw_V q439 q440 q441 q70 q442) hdX1_isTrue ⟨rfl, rfl⟩ ⟨Nat.le_of_ble_eq_true rfl, Nat.le_of_ble_eq_true rfl⟩ rfl (Nat.le_of_ble_eq_true rfl) dX1_apart_40 ⟨Nat.zero_le _, Nat.zero_le _⟩ ?_
        refine lv_if_eq (tgt := 58) hx hb dX1_apart_43 (by decide) (fun c_16 => ?_) (fun c_16 => ?_)
        · refine lv_iload_n hx hb dX1_apart_58 rfl (lv_at hl 2 rfl) ?_
          refine lv_istore_n (lv' := [(2, .int (msS h c)), (1, .int (lsS h c)), (0, .ref (ad b)), (3, .int (nI c))]) hx hb dX1_apart_59 rfl hl (by decide) rfl (fun ls hl => ?_)
          refine lv_iinc (v := nI (c + 1)) (lv' := [(3, .int (nI (c + 1))), (2, .int (msS h c)), (1, .int (lsS h c)), (0, .ref (ad b))]) hx hb dX1_apart_60 hl (k := 3) rfl (w_inc _ _) (by decide) rfl (fun ls hl => ?_)
          refine lv_goto (tgt := 8) hx hb dX1_apart_63 (by decide) ?_
          have htr : ¬ trS h c = true := by rw [bI_eq0.mp c_15]; decide
          refine ih_c _ ?_
          show lv_has ls 4 [(0, .ref (ad b)), (1, .int (lsS h (c + 1))), (2, .int (msS h (c + 1))), (3, .int (nI (c + 1)))]
          rw [(ap_f htr).1]
          rw [(ap_f htr).2]
          exact lv_sub hl [3, 2, 1, 0] rfl
        · exact absurd c_15 c_16
      · refine lv_iload_n hx hb dX1_apart_24 rfl (lv_at hl 1 rfl) ?_
        refine lv_aload_n hx hb dX1_apart_25 rfl (lv_at hl 0 rfl) ?_
        refine lv_iload_n hx hb dX1_apart_26 rfl (lv_at hl 3 rfl) ?_
        refine c_cR [.int (nI c)] C hml hl.1 hP (c_recvH C hP hH) (mX1_aim l D T ad n σ b h hH hR c (by omega)) (lw_V q443 q444 q445 q70 q446) hdX1_aim ⟨rfl, rfl⟩ ⟨Nat.le_of_ble_eq_true rfl, Nat.le_of_ble_eq_true rfl⟩ rfl (Nat.le_of_ble_eq_true rfl) dX1_apart_27 ⟨Nat.zero_le _, Nat.zero_le _⟩ ?_
        refine c_cS [.int (lsS h c), .int (aimS h c)] C hml hl.1 (mJ2_min l (lsS h c) (aimS h c)) (lw_S q447 q367 q79 q368) hdJ2_min.2 ⟨rfl, rfl⟩ ⟨Nat.le_of_ble_eq_true rfl, Nat.le_of_ble_eq_true rfl⟩ rfl (Nat.le_of_ble_eq_true rfl) dX1_apart_30 ⟨Nat.zero_le _, Nat.zero_le _⟩ ?_
        refine lv_goto (tgt := 37) hx hb dX1_apart_33 (by decide) ?_
        refine lv_istore_n (lv' := [(1, .int (minI (lsS h c) (aimS h c))), (0, .ref (ad b)), (2, .int (msS h c)), (3, .int (nI c))]) hx hb dX1_apart_37 rfl hl (by decide) rfl (fun ls hl => ?_)
        refine lv_aload_n hx hb dX1_apart_38 rfl (lv_at hl 1 rfl) ?_
        refine lv_iload_n hx hb dX1_apart_39 rfl (lv_at hl 3 rfl) ?_
        refine c_cR [.int (nI c)] C hml hl.1 hP (c_recvH C hP hH) (mX1_isTrue l D T ad n σ b h hH hR c (by omega)) (lw_V q439 q440 q441 q70 q442) hdX1_isTrue ⟨rfl, rfl⟩ ⟨Nat.le_of_ble_eq_true rfl, Nat.le_of_ble_eq_true rfl⟩ rfl (Nat.le_of_ble_eq_true rfl) dX1_apart_40 ⟨Nat.zero_le _, Nat.zero_le _⟩ ?_
        refine lv_if_eq (tgt := 58) hx hb dX1_apart_43 (by decide) (fun c_17 => ?_) (fun c_17 => ?_)
        · exact absurd c_17 c_15
        · have htr := ap_t (bI_ne0.mp c_15) (by have := hA.1 c (by omega); omega)
          refine lv_iload_n hx hb dX1_apart_46 rfl (lv_at hl 2 rfl) ?_
          refine lv_aload_n hx hb dX1_apart_47 rfl (lv_at hl 1 rfl) ?_
          refine lv_iload_n hx hb dX1_apart_48 rfl (lv_at hl 3 rfl) ?_
          refine c_cR [.int (nI c)] C hml hl.1 hP (c_recvH C hP hH) (mX1_aim l D T ad n σ b h hH hR c (by omega)) (lw_V q443 q444 q445 q70 q446) hdX1_aim ⟨rfl, rfl⟩ ⟨Nat.le_of_ble_eq_true rfl, Nat.le_of_ble_eq_true rfl⟩ rfl (Nat.le_of_ble_eq_true rfl) dX1_apart_49 ⟨Nat.zero_le _, Nat.zero_le _⟩ ?_
          refine c_cS [.int (msS h c), .int (aimS h c)] C hml hl.1 (mJ2_max l (msS h c) (aimS h c)) (lw_S q448 q449 q79 q450) hdJ2_max.2 ⟨rfl, rfl⟩ ⟨Nat.le_of_ble_eq_true rfl, Nat.le_of_ble_eq_true rfl⟩ rfl (Nat.le_of_ble_eq_true rfl) dX1_apart_52 ⟨Nat.zero_le _, Nat.zero_le _⟩ ?_
          refine lv_goto (tgt := 59) hx hb dX1_apart_55 (by decide) ?_
          refine lv_istore_n (lv' := [(2, .int (maxI (msS h c) (aimS h c))), (1, .int (minI (lsS h c) (aimS h c))), (0, .ref (ad b)), (3, .int (nI c))]) hx hb dX1_apart_59 rfl hl (by decide) rfl (fun ls hl => ?_)
          refine lv_iinc (v := nI (c + 1)) (lv' := [(3, .int (nI (c + 1))), (2, .int (maxI (msS h c) (aimS h c))), (1, .int (minI (lsS h c) (aimS h c))), (0, .ref (ad b))]) hx hb dX1_apart_60 hl (k := 3) rfl (w_inc _ _) (by decide) rfl (fun ls hl => ?_)
          refine lv_goto (tgt := 8) hx hb dX1_apart_63 (by decide) ?_
          refine ih_c _ ?_
          show lv_has ls 4 [(0, .ref (ad b)), (1, .int (lsS h (c + 1))), (2, .int (msS h (c + 1))), (3, .int (nI (c + 1)))]
          rw [← htr.1]
          rw [← htr.2]
          exact lv_sub hl [3, 2, 1, 0] rfl
  · intro ls hl
    have hl : lv_has ls 4 [(0, .ref (ad b)), (1, .int (lsS h (nM h))), (2, .int (msS h (nM h))), (3, .int (nI (nM h)))] := hl
    refine lv_iload_n hx hb dX1_apart_8 rfl (lv_at hl 3 rfl) ?_
    refine lv_aload_n hx hb dX1_apart_9 rfl (lv_at hl 0 rfl) ?_
    refine hg_H_many C hP hH dX1_apart_10 ?_
    refine w_eqi (rc0 hR 0 (by decide)) ?_
    refine w_eqi (hB.many) ?_
    refine w_icmpN_ge (tgt := 66) hx hb dX1_apart_13 (by decide) (by omega) (by omega) (fun c_18 => ?_) (fun c_18 => ?_)
    · refine lv_iload_n hx hb dX1_apart_66 rfl (lv_at hl 1 rfl) ?_
      refine lv_iload_n hx hb dX1_apart_67 rfl (lv_at hl 2 rfl) ?_
      refine lv_icmp_le (tgt := 75) hx hb dX1_apart_68 (by decide) (fun c_19 => ?_) (fun c_19 => ?_)
      · refine lv_iload_n hx hb dX1_apart_75 rfl (lv_at hl 2 rfl) ?_
        refine lv_iload_n hx hb dX1_apart_76 rfl (lv_at hl 1 rfl) ?_
        refine lv_isub hx hb dX1_apart_77 ?_
        exact w_retR hx hb hlk hr dX1_apart_78 (ap_le c_19)
      · refine lv_iconst (v := -1) hx hb dX1_apart_71 (by decide) ?_
        refine lv_goto (tgt := 78) hx hb dX1_apart_72 (by decide) ?_
        exact w_retR hx hb hlk hr dX1_apart_78 (ap_gt c_19)
    · exact absurd c_18 (by omega)

