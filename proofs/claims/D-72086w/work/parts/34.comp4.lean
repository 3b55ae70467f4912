/-! THE COMPONENT: CS, remember, the plain deeds -/
set_option maxRecDepth 100000
def txB (x : Nat) : Int32 := vp_nar .byte ((nI x).toInt8.toInt32)
/-- the component's numbers hold the state a, the last of the past at slot pl -/
def CSp (σ : Nat → Nat → Int32) (a : Ab) (pl : Nat) : Prop :=
  (Rc σ 10 (aH a) ∧ σ 0 2 = aSd a) ∧ ((σ 0 11 = nI (aKn a) ∧ aKn a ≤ 16) ∧ (σ 0 10 = nI pl ∧ pl < 16) ∧ ∀ k, k < aKn a → Rc σ (32 + 11 * ((pl + 16 - k) % 16)) (aPs a k)) ∧
  (∀ i, i < 2 → σ 9 i = bI (aKp a i) ∧ (aKp a i = true → Rc σ (208 + 11 * i) (aIm a i) ∧ σ 8 i = aIs a i)) ∧
  (σ 0 7 = nI (aTn a) ∧ aTn a ≤ 200 ∧ ∀ k, k < aTn a → σ 3 k = txB (aTx a k) ∧ aTx a k < 256) ∧ σ 0 8 = aFt a ∧
  (σ 0 13 = nI (aBn a) ∧ aBn a ≤ 20 ∧ ∀ k, k < aBn a → σ 5 k = aBo a k ∧ σ 6 k = aBa a k)
def CS (σ : Nat → Nat → Int32) (a : Ab) : Prop := ∃ pl, CSp σ a pl
section
variable {σ σ' : Nat → Nat → Int32} {a : Ab} {pl : Nat}
theorem CSp.r (h : CSp σ a pl) : Rc σ 10 (aH a) := h.1.1
theorem CSp.sd (h : CSp σ a pl) : σ 0 2 = aSd a := h.1.2
theorem CSp.kn (h : CSp σ a pl) : σ 0 11 = nI (aKn a) := h.2.1.1.1
theorem CSp.kn16 (h : CSp σ a pl) : aKn a ≤ 16 := h.2.1.1.2
theorem CSp.pp (h : CSp σ a pl) : σ 0 10 = nI pl := h.2.1.2.1.1
theorem CSp.pl16 (h : CSp σ a pl) : pl < 16 := h.2.1.2.1.2
theorem CSp.ps (h : CSp σ a pl) {k : Nat} (hk : k < aKn a) : Rc σ (32 + 11 * ((pl + 16 - k) % 16)) (aPs a k) := h.2.1.2.2 k hk
theorem CSp.kp (h : CSp σ a pl) {i : Nat} (hi : i < 2) : σ 9 i = bI (aKp a i) := (h.2.2.1 i hi).1
theorem CSp.im (h : CSp σ a pl) {i : Nat} (hi : i < 2) (hk : aKp a i = true) : Rc σ (208 + 11 * i) (aIm a i) ∧ σ 8 i = aIs a i := (h.2.2.1 i hi).2 hk
theorem CSp.tn (h : CSp σ a pl) : σ 0 7 = nI (aTn a) := h.2.2.2.1.1
theorem CSp.tn200 (h : CSp σ a pl) : aTn a ≤ 200 := h.2.2.2.1.2.1
theorem CSp.tx (h : CSp σ a pl) {k : Nat} (hk : k < aTn a) : σ 3 k = txB (aTx a k) ∧ aTx a k < 256 := h.2.2.2.1.2.2 k hk
theorem CSp.ft (h : CSp σ a pl) : σ 0 8 = aFt a := h.2.2.2.2.1
theorem CSp.bn (h : CSp σ a pl) : σ 0 13 = nI (aBn a) := h.2.2.2.2.2.1
theorem CSp.bn20 (h : CSp σ a pl) : aBn a ≤ 20 := h.2.2.2.2.2.2.1
theorem CSp.bk (h : CSp σ a pl) {k : Nat} (hk : k < aBn a) : σ 5 k = aBo a k ∧ σ 6 k = aBa a k := h.2.2.2.2.2.2.2 k hk
/-- only the house now, the seed and what is scratch change -/
theorem CSp.row (h : CSp σ a pl) {hh : Vw} {sd : Int32} (hj : ∀ j, (j = 3 ∨ j = 5 ∨ j = 6 ∨ j = 8 ∨ j = 9 ∨ 32 ≤ j) → σ' j = σ j) (hk : ∀ k, k ≠ 2 → k ≠ 4 → k ≠ 12 → σ' 0 k = σ 0 k) (hr : Rc σ' 10 hh) (hs : σ' 0 2 = sd) : CSp σ' (setSd (setH a hh) sd) pl := by
  refine ⟨⟨hr, hs⟩, ⟨⟨by rw [hk 11 (by decide) (by decide) (by decide)]; exact h.kn, h.kn16⟩, ⟨by rw [hk 10 (by decide) (by decide) (by decide)]; exact h.pp, h.pl16⟩, fun k hk2 => (h.ps hk2).kept (fun j h1 h2 => hj j (by omega))⟩, fun i hi => ⟨by rw [hj 9 (by omega)]; exact h.kp hi, fun q => ⟨(h.im hi q).1.kept (fun j h1 h2 => hj j (by omega)), by rw [hj 8 (by omega)]; exact (h.im hi q).2⟩⟩, ⟨by rw [hk 7 (by decide) (by decide) (by decide)]; exact h.tn, h.tn200, fun k q => by rw [hj 3 (by omega)]; exact h.tx q⟩, by rw [hk 8 (by decide) (by decide) (by decide)]; exact h.ft, ⟨by rw [hk 13 (by decide) (by decide) (by decide)]; exact h.bn, h.bn20, fun k q => by rw [hj 5 (by omega), hj 6 (by omega)]; exact h.bk q⟩⟩
theorem CSp.setrow (h : CSp σ a pl) (r i : Nat) (v : Int32) (hr : r ≤ 10) : CSp (mset σ (10 + r) i v) (setH a (mset (aH a) r i v)) pl := by
  exact h.row (hh := mset (aH a) r i v) (sd := aSd a) (fun j hj => mset_oth (by omega)) (fun k _ _ _ => mset_ne (Or.inl (by omega))) (h.r.up r i v) (by rw [mset_ne (Or.inl (by omega))]; exact h.sd)
theorem CSp.setnum (h : CSp σ a pl) (i : Nat) (v : Int32) : CSp (mset σ 10 i v) (setH a (mset (aH a) 0 i v)) pl := h.setrow 0 i v (by decide)
theorem CSp.setsd (h : CSp σ a pl) (v : Int32) : CSp (mset σ 0 2 v) (setSd a v) pl :=
  h.row (hh := aH a) (sd := v) (fun j hj => mset_oth (by omega)) (fun k h2 _ _ => mset_ne (Or.inr h2)) (h.r.off (by omega)) mset_self
theorem CSp.scr (h : CSp σ a pl) (k : Nat) (v : Int32) (hk : k = 4 ∨ k = 12) : CSp (mset σ 0 k v) a pl :=
  h.row (hh := aH a) (sd := aSd a) (fun j hj => mset_oth (by omega)) (fun k _ _ _ => mset_ne (Or.inr (by omega))) (h.r.off (by omega)) (by rw [mset_ne (Or.inr (by omega))]; exact h.sd)
/-- a house of the past takes the house now -/
theorem CSp.rem (h : CSp σ a pl) (hr : Rc σ' (32 + 11 * ((pl + 1) % 16)) (aH a)) (h0 : σ' 0 10 = nI ((pl + 1) % 16)) (h1 : σ' 0 11 = nI (if aKn a < 16 then aKn a + 1 else 16)) (hk : ∀ k, k ≠ 10 → k ≠ 11 → σ' 0 k = σ 0 k) (hj : ∀ j, j ≠ 0 → (j < 32 + 11 * ((pl + 1) % 16) ∨ 32 + 11 * ((pl + 1) % 16) + 10 < j) → σ' j = σ j) : CSp σ' (remS a) ((pl + 1) % 16) := by
  have p16 := h.pl16
  have k16 := h.kn16
  refine ⟨⟨h.r.kept (fun j q1 q2 => hj j (by omega) (by omega)), by rw [hk 2 (by decide) (by decide)]; exact h.sd⟩, ⟨⟨h1, by show (if aKn a < 16 then aKn a + 1 else 16) ≤ 16; split <;> omega⟩, ⟨h0, by omega⟩, fun k q => ?_⟩, fun i hi => ⟨by rw [hj 9 (by omega) (by omega)]; exact h.kp hi, fun q => ⟨(h.im hi q).1.kept (fun j h1 h2 => hj j (by omega) (by omega)), by rw [hj 8 (by omega) (by omega)]; exact (h.im hi q).2⟩⟩, ⟨by rw [hk 7 (by decide) (by decide)]; exact h.tn, h.tn200, fun k q => by rw [hj 3 (by omega) (by omega)]; exact h.tx q⟩, by rw [hk 8 (by decide) (by decide)]; exact h.ft, ⟨by rw [hk 13 (by decide) (by decide)]; exact h.bn, h.bn20, fun k q => by rw [hj 5 (by omega) (by omega), hj 6 (by omega) (by omega)]; exact h.bk q⟩⟩
  have q2 : k < (if aKn a < 16 then aKn a + 1 else 16) := q
  have q3 : k < 16 ∧ k < aKn a + 1 := by split at q2 <;> omega
  show Rc σ' (32 + 11 * (((pl + 1) % 16 + 16 - k) % 16)) (if k = 0 then aH a else aPs a (k - 1))
  by_cases e : k = 0
  · subst e
    rw [if_pos rfl, show ((pl + 1) % 16 + 16 - 0) % 16 = (pl + 1) % 16 by omega]
    exact hr
  · rw [if_neg e]
    have z := h.ps (k := k - 1) (by omega)
    rw [show ((pl + 1) % 16 + 16 - k) % 16 = (pl + 16 - (k - 1)) % 16 by omega]
    exact z.kept (fun j q4 q5 => hj j (by omega) (by omega))
end
theorem nI_mod16 : ∀ k, k < 40 → nI k - nI k / nI 16 * nI 16 = nI (k % 16) := by decide
theorem min16 : ∀ k, k ≤ 16 → minI (nI 16) (nI (k + 1)) = nI (if k < 16 then k + 1 else 16) := by decide
theorem hdX0_remember : yX0_remember.cls = "LiarClocks" ∧ yX0_remember.cls ≠ "java/lang/invoke/MethodHandle" ∧ yX0_remember.cls ≠ "java/lang/invoke/VarHandle" ∧ (parseMethodDescriptor yX0_remember.desc).map (fun d => d.parameters.length) = some 0 := by decide +kernel
set_option maxHeartbeats 4000000 in
/-- remember -/
theorem mX0_remember (l : Launch) (D : va_G) (T : Nat → ClassId) (ad : Nat → Nat) (n : Nat) (σ : Nat → Nat → Int32) (hn : 230 ≤ n ∧ n ≤ 242) (a : Ab) (hM : CS σ a) (hB : HB (aH a)) : ∀ sz, Met l yX0_remember (ws_ yX0_remember cX0_remember 1 none) ({ frames := 2, cells := 0, slots := 0, locals := 51 } : Room) (cPs D T ad n σ [.ref (ad 0)] sz) (cQ D T ad n (fun r σ' => r = none ∧ CS σ' (remS a))) 0 0 (gA n ad sz) := by
  obtain ⟨pl, hM⟩ := hM
  refine cM_intro (own := "LiarClocks") [.ref (ad 0)] (by decide) rfl (Nat.le_of_ble_eq_true rfl) ?_
  intro pg en s0 mi below meth cd ls C hr hlk hml hP hS hl
  have hx := C.1
  have hb := C.2.1
  have hown := C.2.2.1
  have hts := C.2.2.2.1
  have hl : lv_has ls 1 [(0, .ref (ad 0))] := hl
  have p16 := hM.pl16
  have k16 := hM.kn16
  refine lv_aload_n hx hb dX0_remember_0 rfl (lv_at hl 0 rfl) ?_
  refine lv_aload_n hx hb dX0_remember_1 rfl (lv_at hl 0 rfl) ?_
  refine cg_C_pastLast C hP (n10 hn) dX0_remember_2 ?_
  refine w_eqi (y := nI (pl)) (hM.pp) ?_
  refine lv_iconst (v := nI 1) hx hb dX0_remember_5 (by decide) ?_
  refine w_iaddN hx hb dX0_remember_6 ?_
  refine lv_bipush (v := nI 16) hx hb dX0_remember_7 (by decide) ?_
  refine lv_irem hx hb dX0_remember_9 (by decide) ?_
  refine w_eqi (nI_mod16 (pl + 1) (by omega)) ?_
  refine cp_C_pastLast C hP hS (n10 hn) dX0_remember_10 (fun H locs hP hS => ?_)
  obtain ⟨σ_188, eσ_189⟩ : ∃ y9, y9 = mset σ 0 10 (nI ((pl + 1) % 16)) := ⟨_, rfl⟩
  rw [← eσ_189] at hP
  have hR_190 : Rc σ_188 10 (aH a) := by rw [eσ_189]; exact hM.r.off (by omega)
  refine lv_aload_n hx hb dX0_remember_13 rfl (lv_at hl 0 rfl) ?_
  refine cg_C_past C hP (n10 hn) dX0_remember_14 ?_
  refine lv_aload_n hx hb dX0_remember_17 rfl (lv_at hl 0 rfl) ?_
  refine cg_C_pastLast C hP (n10 hn) dX0_remember_18 ?_
  refine w_eqi (y := nI ((pl + 1) % 16)) (by rw [eσ_189, mset_self]) ?_
  refine c_aald4 C hP (n10 hn) (by omega) dX0_remember_21 ?_
  refine lv_aload_n hx hb dX0_remember_22 rfl (lv_at hl 0 rfl) ?_
  refine cg_C_now C hP (n10 hn) dX0_remember_23 ?_
  refine c_cM [.ref (ad 10)] C hml hl.1 hP hS (c_recvH C hP (isHp hn (by omega))) (mX1_become l D T ad n σ_188 (32 + 11 * ((pl + 1) % 16)) (fun f9 c9 => σ_188 (32 + 11 * ((pl + 1) % 16) + f9) c9) (isHp hn (by omega)) (fun _ _ _ => rfl) 10 (aH a) (isH10 hn) hR_190 hB (by omega)) (lw_V q396 q397 q398 q70 q399) hdX1_become ⟨rfl, rfl⟩ ⟨Nat.le_of_ble_eq_true rfl, Nat.le_of_ble_eq_true rfl⟩ rfl (Nat.le_of_ble_eq_true rfl) dX0_remember_26 ⟨Nat.zero_le _, Nat.zero_le _⟩ (fun v_191 σ_192 H locs hp_193 hP hS => ?_)
  obtain ⟨rfl, hR_194, hF_195⟩ := hp_193
  have hR_196 : Rc σ_192 10 (aH a) := hR_190.kept (fun j9 h1_9 h2_9 => hF_195 j9 (by omega))
  refine lv_aload_n hx hb dX0_remember_29 rfl (lv_at hl 0 rfl) ?_
  refine lv_bipush (v := nI 16) hx hb dX0_remember_30 (by decide) ?_
  refine lv_aload_n hx hb dX0_remember_32 rfl (lv_at hl 0 rfl) ?_
  refine cg_C_pastMany C hP (n10 hn) dX0_remember_33 ?_
  refine w_eqi (y := nI (aKn a)) (by rw [hF_195 0 (by omega)]; exact (by rw [eσ_189, mset_ne (Or.inr (by decide))]; exact (hM.kn))) ?_
  refine lv_iconst (v := nI 1) hx hb dX0_remember_36 (by decide) ?_
  refine w_iaddN hx hb dX0_remember_37 ?_
  refine c_cS [.int (nI 16), .int (nI (aKn a + 1))] C hml hl.1 (mJ2_min l (nI (16)) (nI (aKn a + 1))) (lw_S q530 q367 q79 q368) hdJ2_min.2 ⟨rfl, rfl⟩ ⟨Nat.le_of_ble_eq_true rfl, Nat.le_of_ble_eq_true rfl⟩ rfl (Nat.le_of_ble_eq_true rfl) dX0_remember_38 ⟨Nat.zero_le _, Nat.zero_le _⟩ ?_
  refine w_eqi (min16 (aKn a) k16) ?_
  refine cp_C_pastMany C hP hS (n10 hn) dX0_remember_41 (fun H locs hP hS => ?_)
  obtain ⟨σ_197, eσ_198⟩ : ∃ y9, y9 = mset σ_192 0 11 (nI (if aKn a < 16 then aKn a + 1 else 16)) := ⟨_, rfl⟩
  rw [← eσ_198] at hP
  have hR_199 : Rc σ_197 10 (aH a) := by rw [eσ_198]; exact hR_196.off (by omega)
  have hR_200 : Rc σ_197 (32 + 11 * ((pl + 1) % 16)) (aH a) := by rw [eσ_198]; exact hR_194.off (by omega)
  have hC2 : CSp σ_197 (remS a) ((pl + 1) % 16) := by
    refine hM.rem ?_ ?_ ?_ (fun k h1 h2 => ?_) (fun j h1 h2 => ?_)
    · rw [eσ_198]; exact hR_194.off (by omega)
    · rw [eσ_198, mset_ne (Or.inr (by decide)), hF_195 0 (by omega), eσ_189, mset_self]
    · rw [eσ_198, mset_self]
    · rw [eσ_198, mset_ne (Or.inr h2), hF_195 0 (by omega), eσ_189, mset_ne (Or.inr h1)]
    · rw [eσ_198, mset_oth h1, hF_195 j h2, eσ_189, mset_oth h1]
  exact cM_retV C hlk hr hS hP dX0_remember_44 ⟨rfl, _, hC2⟩

theorem CSp.feed {σ : Nat → Nat → Int32} {a : Ab} {pl x : Nat} (h : CSp σ a pl) (hx : x < 256) (ht : aTn a < 200) : CSp (mset (mset σ 0 7 (nI (aTn a + 1))) 3 (aTn a) (txB x)) (setTx a (aTn a + 1) (fun k => if k = aTn a then x else aTx a k)) pl := by
  have k16 := h.kn16
  have p16 := h.pl16
  refine ⟨⟨(h.r.off (by omega)).off (by omega), by rw [mset_ne (Or.inl (by decide)), mset_ne (Or.inr (by decide))]; exact h.sd⟩, ⟨⟨by rw [mset_ne (Or.inl (by decide)), mset_ne (Or.inr (by decide))]; exact h.kn, h.kn16⟩, ⟨by rw [mset_ne (Or.inl (by decide)), mset_ne (Or.inr (by decide))]; exact h.pp, h.pl16⟩, fun k q => ((h.ps q).off (by omega)).off (by omega)⟩, fun i hi => ⟨by rw [mset_ne (Or.inl (by decide)), mset_ne (Or.inl (by decide))]; exact h.kp hi, fun q => ⟨((h.im hi q).1.off (by omega)).off (by omega), by rw [mset_ne (Or.inl (by decide)), mset_ne (Or.inl (by decide))]; exact (h.im hi q).2⟩⟩, ⟨by rw [mset_ne (Or.inl (by decide)), mset_self], by show aTn a + 1 ≤ 200; omega, fun k q => ?_⟩, by rw [mset_ne (Or.inl (by decide)), mset_ne (Or.inr (by decide))]; exact h.ft, ⟨by rw [mset_ne (Or.inl (by decide)), mset_ne (Or.inr (by decide))]; exact h.bn, h.bn20, fun k q => by rw [mset_ne (Or.inl (by decide)), mset_ne (Or.inl (by decide)), mset_ne (Or.inl (by decide)), mset_ne (Or.inl (by decide))]; exact h.bk q⟩⟩
  have q2 : k < aTn a + 1 := q
  show _ = txB (if k = aTn a then x else aTx a k) ∧ (if k = aTn a then x else aTx a k) < 256
  by_cases e : k = aTn a
  · subst e; rw [mset_self, if_pos rfl]; exact ⟨rfl, hx⟩
  · rw [if_neg e, mset_ne (Or.inr e), mset_ne (Or.inl (by decide))]
    exact h.tx (by omega)
theorem hdX0_feed : yX0_feed.cls = "LiarClocks" ∧ yX0_feed.cls ≠ "java/lang/invoke/MethodHandle" ∧ yX0_feed.cls ≠ "java/lang/invoke/VarHandle" ∧ (parseMethodDescriptor yX0_feed.desc).map (fun d => d.parameters.length) = some 1 := by decide +kernel
set_option maxHeartbeats 4000000 in
/-- feed -/
theorem mX0_feed (l : Launch) (D : va_G) (T : Nat → ClassId) (ad : Nat → Nat) (n : Nat) (σ : Nat → Nat → Int32) (hn : 230 ≤ n ∧ n ≤ 242) (a : Ab) (B : Int) (hM : CS σ a) (hI : AI a B) (hB0 : B ≤ 400000000) (hB1 : 0 ≤ B) (x : Int32) : ∀ sz, Met l yX0_feed (ws_ yX0_feed cX0_feed 2 (some .int)) ({ frames := 1, cells := 0, slots := 0, locals := 25 } : Room) (cPs D T ad n σ [.ref (ad 0), .int x] sz) (cQ D T ad n (fun r σ' => r = some (.int (feedQ a x).1) ∧ CS σ' (feedQ a x).2)) 0 0 (gA n ad sz) := by
  obtain ⟨pl, hM⟩ := hM
  have hB := hI.1.1
  have hA := hI.1.2.2.1
  have h8 := hB.many8
  have h3 := hB.strike3
  have h6 := hB.alarms6
  have k16 := hM.kn16
  have p16 := hM.pl16
  have t200 := hM.tn200
  have b20 := hM.bn20
  refine cM_intro (own := "LiarClocks") [.ref (ad 0), .int x] (by decide) rfl (Nat.le_of_ble_eq_true rfl) ?_
  intro pg en s0 mi below meth cd ls C hr hlk hml hP hS hl
  have hx := C.1
  have hb := C.2.1
  have hown := C.2.2.1
  have hts := C.2.2.2.1
  have hl : lv_has ls 2 [(0, .ref (ad 0)), (1, .int x)] := hl
  refine lv_iload_n hx hb dX0_feed_0 rfl (lv_at hl 1 rfl) ?_
  refine lv_i2l (v := (x).toInt64) hx hb dX0_feed_1 rfl ?_
  refine lv_lconst (v := 0) hx hb dX0_feed_2 (by decide) ?_
  refine lv_ldc2 hx hb hown (hts _ q89) dX0_feed_3 ?_
  refine c_cS [.long ((x).toInt64), .long 0, .long 255] C hml hl.1 (mX0_isIn l ((x).toInt64) 0 255) (lw_S q90 q91 q69 q92) hdX0_isIn.2 ⟨rfl, rfl⟩ ⟨Nat.le_of_ble_eq_true rfl, Nat.le_of_ble_eq_true rfl⟩ rfl (Nat.le_of_ble_eq_true rfl) dX0_feed_6 ⟨Nat.zero_le _, Nat.zero_le _⟩ ?_
  refine lv_if_ne (tgt := 15) hx hb dX0_feed_9 (by decide) (fun c_201 => ?_) (fun c_201 => ?_)
  · have hin : inB x 0 255 = true := (inL (x := x) (lo := 0) (hi := 255) (l := 0) (u := 255) (by decide) (by decide)) ▸ bI_ne0.mp c_201
    obtain ⟨k, k_1, k_2, ek⟩ := inB_nat (lo := 0) (hi := 255) hin
    subst ek
    have clk : (nI k).toNatClampNeg = k := nI_clamp (by omega)
    refine lv_aload_n hx hb dX0_feed_15 rfl (lv_at hl 0 rfl) ?_
    refine cg_C_texted C hP (n10 hn) dX0_feed_16 ?_
    refine w_eqi (y := nI (aTn a)) (hM.tn) ?_
    refine lv_sipush (v := nI 200) hx hb dX0_feed_19 (by decide) ?_
    refine w_icmpN_ne (tgt := 28) hx hb dX0_feed_22 (by decide) (by omega) (by omega) (fun c_202 => ?_) (fun c_202 => ?_)
    · refine lv_aload_n hx hb dX0_feed_28 rfl (lv_at hl 0 rfl) ?_
      refine cg_C_text C hP (n10 hn) dX0_feed_29 ?_
      refine lv_aload_n hx hb dX0_feed_32 rfl (lv_at hl 0 rfl) ?_
      refine lv_dup hx hb dX0_feed_33 rfl ?_
      refine cg_C_texted C hP (n10 hn) dX0_feed_34 ?_
      refine w_eqi (y := nI (aTn a)) (hM.tn) ?_
      refine lv_dup_x1 hx hb dX0_feed_37 rfl rfl ?_
      refine lv_iconst (v := nI 1) hx hb dX0_feed_38 (by decide) ?_
      refine w_iaddN hx hb dX0_feed_39 ?_
      refine cp_C_texted C hP hS (n10 hn) dX0_feed_40 (fun H locs hP hS => ?_)
      obtain ⟨σ_203, eσ_204⟩ : ∃ y9, y9 = mset σ 0 7 (nI (aTn a + 1)) := ⟨_, rfl⟩
      rw [← eσ_204] at hP
      have hR_205 : Rc σ_203 10 (aH a) := by rw [eσ_204]; exact hM.r.off (by omega)
      refine lv_iload_n hx hb dX0_feed_43 rfl (lv_at hl 1 rfl) ?_
      refine lv_i2b (v := (nI (k)).toInt8.toInt32) hx hb dX0_feed_44 rfl ?_
      refine c_bast C hP hS (ar3 (n10 hn)) (by omega) dX0_feed_45 (fun H locs hP hS => ?_)
      obtain ⟨σ_206, eσ_207⟩ : ∃ y9, y9 = mset σ_203 3 (aTn a) (vp_nar .byte ((nI (k)).toInt8.toInt32)) := ⟨_, rfl⟩
      rw [← eσ_207] at hP
      have hR_208 : Rc σ_206 10 (aH a) := by rw [eσ_207]; exact hR_205.off (by omega)
      have hM2 : CSp σ_206 (setTx a (aTn a + 1) (fun i => if i = aTn a then k else aTx a i)) pl := by rw [eσ_207, eσ_204]; exact hM.feed (by omega) (by omega)
      refine lv_aload_n hx hb dX0_feed_46 rfl (lv_at hl 0 rfl) ?_
      refine cg_C_texted C hP (n10 hn) dX0_feed_47 ?_
      refine w_eqi (y := nI (aTn a + 1)) (by rw [eσ_207, mset_ne (Or.inl (by omega))]; exact (by rw [eσ_204, mset_self])) ?_
      exact cM_retI C hlk hr hS hP dX0_feed_50 ⟨by unfold feedQ; rw [if_pos hin, if_neg c_202], by unfold feedQ; rw [if_pos hin, if_neg c_202, clk]; exact ⟨_, hM2⟩⟩
    · refine lv_ldc hx hb hown (hts _ q94) dX0_feed_25 ?_
      exact cM_retI C hlk hr hS hP dX0_feed_27 ⟨by unfold feedQ; rw [if_pos hin, if_pos c_202]; first | done | rfl, by unfold feedQ; rw [if_pos hin, if_pos c_202]; exact ⟨_, hM⟩⟩
  · have hin : ¬ inB x 0 255 = true := by rw [← (inL (x := x) (lo := 0) (hi := 255) (l := 0) (u := 255) (by decide) (by decide)), bI_eq0.mp c_201]; decide
    refine lv_ldc hx hb hown (hts _ q93) dX0_feed_12 ?_
    exact cM_retI C hlk hr hS hP dX0_feed_14 ⟨by unfold feedQ; rw [if_neg hin]; first | done | rfl, by unfold feedQ; rw [if_neg hin]; exact ⟨_, hM⟩⟩

theorem hdX0_fault : yX0_fault.cls = "LiarClocks" ∧ yX0_fault.cls ≠ "java/lang/invoke/MethodHandle" ∧ yX0_fault.cls ≠ "java/lang/invoke/VarHandle" ∧ (parseMethodDescriptor yX0_fault.desc).map (fun d => d.parameters.length) = some 0 := by decide +kernel
set_option maxHeartbeats 4000000 in
/-- fault -/
theorem mX0_fault (l : Launch) (D : va_G) (T : Nat → ClassId) (ad : Nat → Nat) (n : Nat) (σ : Nat → Nat → Int32) (hn : 230 ≤ n ∧ n ≤ 242) (a : Ab) (B : Int) (hM : CS σ a) (hI : AI a B) (hB0 : B ≤ 400000000) (hB1 : 0 ≤ B)  : ∀ sz, Met l yX0_fault (ws_ yX0_fault cX0_fault 1 (some .int)) ({ frames := 0, cells := 0, slots := 0, locals := 0 } : Room) (cPs D T ad n σ [.ref (ad 0)] sz) (cQ D T ad n (fun r σ' => r = some (.int (aFt a)) ∧ CS σ' a)) 0 0 (gA n ad sz) := by
  obtain ⟨pl, hM⟩ := hM
  have hB := hI.1.1
  have hA := hI.1.2.2.1
  have h8 := hB.many8
  have h3 := hB.strike3
  have h6 := hB.alarms6
  have k16 := hM.kn16
  have p16 := hM.pl16
  have t200 := hM.tn200
  have b20 := hM.bn20
  refine cM_intro (own := "LiarClocks") [.ref (ad 0)] (by decide) rfl (Nat.le_of_ble_eq_true rfl) ?_
  intro pg en s0 mi below meth cd ls C hr hlk hml hP hS hl
  have hx := C.1
  have hb := C.2.1
  have hown := C.2.2.1
  have hts := C.2.2.2.1
  have hl : lv_has ls 1 [(0, .ref (ad 0))] := hl
  refine lv_aload_n hx hb dX0_fault_0 rfl (lv_at hl 0 rfl) ?_
  refine cg_C_faultPlace C hP (n10 hn) dX0_fault_1 ?_
  refine w_eqi (y := aFt a) (hM.ft) ?_
  exact cM_retI C hlk hr hS hP dX0_fault_4 ⟨rfl, _, hM⟩

theorem CSp.write {σ : Nat → Nat → Int32} {a : Ab} {pl : Nat} {c v : Int32} (h : CSp σ a pl) (hb : aBn a < 20) : CSp (mset (mset (mset σ 5 (aBn a) c) 6 (aBn a) v) 0 13 (nI (aBn a + 1))) (setBk a (aBn a + 1) (upd (aBo a) (aBn a) c) (upd (aBa a) (aBn a) v)) pl := by
  have k16 := h.kn16
  have p16 := h.pl16
  have e : ∀ j k, j ≠ 5 → j ≠ 6 → (j ≠ 0 ∨ k ≠ 13) → mset (mset (mset σ 5 (aBn a) c) 6 (aBn a) v) 0 13 (nI (aBn a + 1)) j k = σ j k := fun j k h5 h6 h0 => by
    rw [mset_ne (by omega), mset_oth h6, mset_oth h5]
  have er : ∀ j, j ≠ 5 → j ≠ 6 → j ≠ 0 → mset (mset (mset σ 5 (aBn a) c) 6 (aBn a) v) 0 13 (nI (aBn a + 1)) j = σ j := fun j h5 h6 h0 => by rw [mset_oth h0, mset_oth h6, mset_oth h5]
  refine ⟨⟨h.r.kept (fun j _ _ => er j (by omega) (by omega) (by omega)), by rw [e _ _ (by decide) (by decide) (by decide)]; exact h.sd⟩, ⟨⟨by rw [e _ _ (by decide) (by decide) (by decide)]; exact h.kn, h.kn16⟩, ⟨by rw [e _ _ (by decide) (by decide) (by decide)]; exact h.pp, h.pl16⟩, fun k q => (h.ps q).kept (fun j _ _ => er j (by omega) (by omega) (by omega))⟩, fun i hi => ⟨by rw [er 9 (by decide) (by decide) (by decide)]; exact h.kp hi, fun q => ⟨(h.im hi q).1.kept (fun j _ _ => er j (by omega) (by omega) (by omega)), by rw [er 8 (by decide) (by decide) (by decide)]; exact (h.im hi q).2⟩⟩, ⟨by rw [e _ _ (by decide) (by decide) (by decide)]; exact h.tn, h.tn200, fun k q => by rw [er 3 (by decide) (by decide) (by decide)]; exact h.tx q⟩, by rw [e _ _ (by decide) (by decide) (by decide)]; exact h.ft, ⟨mset_self, by show aBn a + 1 ≤ 20; omega, fun k q => ?_⟩⟩
  have q2 : k < aBn a + 1 := q
  show _ = upd (aBo a) (aBn a) c k ∧ _ = upd (aBa a) (aBn a) v k
  by_cases z : k = aBn a
  · subst z
    rw [mset_ne (Or.inl (by decide)), mset_ne (Or.inl (by decide)), mset_self, mset_ne (Or.inl (by decide)), mset_self, pk_us, pk_us]
    exact ⟨rfl, rfl⟩
  · rw [mset_ne (Or.inl (by decide)), mset_ne (Or.inl (by decide)), mset_ne (Or.inr z), mset_ne (Or.inl (by decide)), mset_ne (Or.inr z), mset_ne (Or.inl (by decide)), pk_un z, pk_un z]
    exact h.bk (by omega)
theorem hdX0_write : yX0_write.cls = "LiarClocks" ∧ yX0_write.cls ≠ "java/lang/invoke/MethodHandle" ∧ yX0_write.cls ≠ "java/lang/invoke/VarHandle" ∧ (parseMethodDescriptor yX0_write.desc).map (fun d => d.parameters.length) = some 2 := by decide +kernel
set_option maxHeartbeats 4000000 in
/-- write -/
theorem mX0_write (l : Launch) (D : va_G) (T : Nat → ClassId) (ad : Nat → Nat) (n : Nat) (σ : Nat → Nat → Int32) (hn : 230 ≤ n ∧ n ≤ 242) (a : Ab) (B : Int) (hM : CS σ a) (hI : AI a B) (hB0 : B ≤ 400000000) (hB1 : 0 ≤ B) (c v : Int32) : ∀ sz, Met l yX0_write (ws_ yX0_write cX0_write 3 (some .int)) ({ frames := 2, cells := 0, slots := 0, locals := 46 } : Room) (cPs D T ad n σ [.ref (ad 0), .int c, .int v] sz) (cQ D T ad n (fun r σ' => r = some (.int (writeQ a c v).1) ∧ CS σ' (writeQ a c v).2)) 0 0 (gA n ad sz) := by
  obtain ⟨pl, hM⟩ := hM
  have hB := hI.1.1
  have hA := hI.1.2.2.1
  have h8 := hB.many8
  have h3 := hB.strike3
  have h6 := hB.alarms6
  have k16 := hM.kn16
  have p16 := hM.pl16
  have t200 := hM.tn200
  have b20 := hM.bn20
  refine cM_intro (own := "LiarClocks") [.ref (ad 0), .int c, .int v] (by decide) rfl (Nat.le_of_ble_eq_true rfl) ?_
  intro pg en s0 mi below meth cd ls C hr hlk hml hP hS hl
  have hx := C.1
  have hb := C.2.1
  have hown := C.2.2.1
  have hts := C.2.2.2.1
  have hl : lv_has ls 3 [(0, .ref (ad 0)), (1, .int c), (2, .int v)] := hl
  refine lv_aload_n hx hb dX0_write_0 rfl (lv_at hl 0 rfl) ?_
  refine lv_iload_n hx hb dX0_write_1 rfl (lv_at hl 1 rfl) ?_
  refine c_cR [.int c] C hml hl.1 hP (c_recvC C hP (n10 hn)) (mX0_isClock l D T ad n σ hn (aH a) hM.r hB c) (lw_V q539 q541 qs20 q69 q542) hdX0_isClock ⟨rfl, rfl⟩ ⟨Nat.le_of_ble_eq_true rfl, Nat.le_of_ble_eq_true rfl⟩ rfl (Nat.le_of_ble_eq_true rfl) dX0_write_2 ⟨Nat.zero_le _, Nat.zero_le _⟩ ?_
  refine lv_if_ne (tgt := 11) hx hb dX0_write_5 (by decide) (fun c_209 => ?_) (fun c_209 => ?_)
  · have hic : isC (aH a) c = true := bI_ne0.mp c_209
    obtain ⟨k, hk, ek⟩ := isC_spec hic
    subst ek
    have clk : (nI k).toNatClampNeg = k := nI_clamp (by omega)
    refine lv_aload_n hx hb dX0_write_11 rfl (lv_at hl 0 rfl) ?_
    refine cg_C_booked C hP (n10 hn) dX0_write_12 ?_
    refine w_eqi (y := nI (aBn a)) (hM.bn) ?_
    refine lv_bipush (v := nI 20) hx hb dX0_write_15 (by decide) ?_
    refine w_icmpN_ne (tgt := 23) hx hb dX0_write_17 (by decide) (by omega) (by omega) (fun c_210 => ?_) (fun c_210 => ?_)
    · refine lv_aload_n hx hb dX0_write_23 rfl (lv_at hl 0 rfl) ?_
      refine cg_C_bookOf C hP (n10 hn) dX0_write_24 ?_
      refine lv_aload_n hx hb dX0_write_27 rfl (lv_at hl 0 rfl) ?_
      refine cg_C_booked C hP (n10 hn) dX0_write_28 ?_
      refine w_eqi (y := nI (aBn a)) (hM.bn) ?_
      refine lv_iload_n hx hb dX0_write_31 rfl (lv_at hl 1 rfl) ?_
      refine c_iast C hP hS (ar5 (n10 hn)) (by omega) dX0_write_32 (fun H locs hP hS => ?_)
      obtain ⟨σ_211, eσ_212⟩ : ∃ y9, y9 = mset σ 5 (aBn a) (nI (k)) := ⟨_, rfl⟩
      rw [← eσ_212] at hP
      have hR_213 : Rc σ_211 10 (aH a) := by rw [eσ_212]; exact hM.r.off (by omega)
      refine lv_aload_n hx hb dX0_write_33 rfl (lv_at hl 0 rfl) ?_
      refine cg_C_bookIs C hP (n10 hn) dX0_write_34 ?_
      refine lv_aload_n hx hb dX0_write_37 rfl (lv_at hl 0 rfl) ?_
      refine cg_C_booked C hP (n10 hn) dX0_write_38 ?_
      refine w_eqi (y := nI (aBn a)) (by rw [eσ_212, mset_ne (Or.inl (by omega))]; exact (hM.bn)) ?_
      refine lv_iload_n hx hb dX0_write_41 rfl (lv_at hl 2 rfl) ?_
      refine c_iast C hP hS (ar6 (n10 hn)) (by omega) dX0_write_42 (fun H locs hP hS => ?_)
      obtain ⟨σ_214, eσ_215⟩ : ∃ y9, y9 = mset σ_211 6 (aBn a) v := ⟨_, rfl⟩
      rw [← eσ_215] at hP
      have hR_216 : Rc σ_214 10 (aH a) := by rw [eσ_215]; exact hR_213.off (by omega)
      refine lv_aload_n hx hb dX0_write_43 rfl (lv_at hl 0 rfl) ?_
      refine lv_dup hx hb dX0_write_44 rfl ?_
      refine cg_C_booked C hP (n10 hn) dX0_write_45 ?_
      refine w_eqi (y := nI (aBn a)) (by rw [eσ_215, mset_ne (Or.inl (by omega))]; exact (by rw [eσ_212, mset_ne (Or.inl (by omega))]; exact (hM.bn))) ?_
      refine lv_iconst (v := nI 1) hx hb dX0_write_48 (by decide) ?_
      refine w_iaddN hx hb dX0_write_49 ?_
      refine cp_C_booked C hP hS (n10 hn) dX0_write_50 (fun H locs hP hS => ?_)
      obtain ⟨σ_217, eσ_218⟩ : ∃ y9, y9 = mset σ_214 0 13 (nI (aBn a + 1)) := ⟨_, rfl⟩
      rw [← eσ_218] at hP
      have hR_219 : Rc σ_217 10 (aH a) := by rw [eσ_218]; exact hR_216.off (by omega)
      have hM2 := hM.write (c := nI k) (v := v) (by omega)
      rw [← eσ_212, ← eσ_215, ← eσ_218] at hM2
      refine lv_aload_n hx hb dX0_write_53 rfl (lv_at hl 0 rfl) ?_
      refine cg_C_booked C hP (n10 hn) dX0_write_54 ?_
      refine w_eqi (y := nI (aBn a + 1)) (by rw [eσ_218, mset_self]) ?_
      exact cM_retI C hlk hr hS hP dX0_write_57 ⟨by unfold writeQ; rw [if_pos hic, if_neg c_210], by unfold writeQ; rw [if_pos hic, if_neg c_210]; exact ⟨_, hM2⟩⟩
    · refine lv_ldc hx hb hown (hts _ q94) dX0_write_20 ?_
      exact cM_retI C hlk hr hS hP dX0_write_22 ⟨by unfold writeQ; rw [if_pos hic, if_pos c_210]; first | done | rfl, by unfold writeQ; rw [if_pos hic, if_pos c_210]; exact ⟨_, hM⟩⟩
  · have hic : ¬ isC (aH a) c = true := by rw [bI_eq0.mp c_209]; decide
    refine lv_ldc hx hb hown (hts _ q548) dX0_write_8 ?_
    exact cM_retI C hlk hr hS hP dX0_write_10 ⟨by unfold writeQ; rw [if_neg hic]; first | done | rfl, by unfold writeQ; rw [if_neg hic]; exact ⟨_, hM⟩⟩

theorem CSp.tear {σ : Nat → Nat → Int32} {a : Ab} {pl : Nat} (h : CSp σ a pl) : CSp (mset σ 0 13 (nI 0)) (setBk a 0 (aBo a) (aBa a)) pl := by
  have k16 := h.kn16
  have p16 := h.pl16
  refine ⟨⟨h.r.off (by omega), by rw [mset_ne (by decide)]; exact h.sd⟩, ⟨⟨by rw [mset_ne (by decide)]; exact h.kn, h.kn16⟩, ⟨by rw [mset_ne (by decide)]; exact h.pp, h.pl16⟩, fun k q => (h.ps q).off (by omega)⟩, fun i hi => ⟨by rw [mset_oth (by decide)]; exact h.kp hi, fun q => ⟨(h.im hi q).1.off (by omega), by rw [mset_oth (by decide)]; exact (h.im hi q).2⟩⟩, ⟨by rw [mset_ne (by decide)]; exact h.tn, h.tn200, fun k q => by rw [mset_oth (by decide)]; exact h.tx q⟩, by rw [mset_ne (by decide)]; exact h.ft, ⟨mset_self, Nat.zero_le _, fun k q => absurd q (Nat.not_lt_zero k)⟩⟩
theorem CSp.nopast {σ : Nat → Nat → Int32} {a : Ab} {pl : Nat} (h : CSp σ a pl) : CSp (mset σ 0 11 (nI 0)) (setPs a 0 (aPs a)) pl := by
  refine ⟨⟨h.r.off (by omega), by rw [mset_ne (by decide)]; exact h.sd⟩, ⟨⟨mset_self, Nat.zero_le _⟩, ⟨by rw [mset_ne (by decide)]; exact h.pp, h.pl16⟩, fun k q => absurd q (Nat.not_lt_zero k)⟩, fun i hi => ⟨by rw [mset_oth (by decide)]; exact h.kp hi, fun q => ⟨(h.im hi q).1.off (by omega), by rw [mset_oth (by decide)]; exact (h.im hi q).2⟩⟩, ⟨by rw [mset_ne (by decide)]; exact h.tn, h.tn200, fun k q => by rw [mset_oth (by decide)]; exact h.tx q⟩, by rw [mset_ne (by decide)]; exact h.ft, ⟨by rw [mset_ne (by decide)]; exact h.bn, h.bn20, fun k q => by rw [mset_oth (by decide), mset_oth (by decide)]; exact h.bk q⟩⟩
theorem hdX0_tear : yX0_tear.cls = "LiarClocks" ∧ yX0_tear.cls ≠ "java/lang/invoke/MethodHandle" ∧ yX0_tear.cls ≠ "java/lang/invoke/VarHandle" ∧ (parseMethodDescriptor yX0_tear.desc).map (fun d => d.parameters.length) = some 0 := by decide +kernel
set_option maxHeartbeats 4000000 in
/-- tear -/
theorem mX0_tear (l : Launch) (D : va_G) (T : Nat → ClassId) (ad : Nat → Nat) (n : Nat) (σ : Nat → Nat → Int32) (hn : 230 ≤ n ∧ n ≤ 242) (a : Ab) (B : Int) (hM : CS σ a) (hI : AI a B) (hB0 : B ≤ 400000000) (hB1 : 0 ≤ B)  : ∀ sz, Met l yX0_tear (ws_ yX0_tear cX0_tear 2 (some .int)) ({ frames := 0, cells := 0, slots := 0, locals := 0 } : Room) (cPs D T ad n σ [.ref (ad 0)] sz) (cQ D T ad n (fun r σ' => r = some (.int (tearQ a).1) ∧ CS σ' (tearQ a).2)) 0 0 (gA n ad sz) := by
  obtain ⟨pl, hM⟩ := hM
  have hB := hI.1.1
  have hA := hI.1.2.2.1
  have h8 := hB.many8
  have h3 := hB.strike3
  have h6 := hB.alarms6
  have k16 := hM.kn16
  have p16 := hM.pl16
  have t200 := hM.tn200
  have b20 := hM.bn20
  refine cM_intro (own := "LiarClocks") [.ref (ad 0)] (by decide) rfl (Nat.le_of_ble_eq_true rfl) ?_
  intro pg en s0 mi below meth cd ls C hr hlk hml hP hS hl
  have hx := C.1
  have hb := C.2.1
  have hown := C.2.2.1
  have hts := C.2.2.2.1
  have hl : lv_has ls 2 [(0, .ref (ad 0))] := hl
  refine lv_aload_n hx hb dX0_tear_0 rfl (lv_at hl 0 rfl) ?_
  refine cg_C_booked C hP (n10 hn) dX0_tear_1 ?_
  refine w_eqi (y := nI (aBn a)) (hM.bn) ?_
  refine lv_istore_n (lv' := [(1, .int (nI (aBn a))), (0, .ref (ad 0))]) hx hb dX0_tear_4 rfl hl (by decide) rfl (fun ls hl => ?_)
  refine lv_aload_n hx hb dX0_tear_5 rfl (lv_at hl 1 rfl) ?_
  refine lv_iconst (v := nI 0) hx hb dX0_tear_6 (by decide) ?_
  refine cp_C_booked C hP hS (n10 hn) dX0_tear_7 (fun H locs hP hS => ?_)
  obtain ⟨σ_220, eσ_221⟩ : ∃ y9, y9 = mset σ 0 13 (nI (0)) := ⟨_, rfl⟩
  rw [← eσ_221] at hP
  have hR_222 : Rc σ_220 10 (aH a) := by rw [eσ_221]; exact hM.r.off (by omega)
  have hM2 := hM.tear
  rw [← eσ_221] at hM2
  refine lv_iload_n hx hb dX0_tear_10 rfl (lv_at hl 0 rfl) ?_
  exact cM_retI C hlk hr hS hP dX0_tear_11 ⟨rfl, _, hM2⟩

theorem hdX0_seed : yX0_seed.cls = "LiarClocks" ∧ yX0_seed.cls ≠ "java/lang/invoke/MethodHandle" ∧ yX0_seed.cls ≠ "java/lang/invoke/VarHandle" ∧ (parseMethodDescriptor yX0_seed.desc).map (fun d => d.parameters.length) = some 1 := by decide +kernel
set_option maxHeartbeats 4000000 in
/-- seed -/
theorem mX0_seed (l : Launch) (D : va_G) (T : Nat → ClassId) (ad : Nat → Nat) (n : Nat) (σ : Nat → Nat → Int32) (hn : 230 ≤ n ∧ n ≤ 242) (a : Ab) (B : Int) (hM : CS σ a) (hI : AI a B) (hB0 : B ≤ 400000000) (hB1 : 0 ≤ B) (v : Int32) : ∀ sz, Met l yX0_seed (ws_ yX0_seed cX0_seed 3 (some .int)) ({ frames := 0, cells := 0, slots := 0, locals := 0 } : Room) (cPs D T ad n σ [.ref (ad 0), .int v] sz) (cQ D T ad n (fun r σ' => r = some (.int (seedQ a v).1) ∧ CS σ' (seedQ a v).2)) 0 0 (gA n ad sz) := by
  obtain ⟨pl, hM⟩ := hM
  have hB := hI.1.1
  have hA := hI.1.2.2.1
  have h8 := hB.many8
  have h3 := hB.strike3
  have h6 := hB.alarms6
  have k16 := hM.kn16
  have p16 := hM.pl16
  have t200 := hM.tn200
  have b20 := hM.bn20
  refine cM_intro (own := "LiarClocks") [.ref (ad 0), .int v] (by decide) rfl (Nat.le_of_ble_eq_true rfl) ?_
  intro pg en s0 mi below meth cd ls C hr hlk hml hP hS hl
  have hx := C.1
  have hb := C.2.1
  have hown := C.2.2.1
  have hts := C.2.2.2.1
  have hl : lv_has ls 3 [(0, .ref (ad 0)), (1, .int v)] := hl
  refine lv_iload_n hx hb dX0_seed_0 rfl (lv_at hl 1 rfl) ?_
  refine lv_if_ge (tgt := 7) hx hb dX0_seed_1 (by decide) (fun c_223 => ?_) (fun c_223 => ?_)
  · refine lv_aload_n hx hb dX0_seed_7 rfl (lv_at hl 0 rfl) ?_
    refine cg_C_seed C hP (n10 hn) dX0_seed_8 ?_
    refine w_eqi (y := aSd a) (hM.sd) ?_
    refine lv_istore_n (lv' := [(2, .int (aSd a)), (0, .ref (ad 0)), (1, .int v)]) hx hb dX0_seed_11 rfl hl (by decide) rfl (fun ls hl => ?_)
    refine lv_aload_n hx hb dX0_seed_12 rfl (lv_at hl 1 rfl) ?_
    refine lv_iload_n hx hb dX0_seed_13 rfl (lv_at hl 2 rfl) ?_
    refine cp_C_seed C hP hS (n10 hn) dX0_seed_14 (fun H locs hP hS => ?_)
    obtain ⟨σ_224, eσ_225⟩ : ∃ y9, y9 = mset σ 0 2 v := ⟨_, rfl⟩
    rw [← eσ_225] at hP
    have hR_226 : Rc σ_224 10 (aH a) := by rw [eσ_225]; exact hM.r.off (by omega)
    have hM_227 : CSp σ_224 (setSd a v) pl := by rw [eσ_225]; exact hM.setsd _
    refine lv_iload_n hx hb dX0_seed_17 rfl (lv_at hl 0 rfl) ?_
    exact cM_retI C hlk hr hS hP dX0_seed_18 ⟨by unfold seedQ; rw [if_neg (Int32.not_lt.mpr c_223)]; first | done | rfl, by unfold seedQ; rw [if_neg (Int32.not_lt.mpr c_223)]; exact ⟨_, hM_227⟩⟩
  · refine lv_ldc hx hb hown (hts _ q93) dX0_seed_4 ?_
    exact cM_retI C hlk hr hS hP dX0_seed_6 ⟨by unfold seedQ; rw [if_pos (Int32.not_le.mp c_223)]; first | done | rfl, by unfold seedQ; rw [if_pos (Int32.not_le.mp c_223)]; exact ⟨_, hM⟩⟩

theorem hdX0_lie : yX0_lie.cls = "LiarClocks" ∧ yX0_lie.cls ≠ "java/lang/invoke/MethodHandle" ∧ yX0_lie.cls ≠ "java/lang/invoke/VarHandle" ∧ (parseMethodDescriptor yX0_lie.desc).map (fun d => d.parameters.length) = some 3 := by decide +kernel
set_option maxHeartbeats 4000000 in
/-- X0_lie -/
theorem mX0_lie (l : Launch) (D : va_G) (T : Nat → ClassId) (ad : Nat → Nat) (n : Nat) (σ : Nat → Nat → Int32) (hn : 230 ≤ n ∧ n ≤ 242) (a : Ab) (B : Int) (hM : CS σ a) (hI : AI a B) (hB0 : B ≤ 400000000) (hB1 : 0 ≤ B) (j i v : Int32) : ∀ sz, Met l yX0_lie (ws_ yX0_lie cX0_lie 5 (some .int)) ({ frames := 3, cells := 0, slots := 0, locals := 71 } : Room) (cPs D T ad n σ [.ref (ad 0), .int j, .int i, .int v] sz) (cQ D T ad n (fun r σ' => r = some (.int (lieQ a j i v).1) ∧ CS σ' (lieQ a j i v).2)) 0 0 (gA n ad sz) := by
  obtain ⟨pl, hM⟩ := hM
  have hB := hI.1.1
  have hA := hI.1.2.2.1
  have h8 := hB.many8
  have h3 := hB.strike3
  have h6 := hB.alarms6
  have k16 := hM.kn16
  have p16 := hM.pl16
  have t200 := hM.tn200
  have b20 := hM.bn20
  refine cM_intro (own := "LiarClocks") [.ref (ad 0), .int j, .int i, .int v] (by decide) rfl (Nat.le_of_ble_eq_true rfl) ?_
  intro pg en s0 mi below meth cd ls C hr hlk hml hP hS hl
  have hx := C.1
  have hb := C.2.1
  have hown := C.2.2.1
  have hts := C.2.2.2.1
  have hl : lv_has ls 5 [(0, .ref (ad 0)), (1, .int j), (2, .int i), (3, .int v)] := hl
  refine lv_aload_n hx hb dX0_lie_0 rfl (lv_at hl 0 rfl) ?_
  refine lv_iload_n hx hb dX0_lie_1 rfl (lv_at hl 1 rfl) ?_
  refine lv_iload_n hx hb dX0_lie_2 rfl (lv_at hl 2 rfl) ?_
  refine c_cR [.int j, .int i] C hml hl.1 hP (c_recvC C hP (n10 hn)) (mX0_arePair l D T ad n σ hn (aH a) hM.r hB j i) (lw_V q563 q565 qs23 q69 q566) hdX0_arePair ⟨rfl, rfl⟩ ⟨Nat.le_of_ble_eq_true rfl, Nat.le_of_ble_eq_true rfl⟩ rfl (Nat.le_of_ble_eq_true rfl) dX0_lie_3 ⟨Nat.zero_le _, Nat.zero_le _⟩ ?_
  refine lv_if_ne (tgt := 12) hx hb dX0_lie_6 (by decide) (fun c_228 => ?_) (fun c_228 => ?_)
  · have hpr : pairB (aH a) j i = true := bI_ne0.mp c_228
    have hpq := hpr
    unfold pairB at hpq
    simp only [Bool.and_eq_true, decide_eq_true_eq] at hpq
    obtain ⟨jn, hjn, ejn⟩ := isC_spec hpq.1
    obtain ⟨im, him, eim⟩ := isC_spec hpq.2.1
    clear hpq
    subst ejn
    subst eim
    have clj : (nI jn).toNatClampNeg = jn := nI_clamp (by omega)
    have cli : (nI im).toNatClampNeg = im := nI_clamp (by omega)
    refine lv_iload_n hx hb dX0_lie_12 rfl (lv_at hl 3 rfl) ?_
    refine lv_i2l (v := (v).toInt64) hx hb dX0_lie_13 rfl ?_
    refine lv_ldc2 hx hb hown (hts _ q696) dX0_lie_14 ?_
    refine lv_ldc2 hx hb hown (hts _ q697) dX0_lie_17 ?_
    refine c_cS [.long ((v).toInt64), .long ((-9999)), .long 9999] C hml hl.1 (mX0_isIn l ((v).toInt64) (-9999) 9999) (lw_S q90 q91 q69 q92) hdX0_isIn.2 ⟨rfl, rfl⟩ ⟨Nat.le_of_ble_eq_true rfl, Nat.le_of_ble_eq_true rfl⟩ rfl (Nat.le_of_ble_eq_true rfl) dX0_lie_20 ⟨Nat.zero_le _, Nat.zero_le _⟩ ?_
    refine lv_if_ne (tgt := 29) hx hb dX0_lie_23 (by decide) (fun c_229 => ?_) (fun c_229 => ?_)
    · have hin : inB v (-9999) 9999 = true := (inL (x := v) (lo := (-9999)) (hi := 9999) (l := (-9999)) (u := 9999) (by decide) (by decide)) ▸ bI_ne0.mp c_229
      refine lv_aload_n hx hb dX0_lie_29 rfl (lv_at hl 0 rfl) ?_
      refine c_cM [] C hml hl.1 hP hS (c_recvC C hP (n10 hn)) (mX0_remember l D T ad n σ hn a ⟨_, hM⟩ hB) (lw_V q659 q661 qs27 q69 q662) hdX0_remember ⟨rfl, rfl⟩ ⟨Nat.le_of_ble_eq_true rfl, Nat.le_of_ble_eq_true rfl⟩ rfl (Nat.le_of_ble_eq_true rfl) dX0_lie_30 ⟨Nat.zero_le _, Nat.zero_le _⟩ (fun v_230 σ_231 H locs hp_232 hP hS => ?_)
      obtain ⟨rfl, pl_234, hM_233⟩ := hp_232
      have hR_235 : Rc σ_231 10 (aH a) := hM_233.r
      refine lv_aload_n hx hb dX0_lie_33 rfl (lv_at hl 0 rfl) ?_
      refine cg_C_now C hP (n10 hn) dX0_lie_34 ?_
      refine cg_H_lie C hP (isH10 hn) dX0_lie_37 ?_
      refine lv_bipush (v := nI 8) hx hb dX0_lie_40 (by decide) ?_
      refine lv_iload_n hx hb dX0_lie_42 rfl (lv_at hl 1 rfl) ?_
      refine w_imulN hx hb dX0_lie_43 ?_
      refine lv_iload_n hx hb dX0_lie_44 rfl (lv_at hl 2 rfl) ?_
      refine w_iaddN hx hb dX0_lie_45 ?_
      refine c_iald C hP (arH6 (isH10 hn)) (by omega) dX0_lie_46 ?_
      refine w_eqi (rcA hR_235 6 (8 * jn + im) (by unfold vd; omega)) ?_
      refine lv_istore (lv' := [(4, .int ((aH a) 6 (8 * jn + im))), (0, .ref (ad 0)), (1, .int (nI jn)), (2, .int (nI im)), (3, .int v)]) hx hb dX0_lie_47 hl (by decide) rfl (fun ls hl => ?_)
      refine lv_aload_n hx hb dX0_lie_49 rfl (lv_at hl 1 rfl) ?_
      refine cg_C_now C hP (n10 hn) dX0_lie_50 ?_
      refine cg_H_lie C hP (isH10 hn) dX0_lie_53 ?_
      refine lv_bipush (v := nI 8) hx hb dX0_lie_56 (by decide) ?_
      refine lv_iload_n hx hb dX0_lie_58 rfl (lv_at hl 2 rfl) ?_
      refine w_imulN hx hb dX0_lie_59 ?_
      refine lv_iload_n hx hb dX0_lie_60 rfl (lv_at hl 3 rfl) ?_
      refine w_iaddN hx hb dX0_lie_61 ?_
      refine lv_iload_n hx hb dX0_lie_62 rfl (lv_at hl 4 rfl) ?_
      refine c_iast C hP hS (arH6 (isH10 hn)) (by omega) dX0_lie_63 (fun H locs hP hS => ?_)
      obtain ⟨σ_236, eσ_237⟩ : ∃ y9, y9 = mset σ_231 (10 + 6) (8 * jn + im) v := ⟨_, rfl⟩
      rw [← eσ_237] at hP
      have hR_238 : Rc σ_236 10 (mset (aH a) 6 (8 * jn + im) v) := by rw [eσ_237]; exact hR_235.up 6 (8 * jn + im) v
      have hM_239 : CSp σ_236 (setH (remS a) (mset (aH (remS a)) 6 (8 * jn + im) v)) pl_234 := by rw [eσ_237]; exact hM_233.setrow 6 _ _ (by decide)
      refine lv_iload hx hb dX0_lie_64 (lv_at hl 0 rfl) ?_
      refine lv_sipush (v := nI 9999) hx hb dX0_lie_66 (by decide) ?_
      refine lv_iadd hx hb dX0_lie_69 ?_
      exact cM_retI C hlk hr hS hP dX0_lie_70 ⟨by unfold lieQ; rw [if_pos hpr, if_pos hin, clj, cli]; first | done | rfl, by unfold lieQ; rw [if_pos hpr, if_pos hin, clj, cli]; exact ⟨_, hM_239⟩⟩
    · have hin : ¬ inB v (-9999) 9999 = true := by rw [← (inL (x := v) (lo := (-9999)) (hi := 9999) (l := (-9999)) (u := 9999) (by decide) (by decide)), bI_eq0.mp c_229]; decide
      refine lv_ldc hx hb hown (hts _ q93) dX0_lie_26 ?_
      exact cM_retI C hlk hr hS hP dX0_lie_28 ⟨by unfold lieQ; rw [if_pos hpr, if_neg hin]; first | done | rfl, by unfold lieQ; rw [if_pos hpr, if_neg hin]; exact ⟨_, hM⟩⟩
  · have hpr : ¬ pairB (aH a) j i = true := by rw [bI_eq0.mp c_228]; decide
    refine lv_ldc hx hb hown (hts _ q548) dX0_lie_9 ?_
    exact cM_retI C hlk hr hS hP dX0_lie_11 ⟨by unfold lieQ; rw [if_neg hpr]; first | done | rfl, by unfold lieQ; rw [if_neg hpr]; exact ⟨_, hM⟩⟩

theorem hdX0_error : yX0_error.cls = "LiarClocks" ∧ yX0_error.cls ≠ "java/lang/invoke/MethodHandle" ∧ yX0_error.cls ≠ "java/lang/invoke/VarHandle" ∧ (parseMethodDescriptor yX0_error.desc).map (fun d => d.parameters.length) = some 3 := by decide +kernel
set_option maxHeartbeats 4000000 in
/-- X0_error -/
theorem mX0_error (l : Launch) (D : va_G) (T : Nat → ClassId) (ad : Nat → Nat) (n : Nat) (σ : Nat → Nat → Int32) (hn : 230 ≤ n ∧ n ≤ 242) (a : Ab) (B : Int) (hM : CS σ a) (hI : AI a B) (hB0 : B ≤ 400000000) (hB1 : 0 ≤ B) (j i v : Int32) : ∀ sz, Met l yX0_error (ws_ yX0_error cX0_error 5 (some .int)) ({ frames := 3, cells := 0, slots := 0, locals := 71 } : Room) (cPs D T ad n σ [.ref (ad 0), .int j, .int i, .int v] sz) (cQ D T ad n (fun r σ' => r = some (.int (errorQ a j i v).1) ∧ CS σ' (errorQ a j i v).2)) 0 0 (gA n ad sz) := by
  obtain ⟨pl, hM⟩ := hM
  have hB := hI.1.1
  have hA := hI.1.2.2.1
  have h8 := hB.many8
  have h3 := hB.strike3
  have h6 := hB.alarms6
  have k16 := hM.kn16
  have p16 := hM.pl16
  have t200 := hM.tn200
  have b20 := hM.bn20
  refine cM_intro (own := "LiarClocks") [.ref (ad 0), .int j, .int i, .int v] (by decide) rfl (Nat.le_of_ble_eq_true rfl) ?_
  intro pg en s0 mi below meth cd ls C hr hlk hml hP hS hl
  have hx := C.1
  have hb := C.2.1
  have hown := C.2.2.1
  have hts := C.2.2.2.1
  have hl : lv_has ls 5 [(0, .ref (ad 0)), (1, .int j), (2, .int i), (3, .int v)] := hl
  refine lv_aload_n hx hb dX0_error_0 rfl (lv_at hl 0 rfl) ?_
  refine lv_iload_n hx hb dX0_error_1 rfl (lv_at hl 1 rfl) ?_
  refine lv_iload_n hx hb dX0_error_2 rfl (lv_at hl 2 rfl) ?_
  refine c_cR [.int j, .int i] C hml hl.1 hP (c_recvC C hP (n10 hn)) (mX0_arePair l D T ad n σ hn (aH a) hM.r hB j i) (lw_V q563 q565 qs23 q69 q566) hdX0_arePair ⟨rfl, rfl⟩ ⟨Nat.le_of_ble_eq_true rfl, Nat.le_of_ble_eq_true rfl⟩ rfl (Nat.le_of_ble_eq_true rfl) dX0_error_3 ⟨Nat.zero_le _, Nat.zero_le _⟩ ?_
  refine lv_if_ne (tgt := 12) hx hb dX0_error_6 (by decide) (fun c_240 => ?_) (fun c_240 => ?_)
  · have hpr : pairB (aH a) j i = true := bI_ne0.mp c_240
    have hpq := hpr
    unfold pairB at hpq
    simp only [Bool.and_eq_true, decide_eq_true_eq] at hpq
    obtain ⟨jn, hjn, ejn⟩ := isC_spec hpq.1
    obtain ⟨im, him, eim⟩ := isC_spec hpq.2.1
    clear hpq
    subst ejn
    subst eim
    have clj : (nI jn).toNatClampNeg = jn := nI_clamp (by omega)
    have cli : (nI im).toNatClampNeg = im := nI_clamp (by omega)
    refine lv_iload_n hx hb dX0_error_12 rfl (lv_at hl 3 rfl) ?_
    refine lv_i2l (v := (v).toInt64) hx hb dX0_error_13 rfl ?_
    refine lv_ldc2 hx hb hown (hts _ q702) dX0_error_14 ?_
    refine lv_ldc2 hx hb hown (hts _ q658) dX0_error_17 ?_
    refine c_cS [.long ((v).toInt64), .long ((-20)), .long 20] C hml hl.1 (mX0_isIn l ((v).toInt64) (-20) 20) (lw_S q90 q91 q69 q92) hdX0_isIn.2 ⟨rfl, rfl⟩ ⟨Nat.le_of_ble_eq_true rfl, Nat.le_of_ble_eq_true rfl⟩ rfl (Nat.le_of_ble_eq_true rfl) dX0_error_20 ⟨Nat.zero_le _, Nat.zero_le _⟩ ?_
    refine lv_if_ne (tgt := 29) hx hb dX0_error_23 (by decide) (fun c_241 => ?_) (fun c_241 => ?_)
    · have hin : inB v (-20) 20 = true := (inL (x := v) (lo := (-20)) (hi := 20) (l := (-20)) (u := 20) (by decide) (by decide)) ▸ bI_ne0.mp c_241
      refine lv_aload_n hx hb dX0_error_29 rfl (lv_at hl 0 rfl) ?_
      refine c_cM [] C hml hl.1 hP hS (c_recvC C hP (n10 hn)) (mX0_remember l D T ad n σ hn a ⟨_, hM⟩ hB) (lw_V q659 q661 qs27 q69 q662) hdX0_remember ⟨rfl, rfl⟩ ⟨Nat.le_of_ble_eq_true rfl, Nat.le_of_ble_eq_true rfl⟩ rfl (Nat.le_of_ble_eq_true rfl) dX0_error_30 ⟨Nat.zero_le _, Nat.zero_le _⟩ (fun v_242 σ_243 H locs hp_244 hP hS => ?_)
      obtain ⟨rfl, pl_246, hM_245⟩ := hp_244
      have hR_247 : Rc σ_243 10 (aH a) := hM_245.r
      refine lv_aload_n hx hb dX0_error_33 rfl (lv_at hl 0 rfl) ?_
      refine cg_C_now C hP (n10 hn) dX0_error_34 ?_
      refine cg_H_error C hP (isH10 hn) dX0_error_37 ?_
      refine lv_bipush (v := nI 8) hx hb dX0_error_40 (by decide) ?_
      refine lv_iload_n hx hb dX0_error_42 rfl (lv_at hl 1 rfl) ?_
      refine w_imulN hx hb dX0_error_43 ?_
      refine lv_iload_n hx hb dX0_error_44 rfl (lv_at hl 2 rfl) ?_
      refine w_iaddN hx hb dX0_error_45 ?_
      refine c_iald C hP (arH7 (isH10 hn)) (by omega) dX0_error_46 ?_
      refine w_eqi (rcA hR_247 7 (8 * jn + im) (by unfold vd; omega)) ?_
      refine lv_istore (lv' := [(4, .int ((aH a) 7 (8 * jn + im))), (0, .ref (ad 0)), (1, .int (nI jn)), (2, .int (nI im)), (3, .int v)]) hx hb dX0_error_47 hl (by decide) rfl (fun ls hl => ?_)
      refine lv_aload_n hx hb dX0_error_49 rfl (lv_at hl 1 rfl) ?_
      refine cg_C_now C hP (n10 hn) dX0_error_50 ?_
      refine cg_H_error C hP (isH10 hn) dX0_error_53 ?_
      refine lv_bipush (v := nI 8) hx hb dX0_error_56 (by decide) ?_
      refine lv_iload_n hx hb dX0_error_58 rfl (lv_at hl 2 rfl) ?_
      refine w_imulN hx hb dX0_error_59 ?_
      refine lv_iload_n hx hb dX0_error_60 rfl (lv_at hl 3 rfl) ?_
      refine w_iaddN hx hb dX0_error_61 ?_
      refine lv_iload_n hx hb dX0_error_62 rfl (lv_at hl 4 rfl) ?_
      refine c_iast C hP hS (arH7 (isH10 hn)) (by omega) dX0_error_63 (fun H locs hP hS => ?_)
      obtain ⟨σ_248, eσ_249⟩ : ∃ y9, y9 = mset σ_243 (10 + 7) (8 * jn + im) v := ⟨_, rfl⟩
      rw [← eσ_249] at hP
      have hR_250 : Rc σ_248 10 (mset (aH a) 7 (8 * jn + im) v) := by rw [eσ_249]; exact hR_247.up 7 (8 * jn + im) v
      have hM_251 : CSp σ_248 (setH (remS a) (mset (aH (remS a)) 7 (8 * jn + im) v)) pl_246 := by rw [eσ_249]; exact hM_245.setrow 7 _ _ (by decide)
      refine lv_iload hx hb dX0_error_64 (lv_at hl 0 rfl) ?_
      refine lv_bipush (v := nI 20) hx hb dX0_error_66 (by decide) ?_
      refine lv_iadd hx hb dX0_error_68 ?_
      exact cM_retI C hlk hr hS hP dX0_error_69 ⟨by unfold errorQ; rw [if_pos hpr, if_pos hin, clj, cli]; first | done | rfl, by unfold errorQ; rw [if_pos hpr, if_pos hin, clj, cli]; exact ⟨_, hM_251⟩⟩
    · have hin : ¬ inB v (-20) 20 = true := by rw [← (inL (x := v) (lo := (-20)) (hi := 20) (l := (-20)) (u := 20) (by decide) (by decide)), bI_eq0.mp c_241]; decide
      refine lv_ldc hx hb hown (hts _ q93) dX0_error_26 ?_
      exact cM_retI C hlk hr hS hP dX0_error_28 ⟨by unfold errorQ; rw [if_pos hpr, if_neg hin]; first | done | rfl, by unfold errorQ; rw [if_pos hpr, if_neg hin]; exact ⟨_, hM⟩⟩
  · have hpr : ¬ pairB (aH a) j i = true := by rw [bI_eq0.mp c_240]; decide
    refine lv_ldc hx hb hown (hts _ q548) dX0_error_9 ?_
    exact cM_retI C hlk hr hS hP dX0_error_11 ⟨by unfold errorQ; rw [if_neg hpr]; first | done | rfl, by unfold errorQ; rw [if_neg hpr]; exact ⟨_, hM⟩⟩

