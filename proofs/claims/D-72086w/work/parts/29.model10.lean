/-! THE MODEL: a clause, the whole text -/
set_option maxRecDepth 100000
theorem hdX2_readClause : yX2_readClause.cls = "LiarClocksModel" ∧ yX2_readClause.cls ≠ "java/lang/invoke/MethodHandle" ∧ yX2_readClause.cls ≠ "java/lang/invoke/VarHandle" ∧ (parseMethodDescriptor yX2_readClause.desc).map (fun d => d.parameters.length) = some 0 := by decide +kernel
set_option maxHeartbeats 4000000 in
/-- readClause -/
theorem mX2_readClause (l : Launch) (D : va_G) (T : Nat → ClassId) (ad : Nat → Nat) (μ : Nat → Nat → Int32) (n : Nat) (tx : Nat → Nat) (hT : TX μ n tx) (s : PS) (hs : PRs μ s) (hsn : s.1 ≤ n) (hpn : runS (spB tx) n s.1 < n) (hw : μ 0 12 = 0) (hI : RI s.2.1) : ∀ sz, Met l yX2_readClause (ws_ yX2_readClause cX2_readClause 3 none) ({ frames := 4, cells := 0, slots := 0, locals := 90 } : Room) (mPs D T ad μ [.ref (ad 0)] sz) (mQ D T ad (fun r μ' => r = none ∧ FRm μ μ' ∧ WPm (clauseS n tx s) μ')) 0 0 (gA 7 ad sz) := by
  refine mM_intro [.ref (ad 0)] (by decide) rfl (Nat.le_of_ble_eq_true rfl) ?_
  intro pg en s0 mi below meth cd ls C hr hlk hml hP hS hl
  have hx := C.1
  have hb := C.2.1
  have hown := C.2.2.1
  have hts := C.2.2.2.1
  have hl : lv_has ls 3 [(0, .ref (ad 0))] := hl
  have hn := hT.2.1
  obtain ⟨s1, s2, s3, s4⟩ := hs
  obtain ⟨p, ep⟩ : ∃ y, y = runS (spB tx) n s.1 := ⟨_, rfl⟩
  rw [← ep] at hpn
  refine lv_aload_n hx hb dX2_readClause_0 rfl (lv_at hl 0 rfl) ?_
  refine m_cM [] C hml hl.1 hP hS (mX2_here l D T ad μ n tx hT (s.1) s1 (by omega)) (lw_V q851 q853 qs34 q71 q854) hdX2_here ⟨rfl, rfl⟩ ⟨Nat.le_of_ble_eq_true rfl, Nat.le_of_ble_eq_true rfl⟩ rfl (Nat.le_of_ble_eq_true rfl) dX2_readClause_1 ⟨Nat.zero_le _, Nat.zero_le _⟩ (fun v_614 μ_615 H locs hp_616 hP hS => ?_)
  obtain ⟨rfl, he_617a, he_617f, he_617o⟩ := hp_616
  refine w_eqi (y := nI (if runS (spB tx) n (s.1) < n then tx (runS (spB tx) n (s.1)) else 0)) (by split <;> rfl) ?_
  rw [← ep] at he_617a
  refine w_eqi (y := nI (tx p)) (by rw [← ep, if_pos hpn]) ?_
  refine lv_istore_n (lv' := [(1, .int (nI (tx p))), (0, .ref (ad 0))]) hx hb dX2_readClause_4 rfl hl (by decide) rfl (fun ls hl => ?_)
  refine lv_aload_n hx hb dX2_readClause_5 rfl (lv_at hl 1 rfl) ?_
  refine mg_at C hP dX2_readClause_6 ?_
  refine w_eqi (y := nI (p)) (he_617a) ?_
  refine lv_istore_n (lv' := [(2, .int (nI p)), (1, .int (nI (tx p))), (0, .ref (ad 0))]) hx hb dX2_readClause_9 rfl hl (by decide) rfl (fun ls hl => ?_)
  refine lv_aload_n hx hb dX2_readClause_10 rfl (lv_at hl 2 rfl) ?_
  refine lv_dup hx hb dX2_readClause_11 rfl ?_
  refine mg_at C hP dX2_readClause_12 ?_
  refine w_eqi (y := nI (p)) (he_617a) ?_
  refine lv_iconst (v := nI 1) hx hb dX2_readClause_15 (by decide) ?_
  refine w_iaddN hx hb dX2_readClause_16 ?_
  refine mp_at C hP hS dX2_readClause_17 (fun H locs hP hS => ?_)
  obtain ⟨μ_618, eμ_619⟩ : ∃ y9, y9 = mset μ_615 0 11 (nI (p + 1)) := ⟨_, rfl⟩
  rw [← eμ_619] at hP
  have fr2 : FRm μ μ_618 := (FRm.fld (fun k hk => he_617f k (by omega)) he_617o).put (by decide) eμ_619
  have hT2 := hT.fr fr2
  have w2 : μ_618 0 12 = 0 := by rw [eμ_619, mset_ne (Or.inr (by decide)), he_617f 12 (by decide)]; exact hw
  have ps2 : PRs μ_618 (p + 1, s.2) := ⟨by rw [eμ_619, mset_self], by rw [eμ_619, mset_oth (by decide), he_617o 1 (by decide)]; exact s2, by rw [eμ_619, mset_ne (Or.inr (by decide)), he_617f 15 (by decide)]; exact s3, by rw [eμ_619, mset_ne (Or.inr (by decide)), he_617f 16 (by decide)]; exact s4⟩
  have htp := (hT.2.2 p hpn).2
  refine lv_iload_n hx hb dX2_readClause_20 rfl (lv_at hl 1 rfl) ?_
  refine lv_bipush (v := nI 107) hx hb dX2_readClause_21 (by decide) ?_
  refine w_icmpN_ne (tgt := 34) hx hb dX2_readClause_23 (by decide) (by omega) (by omega) (fun c_620 => ?_) (fun c_620 => ?_)
  · refine lv_aload_n hx hb dX2_readClause_34 rfl (lv_at hl 2 rfl) ?_
    refine lv_iload_n hx hb dX2_readClause_35 rfl (lv_at hl 1 rfl) ?_
    refine lv_iload_n hx hb dX2_readClause_36 rfl (lv_at hl 0 rfl) ?_
    refine m_cM [.int (nI (tx p)), .int (nI p)] C hml hl.1 hP hS (mX2_readOther l D T ad μ_618 n tx hT2 s p hpn ps2 w2 hI c_620) (lw_V q875 q877 qs40 q71 q878) hdX2_readOther ⟨rfl, rfl⟩ ⟨Nat.le_of_ble_eq_true rfl, Nat.le_of_ble_eq_true rfl⟩ rfl (Nat.le_of_ble_eq_true rfl) dX2_readClause_37 ⟨Nat.zero_le _, Nat.zero_le _⟩ (fun v_640 μ_641 H locs hp_642 hP hS => ?_)
    obtain ⟨rfl, rc_643f, rc_643w⟩ := hp_642
    have frW := fr2.tr rc_643f
    have wpW : WPm (wordP n tx s p) μ_641 := rc_643w
    rcases hwd : wordP n tx s p with ⟨c, q⟩ | t
    · obtain ⟨x1, x2, x3, x4⟩ := wpW.1 _ _ hwd
      have eW : clauseS n tx s = .inl (c, q) := by unfold clauseS; rw [← ep, hwd]
      have hbw : ¬ μ_641 0 12 = 0 := by rw [x2]; exact nI_ne0 (by omega) (by omega)
      refine lv_aload_n hx hb dX2_readClause_40 rfl (lv_at hl 2 rfl) ?_
      refine m_cR [] C hml hl.1 hP (mX2_fine l D T ad μ_641) (lw_V q855 q857 qs35 q71 q858) hdX2_fine ⟨rfl, rfl⟩ ⟨Nat.le_of_ble_eq_true rfl, Nat.le_of_ble_eq_true rfl⟩ rfl (Nat.le_of_ble_eq_true rfl) dX2_readClause_41 ⟨Nat.zero_le _, Nat.zero_le _⟩ ?_
      refine lv_if_eq (tgt := 75) hx hb dX2_readClause_44 (by decide) (fun c_644 => ?_) (fun c_644 => ?_)
      · exact mM_retV C hlk hr hS hP dX2_readClause_75 ⟨rfl, frW, fun c2 q2 hcq => by rw [eW] at hcq; have z := Sum.inl.inj hcq; have z1 := congrArg Prod.fst z; have z2 := congrArg Prod.snd z; dsimp only at z1 z2; subst z1; subst z2; exact ⟨x1, x2, x3, x4⟩, fun u hu => (by rw [eW] at hu; cases hu)⟩
      · exact absurd (of_decide_eq_true (bI_ne0.mp c_644)) hbw
    · obtain ⟨y1, y2, y3, y4, y5⟩ := wpW.2 _ hwd
      have eW : clauseS n tx s = semiP n tx t := by unfold clauseS; rw [← ep, hwd]
      obtain ⟨z1, z2, z3⟩ := wordP_ok hwd hI hpn
      obtain ⟨q, eq⟩ : ∃ y, y = runS (spB tx) n t.1 := ⟨_, rfl⟩
      have qn : q ≤ n := by rw [eq]; exact run_le z3
      have hTW := hT.fr frW
      refine lv_aload_n hx hb dX2_readClause_40 rfl (lv_at hl 2 rfl) ?_
      refine m_cR [] C hml hl.1 hP (mX2_fine l D T ad μ_641) (lw_V q855 q857 qs35 q71 q858) hdX2_fine ⟨rfl, rfl⟩ ⟨Nat.le_of_ble_eq_true rfl, Nat.le_of_ble_eq_true rfl⟩ rfl (Nat.le_of_ble_eq_true rfl) dX2_readClause_41 ⟨Nat.zero_le _, Nat.zero_le _⟩ ?_
      refine lv_if_eq (tgt := 75) hx hb dX2_readClause_44 (by decide) (fun c_645 => ?_) (fun c_645 => ?_)
      · exact absurd y1 (of_decide_eq_false (bI_eq0.mp c_645))
      · refine lv_aload_n hx hb dX2_readClause_47 rfl (lv_at hl 2 rfl) ?_
        refine m_cM [] C hml hl.1 hP hS (mX2_here l D T ad μ_641 n tx hTW (t.1) y2 (by omega)) (lw_V q851 q853 qs34 q71 q854) hdX2_here ⟨rfl, rfl⟩ ⟨Nat.le_of_ble_eq_true rfl, Nat.le_of_ble_eq_true rfl⟩ rfl (Nat.le_of_ble_eq_true rfl) dX2_readClause_48 ⟨Nat.zero_le _, Nat.zero_le _⟩ (fun v_646 μ_647 H locs hp_648 hP hS => ?_)
        obtain ⟨rfl, he_649a, he_649f, he_649o⟩ := hp_648
        refine w_eqi (y := nI (if runS (spB tx) n (t.1) < n then tx (runS (spB tx) n (t.1)) else 0)) (by split <;> rfl) ?_
        rw [← eq] at he_649a
        obtain ⟨ch, ech⟩ : ∃ y, y = (if q < n then tx q else 0) := ⟨_, rfl⟩
        refine w_eqi (y := nI ch) (by rw [ech, ← eq]) ?_
        have hch : ch < 256 := by
          rw [ech]; split
          · exact (hT.2.2 q (by assumption)).2
          · omega
        have fr3 := frW.tr (FRm.fld (fun k hk => he_649f k (by omega)) he_649o)
        have w3 : μ_647 0 12 = 0 := by rw [he_649f 12 (by decide)]; exact y1
        refine lv_bipush (v := nI 59) hx hb dX2_readClause_51 (by decide) ?_
        refine w_icmpN_eq (tgt := 65) hx hb dX2_readClause_53 (by decide) (by omega) (by omega) (fun c_650 => ?_) (fun c_650 => ?_)
        · refine lv_aload_n hx hb dX2_readClause_65 rfl (lv_at hl 2 rfl) ?_
          refine lv_dup hx hb dX2_readClause_66 rfl ?_
          refine mg_at C hP dX2_readClause_67 ?_
          refine w_eqi (y := nI (q)) (he_649a) ?_
          refine lv_iconst (v := nI 1) hx hb dX2_readClause_70 (by decide) ?_
          refine w_iaddN hx hb dX2_readClause_71 ?_
          refine mp_at C hP hS dX2_readClause_72 (fun H locs hP hS => ?_)
          obtain ⟨μ_651, eμ_652⟩ : ∃ y9, y9 = mset μ_647 0 11 (nI (q + 1)) := ⟨_, rfl⟩
          rw [← eμ_652] at hP
          have hq : q < n ∧ tx q = 59 := by
            by_cases z : q < n
            · rw [if_pos z] at ech; exact ⟨z, by omega⟩
            · rw [if_neg z] at ech; omega
          have eS : clauseS n tx s = .inr (q + 1, t.2) := by rw [eW]; unfold semiP; rw [← eq, if_pos hq]
          exact mM_retV C hlk hr hS hP dX2_readClause_75 ⟨rfl, fr3.put (by decide) eμ_652, fun c2 q2 hcq => (by rw [eS] at hcq; cases hcq), fun u hu => by rw [eS] at hu; have z := Sum.inr.inj hu; subst z; exact ⟨by rw [eμ_652, mset_ne (Or.inr (by decide))]; exact w3, by rw [eμ_652, mset_self], by rw [eμ_652, mset_oth (by decide), he_649o 1 (by decide)]; exact y3, by rw [eμ_652, mset_ne (Or.inr (by decide)), he_649f 15 (by decide)]; exact y4, by rw [eμ_652, mset_ne (Or.inr (by decide)), he_649f 16 (by decide)]; exact y5⟩⟩
        · refine lv_aload_n hx hb dX2_readClause_56 rfl (lv_at hl 2 rfl) ?_
          refine lv_iconst (v := nI 1) hx hb dX2_readClause_57 (by decide) ?_
          refine lv_aload_n hx hb dX2_readClause_58 rfl (lv_at hl 2 rfl) ?_
          refine mg_at C hP dX2_readClause_59 ?_
          refine w_eqi (y := nI (q)) (he_649a) ?_
          refine m_cM [.int (nI 1), .int (nI q)] C hml hl.1 hP hS (mX2_fail l D T ad μ_647 w3 (nI (1)) (nI (q))) (lw_V q867 q869 qs38 q71 q870) hdX2_fail ⟨rfl, rfl⟩ ⟨Nat.le_of_ble_eq_true rfl, Nat.le_of_ble_eq_true rfl⟩ rfl (Nat.le_of_ble_eq_true rfl) dX2_readClause_62 ⟨Nat.zero_le _, Nat.zero_le _⟩ (fun v_653 μ_654 H locs hp_655 hP hS => ?_)
          obtain ⟨rfl, fl_656a, fl_656b, fl_656c, fl_656d⟩ := hp_655
          refine lv_aload_n hx hb dX2_readClause_65 rfl (lv_at hl 2 rfl) ?_
          refine lv_dup hx hb dX2_readClause_66 rfl ?_
          refine mg_at C hP dX2_readClause_67 ?_
          refine w_eqi (y := nI (q)) (by rw [fl_656c 11 (by decide) (by decide)]; exact he_649a) ?_
          refine lv_iconst (v := nI 1) hx hb dX2_readClause_70 (by decide) ?_
          refine w_iaddN hx hb dX2_readClause_71 ?_
          refine mp_at C hP hS dX2_readClause_72 (fun H locs hP hS => ?_)
          obtain ⟨μ_657, eμ_658⟩ : ∃ y9, y9 = mset μ_654 0 11 (nI (q + 1)) := ⟨_, rfl⟩
          rw [← eμ_658] at hP
          have hq : ¬ (q < n ∧ tx q = 59) := fun z => by rw [if_pos z.1] at ech; omega
          have eS : clauseS n tx s = .inl (1, q) := by rw [eW]; unfold semiP; rw [← eq, if_neg hq]
          exact mM_retV C hlk hr hS hP dX2_readClause_75 ⟨rfl, (fr3.tr (FRm.fld (fun k hk => fl_656c k (by omega) (by omega)) fl_656d)).put (by decide) eμ_658, fun c2 q2 hcq => by rw [eS] at hcq; have z := Sum.inl.inj hcq; have z1 := congrArg Prod.fst z; have z2 := congrArg Prod.snd z; dsimp only at z1 z2; subst z1; subst z2; exact ⟨by omega, by rw [eμ_658, mset_ne (Or.inr (by decide))]; exact fl_656a, by rw [eμ_658, mset_ne (Or.inr (by decide))]; exact fl_656b, q + 1, by omega, by rw [eμ_658, mset_self]⟩, fun u hu => (by rw [eS] at hu; cases hu)⟩
  · refine lv_aload_n hx hb dX2_readClause_26 rfl (lv_at hl 2 rfl) ?_
    refine lv_iload_n hx hb dX2_readClause_27 rfl (lv_at hl 0 rfl) ?_
    refine m_cM [.int (nI p)] C hml hl.1 hP hS (mX2_readClock l D T ad μ_618 n tx hT2 s p hpn ps2 w2 hI) (lw_V q863 q865 qs37 q71 q866) hdX2_readClock ⟨rfl, rfl⟩ ⟨Nat.le_of_ble_eq_true rfl, Nat.le_of_ble_eq_true rfl⟩ rfl (Nat.le_of_ble_eq_true rfl) dX2_readClause_28 ⟨Nat.zero_le _, Nat.zero_le _⟩ (fun v_621 μ_622 H locs hp_623 hP hS => ?_)
    obtain ⟨rfl, rc_624f, rc_624j, rc_624w⟩ := hp_623
    refine lv_goto (tgt := 40) hx hb dX2_readClause_31 (by decide) ?_
    have frW := fr2.tr rc_624f
    have wpW : WPm (wordP n tx s p) μ_622 := by unfold wordP; rw [if_pos c_620]; exact rc_624w
    rcases hwd : wordP n tx s p with ⟨c, q⟩ | t
    · obtain ⟨x1, x2, x3, x4⟩ := wpW.1 _ _ hwd
      have eW : clauseS n tx s = .inl (c, q) := by unfold clauseS; rw [← ep, hwd]
      have hbw : ¬ μ_622 0 12 = 0 := by rw [x2]; exact nI_ne0 (by omega) (by omega)
      refine lv_aload_n hx hb dX2_readClause_40 rfl (lv_at hl 2 rfl) ?_
      refine m_cR [] C hml hl.1 hP (mX2_fine l D T ad μ_622) (lw_V q855 q857 qs35 q71 q858) hdX2_fine ⟨rfl, rfl⟩ ⟨Nat.le_of_ble_eq_true rfl, Nat.le_of_ble_eq_true rfl⟩ rfl (Nat.le_of_ble_eq_true rfl) dX2_readClause_41 ⟨Nat.zero_le _, Nat.zero_le _⟩ ?_
      refine lv_if_eq (tgt := 75) hx hb dX2_readClause_44 (by decide) (fun c_625 => ?_) (fun c_625 => ?_)
      · exact mM_retV C hlk hr hS hP dX2_readClause_75 ⟨rfl, frW, fun c2 q2 hcq => by rw [eW] at hcq; have z := Sum.inl.inj hcq; have z1 := congrArg Prod.fst z; have z2 := congrArg Prod.snd z; dsimp only at z1 z2; subst z1; subst z2; exact ⟨x1, x2, x3, x4⟩, fun u hu => (by rw [eW] at hu; cases hu)⟩
      · exact absurd (of_decide_eq_true (bI_ne0.mp c_625)) hbw
    · obtain ⟨y1, y2, y3, y4, y5⟩ := wpW.2 _ hwd
      have eW : clauseS n tx s = semiP n tx t := by unfold clauseS; rw [← ep, hwd]
      obtain ⟨z1, z2, z3⟩ := wordP_ok hwd hI hpn
      obtain ⟨q, eq⟩ : ∃ y, y = runS (spB tx) n t.1 := ⟨_, rfl⟩
      have qn : q ≤ n := by rw [eq]; exact run_le z3
      have hTW := hT.fr frW
      refine lv_aload_n hx hb dX2_readClause_40 rfl (lv_at hl 2 rfl) ?_
      refine m_cR [] C hml hl.1 hP (mX2_fine l D T ad μ_622) (lw_V q855 q857 qs35 q71 q858) hdX2_fine ⟨rfl, rfl⟩ ⟨Nat.le_of_ble_eq_true rfl, Nat.le_of_ble_eq_true rfl⟩ rfl (Nat.le_of_ble_eq_true rfl) dX2_readClause_41 ⟨Nat.zero_le _, Nat.zero_le _⟩ ?_
      refine lv_if_eq (tgt := 75) hx hb dX2_readClause_44 (by decide) (fun c_626 => ?_) (fun c_626 => ?_)
      · exact absurd y1 (of_decide_eq_false (bI_eq0.mp c_626))
      · refine lv_aload_n hx hb dX2_readClause_47 rfl (lv_at hl 2 rfl) ?_
        refine m_cM [] C hml hl.1 hP hS (mX2_here l D T ad μ_622 n tx hTW (t.1) y2 (by omega)) (lw_V q851 q853 qs34 q71 q854) hdX2_here ⟨rfl, rfl⟩ ⟨Nat.le_of_ble_eq_true rfl, Nat.le_of_ble_eq_true rfl⟩ rfl (Nat.le_of_ble_eq_true rfl) dX2_readClause_48 ⟨Nat.zero_le _, Nat.zero_le _⟩ (fun v_627 μ_628 H locs hp_629 hP hS => ?_)
        obtain ⟨rfl, he_630a, he_630f, he_630o⟩ := hp_629
        refine w_eqi (y := nI (if runS (spB tx) n (t.1) < n then tx (runS (spB tx) n (t.1)) else 0)) (by split <;> rfl) ?_
        rw [← eq] at he_630a
        obtain ⟨ch, ech⟩ : ∃ y, y = (if q < n then tx q else 0) := ⟨_, rfl⟩
        refine w_eqi (y := nI ch) (by rw [ech, ← eq]) ?_
        have hch : ch < 256 := by
          rw [ech]; split
          · exact (hT.2.2 q (by assumption)).2
          · omega
        have fr3 := frW.tr (FRm.fld (fun k hk => he_630f k (by omega)) he_630o)
        have w3 : μ_628 0 12 = 0 := by rw [he_630f 12 (by decide)]; exact y1
        refine lv_bipush (v := nI 59) hx hb dX2_readClause_51 (by decide) ?_
        refine w_icmpN_eq (tgt := 65) hx hb dX2_readClause_53 (by decide) (by omega) (by omega) (fun c_631 => ?_) (fun c_631 => ?_)
        · refine lv_aload_n hx hb dX2_readClause_65 rfl (lv_at hl 2 rfl) ?_
          refine lv_dup hx hb dX2_readClause_66 rfl ?_
          refine mg_at C hP dX2_readClause_67 ?_
          refine w_eqi (y := nI (q)) (he_630a) ?_
          refine lv_iconst (v := nI 1) hx hb dX2_readClause_70 (by decide) ?_
          refine w_iaddN hx hb dX2_readClause_71 ?_
          refine mp_at C hP hS dX2_readClause_72 (fun H locs hP hS => ?_)
          obtain ⟨μ_632, eμ_633⟩ : ∃ y9, y9 = mset μ_628 0 11 (nI (q + 1)) := ⟨_, rfl⟩
          rw [← eμ_633] at hP
          have hq : q < n ∧ tx q = 59 := by
            by_cases z : q < n
            · rw [if_pos z] at ech; exact ⟨z, by omega⟩
            · rw [if_neg z] at ech; omega
          have eS : clauseS n tx s = .inr (q + 1, t.2) := by rw [eW]; unfold semiP; rw [← eq, if_pos hq]
          exact mM_retV C hlk hr hS hP dX2_readClause_75 ⟨rfl, fr3.put (by decide) eμ_633, fun c2 q2 hcq => (by rw [eS] at hcq; cases hcq), fun u hu => by rw [eS] at hu; have z := Sum.inr.inj hu; subst z; exact ⟨by rw [eμ_633, mset_ne (Or.inr (by decide))]; exact w3, by rw [eμ_633, mset_self], by rw [eμ_633, mset_oth (by decide), he_630o 1 (by decide)]; exact y3, by rw [eμ_633, mset_ne (Or.inr (by decide)), he_630f 15 (by decide)]; exact y4, by rw [eμ_633, mset_ne (Or.inr (by decide)), he_630f 16 (by decide)]; exact y5⟩⟩
        · refine lv_aload_n hx hb dX2_readClause_56 rfl (lv_at hl 2 rfl) ?_
          refine lv_iconst (v := nI 1) hx hb dX2_readClause_57 (by decide) ?_
          refine lv_aload_n hx hb dX2_readClause_58 rfl (lv_at hl 2 rfl) ?_
          refine mg_at C hP dX2_readClause_59 ?_
          refine w_eqi (y := nI (q)) (he_630a) ?_
          refine m_cM [.int (nI 1), .int (nI q)] C hml hl.1 hP hS (mX2_fail l D T ad μ_628 w3 (nI (1)) (nI (q))) (lw_V q867 q869 qs38 q71 q870) hdX2_fail ⟨rfl, rfl⟩ ⟨Nat.le_of_ble_eq_true rfl, Nat.le_of_ble_eq_true rfl⟩ rfl (Nat.le_of_ble_eq_true rfl) dX2_readClause_62 ⟨Nat.zero_le _, Nat.zero_le _⟩ (fun v_634 μ_635 H locs hp_636 hP hS => ?_)
          obtain ⟨rfl, fl_637a, fl_637b, fl_637c, fl_637d⟩ := hp_636
          refine lv_aload_n hx hb dX2_readClause_65 rfl (lv_at hl 2 rfl) ?_
          refine lv_dup hx hb dX2_readClause_66 rfl ?_
          refine mg_at C hP dX2_readClause_67 ?_
          refine w_eqi (y := nI (q)) (by rw [fl_637c 11 (by decide) (by decide)]; exact he_630a) ?_
          refine lv_iconst (v := nI 1) hx hb dX2_readClause_70 (by decide) ?_
          refine w_iaddN hx hb dX2_readClause_71 ?_
          refine mp_at C hP hS dX2_readClause_72 (fun H locs hP hS => ?_)
          obtain ⟨μ_638, eμ_639⟩ : ∃ y9, y9 = mset μ_635 0 11 (nI (q + 1)) := ⟨_, rfl⟩
          rw [← eμ_639] at hP
          have hq : ¬ (q < n ∧ tx q = 59) := fun z => by rw [if_pos z.1] at ech; omega
          have eS : clauseS n tx s = .inl (1, q) := by rw [eW]; unfold semiP; rw [← eq, if_neg hq]
          exact mM_retV C hlk hr hS hP dX2_readClause_75 ⟨rfl, (fr3.tr (FRm.fld (fun k hk => fl_637c k (by omega) (by omega)) fl_637d)).put (by decide) eμ_639, fun c2 q2 hcq => by rw [eS] at hcq; have z := Sum.inl.inj hcq; have z1 := congrArg Prod.fst z; have z2 := congrArg Prod.snd z; dsimp only at z1 z2; subst z1; subst z2; exact ⟨by omega, by rw [eμ_639, mset_ne (Or.inr (by decide))]; exact fl_637a, by rw [eμ_639, mset_ne (Or.inr (by decide))]; exact fl_637b, q + 1, by omega, by rw [eμ_639, mset_self]⟩, fun u hu => (by rw [eS] at hu; cases hu)⟩

theorem hdX2_clocks : yX2_clocks.cls = "LiarClocksModel" ∧ yX2_clocks.cls ≠ "java/lang/invoke/MethodHandle" ∧ yX2_clocks.cls ≠ "java/lang/invoke/VarHandle" ∧ (parseMethodDescriptor yX2_clocks.desc).map (fun d => d.parameters.length) = some 0 := by decide +kernel
set_option maxHeartbeats 4000000 in
/-- clocks -/
theorem mX2_clocks (l : Launch) (D : va_G) (T : Nat → ClassId) (ad : Nat → Nat) (μ : Nat → Nat → Int32) (a : Ab) (B : Int) (hM : MS μ a) (hI : AI a B) (hB0 : B ≤ 400000000) (hB1 : 0 ≤ B)  : ∀ sz, Met l yX2_clocks (ws_ yX2_clocks cX2_clocks 2 (some .int)) ({ frames := 5, cells := 0, slots := 0, locals := 112 } : Room) (mPs D T ad μ [.ref (ad 0)] sz) (mQ D T ad (fun r μ' => r = some (.int (clocksQ a).1) ∧ MS μ' (clocksQ a).2)) 0 0 (gA 7 ad sz) := by
  have hR := hM.r
  have hB := hI.1.1
  have hA := hI.1.2.2.1
  have h8 := hB.many8
  have h3 := hB.strike3
  have h6 := hB.alarms6
  refine mM_intro [.ref (ad 0)] (by decide) rfl (Nat.le_of_ble_eq_true rfl) ?_
  intro pg en s0 mi below meth cd ls C hr hlk hml hP hS hl
  have hx := C.1
  have hb := C.2.1
  have hown := C.2.2.1
  have hts := C.2.2.2.1
  have hl : lv_has ls 2 [(0, .ref (ad 0))] := hl
  have k16 := hM.kn16
  have t200 := hM.tn200
  have b20 := hM.bn20
  obtain ⟨n, en⟩ : ∃ y, y = aTn a := ⟨_, rfl⟩
  obtain ⟨tx, etx⟩ : ∃ y, y = aTx a := ⟨_, rfl⟩
  refine lv_aload_n hx hb dX2_clocks_0 rfl (lv_at hl 0 rfl) ?_
  refine lv_iconst (v := nI 0) hx hb dX2_clocks_1 (by decide) ?_
  refine mp_at C hP hS dX2_clocks_2 (fun H locs hP hS => ?_)
  obtain ⟨μ_659, eμ_660⟩ : ∃ y9, y9 = mset μ 0 11 (nI (0)) := ⟨_, rfl⟩
  rw [← eμ_660] at hP
  refine lv_aload_n hx hb dX2_clocks_5 rfl (lv_at hl 0 rfl) ?_
  refine lv_iconst (v := nI 0) hx hb dX2_clocks_6 (by decide) ?_
  refine mp_wrong C hP hS dX2_clocks_7 (fun H locs hP hS => ?_)
  obtain ⟨μ_661, eμ_662⟩ : ∃ y9, y9 = mset μ_659 0 12 (nI (0)) := ⟨_, rfl⟩
  rw [← eμ_662] at hP
  refine lv_aload_n hx hb dX2_clocks_10 rfl (lv_at hl 0 rfl) ?_
  refine lv_iconst (v := -1) hx hb dX2_clocks_11 (by decide) ?_
  refine mp_fault C hP hS dX2_clocks_12 (fun H locs hP hS => ?_)
  obtain ⟨μ_663, eμ_664⟩ : ∃ y9, y9 = mset μ_661 0 5 (-1) := ⟨_, rfl⟩
  rw [← eμ_664] at hP
  refine lv_aload_n hx hb dX2_clocks_15 rfl (lv_at hl 0 rfl) ?_
  refine lv_iconst (v := nI 0) hx hb dX2_clocks_16 (by decide) ?_
  refine mp_toldF C hP hS dX2_clocks_17 (fun H locs hP hS => ?_)
  obtain ⟨μ_665, eμ_666⟩ : ∃ y9, y9 = mset μ_663 0 15 (nI (0)) := ⟨_, rfl⟩
  rw [← eμ_666] at hP
  refine lv_aload_n hx hb dX2_clocks_20 rfl (lv_at hl 0 rfl) ?_
  refine lv_iconst (v := nI 0) hx hb dX2_clocks_21 (by decide) ?_
  refine mp_toldS C hP hS dX2_clocks_22 (fun H locs hP hS => ?_)
  obtain ⟨μ_667, eμ_668⟩ : ∃ y9, y9 = mset μ_665 0 16 (nI (0)) := ⟨_, rfl⟩
  rw [← eμ_668] at hP
  refine lv_iconst (v := nI 0) hx hb dX2_clocks_25 (by decide) ?_
  refine lv_istore_n (lv' := [(1, .int (nI 0)), (0, .ref (ad 0))]) hx hb dX2_clocks_26 rfl hl (by decide) rfl (fun ls hl => ?_)
  have p11 : μ_667 0 11 = nI 0 := by rw [eμ_668, mset_ne (Or.inr (by decide)), eμ_666, mset_ne (Or.inr (by decide)), eμ_664, mset_ne (Or.inr (by decide)), eμ_662, mset_ne (Or.inr (by decide)), eμ_660, mset_self]
  have p12 : μ_667 0 12 = 0 := by rw [eμ_668, mset_ne (Or.inr (by decide)), eμ_666, mset_ne (Or.inr (by decide)), eμ_664, mset_ne (Or.inr (by decide)), eμ_662, mset_self]; rfl
  have p5 : μ_667 0 5 = -1 := by rw [eμ_668, mset_ne (Or.inr (by decide)), eμ_666, mset_ne (Or.inr (by decide)), eμ_664, mset_self]
  have p15 : μ_667 0 15 = bI false := by rw [eμ_668, mset_ne (Or.inr (by decide)), eμ_666, mset_self]; rfl
  have p16 : μ_667 0 16 = bI false := by rw [eμ_668, mset_self]; rfl
  have pj : ∀ j, j < 11 → j ≠ 5 → μ_667 0 j = μ 0 j := fun j hj h5 => by rw [eμ_668, mset_ne (Or.inr (by omega)), eμ_666, mset_ne (Or.inr (by omega)), eμ_664, mset_ne (Or.inr (by omega)), eμ_662, mset_ne (Or.inr (by omega)), eμ_660, mset_ne (Or.inr (by omega))]
  have pq : ∀ q, q ≠ 0 → μ_667 q = μ q := fun q hq => by rw [eμ_668, mset_oth hq, eμ_666, mset_oth hq, eμ_664, mset_oth hq, eμ_662, mset_oth hq, eμ_660, mset_oth hq]
  refine w_upM (α := Nat → Nat → Int32) (192) 27 2 (gA 7 ad s0.heap.size) s0.heap (fun i μ6 => [(0, .ref (ad 0)), (1, .int (nI i))]) (fun i μ6 H => mW D T ad μ6 H ∧ (∀ k, k < i → μ6 1 (3648 + k) = 0) ∧ (∀ k, k < 3648 → μ6 1 k = μ 1 k) ∧ ∀ q, q ≠ 1 → μ6 q = μ_667 q) ?_ ?_ 0 (by omega) μ_667 (lv_sub hl [1, 0] rfl) ⟨hP, fun k hk => absurd hk (Nat.not_lt_zero k), fun k _ => by rw [pq 1 (by decide)], fun _ _ => rfl⟩ hS
  · intro i μ6 ls H locs hi_i hl hW hS ih_i
    have hl : lv_has ls 2 [(0, .ref (ad 0)), (1, .int (nI i))] := hl
    obtain ⟨hP, hz, hk6, ho6⟩ := hW
    refine lv_iload_n hx hb dX2_clocks_27 rfl (lv_at hl 1 rfl) ?_
    refine lv_sipush (v := nI 192) hx hb dX2_clocks_28 (by decide) ?_
    refine w_icmpN_ge (tgt := 51) hx hb dX2_clocks_31 (by decide) (by omega) (by omega) (fun c_669 => ?_) (fun c_669 => ?_)
    · exact absurd c_669 (by omega)
    · refine lv_aload_n hx hb dX2_clocks_34 rfl (lv_at hl 0 rfl) ?_
      refine mg_w C hP dX2_clocks_35 ?_
      refine lv_sipush (v := nI 3648) hx hb dX2_clocks_38 (by decide) ?_
      refine lv_iload_n hx hb dX2_clocks_41 rfl (lv_at hl 1 rfl) ?_
      refine w_iaddN hx hb dX2_clocks_42 ?_
      refine lv_iconst (v := nI 0) hx hb dX2_clocks_43 (by decide) ?_
      refine m_ast1 C hP hS (by omega) dX2_clocks_44 (fun H locs hP hS => ?_)
      obtain ⟨μ_670, eμ_671⟩ : ∃ y9, y9 = mset μ6 1 (3648 + i) (nI (0)) := ⟨_, rfl⟩
      rw [← eμ_671] at hP
      refine lv_iinc (v := nI (i + 1)) (lv' := [(1, .int (nI (i + 1))), (0, .ref (ad 0))]) hx hb dX2_clocks_45 hl (k := 1) rfl (w_inc _ _) (by decide) rfl (fun ls hl => ?_)
      refine lv_goto (tgt := 27) hx hb dX2_clocks_48 (by decide) ?_
      refine ih_i μ_670 _ _ _ (lv_sub hl [1, 0] rfl) ⟨hP, ?_, ?_, ?_⟩ hS
      · intro k hk
        rw [eμ_671]
        by_cases z : k = i
        · rw [z, mset_self]; rfl
        · rw [mset_ne (Or.inr (by omega))]; exact hz k (by omega)
      · intro k hk
        rw [eμ_671, mset_ne (Or.inr (by omega))]; exact hk6 k hk
      · intro q hq
        rw [eμ_671, mset_oth hq]; exact ho6 q hq
  · intro μ6 ls H locs hl hW hS
    have hl : lv_has ls 2 [(0, .ref (ad 0)), (1, .int (nI 192))] := hl
    obtain ⟨hP, hz, hk6, ho6⟩ := hW
    refine lv_iload_n hx hb dX2_clocks_27 rfl (lv_at hl 1 rfl) ?_
    refine lv_sipush (v := nI 192) hx hb dX2_clocks_28 (by decide) ?_
    refine w_icmpN_ge (tgt := 51) hx hb dX2_clocks_31 (by decide) (by omega) (by omega) (fun c_672 => ?_) (fun c_672 => ?_)
    · refine lv_aload_n hx hb dX2_clocks_51 rfl (lv_at hl 0 rfl) ?_
      refine mg_w C hP dX2_clocks_52 ?_
      refine lv_sipush (v := nI 3650) hx hb dX2_clocks_55 (by decide) ?_
      refine lv_bipush (v := nI 10) hx hb dX2_clocks_58 (by decide) ?_
      refine m_ast1 C hP hS (by omega) dX2_clocks_60 (fun H locs hP hS => ?_)
      obtain ⟨μ_673, eμ_674⟩ : ∃ y9, y9 = mset μ6 1 (3650) (nI (10)) := ⟨_, rfl⟩
      rw [← eμ_674] at hP
      have o7 : ∀ q, q ≠ 1 → μ_673 q = μ_667 q := fun q hq => by rw [eμ_674, mset_oth hq]; exact ho6 q hq
      have k7 : ∀ k, k < 3648 → μ_673 1 k = μ 1 k := fun k hk => by rw [eμ_674, mset_ne (Or.inr (by omega))]; exact hk6 k hk
      have hR7 : Rp (μ_673 1) 3648 rd0 := by
        intro f c hv
        rw [eμ_674]
        unfold rd0
        by_cases z : f = 0 ∧ c = 2
        · rw [if_pos z, z.1, z.2]; exact mset_self
        · rw [if_neg z, mset_ne (Or.inr ?_)]
          · exact hz _ (by have := mo_lt hv; omega)
          · intro hc2
            exact z (mo_inj hv (show vd 0 2 by unfold vd; omega) (by show mo f c = 2; omega))
      have hT7 : TX μ_673 n tx := by
        refine ⟨?_, by rw [en]; exact t200, fun k hk => ?_⟩
        · rw [o7 0 (by decide), pj 4 (by decide) (by decide), en]; exact hM.tn
        · rw [o7 2 (by decide), pq 2 (by decide), etx]; exact hM.tx (by omega)
      have a7 : μ_673 0 11 = nI 0 := by rw [o7 0 (by decide)]; exact p11
      have hn : n ≤ 200 := by omega
      refine lv_aload_n hx hb dX2_clocks_61 rfl (lv_at hl 0 rfl) ?_
      refine m_cM [] C hml hl.1 hP hS (mX2_here l D T ad μ_673 n tx hT7 0 a7 (by omega)) (lw_V q851 q853 qs34 q71 q854) hdX2_here ⟨rfl, rfl⟩ ⟨Nat.le_of_ble_eq_true rfl, Nat.le_of_ble_eq_true rfl⟩ rfl (Nat.le_of_ble_eq_true rfl) dX2_clocks_62 ⟨Nat.zero_le _, Nat.zero_le _⟩ (fun v_675 μ_676 H locs hp_677 hP hS => ?_)
      obtain ⟨rfl, he_678a, he_678f, he_678o⟩ := hp_677
      refine w_eqi (y := nI (if runS (spB tx) n 0 < n then tx (runS (spB tx) n 0) else 0)) (by split <;> rfl) ?_
      refine lv_istore_n (lv' := [(1, .int (nI (if runS (spB tx) n 0 < n then tx (runS (spB tx) n 0) else 0))), (0, .ref (ad 0))]) hx hb dX2_clocks_65 rfl hl (by decide) rfl (fun ls hl => ?_)
      have f8 : FRm μ_673 μ_676 := FRm.fld (fun k hk => he_678f k (by omega)) he_678o
      have w8 : μ_676 0 12 = nI 0 := by rw [he_678f 12 (by decide), o7 0 (by decide)]; exact p12
      have ps8 : PRs μ_676 (runS (spB tx) n 0, rd0, false, false) := ⟨he_678a, by rw [he_678o 1 (by decide)]; exact hR7, by rw [he_678f 15 (by decide), o7 0 (by decide)]; exact p15, by rw [he_678f 16 (by decide), o7 0 (by decide)]; exact p16⟩
      refine w_msM (α := PS × (Nat → Nat → Int32)) 66 2 (gA 7 ad s0.heap.size) s0.heap (fun x => [(0, .ref (ad 0))]) (fun fu x H => mW D T ad x.2 H ∧ FRm μ_673 x.2 ∧ ((x.2 0 12 = nI 0 ∧ PRs x.2 (runS (spB tx) n x.1.1, x.1.2) ∧ RI x.1.2.1 ∧ x.1.1 ≤ n ∧ 201 ≤ fu + x.1.1 ∧ parseF n tx fu x.1 = parseS n tx) ∨ ∃ c p, (1 ≤ c ∧ c ≤ 4) ∧ parseS n tx = .inl (c, p) ∧ x.2 0 12 = nI c ∧ x.2 0 13 = nI p)) ?_ 201 ((0, rd0, false, false), μ_676) (lv_sub hl [1] rfl) ⟨hP, f8, Or.inl ⟨w8, ps8, RI_0, Nat.zero_le _, by omega, rfl⟩⟩ hS
      rintro fu ⟨s, μ9⟩ ls H locs hl ⟨hP, f9, hcase⟩ hS ih
      dsimp only at hl hP f9 hcase ih
      have hl : lv_has ls 2 [(0, .ref (ad 0))] := hl
      have hT9 := hT7.fr f9
      rcases hcase with ⟨c1, c2, c3, c4, c5, c6⟩ | ⟨c, p, c1, c2, c3, c4⟩
      · obtain ⟨d1, d2, d3, d4⟩ := c2
        have d1 : μ9 0 11 = nI (runS (spB tx) n s.1) := d1
        have rl : runS (spB tx) n s.1 ≤ n := run_le c4
        refine lv_aload_n hx hb dX2_clocks_66 rfl (lv_at hl 0 rfl) ?_
        refine m_cR [] C hml hl.1 hP (mX2_fine l D T ad μ9) (lw_V q855 q857 qs35 q71 q858) hdX2_fine ⟨rfl, rfl⟩ ⟨Nat.le_of_ble_eq_true rfl, Nat.le_of_ble_eq_true rfl⟩ rfl (Nat.le_of_ble_eq_true rfl) dX2_clocks_67 ⟨Nat.zero_le _, Nat.zero_le _⟩ ?_
        refine lv_if_eq (tgt := 96) hx hb dX2_clocks_70 (by decide) (fun c_685 => ?_) (fun c_685 => ?_)
        · exact absurd c1 (of_decide_eq_false (bI_eq0.mp c_685))
        · refine lv_aload_n hx hb dX2_clocks_73 rfl (lv_at hl 0 rfl) ?_
          refine mg_at C hP dX2_clocks_74 ?_
          refine w_eqi (y := nI (runS (spB tx) n s.1)) (d1) ?_
          refine lv_aload_n hx hb dX2_clocks_77 rfl (lv_at hl 0 rfl) ?_
          refine mg_size C hP dX2_clocks_78 ?_
          refine w_eqi (y := nI (n)) (hT9.1) ?_
          refine w_icmpN_ge (tgt := 96) hx hb dX2_clocks_81 (by decide) (by omega) (by omega) (fun c_686 => ?_) (fun c_686 => ?_)
          · have hps : parseS n tx = .inr s := by
              rw [← c6]
              cases fu with
              | zero => rfl
              | succ f => exact if_neg (by omega)
            refine lv_aload_n hx hb dX2_clocks_96 rfl (lv_at hl 0 rfl) ?_
            refine lv_iconst (v := nI 0) hx hb dX2_clocks_97 (by decide) ?_
            refine mp_size C hP hS dX2_clocks_98 (fun H locs hP hS => ?_)
            obtain ⟨μ_699, eμ_700⟩ : ∃ y9, y9 = mset μ9 0 4 (nI (0)) := ⟨_, rfl⟩
            rw [← eμ_700] at hP
            have w12 : μ_699 0 12 = 0 := by rw [eμ_700, mset_ne (Or.inr (by decide))]; exact c1
            refine lv_aload_n hx hb dX2_clocks_101 rfl (lv_at hl 0 rfl) ?_
            refine m_cR [] C hml hl.1 hP (mX2_fine l D T ad μ_699) (lw_V q855 q857 qs35 q71 q858) hdX2_fine ⟨rfl, rfl⟩ ⟨Nat.le_of_ble_eq_true rfl, Nat.le_of_ble_eq_true rfl⟩ rfl (Nat.le_of_ble_eq_true rfl) dX2_clocks_102 ⟨Nat.zero_le _, Nat.zero_le _⟩ ?_
            refine lv_if_ne (tgt := 124) hx hb dX2_clocks_105 (by decide) (fun c_701 => ?_) (fun c_701 => ?_)
            · refine lv_aload_n hx hb dX2_clocks_124 rfl (lv_at hl 0 rfl) ?_
              refine mg_w C hP dX2_clocks_125 ?_
              refine lv_sipush (v := nI 3839) hx hb dX2_clocks_128 (by decide) ?_
              refine lv_aload_n hx hb dX2_clocks_131 rfl (lv_at hl 0 rfl) ?_
              refine mg_w C hP dX2_clocks_132 ?_
              refine lv_sipush (v := nI 191) hx hb dX2_clocks_135 (by decide) ?_
              refine m_ald1 C hP (by omega) dX2_clocks_138 ?_
              refine m_ast1 C hP hS (by omega) dX2_clocks_139 (fun H locs hP hS => ?_)
              obtain ⟨μ_702, eμ_703⟩ : ∃ y9, y9 = mset μ_699 1 (3839) (μ_699 1 (191)) := ⟨_, rfl⟩
              rw [← eμ_703] at hP
              refine lv_aload_n hx hb dX2_clocks_140 rfl (lv_at hl 0 rfl) ?_
              refine lv_sipush (v := nI 3648) hx hb dX2_clocks_141 (by decide) ?_
              refine lv_iconst (v := nI 0) hx hb dX2_clocks_144 (by decide) ?_
              refine m_cM [.int (nI 3648), .int (nI 0)] C hml hl.1 hP hS (mX2_copyRow l D T ad μ_702 3648 0 (by omega) (by omega) (by omega)) (lw_V q879 q881 qs41 q71 q882) hdX2_copyRow ⟨rfl, rfl⟩ ⟨Nat.le_of_ble_eq_true rfl, Nat.le_of_ble_eq_true rfl⟩ rfl (Nat.le_of_ble_eq_true rfl) dX2_clocks_145 ⟨Nat.zero_le _, Nat.zero_le _⟩ (fun v_704 μ_705 H locs hp_706 hP hS => ?_)
              obtain ⟨rfl, cp_707a, cp_707b, cp_707c⟩ := hp_706
              refine lv_aload_n hx hb dX2_clocks_148 rfl (lv_at hl 0 rfl) ?_
              refine lv_iconst (v := nI 0) hx hb dX2_clocks_149 (by decide) ?_
              refine mp_known C hP hS dX2_clocks_150 (fun H locs hP hS => ?_)
              obtain ⟨μ_708, eμ_709⟩ : ∃ y9, y9 = mset μ_705 0 1 (nI (0)) := ⟨_, rfl⟩
              rw [← eμ_709] at hP
              refine lv_aload_n hx hb dX2_clocks_153 rfl (lv_at hl 0 rfl) ?_
              refine lv_iconst (v := nI 0) hx hb dX2_clocks_154 (by decide) ?_
              refine mp_kept C hP hS dX2_clocks_155 (fun H locs hP hS => ?_)
              obtain ⟨μ_710, eμ_711⟩ : ∃ y9, y9 = mset μ_708 0 2 (nI (0)) := ⟨_, rfl⟩
              rw [← eμ_711] at hP
              refine lv_aload_n hx hb dX2_clocks_158 rfl (lv_at hl 0 rfl) ?_
              refine lv_iconst (v := nI 0) hx hb dX2_clocks_159 (by decide) ?_
              refine mp_written C hP hS dX2_clocks_160 (fun H locs hP hS => ?_)
              obtain ⟨μ_712, eμ_713⟩ : ∃ y9, y9 = mset μ_710 0 8 (nI (0)) := ⟨_, rfl⟩
              rw [← eμ_713] at hP
              have hRE : Rp (μ_712 1) 0 s.2.1 := by
                rw [eμ_713, mset_oth (by decide), eμ_711, mset_oth (by decide), eμ_709, mset_oth (by decide)]
                refine d2.copy (fun k hk => ?_)
                have z := cp_707a k (by omega)
                rw [z, eμ_703, mset_ne (Or.inr (by omega)), eμ_700, mset_oth (by decide)]
              refine lv_aload_n hx hb dX2_clocks_163 rfl (lv_at hl 0 rfl) ?_
              refine mg_w C hP dX2_clocks_164 ?_
              refine lv_iconst (v := nI 0) hx hb dX2_clocks_167 (by decide) ?_
              refine m_ald1 C hP (by omega) dX2_clocks_168 ?_
              refine w_eqi (rp_many hRE (by omega)) ?_
              refine w_eqi (c3.many) ?_
              have eQ : clocksQ a = (nI (nM s.2.1), setBk (setFt (setTx (setIm (setPs (setH a s.2.1) 0 (aPs a)) (fun _ => false) (aIm a) (aIs a)) 0 (aTx a)) (-1)) 0 (aBo a) (aBa a)) := by unfold clocksQ; rw [← en, ← etx, hps]
              have q0 : ∀ j, j < 11 → j ≠ 1 → j ≠ 2 → j ≠ 4 → j ≠ 8 → μ_712 0 j = μ_667 0 j := fun j hj h1 h2 h4 h8 => by rw [eμ_713, mset_ne (Or.inr h8), eμ_711, mset_ne (Or.inr h2), eμ_709, mset_ne (Or.inr h1), cp_707c 0 (by decide), eμ_703, mset_oth (by decide), eμ_700, mset_ne (Or.inr h4), f9.2.1 j hj, o7 0 (by decide)]
              have sdE : μ_712 1 191 = aSd a := by
                rw [eμ_713, mset_oth (by decide), eμ_711, mset_oth (by decide), eμ_709, mset_oth (by decide)]
                have z := cp_707a 191 (by omega)
                rw [Nat.zero_add] at z
                rw [z, eμ_703, mset_self, eμ_700, mset_oth (by decide), f9.2.2 191 (by omega), k7 191 (by omega)]; exact hM.sd
              exact mM_retI C hlk hr hS hP dX2_clocks_169 ⟨by rw [eQ], by
                    rw [eQ]
                    exact ⟨⟨hRE, sdE⟩, ⟨by rw [eμ_713, mset_ne (Or.inr (by decide)), eμ_711, mset_ne (Or.inr (by decide)), eμ_709, mset_self], Nat.zero_le _, fun k hk => absurd hk (Nat.not_lt_zero k)⟩, ⟨by rw [eμ_713, mset_ne (Or.inr (by decide)), eμ_711, mset_self]; rfl, fun i hi hk => absurd (show false = true from hk) (by decide)⟩, ⟨by rw [eμ_713, mset_ne (Or.inr (by decide)), eμ_711, mset_ne (Or.inr (by decide)), eμ_709, mset_ne (Or.inr (by decide)), cp_707c 0 (by decide), eμ_703, mset_oth (by decide), eμ_700, mset_self], Nat.zero_le _, fun k hk => absurd hk (Nat.not_lt_zero k)⟩, (q0 5 (by decide) (by decide) (by decide) (by decide) (by decide)).trans p5, ⟨by rw [eμ_713, mset_self], Nat.zero_le _, fun k hk => absurd hk (Nat.not_lt_zero k)⟩⟩⟩
            · exact absurd w12 (of_decide_eq_false (bI_eq0.mp c_701))
          · obtain ⟨f, ef⟩ : ∃ f, fu = f + 1 := ⟨fu - 1, by have := run_ge (p := spB tx) (n := n) (k := s.1); omega⟩
            subst ef
            have psi : PRs μ9 (runS (spB tx) n s.1, s.2) := ⟨d1, d2, d3, d4⟩
            have hid : runS (spB tx) n (runS (spB tx) n s.1) = runS (spB tx) n s.1 := run_idem
            have hcs : clauseS n tx (runS (spB tx) n s.1, s.2) = clauseS n tx s := by unfold clauseS; dsimp only; rw [hid]; rfl
            have c6' : parseF n tx (f + 1) s = match clauseS n tx s with
              | .inl e => .inl e
              | .inr t => parseF n tx f t := if_pos c_686
            rw [c6] at c6'
            refine lv_aload_n hx hb dX2_clocks_84 rfl (lv_at hl 0 rfl) ?_
            refine m_cM [] C hml hl.1 hP hS (mX2_readClause l D T ad μ9 n tx hT9 (runS (spB tx) n s.1, s.2) psi rl (by dsimp only; rw [hid]; exact c_686) c1 c3) (lw_V q859 q861 qs36 q71 q862) hdX2_readClause ⟨rfl, rfl⟩ ⟨Nat.le_of_ble_eq_true rfl, Nat.le_of_ble_eq_true rfl⟩ rfl (Nat.le_of_ble_eq_true rfl) dX2_clocks_85 ⟨Nat.zero_le _, Nat.zero_le _⟩ (fun v_687 μ_688 H locs hp_689 hP hS => ?_)
            obtain ⟨rfl, cl_690f, cl_690w⟩ := hp_689
            rw [hcs] at cl_690w
            have f10 := f9.tr cl_690f
            have hT10 := hT7.fr f10
            rcases hcl : clauseS n tx s with ⟨c, p⟩ | t
            · obtain ⟨x1, x2, x3, k, hk, x4⟩ := cl_690w.1 _ _ hcl
              rw [hcl] at c6'
              refine lv_aload_n hx hb dX2_clocks_88 rfl (lv_at hl 0 rfl) ?_
              refine m_cM [] C hml hl.1 hP hS (mX2_here l D T ad μ_688 n tx hT10 k x4 hk) (lw_V q851 q853 qs34 q71 q854) hdX2_here ⟨rfl, rfl⟩ ⟨Nat.le_of_ble_eq_true rfl, Nat.le_of_ble_eq_true rfl⟩ rfl (Nat.le_of_ble_eq_true rfl) dX2_clocks_89 ⟨Nat.zero_le _, Nat.zero_le _⟩ (fun v_691 μ_692 H locs hp_693 hP hS => ?_)
              obtain ⟨rfl, he_694a, he_694f, he_694o⟩ := hp_693
              refine w_eqi (y := nI (if runS (spB tx) n k < n then tx (runS (spB tx) n k) else 0)) (by split <;> rfl) ?_
              refine lv_istore_n (lv' := [(1, .int (nI (if runS (spB tx) n k < n then tx (runS (spB tx) n k) else 0))), (0, .ref (ad 0))]) hx hb dX2_clocks_92 rfl hl (by decide) rfl (fun ls hl => ?_)
              refine lv_goto (tgt := 66) hx hb dX2_clocks_93 (by decide) ?_
              exact ih f (s, μ_692) _ _ _ (Nat.lt_succ_self f) (lv_sub hl [1] rfl) ⟨hP, f10.tr (FRm.fld (fun k hk => he_694f k (by omega)) he_694o), Or.inr ⟨c, p, x1, c6', (he_694f 12 (by decide)).trans x2, (he_694f 13 (by decide)).trans x3⟩⟩ hS
            · obtain ⟨x1, x2, x3, x4, x5⟩ := cl_690w.2 _ hcl
              rw [hcl] at c6'
              obtain ⟨y1, y2, y3⟩ := clause_ok hcl c3 (by omega)
              refine lv_aload_n hx hb dX2_clocks_88 rfl (lv_at hl 0 rfl) ?_
              refine m_cM [] C hml hl.1 hP hS (mX2_here l D T ad μ_688 n tx hT10 (t.1) x2 (by omega)) (lw_V q851 q853 qs34 q71 q854) hdX2_here ⟨rfl, rfl⟩ ⟨Nat.le_of_ble_eq_true rfl, Nat.le_of_ble_eq_true rfl⟩ rfl (Nat.le_of_ble_eq_true rfl) dX2_clocks_89 ⟨Nat.zero_le _, Nat.zero_le _⟩ (fun v_695 μ_696 H locs hp_697 hP hS => ?_)
              obtain ⟨rfl, he_698a, he_698f, he_698o⟩ := hp_697
              refine w_eqi (y := nI (if runS (spB tx) n (t.1) < n then tx (runS (spB tx) n (t.1)) else 0)) (by split <;> rfl) ?_
              refine lv_istore_n (lv' := [(1, .int (nI (if runS (spB tx) n (t.1) < n then tx (runS (spB tx) n (t.1)) else 0))), (0, .ref (ad 0))]) hx hb dX2_clocks_92 rfl hl (by decide) rfl (fun ls hl => ?_)
              refine lv_goto (tgt := 66) hx hb dX2_clocks_93 (by decide) ?_
              exact ih f (t, μ_696) _ _ _ (Nat.lt_succ_self f) (lv_sub hl [1] rfl) ⟨hP, f10.tr (FRm.fld (fun k hk => he_698f k (by omega)) he_698o), Or.inl ⟨(he_698f 12 (by decide)).trans x1, ⟨he_698a, (show Rp (μ_696 1) 3648 t.2.1 by rw [he_698o 1 (by decide)]; exact x3), (he_698f 15 (by decide)).trans x4, (he_698f 16 (by decide)).trans x5⟩, y1, y3, by dsimp only; omega, c6'.symm⟩⟩ hS
      · have hbw : ¬ μ9 0 12 = 0 := by rw [c3]; exact nI_ne0 (by omega) (by omega)
        refine lv_aload_n hx hb dX2_clocks_66 rfl (lv_at hl 0 rfl) ?_
        refine m_cR [] C hml hl.1 hP (mX2_fine l D T ad μ9) (lw_V q855 q857 qs35 q71 q858) hdX2_fine ⟨rfl, rfl⟩ ⟨Nat.le_of_ble_eq_true rfl, Nat.le_of_ble_eq_true rfl⟩ rfl (Nat.le_of_ble_eq_true rfl) dX2_clocks_67 ⟨Nat.zero_le _, Nat.zero_le _⟩ ?_
        refine lv_if_eq (tgt := 96) hx hb dX2_clocks_70 (by decide) (fun c_679 => ?_) (fun c_679 => ?_)
        · refine lv_aload_n hx hb dX2_clocks_96 rfl (lv_at hl 0 rfl) ?_
          refine lv_iconst (v := nI 0) hx hb dX2_clocks_97 (by decide) ?_
          refine mp_size C hP hS dX2_clocks_98 (fun H locs hP hS => ?_)
          obtain ⟨μ_680, eμ_681⟩ : ∃ y9, y9 = mset μ9 0 4 (nI (0)) := ⟨_, rfl⟩
          rw [← eμ_681] at hP
          have hbw : ¬ μ_680 0 12 = 0 := by rw [eμ_681, mset_ne (Or.inr (by decide)), c3]; exact nI_ne0 (by omega) (by omega)
          refine lv_aload_n hx hb dX2_clocks_101 rfl (lv_at hl 0 rfl) ?_
          refine m_cR [] C hml hl.1 hP (mX2_fine l D T ad μ_680) (lw_V q855 q857 qs35 q71 q858) hdX2_fine ⟨rfl, rfl⟩ ⟨Nat.le_of_ble_eq_true rfl, Nat.le_of_ble_eq_true rfl⟩ rfl (Nat.le_of_ble_eq_true rfl) dX2_clocks_102 ⟨Nat.zero_le _, Nat.zero_le _⟩ ?_
          refine lv_if_ne (tgt := 124) hx hb dX2_clocks_105 (by decide) (fun c_682 => ?_) (fun c_682 => ?_)
          · exact absurd (of_decide_eq_true (bI_ne0.mp c_682)) hbw
          · refine lv_aload_n hx hb dX2_clocks_108 rfl (lv_at hl 0 rfl) ?_
            refine lv_aload_n hx hb dX2_clocks_109 rfl (lv_at hl 0 rfl) ?_
            refine mg_place C hP dX2_clocks_110 ?_
            refine w_eqi (y := nI (p)) (by rw [eμ_681, mset_ne (Or.inr (by decide))]; exact c4) ?_
            refine mp_fault C hP hS dX2_clocks_113 (fun H locs hP hS => ?_)
            obtain ⟨μ_683, eμ_684⟩ : ∃ y9, y9 = mset μ_680 0 5 (nI (p)) := ⟨_, rfl⟩
            rw [← eμ_684] at hP
            refine lv_bipush (v := -10) hx hb dX2_clocks_116 (by decide) ?_
            refine lv_aload_n hx hb dX2_clocks_118 rfl (lv_at hl 0 rfl) ?_
            refine mg_wrong C hP dX2_clocks_119 ?_
            refine w_eqi (y := nI (c)) (by rw [eμ_684, mset_ne (Or.inr (by decide)), eμ_681, mset_ne (Or.inr (by decide))]; exact c3) ?_
            refine lv_isub hx hb dX2_clocks_122 ?_
            have eQ : clocksQ a = (-10 - nI c, setFt (setTx a 0 (aTx a)) (nI p)) := by unfold clocksQ; rw [← en, ← etx, c2]
            have q0 : ∀ j, j < 11 → j ≠ 4 → j ≠ 5 → μ_683 0 j = μ 0 j := fun j hj h4 h5 => by rw [eμ_684, mset_ne (Or.inr h5), eμ_681, mset_ne (Or.inr h4), f9.2.1 j hj, o7 0 (by decide), pj j hj h5]
            have qq : ∀ j, j ≠ 0 → j ≠ 1 → μ_683 j = μ j := fun j h0 h1 => by rw [eμ_684, mset_oth h0, eμ_681, mset_oth h0, f9.1 j h0 h1, o7 j h1, pq j h0]
            have q1 : ∀ k, k < 3648 → μ_683 1 k = μ 1 k := fun k hk => by rw [eμ_684, mset_oth (by decide), eμ_681, mset_oth (by decide), f9.2.2 k hk, k7 k hk]
            exact mM_retI C hlk hr hS hP dX2_clocks_123 ⟨by rw [eQ], by
                  rw [eQ]
                  refine ⟨⟨hM.r.kept (fun k _ hk => q1 k (by omega)), by rw [q1 191 (by omega)]; exact hM.sd⟩, ⟨by rw [q0 1 (by decide) (by decide) (by decide)]; exact hM.kn, hM.kn16, fun k hk => (hM.ps hk).kept (fun q _ hq => q1 q ?_)⟩, ⟨by rw [q0 2 (by decide) (by decide) (by decide)]; exact hM.kp, fun i hi hk => ?_⟩, ⟨by rw [eμ_684, mset_ne (Or.inr (by decide)), eμ_681, mset_self], Nat.zero_le _, fun k hk => absurd hk (Nat.not_lt_zero k)⟩, by rw [eμ_684, mset_self], ⟨by rw [q0 8 (by decide) (by decide) (by decide)]; exact hM.bn, hM.bn20, fun k hk => by rw [qq 3 (by decide) (by decide), qq 4 (by decide) (by decide)]; exact hM.bk hk⟩⟩
                  · have hk : k < aKn a := hk
                    have hq : q < 192 * (aKn a - k) + 191 := hq
                    omega
                  · have := hM.im hi hk
                    exact ⟨this.1.kept (fun q _ hq => q1 q (by omega)), by rw [q1 _ (by omega)]; exact this.2⟩⟩
        · exact absurd (of_decide_eq_true (bI_ne0.mp c_679)) hbw
    · exact absurd c_672 (by omega)

