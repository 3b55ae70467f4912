/-! what deeds keep of a house -/
set_option maxRecDepth 100000
theorem HB_of {h h' : Vw} (H : HB h) (e00 : h' 0 0 = h 0 0) (e01 : h' 0 1 = h 0 1) (e010 : h' 0 10 = h 0 10) (e4 : ∀ c, c < 8 → b01 (h' 4 c)) (e5 : ∀ c, c < 8 → b01 (h' 5 c)) (e10 : ∀ a, a < 6 → b01 (h' 10 a)) (e8 : ∀ a, a < nA h → h' 8 a = h 8 a) : HB h' := by
  have n1 : nM h' = nM h := by unfold nM; rw [e00]
  have n2 : nF h' = nF h := by unfold nF; rw [e01]
  have n3 : nA h' = nA h := by unfold nA; rw [e010]
  refine ⟨⟨by rw [n1, e00]; exact H.many, by rw [n1]; exact H.many8⟩, ⟨by rw [n2, e01]; exact H.strike, by rw [n2]; exact H.strike3⟩, ⟨by rw [n3, e010]; exact H.alarms, by rw [n3]; exact H.alarms6⟩, fun c hc => ⟨e4 c hc, e5 c hc⟩, e10, fun a ha => ?_⟩
  rw [n3] at ha
  rw [n1, e8 a ha]
  exact H.of ha
theorem b01_ite {c : Prop} [Decidable c] {x : Int32} (h : b01 x) : b01 (if c then 1 else x) := by
  split
  · exact Or.inr rfl
  · exact h
theorem nM_rg {h : Vw} {n : Nat} : nM (rgS h n) = nM h := by unfold nM; rw [rgS_oth (Or.inl (by decide))]
theorem nF_rg {h : Vw} {n : Nat} : nF (rgS h n) = nF h := by unfold nF; rw [rgS_oth (Or.inl (by decide))]
theorem nA_rg {h : Vw} {n : Nat} : nA (rgS h n) = nA h := by unfold nA; rw [rgS_oth (Or.inl (by decide))]
theorem HB_rg {h : Vw} (H : HB h) {n : Nat} : HB (rgS h n) := by
  refine HB_of H (rgS_oth (Or.inl (by decide))) (rgS_oth (Or.inl (by decide))) (rgS_oth (Or.inl (by decide))) (fun c hc => by rw [rgS_oth (Or.inl (by decide))]; exact H.lies hc) (fun c hc => by rw [rgS_oth (Or.inl (by decide))]; exact H.stands hc) (fun a ha => ?_) (fun a _ => rgS_oth (Or.inl (by decide)))
  unfold rgS
  split
  · exact b01_ite (H.rung ha)
  · exact H.rung ha
theorem HC_rg {h : Vw} : HC (rgS h (nA h)) := by
  intro a ha
  rw [nA_rg] at ha
  rw [rgS_oth (f := 9) (Or.inl (by decide)), rgS_oth (f := 1) (Or.inl (by decide)), rgS_oth (f := 8) (Or.inl (by decide))]
  intro hle
  unfold rgS
  rw [if_pos ⟨rfl, ha⟩, if_pos hle]
theorem aim_rg {h : Vw} {n c : Nat} : aimS (rgS h n) c = aimS h c := by
  unfold aimS; rw [rgS_oth (Or.inl (by decide)), rgS_oth (Or.inl (by decide))]
theorem HA_of {h h' : Vw} {B : Int} (H : HA h B) (n : nM h' = nM h) (e : ∀ c, c < nM h → aimS h' c = aimS h c) (e6 : ∀ c, h' 6 c = h 6 c) (e7 : ∀ c, h' 7 c = h 7 c) : HA h' B := by
  refine ⟨fun c hc => by rw [n] at hc; rw [e c hc]; exact H.1 c hc, fun c hc => by rw [e6, e7]; exact H.2 c hc⟩
theorem HA.mono {h : Vw} {B B' : Int} (H : HA h B) (hb : B ≤ B') : HA h B' := ⟨fun c hc => by have := H.1 c hc; omega, H.2⟩
theorem HG.mono {h : Vw} {B B' : Int} (H : HG h B) (hb : B ≤ B') : HG h B' := ⟨H.1, H.2.1, H.2.2.1.mono hb, H.2.2.2⟩
theorem HS_of {h h' : Vw} (H : HS h) (n : nM h' = nM h) (e : h' 0 2 = h 0 2) (e2 : ∀ c, h' 2 c = h 2 c) : HS h' := ⟨by rw [e]; exact H.1, fun c hc => by rw [n] at hc; rw [e2]; exact H.2 c hc⟩
/-! a tick -/
theorem tick_oth {h : Vw} {f c : Nat} (h0 : f ≠ 0) (h1 : f ≠ 1) (h3 : f ≠ 3) (h10 : f ≠ 10) : tickS h f c = h f c := by
  unfold tickS; rw [rgS_oth (Or.inl h10)]; unfold tmS; rw [mset_oth h0, goS_oth h1 h3]
theorem tick_0 {h : Vw} {c : Nat} (hc : c ≠ 14) : tickS h 0 c = h 0 c := by
  unfold tickS; rw [rgS_oth (Or.inl (by decide))]; unfold tmS; rw [mset_ne (Or.inr hc), goS_oth (by decide) (by decide)]
theorem nM_tick {h : Vw} : nM (tickS h) = nM h := by unfold nM; rw [tick_0 (by decide)]
theorem nF_tick {h : Vw} : nF (tickS h) = nF h := by unfold nF; rw [tick_0 (by decide)]
theorem nA_tick {h : Vw} : nA (tickS h) = nA h := by unfold nA; rw [tick_0 (by decide)]
theorem nA_tm {h : Vw} {n : Nat} : nA (tmS (goS h n)) = nA h := by unfold nA tmS; rw [mset_ne (Or.inr (by decide)), goS_oth (by decide) (by decide)]
theorem HB_tick {h : Vw} (H : HB h) : HB (tickS h) := by
  refine HB_of H (tick_0 (by decide)) (tick_0 (by decide)) (tick_0 (by decide)) (fun c hc => by rw [tick_oth (by decide) (by decide) (by decide) (by decide)]; exact H.lies hc) (fun c hc => by rw [tick_oth (by decide) (by decide) (by decide) (by decide)]; exact H.stands hc) (fun a ha => ?_) (fun a _ => tick_oth (by decide) (by decide) (by decide) (by decide))
  have e : tmS (goS h (nM h)) 10 a = h 10 a := by unfold tmS; rw [mset_oth (by decide), goS_oth (by decide) (by decide)]
  unfold tickS rgS
  split
  · exact b01_ite (by rw [e]; exact H.rung ha)
  · rw [e]; exact H.rung ha
theorem HC_tick {h : Vw} : HC (tickS h) := by
  have := HC_rg (h := tmS (goS h (nM h)))
  rw [nA_tm] at this
  exact this
theorem tick_alg (v a r m : Int32) : v + (r + m) + (a - m) = v + a + r := by grind
theorem aim_tick {h : Vw} {c : Nat} (hc : c < nM h) : aimS (tickS h) c = if h 5 c = 0 then aimS h c + h 2 c else aimS h c := by
  have e1 : tickS h 1 c = goS h (nM h) 1 c := by unfold tickS; rw [rgS_oth (Or.inl (by decide))]; unfold tmS; rw [mset_oth (by decide)]
  have e3 : tickS h 3 c = goS h (nM h) 3 c := by unfold tickS; rw [rgS_oth (Or.inl (by decide))]; unfold tmS; rw [mset_oth (by decide)]
  unfold aimS
  rw [e1, e3]
  unfold goS
  by_cases h5 : h 5 c = 0
  · rw [if_pos ⟨rfl, hc, h5⟩, if_neg (fun q => absurd q.1 (by decide)), if_pos ⟨rfl, hc, h5⟩, if_pos h5]
    exact tick_alg _ _ _ _
  · rw [if_neg (fun q => h5 q.2.2), if_neg (fun q => absurd q.1 (by decide)), if_neg (fun q => absurd q.1 (by decide)), if_neg (fun q => h5 q.2.2), if_neg h5]
theorem HG_tick {h : Vw} {B : Int} (H : HG h B) (hB1 : 0 ≤ B) (hB0 : B ≤ 400000000) : HG (tickS h) (B + 110) := by
  obtain ⟨hB, hC, hA, hS⟩ := H
  refine ⟨HB_tick hB, HC_tick, ⟨fun c hc => ?_, fun c hc => ?_⟩, HS_of hS nM_tick (tick_0 (by decide)) (fun c => tick_oth (by decide) (by decide) (by decide) (by decide))⟩
  · rw [nM_tick] at hc
    have a1 := hA.1 c hc
    have a2 := hS.2 c hc
    rw [aim_tick hc]
    split
    · rw [i_add (by omega) (by omega)]; omega
    · omega
  · rw [tick_oth (by decide) (by decide) (by decide) (by decide), tick_oth (by decide) (by decide) (by decide) (by decide)]
    exact hA.2 c hc
theorem HG_ticks {h : Vw} {B : Int} (H : HG h B) (hB1 : 0 ≤ B) (n : Nat) (hn : B + 110 * (n : Int) ≤ 400000000) : HG (iterS tickS n h) (B + 110 * (n : Int)) := by
  induction n with
  | zero => exact H.mono (by omega)
  | succ n ih => exact (HG_tick (ih (by omega)) (by omega) (by omega)).mono (by omega)
/-! a round -/
theorem round_oth {h : Vw} {f c : Nat} (h3 : f ≠ 3) : roundS h f c = h f c := hfil_oth h3
theorem nM_round {h : Vw} : nM (roundS h) = nM h := by unfold nM; rw [round_oth (by decide)]
theorem nF_round {h : Vw} : nF (roundS h) = nF h := by unfold nF; rw [round_oth (by decide)]
theorem nA_round {h : Vw} : nA (roundS h) = nA h := by unfold nA; rw [round_oth (by decide)]
theorem HC_of {h h' : Vw} (H : HC h) (n : nA h' = nA h) (e1 : ∀ c, h' 1 c = h 1 c) (e8 : ∀ c, h' 8 c = h 8 c) (e9 : ∀ c, h' 9 c = h 9 c) (e10 : ∀ c, h' 10 c = h 10 c) : HC h' := fun a ha => by
  rw [n] at ha
  rw [e9, e1, e8, e10]
  exact H a ha
theorem round_alg (v m : Int32) : v + (m - v) = m := by grind
theorem aim_round {h : Vw} {c : Nat} (hc : c < nM h) : aimS (roundS h) c = if trS h c = true then midOfS h c else aimS h c := by
  unfold aimS
  rw [round_oth (by decide)]
  unfold roundS
  rw [hfil_lt hc]
  unfold nextS
  split
  · exact round_alg _ _
  · rfl
theorem HG_round {h : Vw} {B : Int} (H : HG h B) (hB1 : 0 ≤ B) (hB0 : B ≤ 400000000) : HG (roundS h) (B + 9999) := by
  obtain ⟨hB, hC, hA, hS⟩ := H
  refine ⟨HB_of hB (round_oth (by decide)) (round_oth (by decide)) (round_oth (by decide)) (fun c hc => by rw [round_oth (by decide)]; exact hB.lies hc) (fun c hc => by rw [round_oth (by decide)]; exact hB.stands hc) (fun a ha => by rw [round_oth (by decide)]; exact hB.rung ha) (fun a _ => round_oth (by decide)), HC_of hC nA_round (fun c => round_oth (by decide)) (fun c => round_oth (by decide)) (fun c => round_oth (by decide)) (fun c => round_oth (by decide)), ⟨fun c hc => ?_, fun c hc => ?_⟩, HS_of hS nM_round (round_oth (by decide)) (fun c => round_oth (by decide))⟩
  · rw [nM_round] at hc
    rw [aim_round hc]
    split
    · exact midOfS_bd hA hB0 hB1 hB.many8 hc
    · have := hA.1 c hc; omega
  · rw [round_oth (by decide), round_oth (by decide)]; exact hA.2 c hc
theorem HG_rounds {h : Vw} {B : Int} (H : HG h B) (hB1 : 0 ≤ B) (n : Nat) (hn : B + 9999 * (n : Int) ≤ 400000000) : HG (iterS roundS n h) (B + 9999 * (n : Int)) := by
  induction n with
  | zero => exact H.mono (by omega)
  | succ n ih => exact (HG_round (ih (by omega)) (by omega) (by omega)).mono (by omega)
/-! single numbers -/
theorem HG_set {h : Vw} {B : Int} (H : HG h B) (f k : Nat) (v : Int32) (hf : f = 4 ∨ f = 5 ∨ f = 6 ∨ f = 7) (h45 : (f = 4 ∨ f = 5) → b01 v) (h6 : f = 6 → -9999 ≤ v.toInt ∧ v.toInt ≤ 9999) (h7 : f = 7 → -20 ≤ v.toInt ∧ v.toInt ≤ 20) : HG (mset h f k v) B := by
  obtain ⟨hB, hC, hA, hS⟩ := H
  have ne : ∀ g, (g = 0 ∨ g = 1 ∨ g = 2 ∨ g = 3 ∨ g = 8 ∨ g = 9 ∨ g = 10) → g ≠ f := fun g hg => by omega
  have o : ∀ g c, (g = 0 ∨ g = 1 ∨ g = 2 ∨ g = 3 ∨ g = 8 ∨ g = 9 ∨ g = 10) → mset h f k v g c = h g c := fun g c hg => mset_ne (Or.inl (ne g hg))
  have n1 : nM (mset h f k v) = nM h := by unfold nM; rw [o 0 0 (by omega)]
  have n3 : nA (mset h f k v) = nA h := by unfold nA; rw [o 0 10 (by omega)]
  have bt : ∀ g, (g = 4 ∨ g = 5) → (∀ c, c < 8 → b01 (h g c)) → ∀ c, c < 8 → b01 (mset h f k v g c) := fun g hg hh c hc => by
    by_cases e : g = f ∧ c = k
    · obtain ⟨rfl, rfl⟩ := e; rw [mset_self]; exact h45 hg
    · rw [mset_ne (by omega)]; exact hh c hc
  refine ⟨HB_of hB (o 0 0 (by omega)) (o 0 1 (by omega)) (o 0 10 (by omega)) (bt 4 (by omega) (fun c hc => hB.lies hc)) (bt 5 (by omega) (fun c hc => hB.stands hc)) (fun a ha => by rw [o 10 a (by omega)]; exact hB.rung ha) (fun a _ => o 8 a (by omega)), HC_of hC n3 (fun c => o 1 c (by omega)) (fun c => o 8 c (by omega)) (fun c => o 9 c (by omega)) (fun c => o 10 c (by omega)), ⟨fun c hc => ?_, fun c hc => ⟨?_, ?_⟩⟩, HS_of hS n1 (o 0 2 (by omega)) (fun c => o 2 c (by omega))⟩
  · rw [n1] at hc
    unfold aimS
    rw [o 1 c (by omega), o 3 c (by omega)]
    exact hA.1 c hc
  · by_cases e : 6 = f ∧ c = k
    · obtain ⟨rfl, rfl⟩ := e; rw [mset_self]; exact h6 rfl
    · rw [mset_ne (by omega)]; exact (hA.2 c hc).1
  · by_cases e : 7 = f ∧ c = k
    · obtain ⟨rfl, rfl⟩ := e; rw [mset_self]; exact h7 rfl
    · rw [mset_ne (by omega)]; exact (hA.2 c hc).2
/-! an alarm -/
theorem al_oth {h : Vw} {c v : Int32} {f k : Nat} (h0 : f ≠ 0) (h8 : f ≠ 8) (h9 : f ≠ 9) (h10 : f ≠ 10) : alarmH h c v f k = h f k := by
  unfold alarmH; rw [mset_oth h0, mset_oth h10, mset_oth h9, mset_oth h8]
theorem al_0 {h : Vw} {c v : Int32} {k : Nat} (hk : k ≠ 10) : alarmH h c v 0 k = h 0 k := by
  unfold alarmH; rw [mset_ne (Or.inr hk), mset_oth (by decide), mset_oth (by decide), mset_oth (by decide)]
theorem al_8 {h : Vw} {c v : Int32} {k : Nat} : alarmH h c v 8 k = if k = nA h then c else h 8 k := by
  unfold alarmH; rw [mset_oth (by decide), mset_oth (by decide), mset_oth (by decide), mset_row]; rfl
theorem al_9 {h : Vw} {c v : Int32} {k : Nat} : alarmH h c v 9 k = if k = nA h then v else h 9 k := by
  unfold alarmH; rw [mset_oth (by decide), mset_oth (by decide), mset_row, mset_oth (by decide)]; rfl
theorem al_10 {h : Vw} {c v : Int32} {k : Nat} : alarmH h c v 10 k = if k = nA h then (if v ≤ h 1 c.toNatClampNeg then 1 else 0) else h 10 k := by
  unfold alarmH; rw [mset_oth (by decide), mset_row, mset_oth (by decide), mset_oth (by decide)]; rfl
theorem nA_al {h : Vw} {c v : Int32} (h6 : nA h < 6) : nA (alarmH h c v) = nA h + 1 := by
  have e : alarmH h c v 0 10 = nI (nA h + 1) := by unfold alarmH; rw [mset_self]
  show (alarmH h c v 0 10).toNatClampNeg = _
  rw [e]; exact nI_clamp (by omega)
theorem HG_alarm {h : Vw} {B : Int} (H : HG h B) {k : Nat} {v : Int32} (hk : k < nM h) (h6 : nA h < 6) : HG (alarmH h (nI k) v) B := by
  obtain ⟨hB, hC, hA, hS⟩ := H
  have h8 := hB.many8
  have n1 : nM (alarmH h (nI k) v) = nM h := by unfold nM; rw [al_0 (by decide)]
  have n2 : nF (alarmH h (nI k) v) = nF h := by unfold nF; rw [al_0 (by decide)]
  have n3 := nA_al (h := h) (c := nI k) (v := v) h6
  have e10 : alarmH h (nI k) v 0 10 = nI (nA h + 1) := by unfold alarmH; rw [mset_self]
  refine ⟨⟨⟨by rw [n1, al_0 (by decide)]; exact hB.many, by rw [n1]; exact h8⟩, ⟨by rw [n2, al_0 (by decide)]; exact hB.strike, by rw [n2]; exact hB.strike3⟩, ⟨by rw [n3, e10], by rw [n3]; omega⟩, fun c hc => ?_, fun a ha => ?_, fun a ha => ?_⟩, fun a ha => ?_, HA_of hA n1 (fun c hc => ?_) (fun c => al_oth (by decide) (by decide) (by decide) (by decide)) (fun c => al_oth (by decide) (by decide) (by decide) (by decide)), HS_of hS n1 (al_0 (by decide)) (fun c => al_oth (by decide) (by decide) (by decide) (by decide))⟩
  · rw [al_oth (by decide) (by decide) (by decide) (by decide), al_oth (by decide) (by decide) (by decide) (by decide)]
    exact ⟨hB.lies hc, hB.stands hc⟩
  · rw [al_10]
    split
    · split
      · exact Or.inr rfl
      · exact Or.inl rfl
    · exact hB.rung ha
  · rw [n3] at ha
    rw [n1, al_8]
    split
    · exact ⟨k, hk, rfl⟩
    · exact hB.of (by omega)
  · rw [n3] at ha
    rw [al_9, al_8, al_10, al_oth (by decide) (by decide) (by decide) (by decide)]
    by_cases e : a = nA h
    · simp only [e, if_true]
      intro hle
      rw [if_pos hle]
    · simp only [e, if_false]
      exact hC a (by omega)
  · unfold aimS; rw [al_oth (by decide) (by decide) (by decide) (by decide), al_oth (by decide) (by decide) (by decide) (by decide)]
/-! one that stands joins -/
theorem jn_oth {h : Vw} {c f k : Nat} (h1 : f ≠ 1) (h3 : f ≠ 3) (h5 : f ≠ 5) : joinH h c f k = h f k := by
  unfold joinH; rw [mset_oth h5, mset_oth h3, mset_oth h1]
theorem jnS_all {P : Int32 → Prop} {h : Vw} {c : Nat} (m : Nat) (hv : ∀ j, j < m → P (heardS h c j)) : ∀ k, k < fa_cnt (fun k => decide (h 5 k = 0)) m → P (jnS h c m k) := by
  induction m with
  | zero => intro k hk; exact absurd hk (Nat.not_lt_zero k)
  | succ m ih =>
    intro k hk
    have ih := ih (fun j hj => hv j (by omega))
    unfold jnS
    by_cases e : h 5 m = 0
    · rw [if_pos e]
      rw [fa_cnt_yes (p := fun k => decide (h 5 k = 0)) (decide_eq_true e)] at hk
      exact insS_all (hv m (by omega)) _ _ ih k (by omega)
    · rw [if_neg e]
      rw [fa_cnt_no (p := fun k => decide (h 5 k = 0)) (decide_eq_false e)] at hk
      exact ih k hk
theorem joinAt_bd {h : Vw} {B : Int} (hA : HA h B) (hB0 : B ≤ 400000000) (hB1 : 0 ≤ B) (h8 : nM h ≤ 8) {c : Nat} (hc : c < nM h) (hn : ¬ goN h < 2 * nF h + 1) : (-2147483647 < (jnS h c (nM h) (nF h) + jnS h c (nM h) (goN h - 1 - nF h)).toInt) ∧ -(B + 9999) ≤ (joinAt h c).toInt ∧ (joinAt h c).toInt ≤ B + 9999 :=
  midS_bd (L := -(B + 9999)) (U := B + 9999) (jnS_all (P := fun v => -(B + 9999) ≤ v.toInt ∧ v.toInt ≤ B + 9999) (nM h) (fun j hj => heardS_bd hA hB0 h8 hc hj)) (by omega) (by omega) (by omega)
theorem HB_joinH {h : Vw} (hB : HB h) {c : Nat} : HB (joinH h c) := by
  refine HB_of hB (jn_oth (by decide) (by decide) (by decide)) (jn_oth (by decide) (by decide) (by decide)) (jn_oth (by decide) (by decide) (by decide)) (fun k hk => by rw [jn_oth (by decide) (by decide) (by decide)]; exact hB.lies hk) (fun k hk => ?_) (fun a ha => by rw [jn_oth (by decide) (by decide) (by decide)]; exact hB.rung ha) (fun a _ => jn_oth (by decide) (by decide) (by decide))
  unfold joinH
  by_cases e : k = c
  · subst e; rw [mset_self]; exact Or.inl rfl
  · rw [mset_ne (Or.inr e), mset_oth (by decide), mset_oth (by decide)]; exact hB.stands hk
theorem nA_joinH {h : Vw} {c : Nat} : nA (joinH h c) = nA h := by unfold nA; rw [jn_oth (by decide) (by decide) (by decide)]
theorem nM_joinH {h : Vw} {c : Nat} : nM (joinH h c) = nM h := by unfold nM; rw [jn_oth (by decide) (by decide) (by decide)]
theorem HG_join {h : Vw} {B : Int} (H : HG h B) (hB0 : B ≤ 400000000) (hB1 : 0 ≤ B) {c : Nat} (hc : c < nM h) (hn : ¬ goN h < 2 * nF h + 1) : HG (rgS (joinH h c) (nA h)) (B + 9999) := by
  obtain ⟨hB, hC, hA, hS⟩ := H
  refine ⟨HB_rg (HB_joinH hB), by have := HC_rg (h := joinH h c); rw [nA_joinH] at this; exact this, ⟨fun k hk => ?_, fun k hk => ?_⟩, HS_of hS (by rw [nM_rg, nM_joinH]) (by rw [rgS_oth (Or.inl (by decide)), jn_oth (by decide) (by decide) (by decide)]) (fun k => by rw [rgS_oth (Or.inl (by decide)), jn_oth (by decide) (by decide) (by decide)])⟩
  · rw [nM_rg, nM_joinH] at hk
    rw [aim_rg]
    by_cases e : k = c
    · subst e
      have ea : aimS (joinH h k) k = joinAt h k := by
        unfold aimS joinH
        rw [mset_oth (by decide), mset_oth (by decide), mset_self, mset_oth (by decide), mset_self]
        exact Int32.add_zero _
      rw [ea]
      exact (joinAt_bd hA hB0 hB1 hB.many8 hk hn).2
    · have ea : aimS (joinH h c) k = aimS h k := by
        unfold aimS joinH
        rw [mset_oth (by decide), mset_oth (by decide), mset_ne (Or.inr e), mset_oth (by decide), mset_ne (Or.inr e), mset_oth (by decide)]
      rw [ea]
      have := hA.1 k hk
      omega
  · rw [rgS_oth (Or.inl (by decide)), rgS_oth (Or.inl (by decide)), jn_oth (by decide) (by decide) (by decide), jn_oth (by decide) (by decide) (by decide)]
    exact hA.2 k hk
/-- the row now is written: its house and the seed -/
theorem MS.row0 {μ μ' : Nat → Nat → Int32} {a : Ab} {hh : Vw} {sd : Int32} (h : MS μ a) (h0 : μ' 0 = μ 0) (h1 : ∀ k, 192 ≤ k → k < 3648 → μ' 1 k = μ 1 k) (h2 : μ' 2 = μ 2) (h3 : μ' 3 = μ 3) (h4 : μ' 4 = μ 4) (hr : Rp (μ' 1) 0 hh) (hs : μ' 1 191 = sd) : MS μ' (setSd (setH a hh) sd) := by
  have k16 := h.kn16
  refine ⟨⟨hr, hs⟩, ⟨by rw [h0]; exact h.kn, h.kn16, fun k hk => (h.ps hk).kept (fun q hq hq2 => h1 q ?_ ?_)⟩, ⟨by rw [h0]; exact h.kp, fun i hi hk => ?_⟩, ⟨by rw [h0]; exact h.tn, h.tn200, fun k hk => by rw [h2]; exact h.tx hk⟩, by rw [h0]; exact h.ft, ⟨by rw [h0]; exact h.bn, h.bn20, fun k hk => by rw [h3, h4]; exact h.bk hk⟩⟩
  · have hk : k < aKn a := hk
    have hq : 192 * (aKn a - k) ≤ q := hq
    omega
  · have hk : k < aKn a := hk
    have hq2 : q < 192 * (aKn a - k) + 191 := hq2
    omega
  · have := h.im hi hk
    exact ⟨this.1.kept (fun q _ hq => h1 q (by omega) (by omega)), by rw [h1 _ (by omega) (by omega)]; exact this.2⟩
/-! chance -/
theorem drawN_lt (s : Nat) : drawN s < 2147483648 := Nat.mod_lt _ (by decide)
theorem draw_mask {s : Nat} {m k : Nat} (hm : m < 2 ^ 30) (hk : k < 2 ^ 30) (h0 : 0 < m) : (nI (drawV s m) - nI k).toInt = (drawV s m : Int) - k := pk_sub_toInt (by have := Nat.mod_lt (s / 65536) h0; unfold drawV; omega) hk
def chH1 (h : Vw) (s1 s2 s3 s4 : Nat) : Vw := if drawV s1 (nM h) ≠ drawV s2 (nM h) then mset (mset h 6 (8 * drawV s1 (nM h) + drawV s2 (nM h)) (nI (drawV s3 2001) - nI 1000)) 7 (8 * drawV s1 (nM h) + drawV s2 (nM h)) (nI (drawV s4 41) - nI 20) else h
theorem chanceH_eq (h : Vw) (s1 s2 s3 s4 s5 : Nat) : chanceH h s1 s2 s3 s4 s5 = if drawV s5 3 = 0 then roundS (chH1 h s1 s2 s3 s4) else tickS (chH1 h s1 s2 s3 s4) := rfl
theorem HG_ch1 {h : Vw} {B : Int} (H : HG h B) (s1 s2 s3 s4 : Nat) : HG (chH1 h s1 s2 s3 s4) B := by
  unfold chH1
  split
  · have e1 := draw_mask (s := s3) (m := 2001) (k := 1000) (by decide) (by decide) (by decide)
    have e2 := draw_mask (s := s4) (m := 41) (k := 20) (by decide) (by decide) (by decide)
    have b1 := Nat.mod_lt (s3 / 65536) (show 0 < 2001 by decide)
    have b2 := Nat.mod_lt (s4 / 65536) (show 0 < 41 by decide)
    unfold drawV at e1 e2
    refine HG_set (HG_set H 6 _ _ (by omega) (fun q => absurd q (by decide)) (fun _ => ?_) (fun q => absurd q (by decide))) 7 _ _ (by omega) (fun q => absurd q (by decide)) (fun q => absurd q (by decide)) (fun _ => ?_)
    · unfold drawV; rw [e1]; omega
    · unfold drawV; rw [e2]; omega
  · exact H
theorem nM_ch1 {h : Vw} {s1 s2 s3 s4 : Nat} : nM (chH1 h s1 s2 s3 s4) = nM h := by
  unfold chH1
  split
  · unfold nM; rw [mset_oth (by decide), mset_oth (by decide)]
  · rfl
theorem HG_chance {h : Vw} {B : Int} (H : HG h B) (hB1 : 0 ≤ B) (hB0 : B ≤ 400000000) (s1 s2 s3 s4 s5 : Nat) : HG (chanceH h s1 s2 s3 s4 s5) (B + 9999) := by
  rw [chanceH_eq]
  split
  · exact HG_round (HG_ch1 H _ _ _ _) hB1 hB0
  · exact (HG_tick (HG_ch1 H _ _ _ _) hB1 hB0).mono (by omega)
theorem nM_chanceH {h : Vw} {s1 s2 s3 s4 s5 : Nat} : nM (chanceH h s1 s2 s3 s4 s5) = nM h := by
  rw [chanceH_eq]
  split
  · rw [nM_round, nM_ch1]
  · rw [nM_tick, nM_ch1]
theorem AI.mono {a : Ab} {B B' : Int} (H : AI a B) (hb : B ≤ B') : AI a B' := ⟨H.1.mono hb, fun k hk => (H.2.1 k hk).mono hb, fun i hi hk => ⟨(H.2.2.1 i hi hk).1.mono hb, (H.2.2.1 i hi hk).2⟩, H.2.2.2⟩
theorem AI_rem {a : Ab} {B : Int} (H : AI a B) (h16 : aKn a ≤ 16) : AI (remS a) B := by
  refine ⟨H.1, fun k hk => ?_, H.2.2.1, H.2.2.2⟩
  have hk : k < (if aKn a < 16 then aKn a + 1 else 16) := hk
  show HG (if k = 0 then aH a else aPs a (k - 1)) B
  by_cases e : k = 0
  · rw [if_pos e]; exact H.1
  · rw [if_neg e]
    refine H.2.1 (k - 1) ?_
    split at hk <;> omega
theorem AI_setH {a : Ab} {B : Int} (H : AI a B) {h : Vw} (hg : HG h B) : AI (setH a h) B := ⟨hg, H.2.1, H.2.2.1, H.2.2.2⟩
theorem nI_nonneg {k : Nat} (h : k < 2 ^ 31) : 0 ≤ (nI k).toInt := by rw [nI_toInt h]; omega
theorem AI_setSd {a : Ab} {B : Int} (H : AI a B) {s : Int32} (hs : 0 ≤ s.toInt) : AI (setSd a s) B := ⟨H.1, H.2.1, H.2.2.1, hs⟩
theorem AI_chance {a : Ab} {B : Int} (H : AI a B) (hB1 : 0 ≤ B) (hB0 : B ≤ 400000000) : AI (chanceS a) (B + 9999) :=
  AI_setSd (AI_setH (H.mono (by omega)) (HG_chance H.1 hB1 hB0 _ _ _ _ _)) (nI_nonneg (drawN_lt _))
theorem rem_kn {a : Ab} (h : aKn a ≤ 16) : aKn (remS a) ≤ 16 := by
  show (if aKn a < 16 then aKn a + 1 else 16) ≤ 16
  split <;> omega
def drS (n : Nat) (a : Ab) : Ab := iterS (fun x => chanceS (remS x)) n a
theorem kn_set (a : Ab) (h : Vw) (s : Int32) : aKn (setSd (setH a h) s) = aKn a := rfl
theorem h_set (a : Ab) (h : Vw) (s : Int32) : aH (setSd (setH a h) s) = h := rfl
theorem kn_chance (a : Ab) : aKn (chanceS a) = aKn a := by
  unfold chanceS
  exact kn_set _ _ _
theorem h_chance (a : Ab) : aH (chanceS a) = chanceH (aH a) (drawN (aSd a).toNatClampNeg) (drawN (drawN (aSd a).toNatClampNeg)) (drawN (drawN (drawN (aSd a).toNatClampNeg))) (drawN (drawN (drawN (drawN (aSd a).toNatClampNeg)))) (drawN (drawN (drawN (drawN (drawN (aSd a).toNatClampNeg))))) := by
  unfold chanceS
  exact h_set _ _ _
theorem nM_chanceS (a : Ab) : nM (aH (chanceS a)) = nM (aH a) := by
  rw [h_chance]; exact nM_chanceH
theorem drS_succ (n : Nat) (a : Ab) : drS (n + 1) a = chanceS (remS (drS n a)) := rfl
theorem AI_drift {a : Ab} {B : Int} (H : AI a B) (hB1 : 0 ≤ B) (h16 : aKn a ≤ 16) (n : Nat) (hn : B + 9999 * (n : Int) ≤ 400000000) : AI (drS n a) (B + 9999 * (n : Int)) ∧ aKn (drS n a) ≤ 16 ∧ nM (aH (drS n a)) = nM (aH a) := by
  induction n with
  | zero => exact ⟨H.mono (by omega), h16, rfl⟩
  | succ n ih =>
    obtain ⟨i1, i2, i3⟩ := ih (by omega)
    have j1 := AI_chance (AI_rem i1 i2) (by omega) (by omega)
    have j2 := rem_kn i2
    have e : B + 9999 * (n : Int) + 9999 = B + 9999 * ((n + 1 : Nat) : Int) := by omega
    rw [drS_succ, kn_chance, nM_chanceS]
    rw [e] at j1
    exact ⟨j1, j2, i3⟩
theorem seed_nat {s : Int32} (h : 0 ≤ s.toInt) : ∃ k, k < 2 ^ 31 ∧ s = nI k ∧ s.toNatClampNeg = k := by
  obtain ⟨j, hj, rfl⟩ := nI_of (x := s) (by rw [w_lt, i_0]; omega)
  exact ⟨j, hj, rfl, nI_clamp hj⟩
