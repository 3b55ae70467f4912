/-! THE TEXT, READ: letters tx k (k < n); a state of the reading (place, house, told f, told s); a fault (number, place) -/
set_option maxRecDepth 100000
def runF (p : Nat → Bool) (n : Nat) : Nat → Nat → Nat
  | 0, k => k
  | f + 1, k => if k < n ∧ p k = true then runF p n f (k + 1) else k
/-- from k on as long as p -/
def runS (p : Nat → Bool) (n k : Nat) : Nat := runF p n (n - k) k
theorem run_go {p : Nat → Bool} {n k : Nat} (h1 : k < n) (h2 : p k = true) : runS p n k = runS p n (k + 1) := by
  unfold runS
  rw [show n - k = (n - (k + 1)) + 1 by omega]
  show (if k < n ∧ p k = true then runF p n (n - (k + 1)) (k + 1) else k) = _
  rw [if_pos ⟨h1, h2⟩]
theorem run_stop {p : Nat → Bool} {n k : Nat} (h : ¬ (k < n ∧ p k = true)) : runS p n k = k := by
  unfold runS
  cases hd : n - k with
  | zero => rfl
  | succ d =>
    show (if k < n ∧ p k = true then runF p n d (k + 1) else k) = _
    rw [if_neg h]
theorem run_spec (p : Nat → Bool) (n : Nat) : ∀ (d k : Nat), n - k ≤ d → k ≤ runS p n k ∧ (k ≤ n → runS p n k ≤ n) ∧ ¬ (runS p n k < n ∧ p (runS p n k) = true) ∧ ∀ j, k ≤ j → j < runS p n k → j < n ∧ p j = true := by
  intro d
  induction d with
  | zero =>
    intro k hk
    rw [run_stop (show ¬ (k < n ∧ p k = true) by omega)]
    exact ⟨Nat.le_refl k, fun h => h, by omega, fun j h1 h2 => by omega⟩
  | succ d ih =>
    intro k hk
    by_cases h : k < n ∧ p k = true
    · rw [run_go h.1 h.2]
      obtain ⟨i1, i2, i3, i4⟩ := ih (k + 1) (by omega)
      refine ⟨by omega, fun _ => i2 (by omega), i3, fun j h1 h2 => ?_⟩
      by_cases e : j = k
      · subst e; exact h
      · exact i4 j (by omega) h2
    · rw [run_stop h]
      exact ⟨Nat.le_refl k, fun h => h, h, fun j h1 h2 => by omega⟩
theorem run_ge {p : Nat → Bool} {n k : Nat} : k ≤ runS p n k := (run_spec p n _ k (Nat.le_refl _)).1
theorem run_le {p : Nat → Bool} {n k : Nat} (h : k ≤ n) : runS p n k ≤ n := (run_spec p n _ k (Nat.le_refl _)).2.1 h
theorem run_end {p : Nat → Bool} {n k : Nat} : ¬ (runS p n k < n ∧ p (runS p n k) = true) := (run_spec p n _ k (Nat.le_refl _)).2.2.1
theorem run_in {p : Nat → Bool} {n k j : Nat} (h1 : k ≤ j) (h2 : j < runS p n k) : j < n ∧ p j = true := (run_spec p n _ k (Nat.le_refl _)).2.2.2 j h1 h2
theorem run_idem {p : Nat → Bool} {n k : Nat} : runS p n (runS p n k) = runS p n k := run_stop run_end
theorem run_max {p : Nat → Bool} {n k m : Nat} (hk : k ≤ m) (hm : n < m) (hk2 : k ≤ n ∨ k ≤ m) : runS p n k ≤ m := by
  rcases Nat.lt_or_ge n k with h | h
  · rw [run_stop (by omega)]; exact hk
  · have := run_le (p := p) h; omega
def spB (tx : Nat → Nat) (j : Nat) : Bool := decide (tx j = 32)
def dgB (tx : Nat → Nat) (j : Nat) : Bool := decide (48 ≤ tx j) && decide (tx j ≤ 57)
def dv (tx : Nat → Nat) (fr : Nat) : Nat → Nat
  | 0 => 0
  | k + 1 => 10 * dv tx fr k + (tx (fr + k) - 48)
theorem dv_lt (tx : Nat → Nat) (fr : Nat) : ∀ k, (∀ j, j < k → dgB tx (fr + j) = true) → dv tx fr k < 10 ^ k := by
  intro k
  induction k with
  | zero => intro _; exact Nat.one_pos
  | succ k ih =>
    intro h
    have i := ih (fun j hj => h j (by omega))
    have d := h k (by omega)
    unfold dgB at d
    simp only [Bool.and_eq_true, decide_eq_true_eq] at d
    unfold dv
    rw [Nat.pow_succ]
    omega
abbrev PF : Type := Nat × Nat
abbrev PS : Type := Nat × Vw × Bool × Bool
def numS (n : Nat) (tx : Nat → Nat) (k : Nat) (lo hi : Int) : PF ⊕ (Nat × Nat) :=
  if runS (dgB tx) n (runS (spB tx) n k) = runS (spB tx) n k then .inl (1, runS (spB tx) n k)
  else if 4 < runS (dgB tx) n (runS (spB tx) n k) - runS (spB tx) n k ∨ ¬ (lo ≤ (dv tx (runS (spB tx) n k) (runS (dgB tx) n (runS (spB tx) n k) - runS (spB tx) n k) : Int) ∧ (dv tx (runS (spB tx) n k) (runS (dgB tx) n (runS (spB tx) n k) - runS (spB tx) n k) : Int) ≤ hi) then .inl (2, runS (spB tx) n k)
  else .inr (dv tx (runS (spB tx) n k) (runS (dgB tx) n (runS (spB tx) n k) - runS (spB tx) n k), runS (dgB tx) n (runS (spB tx) n k))
theorem numS_ok {n : Nat} {tx : Nat → Nat} {k : Nat} {lo hi : Int} {v e : Nat} (h : numS n tx k lo hi = .inr (v, e)) : k < e ∧ (k ≤ n → e ≤ n) ∧ lo ≤ (v : Int) ∧ (v : Int) ≤ hi ∧ v ≤ 9999 := by
  unfold numS at h
  split at h
  · cases h
  · split at h
    · cases h
    · rename_i h1 h2
      have h3 := Sum.inr.inj h
      have hv := congrArg Prod.fst h3
      have he := congrArg Prod.snd h3
      have g1 := run_ge (p := spB tx) (n := n) (k := k)
      have g2 := run_ge (p := dgB tx) (n := n) (k := runS (spB tx) n k)
      have g3 := dv_lt tx (runS (spB tx) n k) (runS (dgB tx) n (runS (spB tx) n k) - runS (spB tx) n k) (fun j hj => (run_in (p := dgB tx) (n := n) (k := runS (spB tx) n k) (j := runS (spB tx) n k + j) (by omega) (by omega)).2)
      dsimp only at hv he
      have g4 : 10 ^ (runS (dgB tx) n (runS (spB tx) n k) - runS (spB tx) n k) ≤ 10 ^ 4 := Nat.pow_le_pow_right (by decide) (by omega)
      have e4 : 10 ^ 4 = 10000 := by decide
      refine ⟨by omega, fun hk => ?_, by omega, by omega, by omega⟩
      have g5 := run_le (p := spB tx) (n := n) (k := k) hk
      have g6 := run_le (p := dgB tx) (n := n) (k := runS (spB tx) n k) g5
      omega
theorem numS_bad {n : Nat} {tx : Nat → Nat} {k : Nat} {lo hi : Int} {c p : Nat} (h : numS n tx k lo hi = .inl (c, p)) : 1 ≤ c ∧ c ≤ 2 ∧ p = runS (spB tx) n k := by
  unfold numS at h
  split at h
  · have := Sum.inl.inj h
    exact ⟨by have := congrArg Prod.fst this; dsimp only at this; omega, by have := congrArg Prod.fst this; dsimp only at this; omega, (congrArg Prod.snd this).symm⟩
  · split at h
    · have := Sum.inl.inj h
      exact ⟨by have := congrArg Prod.fst this; dsimp only at this; omega, by have := congrArg Prod.fst this; dsimp only at this; omega, (congrArg Prod.snd this).symm⟩
    · cases h
def clockP (n : Nat) (tx : Nat → Nat) (s : PS) (p : Nat) : PF ⊕ PS :=
  if nM s.2.1 = 8 then .inl (3, p) else match numS n tx (p + 1) 0 9999 with
    | .inl e => .inl e
    | .inr (v1, e1) => match numS n tx e1 90 110 with
      | .inl e => .inl e
      | .inr (v2, e2) => .inr (e2, mset (mset (mset s.2.1 1 (nM s.2.1) (nI v1)) 2 (nM s.2.1) (nI v2)) 0 0 (nI (nM s.2.1 + 1)), s.2.2)
def strikeP (n : Nat) (tx : Nat → Nat) (s : PS) (p : Nat) : PF ⊕ PS :=
  if s.2.2.1 = true then .inl (4, p) else match numS n tx (p + 1) 0 3 with
    | .inl e => .inl e
    | .inr (v, e) => .inr (e, mset s.2.1 0 1 (nI v), true, s.2.2.2)
def stepP (n : Nat) (tx : Nat → Nat) (s : PS) (p : Nat) : PF ⊕ PS :=
  if s.2.2.2 = true then .inl (4, p) else match numS n tx (p + 1) 0 80 with
    | .inl e => .inl e
    | .inr (v, e) => .inr (e, mset s.2.1 0 2 (nI v), s.2.2.1, true)
def liarP (n : Nat) (tx : Nat → Nat) (s : PS) (p : Nat) : PF ⊕ PS :=
  match numS n tx (p + 1) 0 ((nM s.2.1 : Int) - 1) with
    | .inl e => .inl e
    | .inr (c, e) => if s.2.1 4 c = 1 then .inl (4, runS (spB tx) n (p + 1)) else .inr (e, mset s.2.1 4 c 1, s.2.2)
def wordP (n : Nat) (tx : Nat → Nat) (s : PS) (p : Nat) : PF ⊕ PS :=
  if tx p = 107 then clockP n tx s p else if tx p = 102 then strikeP n tx s p else if tx p = 115 then stepP n tx s p else if tx p = 108 then liarP n tx s p else .inl (1, p)
def semiP (n : Nat) (tx : Nat → Nat) (t : PS) : PF ⊕ PS :=
  if runS (spB tx) n t.1 < n ∧ tx (runS (spB tx) n t.1) = 59 then .inr (runS (spB tx) n t.1 + 1, t.2) else .inl (1, runS (spB tx) n t.1)
def clauseS (n : Nat) (tx : Nat → Nat) (s : PS) : PF ⊕ PS :=
  match wordP n tx s (runS (spB tx) n s.1) with
  | .inl e => .inl e
  | .inr t => semiP n tx t
def parseF (n : Nat) (tx : Nat → Nat) : Nat → PS → PF ⊕ PS
  | 0, s => .inr s
  | f + 1, s => if runS (spB tx) n s.1 < n then (match clauseS n tx s with
      | .inl e => .inl e
      | .inr t => parseF n tx f t) else .inr s
def rd0 : Vw := fun f c => if f = 0 ∧ c = 2 then 10 else 0
def parseS (n : Nat) (tx : Nat → Nat) : PF ⊕ PS := parseF n tx 201 (0, rd0, false, false)
/-- a house that is being read -/
def RI (h : Vw) : Prop := (h 0 0 = nI (nM h) ∧ nM h ≤ 8) ∧ (h 0 1 = nI (nF h) ∧ nF h ≤ 3) ∧ (0 ≤ (h 0 2).toInt ∧ (h 0 2).toInt ≤ 80) ∧ (∀ c, c < nM h → (0 ≤ (h 1 c).toInt ∧ (h 1 c).toInt ≤ 9999) ∧ (0 ≤ (h 2 c).toInt ∧ (h 2 c).toInt ≤ 110)) ∧ (∀ c, b01 (h 4 c)) ∧ (∀ c, h 3 c = 0 ∧ h 5 c = 0 ∧ h 6 c = 0 ∧ h 7 c = 0 ∧ h 8 c = 0 ∧ h 9 c = 0 ∧ h 10 c = 0) ∧ h 0 10 = 0 ∧ h 0 14 = 0
theorem RI.many {h : Vw} (H : RI h) : h 0 0 = nI (nM h) := H.1.1
theorem RI.many8 {h : Vw} (H : RI h) : nM h ≤ 8 := H.1.2
theorem RI.lies {h : Vw} (H : RI h) (c : Nat) : b01 (h 4 c) := H.2.2.2.2.1 c
theorem RI_0 : RI rd0 := by
  refine ⟨⟨by decide, by decide⟩, ⟨by decide, by decide⟩, by decide, fun c hc => absurd hc (by show ¬ c < 0; omega), fun c => Or.inl ?_, fun c => ?_, by decide, by decide⟩
  · unfold rd0; rw [if_neg (by omega)]
  · exact ⟨if_neg (fun q => absurd q.1 (by decide)), if_neg (fun q => absurd q.1 (by decide)), if_neg (fun q => absurd q.1 (by decide)), if_neg (fun q => absurd q.1 (by decide)), if_neg (fun q => absurd q.1 (by decide)), if_neg (fun q => absurd q.1 (by decide)), if_neg (fun q => absurd q.1 (by decide))⟩
theorem RI_HG {h : Vw} (H : RI h) {B : Int} (hB : 9999 ≤ B) : HG h B := by
  obtain ⟨h1, h2, h3, h4, h5, h6, h7, h8⟩ := H
  have e0 : nA h = 0 := by unfold nA; rw [h7]; decide
  refine ⟨⟨h1, h2, ⟨by rw [e0, h7]; rfl, by omega⟩, fun c _ => ⟨h5 c, Or.inl (h6 c).2.1⟩, fun a _ => Or.inl (h6 a).2.2.2.2.2.2, fun a ha => by omega⟩, fun a ha => by omega, ⟨fun c hc => ?_, fun c _ => ?_⟩, ⟨h3, fun c hc => (h4 c hc).2⟩⟩
  · have := (h4 c hc).1
    unfold aimS
    rw [(h6 c).1, Int32.add_zero]
    omega
  · rw [(h6 c).2.2.1, (h6 c).2.2.2.1]
    decide
theorem RI_up {h : Vw} (H : RI h) {v1 v2 : Nat} (hv1 : v1 ≤ 9999) (hv2 : v2 ≤ 110) (hm : nM h < 8) : RI (mset (mset (mset h 1 (nM h) (nI v1)) 2 (nM h) (nI v2)) 0 0 (nI (nM h + 1))) := by
  obtain ⟨h1, h2, h3, h4, h5, h6, h7, h8⟩ := H
  obtain ⟨g, eg⟩ : ∃ y, y = mset (mset (mset h 1 (nM h) (nI v1)) 2 (nM h) (nI v2)) 0 0 (nI (nM h + 1)) := ⟨_, rfl⟩
  rw [← eg]
  have e00 : g 0 0 = nI (nM h + 1) := by rw [eg, mset_self]
  have nm : nM g = nM h + 1 := by show (g 0 0).toNatClampNeg = _; rw [e00]; exact nI_clamp (by omega)
  have e0 : ∀ k, k ≠ 0 → g 0 k = h 0 k := fun k hk => by rw [eg, mset_ne (Or.inr hk), mset_oth (by decide), mset_oth (by decide)]
  have eo : ∀ f c, f ≠ 0 → f ≠ 1 → f ≠ 2 → g f c = h f c := fun f c f0 f1 f2 => by rw [eg, mset_oth f0, mset_oth f2, mset_oth f1]
  have nf : nF g = nF h := by unfold nF; rw [e0 1 (by decide)]
  have g1 : ∀ c, g 1 c = if c = nM h then nI v1 else h 1 c := fun c => by rw [eg, mset_oth (by decide), mset_oth (by decide), mset_row]; rfl
  have g2 : ∀ c, g 2 c = if c = nM h then nI v2 else h 2 c := fun c => by rw [eg, mset_oth (by decide), mset_row, mset_oth (by decide)]; rfl
  refine ⟨⟨by rw [nm, e00], by omega⟩, ⟨by rw [nf, e0 1 (by decide)]; exact h2.1, by rw [nf]; exact h2.2⟩, by rw [e0 2 (by decide)]; exact h3, fun c hc => ?_, fun c => by rw [eo 4 c (by decide) (by decide) (by decide)]; exact h5 c, fun c => ?_, by rw [e0 10 (by decide)]; exact h7, by rw [e0 14 (by decide)]; exact h8⟩
  · rw [nm] at hc
    rw [g1, g2]
    by_cases e : c = nM h
    · rw [if_pos e, if_pos e, nI_toInt (by omega), nI_toInt (by omega)]; omega
    · rw [if_neg e, if_neg e]; exact h4 c (by omega)
  · rw [eo 3 c (by decide) (by decide) (by decide), eo 5 c (by decide) (by decide) (by decide), eo 6 c (by decide) (by decide) (by decide), eo 7 c (by decide) (by decide) (by decide), eo 8 c (by decide) (by decide) (by decide), eo 9 c (by decide) (by decide) (by decide), eo 10 c (by decide) (by decide) (by decide)]
    exact h6 c
theorem RI_01 {h : Vw} (H : RI h) {v : Nat} (hv : v ≤ 3) : RI (mset h 0 1 (nI v)) := by
  obtain ⟨h1, h2, h3, h4, h5, h6, h7, h8⟩ := H
  have e0 : ∀ k, k ≠ 1 → mset h 0 1 (nI v) 0 k = h 0 k := fun k hk => mset_ne (Or.inr hk)
  have nm : nM (mset h 0 1 (nI v)) = nM h := by unfold nM; rw [e0 0 (by decide)]
  have nf : nF (mset h 0 1 (nI v)) = v := by show (mset h 0 1 (nI v) 0 1).toNatClampNeg = v; rw [mset_self]; exact nI_clamp (by omega)
  refine ⟨⟨by rw [nm, e0 0 (by decide)]; exact h1.1, by rw [nm]; exact h1.2⟩, ⟨by rw [nf, mset_self], by omega⟩, by rw [e0 2 (by decide)]; exact h3, fun c hc => by rw [nm] at hc; rw [mset_oth (by decide), mset_oth (by decide)]; exact h4 c hc, fun c => by rw [mset_oth (by decide)]; exact h5 c, fun c => ?_, by rw [e0 10 (by decide)]; exact h7, by rw [e0 14 (by decide)]; exact h8⟩
  rw [mset_oth (by decide), mset_oth (by decide), mset_oth (by decide), mset_oth (by decide), mset_oth (by decide), mset_oth (by decide), mset_oth (by decide)]
  exact h6 c
theorem RI_02 {h : Vw} (H : RI h) {v : Nat} (hv : v ≤ 80) : RI (mset h 0 2 (nI v)) := by
  obtain ⟨h1, h2, h3, h4, h5, h6, h7, h8⟩ := H
  have e0 : ∀ k, k ≠ 2 → mset h 0 2 (nI v) 0 k = h 0 k := fun k hk => mset_ne (Or.inr hk)
  have nm : nM (mset h 0 2 (nI v)) = nM h := by unfold nM; rw [e0 0 (by decide)]
  have nf : nF (mset h 0 2 (nI v)) = nF h := by unfold nF; rw [e0 1 (by decide)]
  refine ⟨⟨by rw [nm, e0 0 (by decide)]; exact h1.1, by rw [nm]; exact h1.2⟩, ⟨by rw [nf, e0 1 (by decide)]; exact h2.1, by rw [nf]; exact h2.2⟩, by rw [mset_self, nI_toInt (by omega)]; omega, fun c hc => by rw [nm] at hc; rw [mset_oth (by decide), mset_oth (by decide)]; exact h4 c hc, fun c => by rw [mset_oth (by decide)]; exact h5 c, fun c => ?_, by rw [e0 10 (by decide)]; exact h7, by rw [e0 14 (by decide)]; exact h8⟩
  rw [mset_oth (by decide), mset_oth (by decide), mset_oth (by decide), mset_oth (by decide), mset_oth (by decide), mset_oth (by decide), mset_oth (by decide)]
  exact h6 c
theorem RI_4 {h : Vw} (H : RI h) {k : Nat} : RI (mset h 4 k 1) := by
  obtain ⟨h1, h2, h3, h4, h5, h6, h7, h8⟩ := H
  have nm : nM (mset h 4 k 1) = nM h := by unfold nM; rw [mset_oth (by decide)]
  have nf : nF (mset h 4 k 1) = nF h := by unfold nF; rw [mset_oth (by decide)]
  refine ⟨⟨by rw [nm, mset_oth (by decide)]; exact h1.1, by rw [nm]; exact h1.2⟩, ⟨by rw [nf, mset_oth (by decide)]; exact h2.1, by rw [nf]; exact h2.2⟩, by rw [mset_oth (by decide)]; exact h3, fun c hc => by rw [nm] at hc; rw [mset_oth (by decide), mset_oth (by decide)]; exact h4 c hc, fun c => ?_, fun c => ?_, by rw [mset_oth (by decide)]; exact h7, by rw [mset_oth (by decide)]; exact h8⟩
  · by_cases e : c = k
    · subst e; rw [mset_self]; exact Or.inr rfl
    · rw [mset_ne (Or.inr e)]; exact h5 c
  · rw [mset_oth (by decide), mset_oth (by decide), mset_oth (by decide), mset_oth (by decide), mset_oth (by decide), mset_oth (by decide), mset_oth (by decide)]
    exact h6 c
/-- a word of a clause: places go on, the house stays in order -/
theorem wordP_ok {n : Nat} {tx : Nat → Nat} {s t : PS} {p : Nat} (h : wordP n tx s p = .inr t) (hR : RI s.2.1) (hp : p < n) : RI t.2.1 ∧ p < t.1 ∧ t.1 ≤ n := by
  unfold wordP at h
  split at h
  · unfold clockP at h
    split at h
    · cases h
    · split at h
      · cases h
      · rename_i v1 e1 q1
        split at h
        · cases h
        · rename_i v2 e2 q2
          have := Sum.inr.inj h
          subst this
          have a1 := numS_ok q1
          have a2 := numS_ok q2
          have := hR.many8
          exact ⟨RI_up hR (by omega) (by omega) (by omega), by show p < e2; omega, by show e2 ≤ n; omega⟩
  · split at h
    · unfold strikeP at h
      split at h
      · cases h
      · split at h
        · cases h
        · rename_i v e q
          have := Sum.inr.inj h
          subst this
          have a1 := numS_ok q
          exact ⟨RI_01 hR (by omega), by show p < e; omega, by show e ≤ n; omega⟩
    · split at h
      · unfold stepP at h
        split at h
        · cases h
        · split at h
          · cases h
          · rename_i v e q
            have := Sum.inr.inj h
            subst this
            have a1 := numS_ok q
            exact ⟨RI_02 hR (by omega), by show p < e; omega, by show e ≤ n; omega⟩
      · split at h
        · unfold liarP at h
          split at h
          · cases h
          · rename_i c e q
            split at h
            · cases h
            · have := Sum.inr.inj h
              subst this
              have a1 := numS_ok q
              exact ⟨RI_4 hR, by show p < e; omega, by show e ≤ n; omega⟩
        · cases h
theorem clause_ok {n : Nat} {tx : Nat → Nat} {s t : PS} (h : clauseS n tx s = .inr t) (hR : RI s.2.1) (hp : runS (spB tx) n s.1 < n) : RI t.2.1 ∧ s.1 < t.1 ∧ t.1 ≤ n := by
  unfold clauseS at h
  split at h
  · cases h
  · rename_i u hu
    obtain ⟨w1, w2, w3⟩ := wordP_ok hu hR hp
    unfold semiP at h
    split at h
    · have := Sum.inr.inj h
      subst this
      rename_i hq
      have g1 := run_ge (p := spB tx) (n := n) (k := s.1)
      have g2 := run_ge (p := spB tx) (n := n) (k := u.1)
      exact ⟨w1, by show s.1 < runS (spB tx) n u.1 + 1; omega, by show runS (spB tx) n u.1 + 1 ≤ n; omega⟩
    · cases h
theorem parseF_ok {n : Nat} {tx : Nat → Nat} : ∀ (f : Nat) (s t : PS), parseF n tx f s = .inr t → RI s.2.1 → RI t.2.1 := by
  intro f
  induction f with
  | zero => intro s t h hR; unfold parseF at h; have := Sum.inr.inj h; subst this; exact hR
  | succ f ih =>
    intro s t h hR
    unfold parseF at h
    split at h
    · rename_i hp
      split at h
      · cases h
      · rename_i u hu
        exact ih u t h (clause_ok hu hR hp).1
    · have := Sum.inr.inj h; subst this; exact hR
def clocksQ (a : Ab) : Int32 × Ab := match parseS (aTn a) (aTx a) with
  | .inl e => (-10 - nI e.1, setFt (setTx a 0 (aTx a)) (nI e.2))
  | .inr t => (nI (nM t.2.1), setBk (setFt (setTx (setIm (setPs (setH a t.2.1) 0 (aPs a)) (fun _ => false) (aIm a) (aIs a)) 0 (aTx a)) (-1)) 0 (aBo a) (aBa a))
