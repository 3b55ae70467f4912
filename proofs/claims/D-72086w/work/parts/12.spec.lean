/-! HOUSES AS VIEWS: h 0 k the house's numbers (0 many, 1 strike, 2 step, 10 alarms, 14 times), h f c its rows (1 values, 2 rates, 3 ahead, 4 lies, 5 stands, 6 lie, 7 error, 8 alarmOf, 9 alarmAt, 10 isRung); what the model's row holds of it -/
set_option maxRecDepth 100000
abbrev Vw : Type := Nat → Nat → Int32
/-- where the model's row keeps place c of field f -/
def mo (f c : Nat) : Nat := if f = 0 then (if c = 10 then 171 else if c = 14 then 190 else c) else if f = 1 then 3 + c else if f = 2 then 11 + c else if f = 3 then 19 + c else if f = 4 then 27 + c else if f = 5 then 35 + c else if f = 6 then 107 + c else if f = 7 then 43 + c else if f = 8 then 172 + c else if f = 9 then 178 + c else 184 + c
def vd (f c : Nat) : Prop := (f = 0 ∧ (c = 0 ∨ c = 1 ∨ c = 2 ∨ c = 10 ∨ c = 14)) ∨ (1 ≤ f ∧ f ≤ 5 ∧ c < 8) ∨ ((f = 6 ∨ f = 7) ∧ c < 64) ∨ (8 ≤ f ∧ f ≤ 10 ∧ c < 6)
theorem mo_lt {f c : Nat} (h : vd f c) : mo f c < 191 := by
  unfold vd at h
  unfold mo
  repeat' split
  all_goals omega
/-- the field of a place of the row, and its place there -/
def foS (k : Nat) : Nat := if k < 3 then 0 else if k < 11 then 1 else if k < 19 then 2 else if k < 27 then 3 else if k < 35 then 4 else if k < 43 then 5 else if k < 107 then 7 else if k < 171 then 6 else if k = 171 then 0 else if k < 178 then 8 else if k < 184 then 9 else if k < 190 then 10 else 0
def coS (k : Nat) : Nat := if k < 3 then k else if k < 11 then k - 3 else if k < 19 then k - 11 else if k < 27 then k - 19 else if k < 35 then k - 27 else if k < 43 then k - 35 else if k < 107 then k - 43 else if k < 171 then k - 107 else if k = 171 then 10 else if k < 178 then k - 172 else if k < 184 then k - 178 else if k < 190 then k - 184 else 14
theorem mo_inv {f c : Nat} (h : vd f c) : foS (mo f c) = f ∧ coS (mo f c) = c := by
  unfold vd at h
  have hf : f = 0 ∨ f = 1 ∨ f = 2 ∨ f = 3 ∨ f = 4 ∨ f = 5 ∨ f = 6 ∨ f = 7 ∨ f = 8 ∨ f = 9 ∨ f = 10 := by omega
  rcases hf with rfl | rfl | rfl | rfl | rfl | rfl | rfl | rfl | rfl | rfl | rfl
  · have hc : c = 0 ∨ c = 1 ∨ c = 2 ∨ c = 10 ∨ c = 14 := by omega
    rcases hc with rfl | rfl | rfl | rfl | rfl <;> decide
  · have hc : c < 8 := by omega
    clear h; revert c; decide
  · have hc : c < 8 := by omega
    clear h; revert c; decide
  · have hc : c < 8 := by omega
    clear h; revert c; decide
  · have hc : c < 8 := by omega
    clear h; revert c; decide
  · have hc : c < 8 := by omega
    clear h; revert c; decide
  · have hc : c < 64 := by omega
    clear h; revert c; decide +kernel
  · have hc : c < 64 := by omega
    clear h; revert c; decide +kernel
  · have hc : c < 6 := by omega
    clear h; revert c; decide
  · have hc : c < 6 := by omega
    clear h; revert c; decide
  · have hc : c < 6 := by omega
    clear h; revert c; decide
theorem mo_inj {f c g d : Nat} (h : vd f c) (h' : vd g d) (e : mo f c = mo g d) : f = g ∧ c = d := by
  have h1 := mo_inv h
  rw [e] at h1
  have h2 := mo_inv h'
  exact ⟨h1.1.symm.trans h2.1, h1.2.symm.trans h2.2⟩
/-- the model's numbers w hold the house h from x on -/
def Rp (w : Nat → Int32) (x : Nat) (h : Vw) : Prop := ∀ f c, vd f c → w (x + mo f c) = h f c
theorem Rp.get {w : Nat → Int32} {x : Nat} {h : Vw} (hR : Rp w x h) (f c : Nat) {k : Nat} (hv : vd f c) (hk : k = x + mo f c) : w k = h f c := by
  rw [hk]; exact hR f c hv
theorem rp_many {w : Nat → Int32} {x : Nat} {h : Vw} (hR : Rp w x h) {k : Nat} (hk : k = x) : w k = h 0 0 := hR.get 0 0 (by unfold vd; omega) hk
theorem rp_strike {w : Nat → Int32} {x : Nat} {h : Vw} (hR : Rp w x h) {k : Nat} (hk : k = x + 1) : w k = h 0 1 := hR.get 0 1 (by unfold vd; omega) hk
theorem rp_step {w : Nat → Int32} {x : Nat} {h : Vw} (hR : Rp w x h) {k : Nat} (hk : k = x + 2) : w k = h 0 2 := hR.get 0 2 (by unfold vd; omega) hk
theorem rp_alarms {w : Nat → Int32} {x : Nat} {h : Vw} (hR : Rp w x h) {k : Nat} (hk : k = x + 171) : w k = h 0 10 := hR.get 0 10 (by unfold vd; omega) hk
theorem rp_times {w : Nat → Int32} {x : Nat} {h : Vw} (hR : Rp w x h) {k : Nat} (hk : k = x + 190) : w k = h 0 14 := hR.get 0 14 (by unfold vd; omega) hk
theorem rp_1 {w : Nat → Int32} {x : Nat} {h : Vw} (hR : Rp w x h) (c : Nat) {k : Nat} (hc : c < 8) (hk : k = x + (3 + c)) : w k = h 1 c := hR.get 1 c (by unfold vd; omega) hk
theorem rp_2 {w : Nat → Int32} {x : Nat} {h : Vw} (hR : Rp w x h) (c : Nat) {k : Nat} (hc : c < 8) (hk : k = x + (11 + c)) : w k = h 2 c := hR.get 2 c (by unfold vd; omega) hk
theorem rp_3 {w : Nat → Int32} {x : Nat} {h : Vw} (hR : Rp w x h) (c : Nat) {k : Nat} (hc : c < 8) (hk : k = x + (19 + c)) : w k = h 3 c := hR.get 3 c (by unfold vd; omega) hk
theorem rp_4 {w : Nat → Int32} {x : Nat} {h : Vw} (hR : Rp w x h) (c : Nat) {k : Nat} (hc : c < 8) (hk : k = x + (27 + c)) : w k = h 4 c := hR.get 4 c (by unfold vd; omega) hk
theorem rp_5 {w : Nat → Int32} {x : Nat} {h : Vw} (hR : Rp w x h) (c : Nat) {k : Nat} (hc : c < 8) (hk : k = x + (35 + c)) : w k = h 5 c := hR.get 5 c (by unfold vd; omega) hk
theorem rp_6 {w : Nat → Int32} {x : Nat} {h : Vw} (hR : Rp w x h) (c : Nat) {k : Nat} (hc : c < 64) (hk : k = x + (107 + c)) : w k = h 6 c := hR.get 6 c (by unfold vd; omega) hk
theorem rp_7 {w : Nat → Int32} {x : Nat} {h : Vw} (hR : Rp w x h) (c : Nat) {k : Nat} (hc : c < 64) (hk : k = x + (43 + c)) : w k = h 7 c := hR.get 7 c (by unfold vd; omega) hk
theorem rp_8 {w : Nat → Int32} {x : Nat} {h : Vw} (hR : Rp w x h) (c : Nat) {k : Nat} (hc : c < 6) (hk : k = x + (172 + c)) : w k = h 8 c := hR.get 8 c (by unfold vd; omega) hk
theorem rp_9 {w : Nat → Int32} {x : Nat} {h : Vw} (hR : Rp w x h) (c : Nat) {k : Nat} (hc : c < 6) (hk : k = x + (178 + c)) : w k = h 9 c := hR.get 9 c (by unfold vd; omega) hk
theorem rp_10 {w : Nat → Int32} {x : Nat} {h : Vw} (hR : Rp w x h) (c : Nat) {k : Nat} (hc : c < 6) (hk : k = x + (184 + c)) : w k = h 10 c := hR.get 10 c (by unfold vd; omega) hk
/-- a number of the house is written in the model's row -/
theorem Rp.up {w : Nat → Int32} {x : Nat} {h : Vw} (hR : Rp w x h) (f c : Nat) (v : Int32) {k : Nat} (hv : vd f c) (hk : k = x + mo f c) : Rp (upd w k v) x (mset h f c v) := by
  intro g d hg
  by_cases e : g = f ∧ d = c
  · obtain ⟨rfl, rfl⟩ := e
    rw [mset_self, hk]
    exact pk_us
  · rw [mset_ne (by omega), pk_un (fun q => e (by
      have := mo_inj hg hv (by omega)
      exact this))]
    exact hR g d hg
/-- what is written elsewhere leaves it -/
theorem Rp.off {w : Nat → Int32} {x : Nat} {h : Vw} (hR : Rp w x h) {v : Int32} {k : Nat} (hk : k < x ∨ x + 191 ≤ k) : Rp (upd w k v) x h := by
  intro g d hg
  have := mo_lt hg
  rw [pk_un (by omega)]
  exact hR g d hg
theorem Rp.kept {w w' : Nat → Int32} {x : Nat} {h : Vw} (hR : Rp w x h) (e : ∀ k, x ≤ k → k < x + 191 → w' k = w k) : Rp w' x h := by
  intro g d hg
  have := mo_lt hg
  rw [e _ (by omega) (by omega)]
  exact hR g d hg
theorem Rp.to {w : Nat → Int32} {x : Nat} {h h' : Vw} (hR : Rp w x h) (e : ∀ f c, vd f c → h f c = h' f c) : Rp w x h' := fun f c hv => by rw [hR f c hv, e f c hv]
theorem Rp.copy {w w' : Nat → Int32} {x y : Nat} {h : Vw} (hR : Rp w x h) (e : ∀ k, k < 191 → w' (y + k) = w (x + k)) : Rp w' y h := by
  intro g d hg
  rw [e _ (mo_lt hg)]
  exact hR g d hg
/-- the numbers of a house as Nat -/
def nM (h : Vw) : Nat := (h 0 0).toNatClampNeg
def nF (h : Vw) : Nat := (h 0 1).toNatClampNeg
def nA (h : Vw) : Nat := (h 0 10).toNatClampNeg
def b01 (x : Int32) : Prop := x = 0 ∨ x = 1
/-- a house as it always is -/
def HB (h : Vw) : Prop := (h 0 0 = nI (nM h) ∧ nM h ≤ 8) ∧ (h 0 1 = nI (nF h) ∧ nF h ≤ 3) ∧ (h 0 10 = nI (nA h) ∧ nA h ≤ 6) ∧ (∀ c, c < 8 → b01 (h 4 c) ∧ b01 (h 5 c)) ∧ (∀ a, a < 6 → b01 (h 10 a)) ∧ (∀ a, a < nA h → ∃ q, q < nM h ∧ h 8 a = nI q)
theorem HB.many {h : Vw} (H : HB h) : h 0 0 = nI (nM h) := H.1.1
theorem HB.many8 {h : Vw} (H : HB h) : nM h ≤ 8 := H.1.2
theorem HB.strike {h : Vw} (H : HB h) : h 0 1 = nI (nF h) := H.2.1.1
theorem HB.strike3 {h : Vw} (H : HB h) : nF h ≤ 3 := H.2.1.2
theorem HB.alarms {h : Vw} (H : HB h) : h 0 10 = nI (nA h) := H.2.2.1.1
theorem HB.alarms6 {h : Vw} (H : HB h) : nA h ≤ 6 := H.2.2.1.2
theorem HB.lies {h : Vw} (H : HB h) {c : Nat} (hc : c < 8) : b01 (h 4 c) := (H.2.2.2.1 c hc).1
theorem HB.stands {h : Vw} (H : HB h) {c : Nat} (hc : c < 8) : b01 (h 5 c) := (H.2.2.2.1 c hc).2
theorem HB.rung {h : Vw} (H : HB h) {a : Nat} (ha : a < 6) : b01 (h 10 a) := H.2.2.2.2.1 a ha
theorem HB.of {h : Vw} (H : HB h) {a : Nat} (ha : a < nA h) : ∃ q, q < nM h ∧ h 8 a = nI q := H.2.2.2.2.2 a ha
/-! what is told of a house -/
def aimS (h : Vw) (c : Nat) : Int32 := h 1 c + h 3 c
def trS (h : Vw) (c : Nat) : Bool := decide (h 4 c = 0) && decide (h 5 c = 0)
def lrS (h : Vw) (c : Nat) : Bool := decide (h 4 c = 1) && decide (h 5 c = 0)
/-- what i hears of j -/
def heardS (h : Vw) (i j : Nat) : Int32 := if j = i ∨ h 5 j = 1 then aimS h i else if h 4 j = 1 then aimS h i + h 6 (8 * j + i) else aimS h j + h 7 (8 * j + i)
/-- v comes into the order f behind k -/
def insS (f : Nat → Int32) : Nat → Int32 → Nat → Int32
  | 0, v => upd f 0 v
  | k + 1, v => if v < f k then insS (upd f (k + 1) (f k)) k v else upd f (k + 1) v
/-- the order of the values of the first m -/
def ordS (val : Nat → Int32) : Nat → Nat → Int32
  | 0 => fun _ => 0
  | m + 1 => insS (ordS val m) m (val m)
/-- half of a sum, downward -/
def halfS (x : Int32) : Int32 := Int32.ofInt (x.toInt / 2)
/-- the middle of m values in the order f, st struck at both ends -/
def midS (f : Nat → Int32) (st m : Nat) : Int32 := halfS (f st + f (m - 1 - st))
