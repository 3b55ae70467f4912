/-! a round, a tick, the bounds -/
set_option maxRecDepth 100000
/-- row f filled by g up to i -/
def hfil (h : Vw) (f : Nat) (g : Nat → Int32) (i : Nat) : Vw := va_up h f (fun c => if c < i then g c else h f c)
theorem hfil_0 (h : Vw) (f : Nat) (g : Nat → Int32) : hfil h f g 0 = h := by
  funext k c
  unfold hfil va_up
  split
  · rename_i e; subst e; simp
  · rfl
theorem hfil_succ (h : Vw) (f : Nat) (g : Nat → Int32) (i : Nat) : mset (hfil h f g i) f i (g i) = hfil h f g (i + 1) := by
  funext k c
  unfold mset hfil va_up upd
  by_cases e : k = f
  · subst e
    simp only [if_true]
    by_cases e2 : c = i
    · subst e2; rw [if_pos rfl, if_pos (by omega)]
    · rw [if_neg e2]
      by_cases e3 : c < i
      · rw [if_pos e3, if_pos (by omega)]
      · rw [if_neg e3, if_neg (by omega)]
  · rw [if_neg e, if_neg e, if_neg e]
theorem hfil_oth {h : Vw} {f : Nat} {g : Nat → Int32} {i k c : Nat} (e : k ≠ f) : hfil h f g i k c = h k c := by
  unfold hfil; rw [va_up_ne _ _ e]
theorem hfil_ge {h : Vw} {f : Nat} {g : Nat → Int32} {i c : Nat} (e : i ≤ c) : hfil h f g i f c = h f c := by
  unfold hfil; rw [va_up_self, if_neg (by omega)]
theorem hfil_lt {h : Vw} {f : Nat} {g : Nat → Int32} {i c : Nat} (e : c < i) : hfil h f g i f c = g c := by
  unfold hfil; rw [va_up_self, if_pos e]
/-- writes into the model's row, field by field -/
theorem rp_up1 {w : Nat → Int32} {x : Nat} {h : Vw} (hR : Rp w x h) (c : Nat) (v : Int32) {k : Nat} (hc : c < 8) (hk : k = x + (3 + c)) : Rp (upd w k v) x (mset h 1 c v) := hR.up 1 c v (by unfold vd; omega) hk
theorem rp_up2 {w : Nat → Int32} {x : Nat} {h : Vw} (hR : Rp w x h) (c : Nat) (v : Int32) {k : Nat} (hc : c < 8) (hk : k = x + (11 + c)) : Rp (upd w k v) x (mset h 2 c v) := hR.up 2 c v (by unfold vd; omega) hk
theorem rp_up3 {w : Nat → Int32} {x : Nat} {h : Vw} (hR : Rp w x h) (c : Nat) (v : Int32) {k : Nat} (hc : c < 8) (hk : k = x + (19 + c)) : Rp (upd w k v) x (mset h 3 c v) := hR.up 3 c v (by unfold vd; omega) hk
theorem rp_up4 {w : Nat → Int32} {x : Nat} {h : Vw} (hR : Rp w x h) (c : Nat) (v : Int32) {k : Nat} (hc : c < 8) (hk : k = x + (27 + c)) : Rp (upd w k v) x (mset h 4 c v) := hR.up 4 c v (by unfold vd; omega) hk
theorem rp_up5 {w : Nat → Int32} {x : Nat} {h : Vw} (hR : Rp w x h) (c : Nat) (v : Int32) {k : Nat} (hc : c < 8) (hk : k = x + (35 + c)) : Rp (upd w k v) x (mset h 5 c v) := hR.up 5 c v (by unfold vd; omega) hk
theorem rp_up6 {w : Nat → Int32} {x : Nat} {h : Vw} (hR : Rp w x h) (c : Nat) (v : Int32) {k : Nat} (hc : c < 64) (hk : k = x + (107 + c)) : Rp (upd w k v) x (mset h 6 c v) := hR.up 6 c v (by unfold vd; omega) hk
theorem rp_up7 {w : Nat → Int32} {x : Nat} {h : Vw} (hR : Rp w x h) (c : Nat) (v : Int32) {k : Nat} (hc : c < 64) (hk : k = x + (43 + c)) : Rp (upd w k v) x (mset h 7 c v) := hR.up 7 c v (by unfold vd; omega) hk
theorem rp_up8 {w : Nat → Int32} {x : Nat} {h : Vw} (hR : Rp w x h) (c : Nat) (v : Int32) {k : Nat} (hc : c < 6) (hk : k = x + (172 + c)) : Rp (upd w k v) x (mset h 8 c v) := hR.up 8 c v (by unfold vd; omega) hk
theorem rp_up9 {w : Nat → Int32} {x : Nat} {h : Vw} (hR : Rp w x h) (c : Nat) (v : Int32) {k : Nat} (hc : c < 6) (hk : k = x + (178 + c)) : Rp (upd w k v) x (mset h 9 c v) := hR.up 9 c v (by unfold vd; omega) hk
theorem rp_up10 {w : Nat → Int32} {x : Nat} {h : Vw} (hR : Rp w x h) (c : Nat) (v : Int32) {k : Nat} (hc : c < 6) (hk : k = x + (184 + c)) : Rp (upd w k v) x (mset h 10 c v) := hR.up 10 c v (by unfold vd; omega) hk
theorem rp_up00 {w : Nat → Int32} {x : Nat} {h : Vw} (hR : Rp w x h) (v : Int32) {k : Nat} (hk : k = x) : Rp (upd w k v) x (mset h 0 0 v) := hR.up 0 0 v (by unfold vd; omega) hk
theorem rp_up01 {w : Nat → Int32} {x : Nat} {h : Vw} (hR : Rp w x h) (v : Int32) {k : Nat} (hk : k = x + 1) : Rp (upd w k v) x (mset h 0 1 v) := hR.up 0 1 v (by unfold vd; omega) hk
theorem rp_up02 {w : Nat → Int32} {x : Nat} {h : Vw} (hR : Rp w x h) (v : Int32) {k : Nat} (hk : k = x + 2) : Rp (upd w k v) x (mset h 0 2 v) := hR.up 0 2 v (by unfold vd; omega) hk
theorem rp_up010 {w : Nat → Int32} {x : Nat} {h : Vw} (hR : Rp w x h) (v : Int32) {k : Nat} (hk : k = x + 171) : Rp (upd w k v) x (mset h 0 10 v) := hR.up 0 10 v (by unfold vd; omega) hk
theorem rp_up014 {w : Nat → Int32} {x : Nat} {h : Vw} (hR : Rp w x h) (v : Int32) {k : Nat} (hk : k = x + 190) : Rp (upd w k v) x (mset h 0 14 v) := hR.up 0 14 v (by unfold vd; omega) hk
/-- bounds: aims within B, lies and errors within theirs -/
def HA (h : Vw) (B : Int) : Prop := (∀ c, c < nM h → -B ≤ (aimS h c).toInt ∧ (aimS h c).toInt ≤ B) ∧ (∀ c, c < 64 → (-9999 ≤ (h 6 c).toInt ∧ (h 6 c).toInt ≤ 9999) ∧ (-20 ≤ (h 7 c).toInt ∧ (h 7 c).toInt ≤ 20))
theorem heardS_bd {h : Vw} {B : Int} (hA : HA h B) (hB0 : B ≤ 400000000) (h8 : nM h ≤ 8) {i j : Nat} (hi : i < nM h) (hj : j < nM h) : -(B + 9999) ≤ (heardS h i j).toInt ∧ (heardS h i j).toInt ≤ B + 9999 := by
  have a1 := hA.1 i hi
  have a2 := hA.1 j hj
  have a3 := hA.2 (8 * j + i) (by omega)
  unfold heardS
  split
  · omega
  · split
    · rw [i_add (by omega) (by omega)]; omega
    · rw [i_add (by omega) (by omega)]; omega
/-- the middle of what i hears; its aim where all would be struck -/
def midOfS (h : Vw) (i : Nat) : Int32 := if nM h ≤ 2 * nF h then aimS h i else midS (ordS (heardS h i) (nM h)) (nF h) (nM h)
theorem midS_bd {f : Nat → Int32} {st m : Nat} {L U : Int} (h : ∀ k, k < m → L ≤ (f k).toInt ∧ (f k).toInt ≤ U) (hst : 2 * st < m) (hL : -1000000000 ≤ L) (hU : U ≤ 1000000000) : (-2147483647 < (f st + f (m - 1 - st)).toInt) ∧ L ≤ (midS f st m).toInt ∧ (midS f st m).toInt ≤ U := by
  have a1 := h st (by omega)
  have a2 := h (m - 1 - st) (by omega)
  unfold midS
  rw [i_half, i_add (by omega) (by omega)]
  omega
theorem midOfS_bd {h : Vw} {B : Int} (hA : HA h B) (hB0 : B ≤ 400000000) (hB1 : 0 ≤ B) (h8 : nM h ≤ 8) {i : Nat} (hi : i < nM h) : -(B + 9999) ≤ (midOfS h i).toInt ∧ (midOfS h i).toInt ≤ B + 9999 := by
  unfold midOfS
  split
  · have := hA.1 i hi; omega
  · exact (midS_bd (L := -(B + 9999)) (U := B + 9999) (ordS_all (P := fun v => -(B + 9999) ≤ v.toInt ∧ v.toInt ≤ B + 9999) (val := heardS h i) (nM h) (fun j hj => heardS_bd hA hB0 h8 hi hj)) (by omega) (by omega) (by omega)).2
theorem midS_congr {f g : Nat → Int32} {st m : Nat} (h : ∀ k, k < m → f k = g k) (hst : 2 * st < m) : midS f st m = midS g st m := by
  unfold midS
  rw [h st (by omega), h (m - 1 - st) (by omega)]
def nextS (h : Vw) (i : Nat) : Int32 := if trS h i = true then midOfS h i - h 1 i else h 3 i
def roundS (h : Vw) : Vw := hfil h 3 (nextS h) (nM h)
/-- apart: the least and the most aim of those that are true -/
def apF (h : Vw) : Nat → Option (Int32 × Int32)
  | 0 => none
  | c + 1 => if trS h c = true then (match apF h c with
      | none => some (aimS h c, aimS h c)
      | some (a, b) => some (if aimS h c < a then aimS h c else a, if b < aimS h c then aimS h c else b)) else apF h c
def apS (h : Vw) : Int32 := match apF h (nM h) with
  | none => -1
  | some (a, b) => b - a
/-- a tick -/
def moreS (h : Vw) (c : Nat) : Int32 := if h 0 2 < h 3 c then h 0 2 else if h 3 c < -(h 0 2) then -(h 0 2) else h 3 c
def goS (h : Vw) (i : Nat) : Vw := fun f c => if f = 1 ∧ c < i ∧ h 5 c = 0 then h 1 c + (h 2 c + moreS h c) else if f = 3 ∧ c < i ∧ h 5 c = 0 then h 3 c - moreS h c else h f c
theorem goS_0 (h : Vw) : goS h 0 = h := by
  funext f c
  unfold goS
  rw [if_neg (by omega), if_neg (by omega)]
theorem goS_ge {h : Vw} {i f c : Nat} (e : i ≤ c) : goS h i f c = h f c := by
  unfold goS
  rw [if_neg (by omega), if_neg (by omega)]
theorem goS_oth {h : Vw} {i f c : Nat} (e1 : f ≠ 1) (e3 : f ≠ 3) : goS h i f c = h f c := by
  unfold goS
  rw [if_neg (by omega), if_neg (by omega)]
theorem goS_skip {h : Vw} {i : Nat} (e : ¬ h 5 i = 0) : goS h (i + 1) = goS h i := by
  funext f c
  unfold goS
  by_cases hc : c = i
  · subst hc
    rw [if_neg (fun q => e q.2.2), if_neg (fun q => e q.2.2), if_neg (by omega), if_neg (by omega)]
  · simp only [show (c < i + 1 ↔ c < i) by omega]
theorem goS_step {h : Vw} {i : Nat} (e : h 5 i = 0) : mset (mset (goS h i) 1 i (h 1 i + (h 2 i + moreS h i))) 3 i (h 3 i - moreS h i) = goS h (i + 1) := by
  funext f c
  unfold mset va_up upd
  by_cases hf : f = 3
  · subst hf
    simp only [if_true]
    by_cases hc : c = i
    · subst hc
      rw [if_pos rfl]
      unfold goS
      rw [if_neg (by omega), if_pos ⟨rfl, by omega, e⟩]
    · rw [if_neg hc]
      unfold goS
      simp only [show (c < i + 1 ↔ c < i) by omega]
      rfl
  · rw [if_neg hf]
    by_cases hf1 : f = 1
    · subst hf1
      simp only [if_true]
      by_cases hc : c = i
      · subst hc
        rw [if_pos rfl]
        unfold goS
        rw [if_pos ⟨rfl, by omega, e⟩]
      · rw [if_neg hc]
        unfold goS
        simp only [show (c < i + 1 ↔ c < i) by omega]
    · rw [if_neg hf1, goS_oth hf1 hf, goS_oth hf1 hf]
def tmS (h : Vw) : Vw := mset h 0 14 (h 0 14 + 1)
/-- the first i alarms ring if they are due -/
def rgS (h : Vw) (i : Nat) : Vw := fun f c => if f = 10 ∧ c < i then (if h 9 c ≤ h 1 (h 8 c).toNatClampNeg then 1 else h 10 c) else h f c
theorem rgS_0 (h : Vw) : rgS h 0 = h := by
  funext f c
  unfold rgS
  rw [if_neg (by omega)]
theorem rgS_oth {h : Vw} {i f c : Nat} (e : f ≠ 10 ∨ i ≤ c) : rgS h i f c = h f c := by
  unfold rgS
  rw [if_neg (by omega)]
theorem rgS_step {h : Vw} {i : Nat} {v : Int32} (e : v = if h 9 i ≤ h 1 (h 8 i).toNatClampNeg then 1 else h 10 i) : mset (rgS h i) 10 i v = rgS h (i + 1) := by
  funext f c
  unfold mset va_up upd
  by_cases hf : f = 10
  · subst hf
    simp only [if_true]
    by_cases hc : c = i
    · subst hc
      rw [if_pos rfl]
      unfold rgS
      rw [if_pos ⟨rfl, by omega⟩, e]
    · rw [if_neg hc]
      unfold rgS
      simp only [show (c < i + 1 ↔ c < i) by omega]
  · rw [if_neg hf, rgS_oth (Or.inl hf), rgS_oth (Or.inl hf)]
def tickS (h : Vw) : Vw := rgS (tmS (goS h (nM h))) (nA h)
/-- each alarm that is due has rung -/
def HC (h : Vw) : Prop := ∀ a, a < nA h → h 9 a ≤ h 1 (h 8 a).toNatClampNeg → h 10 a = 1
