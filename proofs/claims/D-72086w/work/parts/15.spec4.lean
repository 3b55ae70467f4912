/-! sets, counts, ranks, the worst -/
set_option maxRecDepth 100000
/-- a set as a number: the bits c < n with p c -/
def setN (p : Nat → Bool) : Nat → Nat
  | 0 => 0
  | c + 1 => setN p c + if p c then 2 ^ c else 0
theorem setN_lt (p : Nat → Bool) : ∀ n, setN p n < 2 ^ n := by
  intro n
  induction n with
  | zero => exact Nat.one_pos
  | succ n ih =>
    unfold setN
    rw [Nat.pow_succ]
    split <;> omega
theorem nI_shl1 : ∀ c, c < 31 → (1 : Int32) <<< (nI c &&& 31) = nI (2 ^ c) := by decide +kernel
theorem setN_or {p : Nat → Bool} {c : Nat} : nI (setN p c) ||| nI (if p c then 2 ^ c else 0) = nI (setN p (c + 1)) := by
  rw [fa_or]
  congr 1
  show _ = setN p c + _
  split
  · have h := Nat.two_pow_add_eq_or_of_lt (setN_lt p c) 1
    rw [Nat.mul_one] at h
    rw [Nat.or_comm, ← h, Nat.add_comm]
  · rw [Nat.or_zero, Nat.add_zero]
theorem setN_cong {p q : Nat → Bool} : ∀ {n : Nat}, (∀ k, k < n → p k = q k) → setN p n = setN q n := by
  intro n
  induction n with
  | zero => intro _; rfl
  | succ n ih =>
    intro h
    unfold setN
    rw [ih (fun k hk => h k (by omega)), h n (by omega)]
theorem setN_bit (p : Nat → Bool) : ∀ (n j : Nat), (setN p n).testBit j = (decide (j < n) && p j) := by
  intro n
  induction n with
  | zero => intro j; simp [setN]
  | succ n ih =>
    intro j
    unfold setN
    have hl := setN_lt p n
    by_cases hp : p n = true
    · rw [if_pos hp, Nat.add_comm]
      have h := Nat.two_pow_add_eq_or_of_lt hl 1
      rw [Nat.mul_one] at h
      rw [h, Nat.testBit_or, ih, Nat.testBit_two_pow]
      by_cases e : n = j
      · subst e; simp [hp]
      · simp only [e, decide_false, Bool.false_or]
        congr 1
        have : (j < n) ↔ (j < n + 1) := by omega
        simp only [this]
    · rw [if_neg hp, Nat.add_zero, ih]
      by_cases e : n = j
      · subst e; simp [hp]
      · congr 1
        have : (j < n) ↔ (j < n + 1) := by omega
        simp only [this]
def eq1 (h : Vw) (f : Nat) : Nat → Bool := fun c => decide (h f c = 1)
theorem bI_cnt {p : Nat → Bool} {c : Nat} : nI (fa_cnt p c) + bI (p c) = nI (fa_cnt p (c + 1)) := by
  unfold bI
  cases hp : p c
  · rw [fa_cnt_no hp]
    show nI _ + 0 = _
    exact Int32.add_zero _
  · rw [fa_cnt_yes hp]
    exact nI_1 _
theorem cnt_le8 {p : Nat → Bool} {n : Nat} (h : n ≤ 8) : fa_cnt p n ≤ 8 := Nat.le_trans (fa_cnt_le p n) h
/-- the middle of i, if those that lie tell it t -/
def toldS (h : Vw) (i : Nat) (t : Int32) (j : Nat) : Int32 := if lrS h j = true then t else heardS h i j
def extS (h : Vw) (i : Nat) (t : Int32) : Int32 := midS (ordS (toldS h i t) (nM h)) (nF h) (nM h)
theorem toldS_bd {h : Vw} {B : Int} (hA : HA h B) (hB0 : B ≤ 400000000) (h8 : nM h ≤ 8) {i j : Nat} (hi : i < nM h) (hj : j < nM h) {t : Int32} (ht : t = 500000000 ∨ t = -500000000) : -500000000 ≤ (toldS h i t j).toInt ∧ (toldS h i t j).toInt ≤ 500000000 := by
  unfold toldS
  have e1 : (500000000 : Int32).toInt = 500000000 := by decide
  have e2 : (-500000000 : Int32).toInt = -500000000 := by decide
  split
  · rcases ht with rfl | rfl
    · rw [e1]; omega
    · rw [e2]; omega
  · have := heardS_bd hA hB0 h8 hi hj
    omega
def mxS (a b : Int32) : Int32 := if a < b then b else a
def areS (h : Vw) (i k : Nat) : Bool := decide (i ≠ k) && (trS h i && trS h k)
def wRow (h : Vw) (i : Nat) (m : Int32) : Nat → Int32
  | 0 => m
  | k + 1 => if areS h i k = true then mxS (wRow h i m k) (extS h i 500000000 - extS h k (-500000000)) else wRow h i m k
def wAll (h : Vw) : Nat → Int32
  | 0 => 0
  | i + 1 => wRow h i (wAll h i) (nM h)
theorem mxS_ge {a b : Int32} (h : ¬ a < 0) : ¬ mxS a b < 0 := by
  unfold mxS
  split
  · rename_i q; rw [w_lt] at q; rw [w_lt, i_0] at h ⊢; omega
  · exact h
theorem wRow_ge {h : Vw} {i : Nat} {m : Int32} (hm : ¬ m < 0) : ∀ k, ¬ wRow h i m k < 0 := by
  intro k
  induction k with
  | zero => exact hm
  | succ k ih =>
    unfold wRow
    split
    · exact mxS_ge ih
    · exact ih
theorem wAll_ge {h : Vw} : ∀ i, ¬ wAll h i < 0 := by
  intro i
  induction i with
  | zero => show ¬ (0 : Int32) < 0; decide
  | succ i ih => exact wRow_ge ih _
def worstS (h : Vw) : Int32 := if fa_cnt (trS h) (nM h) < 2 then (if fa_cnt (trS h) (nM h) = 0 then -1 else 0) else if nM h ≤ 2 * nF h then apS h else if nF h < fa_cnt (lrS h) (nM h) then 1000000 else wAll h (nM h)
def goN (h : Vw) : Nat := fa_cnt (fun c => decide (h 5 c = 0)) (nM h)
def mayLieS (h : Vw) : Int32 := if goN h = 0 then -1 else if (goN h - 1) / 3 < nF h then nI ((goN h - 1) / 3) else nI (nF h)
def rkS (h : Vw) (i j : Nat) : Nat → Bool := fun k => decide (heardS h i k < heardS h i j) || (decide (heardS h i k = heardS h i j) && decide (k < j))
def rankS (h : Vw) (j i : Nat) : Int32 := nI (fa_cnt (rkS h i j) (nM h))
/-- the first entry of the book that is wrong -/
def wrS (h : Vw) (bo ba : Nat → Int32) : Nat → Bool := fun k => !(isC h (bo k) && decide (aimS h (bo k).toNatClampNeg = ba k))
def wrongS (h : Vw) (bo ba : Nat → Int32) (n : Nat) : Int32 := if fa_first (wrS h bo ba) n < n then nI (fa_first (wrS h bo ba) n) else -1
theorem first_none {p : Nat → Bool} {n : Nat} (h : ∀ k, k < n → p k = false) : ¬ fa_first p n < n := by
  intro q
  have := fa_first_yes p n q
  rw [h _ q] at this
  cases this
theorem first_some {p : Nat → Bool} {n k : Nat} (hk : k < n) (hp : p k = true) (h : ∀ j, j < k → p j = false) : fa_first p n = k := by
  have h1 : ¬ k < fa_first p n := fun q => by
    have := fa_first_no p n k q
    rw [hp] at this
    cases this
  have h2 : ¬ fa_first p n < k := fun q => by
    have := fa_first_yes p n (by omega)
    rw [h _ q] at this
    cases this
  omega
