/-! more of what is told, and its laws -/
set_option maxRecDepth 100000
def isC (h : Vw) (c : Int32) : Bool := decide (0 ≤ c.toInt) && decide (c.toInt < (nM h : Int))
theorem nI0_toInt : (nI 0).toInt = 0 := by decide
theorem isC_in {h : Vw} (hB : HB h) (c : Int32) : (decide (nI 0 ≤ c) && decide (c ≤ nI (nM h) - nI 1)) = isC h c := by
  have h8 := hB.many8
  have e1 : (nI (nM h) - nI 1).toInt = (nM h : Int) - 1 := pk_sub_toInt (by omega) (by omega)
  unfold isC
  congr 1
  · simp only [w_le, nI0_toInt]
  · simp only [w_le, e1]
    congr 1
    apply propext
    omega
theorem isC_spec {h : Vw} {c : Int32} (hc : isC h c = true) : ∃ k, k < nM h ∧ c = nI k := by
  unfold isC at hc
  simp only [Bool.and_eq_true, decide_eq_true_eq] at hc
  have h0 : (0 : Int32).toInt = 0 := by decide
  obtain ⟨j, hj, rfl⟩ := nI_of (x := c) (by rw [w_lt]; omega)
  rw [nI_toInt hj] at hc
  exact ⟨j, by omega, rfl⟩
theorem isC_nI {h : Vw} {k : Nat} (hk : k < nM h) (h8 : nM h ≤ 8) : isC h (nI k) = true := by
  unfold isC
  rw [nI_toInt (by omega)]
  simp only [Bool.and_eq_true, decide_eq_true_eq]
  omega
theorem insS_congr (v : Int32) : ∀ (m : Nat) (f g : Nat → Int32), (∀ k, k < m → f k = g k) → ∀ k, k ≤ m → insS f m v k = insS g m v k := by
  intro m
  induction m with
  | zero =>
    intro f g _ k hk
    have : k = 0 := by omega
    subst this
    unfold insS
    rw [pk_us, pk_us]
  | succ m ih =>
    intro f g h k hk
    unfold insS
    rw [h m (by omega)]
    split
    · rcases Nat.lt_or_ge k (m + 1) with h1 | h1
      · apply ih _ _ _ k (by omega)
        intro j hj
        rw [pk_un (by omega), pk_un (by omega)]
        exact h j (by omega)
      · have e : k = m + 1 := by omega
        subst e
        have key : ∀ (m : Nat) (f : Nat → Int32) (v : Int32) (k : Nat), m < k → insS f m v k = f k := by
          intro m
          induction m with
          | zero => intro f v k hk; unfold insS; exact pk_un (by omega)
          | succ m ih2 =>
            intro f v k hk
            unfold insS
            split
            · rw [ih2 _ _ _ (by omega), pk_un (by omega)]
            · exact pk_un (by omega)
        rw [key _ _ _ _ (by omega), key _ _ _ _ (by omega), pk_us, pk_us]
    · rcases Nat.lt_or_ge k (m + 1) with h1 | h1
      · rw [pk_un (by omega), pk_un (by omega)]
        exact h k h1
      · have e : k = m + 1 := by omega
        subst e
        rw [pk_us, pk_us]
/-- what holds of all values holds of their order -/
theorem insS_all {P : Int32 → Prop} {v : Int32} (hv : P v) : ∀ (m : Nat) (f : Nat → Int32), (∀ k, k < m → P (f k)) → ∀ k, k ≤ m → P (insS f m v k) := by
  intro m
  induction m with
  | zero =>
    intro f _ k hk
    have : k = 0 := by omega
    subst this
    unfold insS
    rw [pk_us]; exact hv
  | succ m ih =>
    intro f h k hk
    unfold insS
    split
    · rcases Nat.lt_or_ge k (m + 1) with h1 | h1
      · apply ih _ _ k (by omega)
        intro j hj
        rw [pk_un (by omega)]
        exact h j (by omega)
      · have e : k = m + 1 := by omega
        subst e
        have key : ∀ (m : Nat) (f : Nat → Int32) (v : Int32) (k : Nat), m < k → insS f m v k = f k := by
          intro m
          induction m with
          | zero => intro f v k hk; unfold insS; exact pk_un (by omega)
          | succ m ih2 =>
            intro f v k hk
            unfold insS
            split
            · rw [ih2 _ _ _ (by omega), pk_un (by omega)]
            · exact pk_un (by omega)
        rw [key _ _ _ _ (by omega), pk_us]
        exact h m (by omega)
    · rcases Nat.lt_or_ge k (m + 1) with h1 | h1
      · rw [pk_un (by omega)]
        exact h k h1
      · have e : k = m + 1 := by omega
        subst e
        rw [pk_us]; exact hv
theorem ordS_all {P : Int32 → Prop} {val : Nat → Int32} (m : Nat) (h : ∀ j, j < m → P (val j)) : ∀ k, k < m → P (ordS val m k) := by
  induction m with
  | zero => intro k hk; omega
  | succ m ih =>
    intro k hk
    exact insS_all (h m (by omega)) m _ (ih (fun j hj => h j (by omega))) k (by omega)
/-- sums that don't pass the bounds -/
theorem i_bm {x : Int} (h1 : -2147483648 ≤ x) (h2 : x < 2147483648) : x.bmod (2 ^ 32) = x := by
  apply Int.bmod_eq_of_le_mul_two <;> omega
theorem i_add {a b : Int32} (h1 : -2147483648 ≤ a.toInt + b.toInt) (h2 : a.toInt + b.toInt < 2147483648) : (a + b).toInt = a.toInt + b.toInt := by
  rw [Int32.toInt_add, i_bm h1 h2]
theorem i_sub {a b : Int32} (h1 : -2147483648 ≤ a.toInt - b.toInt) (h2 : a.toInt - b.toInt < 2147483648) : (a - b).toInt = a.toInt - b.toInt := by
  rw [Int32.toInt_sub, i_bm h1 h2]
theorem i_neg {a : Int32} (h : -2147483648 < a.toInt) : (-a).toInt = -a.toInt := by
  have := a.toInt_lt
  rw [Int32.toInt_neg, i_bm (by omega) (by omega)]
theorem i_of {x : Int} (h1 : -2147483648 ≤ x) (h2 : x < 2147483648) : (Int32.ofInt x).toInt = x := by
  rw [Int32.toInt_ofInt]; exact i_bm h1 h2
theorem i_0 : (0 : Int32).toInt = 0 := by decide
theorem i_lo (a : Int32) : -2147483648 ≤ a.toInt := by have := a.le_toInt; omega
theorem i_hi (a : Int32) : a.toInt < 2147483648 := by have := a.toInt_lt; omega
theorem i_half (x : Int32) : (halfS x).toInt = x.toInt / 2 := by
  have h1 := i_lo x
  have h2 := i_hi x
  unfold halfS
  rw [i_of (by omega) (by omega)]
/-- half of a sum: as the model counts it -/
theorem half_pos {x : Int32} (h : ¬ x < 0) : x / nI 2 = halfS x := by
  apply Int32.toInt_inj.mp
  have h2 : (nI 2).toInt = 2 := by decide
  rw [w_lt, i_0] at h
  rw [i_half, Int32.toInt_div_of_ne_right _ _ (by decide), h2, Int.tdiv_eq_ediv_of_nonneg (by omega)]
theorem half_neg {x : Int32} (h : x < 0) (hx : -2147483647 < x.toInt) : -((nI 1 - x) / nI 2) = halfS x := by
  apply Int32.toInt_inj.mp
  have h2 : (nI 2).toInt = 2 := by decide
  have h1 : (nI 1).toInt = 1 := by decide
  rw [w_lt, i_0] at h
  have e1 : (nI 1 - x).toInt = 1 - x.toInt := by rw [i_sub, h1] <;> rw [h1] <;> omega
  have e2 : ((nI 1 - x) / nI 2).toInt = (1 - x.toInt) / 2 := by
    rw [Int32.toInt_div_of_ne_right _ _ (by decide), h2, e1, Int.tdiv_eq_ediv_of_nonneg (by omega)]
  rw [i_neg (by rw [e2]; omega), e2, i_half]
  omega
