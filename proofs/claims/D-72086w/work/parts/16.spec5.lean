/-! apart by indices (as the model walks), the farthest lie -/
set_option maxRecDepth 100000
def liN (h : Vw) (i : Nat) (q : Int32) : Int32 := if q = -1 ∨ aimS h i < aimS h q.toNatClampNeg then nI i else q
def moN (h : Vw) (i : Nat) (q : Int32) : Int32 := if q = -1 ∨ aimS h q.toNatClampNeg < aimS h i then nI i else q
def liF (h : Vw) : Nat → Int32
  | 0 => -1
  | i + 1 => if trS h i = true then liN h i (liF h i) else liF h i
def moF (h : Vw) : Nat → Int32
  | 0 => -1
  | i + 1 => if trS h i = true then moN h i (moF h i) else moF h i
theorem nI_ne_m1 {a : Nat} (h : a < 2 ^ 31) : ¬ nI a = -1 := by
  intro q
  have h1 := nI_toInt h
  rw [q] at h1
  have : (-1 : Int32).toInt = -1 := by decide
  omega
/-- the indices and the values go together -/
theorem ap_spec (h : Vw) : ∀ i, i ≤ 8 → (apF h i = none ∧ liF h i = -1 ∧ moF h i = -1) ∨ ∃ a b, a < i ∧ b < i ∧ liF h i = nI a ∧ moF h i = nI b ∧ apF h i = some (aimS h a, aimS h b) := by
  intro i
  induction i with
  | zero => intro _; exact Or.inl ⟨rfl, rfl, rfl⟩
  | succ i ih =>
    intro hi
    have ih := ih (by omega)
    unfold apF liF moF
    by_cases ht : trS h i = true
    · rw [if_pos ht, if_pos ht, if_pos ht]
      refine Or.inr ?_
      rcases ih with ⟨e1, e2, e3⟩ | ⟨a, b, ha, hb, e1, e2, e3⟩
      · refine ⟨i, i, by omega, by omega, ?_, ?_, ?_⟩
        · unfold liN; rw [if_pos (Or.inl e2)]
        · unfold moN; rw [if_pos (Or.inl e3)]
        · rw [e1]
      · rw [e1, e2, e3]
        have ca : (nI a).toNatClampNeg = a := nI_clamp (by omega)
        have cb : (nI b).toNatClampNeg = b := nI_clamp (by omega)
        have na : ¬ nI a = -1 := nI_ne_m1 (by omega)
        have nb : ¬ nI b = -1 := nI_ne_m1 (by omega)
        unfold liN moN
        simp only [na, nb, ca, cb, false_or]
        by_cases h1 : aimS h i < aimS h a
        · by_cases h2 : aimS h b < aimS h i
          · exact ⟨i, i, by omega, by omega, by rw [if_pos h1], by rw [if_pos h2], by rw [if_pos h1, if_pos h2]⟩
          · exact ⟨i, b, by omega, by omega, by rw [if_pos h1], by rw [if_neg h2], by rw [if_pos h1, if_neg h2]⟩
        · by_cases h2 : aimS h b < aimS h i
          · exact ⟨a, i, by omega, by omega, by rw [if_neg h1], by rw [if_pos h2], by rw [if_neg h1, if_pos h2]⟩
          · exact ⟨a, b, by omega, by omega, by rw [if_neg h1], by rw [if_neg h2], by rw [if_neg h1, if_neg h2]⟩
    · rw [if_neg ht, if_neg ht, if_neg ht]
      rcases ih with ih | ⟨a, b, ha, hb, e⟩
      · exact Or.inl ih
      · exact Or.inr ⟨a, b, by omega, by omega, e⟩
/-- how far the middle of i goes off if j tells it v -/
def absS (x : Int32) : Int32 := if x < 0 then -x else x
def offS (h : Vw) (j i : Nat) (v : Int32) : Int32 := absS (midOfS (mset h 6 (8 * j + i) v) i - aimS h i)
def lieV (k : Nat) : Int32 := nI 9999 * (nI k - nI 1)
def fmS (h : Vw) (j i : Nat) : Nat → Int32
  | 0 => -1
  | k + 1 => mxS (fmS h j i k) (offS h j i (lieV k))
def fbS (h : Vw) (j i : Nat) : Nat → Int32
  | 0 => 0
  | k + 1 => if fmS h j i k < offS h j i (lieV k) then lieV k + nI 9999 else fbS h j i k
def farthestS (h : Vw) (j i : Nat) : Int32 := if trS h i = true ∧ lrS h j = true then fbS h j i 3 else -1
theorem aimS_set6 {h : Vw} {k c : Nat} {v : Int32} : aimS (mset h 6 k v) c = aimS h c := by
  unfold aimS; rw [mset_oth (by decide), mset_oth (by decide)]
theorem lieV_bd : ∀ k, k < 3 → -9999 ≤ (lieV k).toInt ∧ (lieV k).toInt ≤ 9999 := by decide
theorem HA_set6 {h : Vw} {B : Int} (hA : HA h B) {k : Nat} {v : Int32} (hv : -9999 ≤ v.toInt ∧ v.toInt ≤ 9999) : HA (mset h 6 k v) B := by
  refine ⟨fun c hc => by rw [aimS_set6]; exact hA.1 c hc, fun c hc => ⟨?_, ?_⟩⟩
  · by_cases e : c = k
    · subst e; rw [mset_self]; exact hv
    · rw [mset_ne (Or.inr e)]; exact (hA.2 c hc).1
  · rw [mset_oth (by decide)]; exact (hA.2 c hc).2
theorem HB_set6 {h : Vw} (hB : HB h) {k : Nat} {v : Int32} : HB (mset h 6 k v) := by
  unfold HB nM nF nA at *
  simp only [mset_oth (show (0 : Nat) ≠ 6 by decide), mset_oth (show (4 : Nat) ≠ 6 by decide), mset_oth (show (5 : Nat) ≠ 6 by decide), mset_oth (show (10 : Nat) ≠ 6 by decide), mset_oth (show (8 : Nat) ≠ 6 by decide)]
  exact hB
theorem nM_set6 {h : Vw} {k : Nat} {v : Int32} : nM (mset h 6 k v) = nM h := by unfold nM; rw [mset_oth (by decide)]
