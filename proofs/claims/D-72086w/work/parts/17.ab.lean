/-! THE STATE OF BOTH, ABSTRACT: the house now, the seed, the past (the k-th last one), images, text, fault, book -/
set_option maxRecDepth 100000
abbrev Ab : Type := Vw × Int32 × (Nat × (Nat → Vw)) × ((Nat → Bool) × (Nat → Vw) × (Nat → Int32)) × (Nat × (Nat → Nat)) × Int32 × (Nat × (Nat → Int32) × (Nat → Int32))
abbrev aH (a : Ab) : Vw := a.1
abbrev aSd (a : Ab) : Int32 := a.2.1
abbrev aKn (a : Ab) : Nat := a.2.2.1.1
abbrev aPs (a : Ab) : Nat → Vw := a.2.2.1.2
abbrev aKp (a : Ab) : Nat → Bool := a.2.2.2.1.1
abbrev aIm (a : Ab) : Nat → Vw := a.2.2.2.1.2.1
abbrev aIs (a : Ab) : Nat → Int32 := a.2.2.2.1.2.2
abbrev aTn (a : Ab) : Nat := a.2.2.2.2.1.1
abbrev aTx (a : Ab) : Nat → Nat := a.2.2.2.2.1.2
abbrev aFt (a : Ab) : Int32 := a.2.2.2.2.2.1
abbrev aBn (a : Ab) : Nat := a.2.2.2.2.2.2.1
abbrev aBo (a : Ab) : Nat → Int32 := a.2.2.2.2.2.2.2.1
abbrev aBa (a : Ab) : Nat → Int32 := a.2.2.2.2.2.2.2.2
abbrev setH (a : Ab) (h : Vw) : Ab := (h, a.2)
abbrev setSd (a : Ab) (s : Int32) : Ab := (a.1, s, a.2.2)
abbrev setPs (a : Ab) (n : Nat) (p : Nat → Vw) : Ab := (a.1, a.2.1, (n, p), a.2.2.2)
abbrev setIm (a : Ab) (k : Nat → Bool) (im : Nat → Vw) (sd : Nat → Int32) : Ab := (a.1, a.2.1, a.2.2.1, (k, im, sd), a.2.2.2.2)
abbrev setTx (a : Ab) (n : Nat) (t : Nat → Nat) : Ab := (a.1, a.2.1, a.2.2.1, a.2.2.2.1, (n, t), a.2.2.2.2.2)
abbrev setFt (a : Ab) (f : Int32) : Ab := (a.1, a.2.1, a.2.2.1, a.2.2.2.1, a.2.2.2.2.1, f, a.2.2.2.2.2.2)
abbrev setBk (a : Ab) (n : Nat) (bo ba : Nat → Int32) : Ab := (a.1, a.2.1, a.2.2.1, a.2.2.2.1, a.2.2.2.2.1, a.2.2.2.2.2.1, (n, bo, ba))
def kpN (k : Nat → Bool) : Nat := (if k 0 then 1 else 0) + (if k 1 then 2 else 0)
/-- the model's numbers hold the state a -/
def MS (μ : Nat → Nat → Int32) (a : Ab) : Prop :=
  (Rp (μ 1) 0 (aH a) ∧ μ 1 191 = aSd a) ∧ (μ 0 1 = nI (aKn a) ∧ aKn a ≤ 16 ∧ ∀ k, k < aKn a → Rp (μ 1) (192 * (aKn a - k)) (aPs a k)) ∧
  (μ 0 2 = nI (kpN (aKp a)) ∧ ∀ i, i < 2 → aKp a i = true → Rp (μ 1) (3264 + 192 * i) (aIm a i) ∧ μ 1 (3264 + 192 * i + 191) = aIs a i) ∧
  (μ 0 4 = nI (aTn a) ∧ aTn a ≤ 200 ∧ ∀ k, k < aTn a → μ 2 k = nI (aTx a k) ∧ aTx a k < 256) ∧ μ 0 5 = aFt a ∧
  (μ 0 8 = nI (aBn a) ∧ aBn a ≤ 20 ∧ ∀ k, k < aBn a → μ 3 k = aBo a k ∧ μ 4 k = aBa a k)
theorem MS.r {μ : Nat → Nat → Int32} {a : Ab} (h : MS μ a) : Rp (μ 1) 0 (aH a) := h.1.1
theorem MS.sd {μ : Nat → Nat → Int32} {a : Ab} (h : MS μ a) : μ 1 191 = aSd a := h.1.2
theorem MS.kn {μ : Nat → Nat → Int32} {a : Ab} (h : MS μ a) : μ 0 1 = nI (aKn a) := h.2.1.1
theorem MS.kn16 {μ : Nat → Nat → Int32} {a : Ab} (h : MS μ a) : aKn a ≤ 16 := h.2.1.2.1
theorem MS.ps {μ : Nat → Nat → Int32} {a : Ab} (h : MS μ a) {k : Nat} (hk : k < aKn a) : Rp (μ 1) (192 * (aKn a - k)) (aPs a k) := h.2.1.2.2 k hk
theorem MS.kp {μ : Nat → Nat → Int32} {a : Ab} (h : MS μ a) : μ 0 2 = nI (kpN (aKp a)) := h.2.2.1.1
theorem MS.im {μ : Nat → Nat → Int32} {a : Ab} (h : MS μ a) {i : Nat} (hi : i < 2) (hk : aKp a i = true) : Rp (μ 1) (3264 + 192 * i) (aIm a i) ∧ μ 1 (3264 + 192 * i + 191) = aIs a i := h.2.2.1.2 i hi hk
theorem MS.tn {μ : Nat → Nat → Int32} {a : Ab} (h : MS μ a) : μ 0 4 = nI (aTn a) := h.2.2.2.1.1
theorem MS.tn200 {μ : Nat → Nat → Int32} {a : Ab} (h : MS μ a) : aTn a ≤ 200 := h.2.2.2.1.2.1
theorem MS.tx {μ : Nat → Nat → Int32} {a : Ab} (h : MS μ a) {k : Nat} (hk : k < aTn a) : μ 2 k = nI (aTx a k) ∧ aTx a k < 256 := h.2.2.2.1.2.2 k hk
theorem MS.ft {μ : Nat → Nat → Int32} {a : Ab} (h : MS μ a) : μ 0 5 = aFt a := h.2.2.2.2.1
theorem MS.bn {μ : Nat → Nat → Int32} {a : Ab} (h : MS μ a) : μ 0 8 = nI (aBn a) := h.2.2.2.2.2.1
theorem MS.bn20 {μ : Nat → Nat → Int32} {a : Ab} (h : MS μ a) : aBn a ≤ 20 := h.2.2.2.2.2.2.1
theorem MS.bk {μ : Nat → Nat → Int32} {a : Ab} (h : MS μ a) {k : Nat} (hk : k < aBn a) : μ 3 k = aBo a k ∧ μ 4 k = aBa a k := h.2.2.2.2.2.2.2 k hk
/-- what changes elsewhere leaves it -/
theorem MS.same {μ μ' : Nat → Nat → Int32} {a : Ab} (h : MS μ a) (h0 : μ' 0 = μ 0) (h1 : ∀ k, k < 3648 → μ' 1 k = μ 1 k) (h2 : μ' 2 = μ 2) (h3 : μ' 3 = μ 3) (h4 : μ' 4 = μ 4) : MS μ' a := by
  have k16 := h.kn16
  refine ⟨⟨h.r.kept (fun k _ hk => h1 k (by omega)), by rw [h1 191 (by omega)]; exact h.sd⟩, ⟨by rw [h0]; exact h.kn, h.kn16, fun k hk => (h.ps hk).kept (fun q _ hq => h1 q (by omega))⟩, ⟨by rw [h0]; exact h.kp, fun i hi hk => ?_⟩, ⟨by rw [h0]; exact h.tn, h.tn200, fun k hk => by rw [h2]; exact h.tx hk⟩, by rw [h0]; exact h.ft, ⟨by rw [h0]; exact h.bn, h.bn20, fun k hk => by rw [h3, h4]; exact h.bk hk⟩⟩
  have := h.im hi hk
  exact ⟨this.1.kept (fun q _ hq => h1 q (by omega)), by rw [h1 _ (by omega)]; exact this.2⟩
theorem MS.o5 {μ μ' : Nat → Nat → Int32} {a : Ab} (h : MS μ a) (ho : ∀ q, q ≠ 5 → μ' q = μ q) : MS μ' a := h.same (ho 0 (by decide)) (fun k _ => by rw [ho 1 (by decide)]) (ho 2 (by decide)) (ho 3 (by decide)) (ho 4 (by decide))
/-- a house in order, its aims within B -/
def HS (h : Vw) : Prop := (0 ≤ (h 0 2).toInt ∧ (h 0 2).toInt ≤ 80) ∧ ∀ c, c < nM h → 0 ≤ (h 2 c).toInt ∧ (h 2 c).toInt ≤ 110
def HG (h : Vw) (B : Int) : Prop := HB h ∧ HC h ∧ HA h B ∧ HS h
def AI (a : Ab) (B : Int) : Prop := HG (aH a) B ∧ (∀ k, k < aKn a → HG (aPs a k) B) ∧ (∀ i, i < 2 → aKp a i = true → HG (aIm a i) B ∧ 0 ≤ (aIs a i).toInt) ∧ 0 ≤ (aSd a).toInt
def inB (v : Int32) (lo hi : Int) : Bool := decide (lo ≤ v.toInt) && decide (v.toInt ≤ hi)
theorem inB_in {v lo hi : Int32} {l u : Int} (hl : lo.toInt = l) (hu : hi.toInt = u) : (decide (lo ≤ v) && decide (v ≤ hi)) = inB v l u := by
  unfold inB
  rw [← hl, ← hu]
  simp only [w_le]
theorem inB_nat {v : Int32} {lo hi : Nat} (h : inB v lo hi = true) : ∃ k, lo ≤ k ∧ k ≤ hi ∧ v = nI k := by
  unfold inB at h
  simp only [Bool.and_eq_true, decide_eq_true_eq] at h
  obtain ⟨j, hj, rfl⟩ := nI_of (x := v) (by rw [w_lt, i_0]; omega)
  rw [nI_toInt hj] at h
  exact ⟨j, by omega, by omega, rfl⟩
abbrev OUT : Int32 := -1000000002
abbrev UNK : Int32 := -1000000001
abbrev NOTv : Int32 := -1000000003
abbrev FULLv : Int32 := -1000000004
/-- what a deed remembers -/
def remS (a : Ab) : Ab := setPs a (if aKn a < 16 then aKn a + 1 else 16) (fun k => if k = 0 then aH a else aPs a (k - 1))
def pairB (h : Vw) (j i : Int32) : Bool := isC h j && (isC h i && decide (j ≠ i))
def rungN (h : Vw) : Int32 := nI (setN (eq1 h 10) (nA h))
def iterS {α : Type} (f : α → α) : Nat → α → α
  | 0, x => x
  | n + 1, x => f (iterS f n x)
/-! asked -/
def toldQ (a : Ab) (w : Int32) : Int32 := let h := aH a
  if w = 0 then h 0 0 else if w = 1 then h 0 1 else if w = 2 then h 0 2 else if w = 3 then nI (aTn a) else if w = 4 then nI (setN (eq1 h 4) (nM h)) else if w = 5 then nI (setN (eq1 h 5) (nM h)) else if w = 6 then nI (setN (trS h) (nM h)) else if w = 7 then apS h else if w = 8 then worstS h else if w = 9 then mayLieS h else if w = 10 then h 0 10 else if w = 11 then rungN h else if w = 12 then h 0 14 else if w = 13 then nI (aBn a) else if w = 14 then wrongS h (aBo a) (aBa a) (aBn a) else if w = 15 then nI (aKn a) else OUT
def clockQ (h : Vw) (c w : Int32) : Int32 := if isC h c = true then (let k := c.toNatClampNeg
  if w = 0 then h 1 k else if w = 1 then h 2 k else if w = 2 then h 3 k + 100000 else if w = 3 then aimS h k + 100000 else if w = 4 then h 4 k else if w = 5 then h 5 k else if w = 6 then (if trS h k = true ∧ ¬ nM h ≤ 2 * nF h then midOfS h k + 100000 else -1) else OUT) else UNK
def heardQ (h : Vw) (j i w : Int32) : Int32 := if pairB h j i = true then (let jn := j.toNatClampNeg
  let im := i.toNatClampNeg
  if w = 0 then heardS h im jn + 100000 else if w = 1 then h 7 (8 * jn + im) + 20 else if w = 2 then h 6 (8 * jn + im) + 9999 else if w = 3 then rankS h jn im else if w = 4 then farthestS h jn im else OUT) else UNK
def alarmAtQ (h : Vw) (x w : Int32) : Int32 := if inB x 0 ((nA h : Int) - 1) = true then (let k := x.toNatClampNeg
  if w = 0 then h 8 k else if w = 1 then h 9 k else if w = 2 then h 10 k else OUT) else UNK
def behindQ (h : Vw) (n : Int32) : Int32 := if inB n 0 20 = true then apS (iterS roundS n.toNatClampNeg h) else OUT
def wiB (h : Vw) (b : Int32) (n : Nat) : Bool := decide (apS (iterS roundS n h) ≠ -1) && decide (apS (iterS roundS n h) ≤ b)
def withinQ (h : Vw) (b : Int32) : Int32 := if inB b 0 9999 = true then (if fa_first (wiB h b) 21 < 21 then nI (fa_first (wiB h b) 21) else -1) else OUT
/-! deeds: the answer, and the state behind it -/
def feedQ (a : Ab) (x : Int32) : Int32 × Ab := if inB x 0 255 = true then (if aTn a = 200 then (FULLv, a) else (nI (aTn a + 1), setTx a (aTn a + 1) (fun k => if k = aTn a then x.toNatClampNeg else aTx a k))) else (OUT, a)
def tickQ (a : Ab) (n : Int32) : Int32 × Ab := if inB n 1 20 = true then (rungN (iterS tickS n.toNatClampNeg (aH a)) &&& (rungN (aH a) ^^^ (-1)), setH (remS a) (iterS tickS n.toNatClampNeg (aH a))) else (OUT, a)
def roundQ (a : Ab) : Int32 × Ab := (apS (roundS (aH a)), setH (remS a) (roundS (aH a)))
def lieQ (a : Ab) (j i v : Int32) : Int32 × Ab := if pairB (aH a) j i = true then (if inB v (-9999) 9999 = true then (aH a 6 (8 * j.toNatClampNeg + i.toNatClampNeg) + 9999, setH (remS a) (mset (aH a) 6 (8 * j.toNatClampNeg + i.toNatClampNeg) v)) else (OUT, a)) else (UNK, a)
def errorQ (a : Ab) (j i v : Int32) : Int32 × Ab := if pairB (aH a) j i = true then (if inB v (-20) 20 = true then (aH a 7 (8 * j.toNatClampNeg + i.toNatClampNeg) + 20, setH (remS a) (mset (aH a) 7 (8 * j.toNatClampNeg + i.toNatClampNeg) v)) else (OUT, a)) else (UNK, a)
def liarQ (a : Ab) (c : Int32) (b : Bool) : Int32 × Ab := if isC (aH a) c = true then (nI (fa_cnt (eq1 (mset (aH a) 4 c.toNatClampNeg (bI b)) 4) (nM (aH a))), setH (remS a) (mset (aH a) 4 c.toNatClampNeg (bI b))) else (UNK, a)
def standQ (a : Ab) (c : Int32) : Int32 × Ab := if isC (aH a) c = true then (if aH a 5 c.toNatClampNeg = 1 then (NOTv, a) else (nI (fa_cnt (eq1 (mset (aH a) 5 c.toNatClampNeg 1) 5) (nM (aH a))), setH (remS a) (mset (aH a) 5 c.toNatClampNeg 1))) else (UNK, a)
/-- the order of what c hears of the first m that don't stand -/
def jnS (h : Vw) (c : Nat) : Nat → Nat → Int32
  | 0 => fun _ => 0
  | m + 1 => if h 5 m = 0 then insS (jnS h c m) (fa_cnt (fun k => decide (h 5 k = 0)) m) (heardS h c m) else jnS h c m
def joinAt (h : Vw) (c : Nat) : Int32 := midS (jnS h c (nM h)) (nF h) (goN h)
def joinH (h : Vw) (c : Nat) : Vw := mset (mset (mset h 1 c (joinAt h c)) 3 c 0) 5 c 0
def joinQ (a : Ab) (c : Int32) : Int32 × Ab := if isC (aH a) c = true then (if aH a 5 c.toNatClampNeg = 0 ∨ goN (aH a) < 2 * nF (aH a) + 1 then (NOTv, a) else (joinAt (aH a) c.toNatClampNeg, setH (remS a) (rgS (joinH (aH a) c.toNatClampNeg) (nA (aH a))))) else (UNK, a)
def alarmH (h : Vw) (c v : Int32) : Vw := mset (mset (mset (mset h 8 (nA h) c) 9 (nA h) v) 10 (nA h) (if v ≤ h 1 c.toNatClampNeg then 1 else 0)) 0 10 (nI (nA h + 1))
def alarmQ (a : Ab) (c v : Int32) : Int32 × Ab := if isC (aH a) c = true then (if inB v 0 999999 = true then (if nA (aH a) = 6 then (FULLv, a) else (nI (nA (aH a)), setH (remS a) (alarmH (aH a) c v))) else (OUT, a)) else (UNK, a)
def drawN (s : Nat) : Nat := (s * 1103515245 + 12345) % 2147483648
def drawV (s n : Nat) : Nat := s / 65536 % n
/-- chance: five numbers are drawn; a lie and an error change, then a round or a tick -/
def chanceH (h : Vw) (s1 s2 s3 s4 s5 : Nat) : Vw := let j := drawV s1 (nM h)
  let i := drawV s2 (nM h)
  let h1 : Vw := if j ≠ i then mset (mset h 6 (8 * j + i) (nI (drawV s3 2001) - nI 1000)) 7 (8 * j + i) (nI (drawV s4 41) - nI 20) else h
  if drawV s5 3 = 0 then roundS h1 else tickS h1
def chanceS (a : Ab) : Ab := let s1 := drawN (aSd a).toNatClampNeg
  let s2 := drawN s1
  let s3 := drawN s2
  let s4 := drawN s3
  let s5 := drawN s4
  setSd (setH a (chanceH (aH a) s1 s2 s3 s4 s5)) (nI s5)
def driftQ (a : Ab) (n : Int32) : Int32 × Ab := if inB n 1 16 = true then (let b := if nM (aH a) = 0 then a else iterS (fun x => chanceS (remS x)) n.toNatClampNeg a
  (apS (aH b), b)) else (OUT, a)
def undoQ (a : Ab) (n : Int32) : Int32 × Ab := if inB n 1 16 = true then (if aKn a < n.toNatClampNeg then (NOTv, a) else (aPs a (n.toNatClampNeg - 1) 0 14, setPs (setH a (aPs a (n.toNatClampNeg - 1))) (aKn a - n.toNatClampNeg) (fun k => aPs a (k + n.toNatClampNeg)))) else (OUT, a)
def writeQ (a : Ab) (c v : Int32) : Int32 × Ab := if isC (aH a) c = true then (if aBn a = 20 then (FULLv, a) else (nI (aBn a + 1), setBk a (aBn a + 1) (upd (aBo a) (aBn a) c) (upd (aBa a) (aBn a) v))) else (UNK, a)
def tearQ (a : Ab) : Int32 × Ab := (nI (aBn a), setBk a 0 (aBo a) (aBa a))
def seedQ (a : Ab) (v : Int32) : Int32 × Ab := if v < 0 then (OUT, a) else (aSd a, setSd a v)
def keepQ (a : Ab) (i : Int32) : Int32 × Ab := if inB i 0 1 = true then (1, setPs (setIm a (fun k => if k = i.toNatClampNeg then true else aKp a k) (fun k => if k = i.toNatClampNeg then aH a else aIm a k) (fun k => if k = i.toNatClampNeg then aSd a else aIs a k)) 0 (aPs a)) else (UNK, a)
def goBackQ (a : Ab) (i : Int32) : Int32 × Ab := if inB i 0 1 = true then (if aKp a i.toNatClampNeg = true then (1, setPs (setSd (setH a (aIm a i.toNatClampNeg)) (aIs a i.toNatClampNeg)) 0 (aPs a)) else (NOTv, a)) else (UNK, a)
theorem first_cong {p q : Nat → Bool} : ∀ {n : Nat}, (∀ k, k < n → p k = q k) → fa_first p n = fa_first q n := by
  intro n
  induction n with
  | zero => intro _; rfl
  | succ n ih =>
    intro h
    unfold fa_first
    rw [ih (fun k hk => h k (by omega)), h n (by omega)]
theorem wrongS_cong {h : Vw} {bo ba bo' ba' : Nat → Int32} {n : Nat} (e : ∀ k, k < n → bo k = bo' k ∧ ba k = ba' k) : wrongS h bo ba n = wrongS h bo' ba' n := by
  unfold wrongS
  rw [first_cong (q := wrS h bo' ba') (fun k hk => by unfold wrS; rw [(e k hk).1, (e k hk).2])]
theorem tb_out {x : Int32} (hi : Nat) (h : ∀ k, k ≤ hi → ¬ x = nI k) (hh : hi < 2 ^ 30 := by decide) : x.toInt < ((0 : Nat) : Int) ∨ (hi : Int) < x.toInt := by
  by_cases h1 : x.toInt < 0
  · exact Or.inl h1
  · by_cases h2 : (hi : Int) < x.toInt
    · exact Or.inr h2
    · obtain ⟨j, hj, rfl⟩ := nI_of (x := x) (by rw [w_lt, i_0]; omega)
      rw [nI_toInt hj] at h2
      exact absurd rfl (h j (by omega))
