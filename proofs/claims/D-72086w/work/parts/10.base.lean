/-! MY BASE ROWS: worlds by places, joins, loops, calls in one line -/
set_option maxRecDepth 100000
/-- a world by places: at place i (i < n) the cell ad i holds f i -/
def wf (n : Nat) (ad : Nat → Nat) (f : Nat → va_E) : va_W := (List.range n).map (fun i => (ad i, f i))
theorem wf_get {n : Nat} {ad : Nat → Nat} {f : Nat → va_E} {i : Nat} (h : i < n) : (wf n ad f)[i]? = some (ad i, f i) := by
  unfold wf
  rw [List.getElem?_map, List.getElem?_range h]
  rfl
theorem wf_none {n : Nat} {ad : Nat → Nat} {f : Nat → va_E} {i : Nat} (h : n ≤ i) : (wf n ad f)[i]? = none := by
  apply List.getElem?_eq_none
  simpa [wf] using h
theorem wf_lt {n : Nat} {ad : Nat → Nat} {f : Nat → va_E} {i : Nat} {q : Nat × va_E} (h : (wf n ad f)[i]? = some q) : i < n ∧ q = (ad i, f i) := by
  rcases Nat.lt_or_ge i n with hi | hi
  · rw [wf_get hi] at h
    exact ⟨hi, (Option.some.inj h).symm⟩
  · rw [wf_none hi] at h
    cases h
theorem wf_set {n : Nat} {ad : Nat → Nat} {f : Nat → va_E} {i : Nat} {e : va_E} (h : i < n) : (wf n ad f).set i (ad i, e) = wf n ad (va_up f i e) := by
  apply List.ext_getElem?
  intro j
  rcases Nat.lt_or_ge j n with hj | hj
  · rw [wf_get hj, List.getElem?_set]
    by_cases hij : i = j
    · subst hij
      rw [if_pos rfl, if_pos (by simpa [wf] using h), va_up_self]
    · rw [if_neg hij, wf_get hj, va_up_ne _ _ (Ne.symm hij)]
  · rw [List.getElem?_set, if_neg (by omega), wf_none hj, wf_none hj]
def gJ (n : Nat) (ad : Nat → Nat) : Prop := ∀ i j, i < n → j < n → ad i = ad j → i = j
def gA (n : Nat) (ad : Nat → Nat) (sz : Nat) : Nat → Prop := fun q => (∃ i, i < n ∧ q = ad i) ∨ sz ≤ q
theorem gD {n : Nat} {ad : Nat → Nat} {f : Nat → va_E} {sz : Nat} (h : gJ n ad) : va_D (gA n ad sz) (wf n ad f) := by
  refine ⟨fun i j p q hi hj hpq => ?_, fun k q hk => ?_⟩
  · obtain ⟨h1, rfl⟩ := wf_lt hi
    obtain ⟨h2, rfl⟩ := wf_lt hj
    exact h i j h1 h2 hpq
  · obtain ⟨h1, rfl⟩ := wf_lt hk
    exact Or.inl ⟨k, h1, rfl⟩
/-- what a world's predicate says, place by place -/
theorem wf_P {D : va_G} {cl : List vw_C} {n : Nat} {ad : Nat → Nat} {f : Nat → va_E} {H : Heap} : va_P D cl (wf n ad f) H ↔ ∀ i, i < n → va_at D cl (ad i, f i) H :=
  ⟨fun h i hi => h i _ (wf_get hi), fun h k q hk => by obtain ⟨h1, rfl⟩ := wf_lt hk; exact h k h1⟩
theorem wf_congr {D : va_G} {cl : List vw_C} {n : Nat} {ad : Nat → Nat} {f g : Nat → va_E} {H : Heap} (h : va_P D cl (wf n ad f) H) (e : ∀ i, i < n → f i = g i) : va_P D cl (wf n ad g) H :=
  wf_P.mpr fun i hi => by rw [← e i hi]; exact wf_P.mp h i hi
/-- array contents that agree on their places are the same cell -/
theorem vp_cell_ext {cA : ClassId} {n : Nat} {f g : Nat → Int32} (h : ∀ j, j < n → f j = g j) : vp_cell cA (n, .inl f) = vp_cell cA (n, .inl g) := by
  show arrV cA n (fun j => .int (f j)) = arrV cA n (fun j => .int (g j))
  unfold arrV
  congr 1
  apply Array.ext
  · simp
  · intro i h1 h2
    simp only [Array.getElem_ofFn]
    rw [h i (by simpa using h1)]
theorem w_nlt {x y : Int32} (h : y ≤ x) : ¬ x < y := by
  rw [Int32.lt_iff_toInt_lt, Int32.le_iff_toInt_le] at *
  omega
theorem w_lt {x y : Int32} : x < y ↔ x.toInt < y.toInt := Int32.lt_iff_toInt_lt
theorem w_le {x y : Int32} : x ≤ y ↔ x.toInt ≤ y.toInt := Int32.le_iff_toInt_le
section
variable {p : Program} {l : Launch} {e : Env} {R : Room} {s : State} {m : MethodId} {args : Array Value} {below : List Frame} {meth : Method} {c : Code} {H : Heap} {locs : List Loc} {cells slots : Nat} {Q : State → Prop} {cc : ByteArray} {pc : Nat} {ls : Array Slot} {rest : List Value}
/-- a join of paths: the frames g v, for every v with P v -/
theorem w_join {α : Type} (P : α → Prop) (g : α → JFrame) {g0 : JFrame} (k : ∀ v, P v → W p l e R s m args below meth c H locs cells slots Q (g v)) (h : (∀ v, P v → W p l e R s m args below meth c H locs cells slots Q (g v)) → W p l e R s m args below meth c H locs cells slots Q g0) : W p l e R s m args below meth c H locs cells slots Q g0 := h k
theorem w_eqi {x y : Int32} (h : x = y) (k : W p l e R s m args below meth c H locs cells slots Q (F0 m pc ls (.int y :: rest))) : W p l e R s m args below meth c H locs cells slots Q (F0 m pc ls (.int x :: rest)) := by
  subst h; exact k
theorem w_eql {x y : Int64} (h : x = y) (k : W p l e R s m args below meth c H locs cells slots Q (F0 m pc ls (.long y :: rest))) : W p l e R s m args below meth c H locs cells slots Q (F0 m pc ls (.long x :: rest)) := by
  subst h; exact k
/-- a loop that counts up, nothing written: L c the locals at its head -/
theorem w_up (N pc nL : Nat) (L : Nat → List (Nat × Value)) (step : ∀ (i : Nat) (ls : Array Slot), i < N → lv_has ls nL (L i) → (∀ ls' : Array Slot, lv_has ls' nL (L (i + 1)) → W p l e R s m args below meth c H locs cells slots Q (F0 m pc ls' [])) → W p l e R s m args below meth c H locs cells slots Q (F0 m pc ls []))
    (fin : ∀ ls : Array Slot, lv_has ls nL (L N) → W p l e R s m args below meth c H locs cells slots Q (F0 m pc ls [])) (i : Nat) (hi : i ≤ N) : ∀ ls : Array Slot, lv_has ls nL (L i) → W p l e R s m args below meth c H locs cells slots Q (F0 m pc ls []) := by
  have key : ∀ (d i : Nat), i + d = N → ∀ ls : Array Slot, lv_has ls nL (L i) → W p l e R s m args below meth c H locs cells slots Q (F0 m pc ls []) := by
    intro d
    induction d with
    | zero => intro i hi ls hl; subst hi; exact fin ls hl
    | succ d ih => intro i hi ls hl; exact step i ls (by omega) hl (ih (i + 1) (by omega))
  exact key (N - i) i (by omega)
/-- any loop, by a measure; x: what changes -/
theorem w_ms {α : Type} (pc : Nat) (I : Nat → α → Heap → List Loc → Nat → Nat → Array Slot → Prop)
    (step : ∀ (n : Nat) (x : α) (H : Heap) (locs : List Loc) (cells slots : Nat) (ls : Array Slot), I n x H locs cells slots ls → (∀ (n' : Nat) (x' : α) (H' : Heap) (locs' : List Loc) (cells' slots' : Nat) (ls' : Array Slot), n' < n → I n' x' H' locs' cells' slots' ls' → W p l e R s m args below meth c H' locs' cells' slots' Q (F0 m pc ls' [])) → W p l e R s m args below meth c H locs cells slots Q (F0 m pc ls []))
    (n : Nat) (x : α) (h : I n x H locs cells slots ls) : W p l e R s m args below meth c H locs cells slots Q (F0 m pc ls []) := by
  have key : ∀ (N n : Nat) (x : α) (H : Heap) (locs : List Loc) (cells slots : Nat) (ls : Array Slot), n < N → I n x H locs cells slots ls → W p l e R s m args below meth c H locs cells slots Q (F0 m pc ls []) := by
    intro N
    induction N with
    | zero => intro n _ _ _ _ _ _ h; exact absurd h (Nat.not_lt_zero n)
    | succ N ih => intro n x H locs cells slots ls hn hI; exact step n x H locs cells slots ls hI (fun n' x' H' locs' cells' slots' ls' hlt hI' => ih n' x' H' locs' cells' slots' ls' (by omega) hI')
  exact key (n + 1) n x H locs cells slots ls (Nat.lt_succ_self n) h
/-- a loop by a measure, nothing written -/
theorem w_msR {α : Type} (pc : Nat) (I : Nat → α → Array Slot → Prop)
    (step : ∀ (n : Nat) (x : α) (ls : Array Slot), I n x ls → (∀ (n' : Nat) (x' : α) (ls' : Array Slot), n' < n → I n' x' ls' → W p l e R s m args below meth c H locs cells slots Q (F0 m pc ls' [])) → W p l e R s m args below meth c H locs cells slots Q (F0 m pc ls []))
    (n : Nat) (x : α) (h : I n x ls) : W p l e R s m args below meth c H locs cells slots Q (F0 m pc ls []) := by
  have key : ∀ (N n : Nat) (x : α) (ls : Array Slot), n < N → I n x ls → W p l e R s m args below meth c H locs cells slots Q (F0 m pc ls []) := by
    intro N
    induction N with
    | zero => intro n _ _ h; exact absurd h (Nat.not_lt_zero n)
    | succ N ih => intro n x ls hn hI; exact step n x ls hI (fun n' x' ls' hlt hI' => ih n' x' ls' (by omega) hI')
  exact key (n + 1) n x ls (Nat.lt_succ_self n) h
/-- a loop that counts up, nothing written, with a fact F i at its head -/
theorem w_upF (N pc nL : Nat) (L : Nat → List (Nat × Value)) (F : Nat → Prop) (step : ∀ (i : Nat) (ls : Array Slot), i < N → lv_has ls nL (L i) → F i → (∀ ls' : Array Slot, lv_has ls' nL (L (i + 1)) → F (i + 1) → W p l e R s m args below meth c H locs cells slots Q (F0 m pc ls' [])) → W p l e R s m args below meth c H locs cells slots Q (F0 m pc ls []))
    (fin : ∀ ls : Array Slot, lv_has ls nL (L N) → F N → W p l e R s m args below meth c H locs cells slots Q (F0 m pc ls [])) (i : Nat) (hi : i ≤ N) : ∀ ls : Array Slot, lv_has ls nL (L i) → F i → W p l e R s m args below meth c H locs cells slots Q (F0 m pc ls []) := by
  have key : ∀ (d i : Nat), i + d = N → ∀ ls : Array Slot, lv_has ls nL (L i) → F i → W p l e R s m args below meth c H locs cells slots Q (F0 m pc ls []) := by
    intro d
    induction d with
    | zero => intro i hi ls hl hF; subst hi; exact fin ls hl hF
    | succ d ih => intro i hi ls hl hF; exact step i ls (by omega) hl hF (ih (i + 1) (by omega))
  exact key (N - i) i (by omega)
/-- a loop that counts up and writes: L i x the locals at its head, Wd i x the world -/
theorem w_upM {α : Type} (N pc nL : Nat) (A : Nat → Prop) (H0 : Heap) (L : Nat → α → List (Nat × Value)) (Wd : Nat → α → Heap → Prop)
    (step : ∀ (i : Nat) (x : α) (ls : Array Slot) (H : Heap) (locs : List Loc), i < N → lv_has ls nL (L i x) → Wd i x H → va_S A H0 H locs → (∀ (x' : α) (ls' : Array Slot) (H' : Heap) (locs' : List Loc), lv_has ls' nL (L (i + 1) x') → Wd (i + 1) x' H' → va_S A H0 H' locs' → W p l e R s m args below meth c H' locs' cells slots Q (F0 m pc ls' [])) → W p l e R s m args below meth c H locs cells slots Q (F0 m pc ls []))
    (fin : ∀ (x : α) (ls : Array Slot) (H : Heap) (locs : List Loc), lv_has ls nL (L N x) → Wd N x H → va_S A H0 H locs → W p l e R s m args below meth c H locs cells slots Q (F0 m pc ls [])) (i : Nat) (hi : i ≤ N) (x : α) (h1 : lv_has ls nL (L i x)) (h2 : Wd i x H) (h3 : va_S A H0 H locs) : W p l e R s m args below meth c H locs cells slots Q (F0 m pc ls []) := by
  have key : ∀ (d i : Nat), i + d = N → ∀ (x : α) (ls : Array Slot) (H : Heap) (locs : List Loc), lv_has ls nL (L i x) → Wd i x H → va_S A H0 H locs → W p l e R s m args below meth c H locs cells slots Q (F0 m pc ls []) := by
    intro d
    induction d with
    | zero => intro i hi x ls H locs h1 h2 h3; subst hi; exact fin x ls H locs h1 h2 h3
    | succ d ih => intro i hi x ls H locs h1 h2 h3; exact step i x ls H locs (by omega) h1 h2 h3 (fun x' ls' H' locs' => ih (i + 1) (by omega) x' ls' H' locs')
  exact key (N - i) i (by omega) x ls H locs h1 h2 h3
/-- a loop by a measure that writes; cells and slots stay -/
theorem w_msM {α : Type} (pc nL : Nat) (A : Nat → Prop) (H0 : Heap) (L : α → List (Nat × Value)) (Wd : Nat → α → Heap → Prop)
    (step : ∀ (n : Nat) (x : α) (ls : Array Slot) (H : Heap) (locs : List Loc), lv_has ls nL (L x) → Wd n x H → va_S A H0 H locs → (∀ (n' : Nat) (x' : α) (ls' : Array Slot) (H' : Heap) (locs' : List Loc), n' < n → lv_has ls' nL (L x') → Wd n' x' H' → va_S A H0 H' locs' → W p l e R s m args below meth c H' locs' cells slots Q (F0 m pc ls' [])) → W p l e R s m args below meth c H locs cells slots Q (F0 m pc ls []))
    (n : Nat) (x : α) (h1 : lv_has ls nL (L x)) (h2 : Wd n x H) (h3 : va_S A H0 H locs) : W p l e R s m args below meth c H locs cells slots Q (F0 m pc ls []) := by
  have key : ∀ (N n : Nat) (x : α) (ls : Array Slot) (H : Heap) (locs : List Loc), n < N → lv_has ls nL (L x) → Wd n x H → va_S A H0 H locs → W p l e R s m args below meth c H locs cells slots Q (F0 m pc ls []) := by
    intro N
    induction N with
    | zero => intro n _ _ _ _ h; exact absurd h (Nat.not_lt_zero n)
    | succ N ih => intro n x ls H locs hn h1 h2 h3; exact step n x ls H locs h1 h2 h3 (fun n' x' ls' H' locs' hlt => ih n' x' ls' H' locs' (by omega))
  exact key (n + 1) n x ls H locs (Nat.lt_succ_self n) h1 h2 h3
theorem w_iaddN (hexec : p.tables.exec = Jvm.exec) (hb : c.code = cc) {a b : Nat} (hdg : decode cc pc = .ok (.iadd, 1)) (k : W p l e R s m args below meth c H locs cells slots Q (F0 m (pc + 1) ls (.int (nI (a + b)) :: rest))) : W p l e R s m args below meth c H locs cells slots Q (F0 m pc ls (.int (nI b) :: .int (nI a) :: rest)) :=
  lv_iadd hexec hb hdg (w_eqi (nI_add a b) k)
theorem w_imulN (hexec : p.tables.exec = Jvm.exec) (hb : c.code = cc) {a b : Nat} (hdg : decode cc pc = .ok (.imul, 1)) (k : W p l e R s m args below meth c H locs cells slots Q (F0 m (pc + 1) ls (.int (nI (a * b)) :: rest))) : W p l e R s m args below meth c H locs cells slots Q (F0 m pc ls (.int (nI b) :: .int (nI a) :: rest)) :=
  lv_imul hexec hb hdg (w_eqi (pk_mul a b) k)
theorem w_isubN (hexec : p.tables.exec = Jvm.exec) (hb : c.code = cc) {a b : Nat} (hdg : decode cc pc = .ok (.isub, 1)) (h : b ≤ a) (k : W p l e R s m args below meth c H locs cells slots Q (F0 m (pc + 1) ls (.int (nI (a - b)) :: rest))) : W p l e R s m args below meth c H locs cells slots Q (F0 m pc ls (.int (nI b) :: .int (nI a) :: rest)) :=
  lv_isub hexec hb hdg (w_eqi (pk_sub h) k)
/-- compares of numbers by their Nat -/
theorem w_icmpN_ge (hexec : p.tables.exec = Jvm.exec) (hb : c.code = cc) {a b : Nat} {off : Int} {tgt : Nat} (hdg : decode cc pc = .ok (.if_icmp .ge off, 3)) (ht : (pc : Int) + off = (tgt : Int)) (ha : a < 2 ^ 31) (hb' : b < 2 ^ 31) (kt : b ≤ a → W p l e R s m args below meth c H locs cells slots Q (F0 m tgt ls rest)) (kf : a < b → W p l e R s m args below meth c H locs cells slots Q (F0 m (pc + 3) ls rest)) : W p l e R s m args below meth c H locs cells slots Q (F0 m pc ls (.int (nI b) :: .int (nI a) :: rest)) :=
  lv_icmp_ge hexec hb hdg ht (fun h => kt ((nI_leI hb' ha).mp h)) (fun h => kf (Nat.lt_of_not_le fun q => h ((nI_leI hb' ha).mpr q)))
theorem w_icmpN_lt (hexec : p.tables.exec = Jvm.exec) (hb : c.code = cc) {a b : Nat} {off : Int} {tgt : Nat} (hdg : decode cc pc = .ok (.if_icmp .lt off, 3)) (ht : (pc : Int) + off = (tgt : Int)) (ha : a < 2 ^ 31) (hb' : b < 2 ^ 31) (kt : a < b → W p l e R s m args below meth c H locs cells slots Q (F0 m tgt ls rest)) (kf : b ≤ a → W p l e R s m args below meth c H locs cells slots Q (F0 m (pc + 3) ls rest)) : W p l e R s m args below meth c H locs cells slots Q (F0 m pc ls (.int (nI b) :: .int (nI a) :: rest)) :=
  lv_icmp_lt hexec hb hdg ht (fun h => kt ((nI_ltI ha hb').mp h)) (fun h => kf (Nat.le_of_not_lt fun q => h ((nI_ltI ha hb').mpr q)))
theorem w_icmpN_le (hexec : p.tables.exec = Jvm.exec) (hb : c.code = cc) {a b : Nat} {off : Int} {tgt : Nat} (hdg : decode cc pc = .ok (.if_icmp .le off, 3)) (ht : (pc : Int) + off = (tgt : Int)) (ha : a < 2 ^ 31) (hb' : b < 2 ^ 31) (kt : a ≤ b → W p l e R s m args below meth c H locs cells slots Q (F0 m tgt ls rest)) (kf : b < a → W p l e R s m args below meth c H locs cells slots Q (F0 m (pc + 3) ls rest)) : W p l e R s m args below meth c H locs cells slots Q (F0 m pc ls (.int (nI b) :: .int (nI a) :: rest)) :=
  lv_icmp_le hexec hb hdg ht (fun h => kt ((nI_leI ha hb').mp h)) (fun h => kf (Nat.lt_of_not_le fun q => h ((nI_leI ha hb').mpr q)))
theorem w_icmpN_gt (hexec : p.tables.exec = Jvm.exec) (hb : c.code = cc) {a b : Nat} {off : Int} {tgt : Nat} (hdg : decode cc pc = .ok (.if_icmp .gt off, 3)) (ht : (pc : Int) + off = (tgt : Int)) (ha : a < 2 ^ 31) (hb' : b < 2 ^ 31) (kt : b < a → W p l e R s m args below meth c H locs cells slots Q (F0 m tgt ls rest)) (kf : a ≤ b → W p l e R s m args below meth c H locs cells slots Q (F0 m (pc + 3) ls rest)) : W p l e R s m args below meth c H locs cells slots Q (F0 m pc ls (.int (nI b) :: .int (nI a) :: rest)) :=
  lv_icmp_gt hexec hb hdg ht (fun h => kt ((nI_ltI hb' ha).mp h)) (fun h => kf (Nat.le_of_not_lt fun q => h ((nI_ltI hb' ha).mpr q)))
theorem w_icmpN_eq (hexec : p.tables.exec = Jvm.exec) (hb : c.code = cc) {a b : Nat} {off : Int} {tgt : Nat} (hdg : decode cc pc = .ok (.if_icmp .eq off, 3)) (ht : (pc : Int) + off = (tgt : Int)) (ha : a < 2 ^ 31) (hb' : b < 2 ^ 31) (kt : a = b → W p l e R s m args below meth c H locs cells slots Q (F0 m tgt ls rest)) (kf : ¬ a = b → W p l e R s m args below meth c H locs cells slots Q (F0 m (pc + 3) ls rest)) : W p l e R s m args below meth c H locs cells slots Q (F0 m pc ls (.int (nI b) :: .int (nI a) :: rest)) :=
  lv_icmp_eq hexec hb hdg ht (fun h => kt ((nI_eq ha hb').mp h)) (fun h => kf fun q => h ((nI_eq ha hb').mpr q))
theorem w_icmpN_ne (hexec : p.tables.exec = Jvm.exec) (hb : c.code = cc) {a b : Nat} {off : Int} {tgt : Nat} (hdg : decode cc pc = .ok (.if_icmp .ne off, 3)) (ht : (pc : Int) + off = (tgt : Int)) (ha : a < 2 ^ 31) (hb' : b < 2 ^ 31) (kt : ¬ a = b → W p l e R s m args below meth c H locs cells slots Q (F0 m tgt ls rest)) (kf : a = b → W p l e R s m args below meth c H locs cells slots Q (F0 m (pc + 3) ls rest)) : W p l e R s m args below meth c H locs cells slots Q (F0 m pc ls (.int (nI b) :: .int (nI a) :: rest)) :=
  lv_icmp_ne hexec hb hdg ht (fun h => kt fun q => h ((nI_eq ha hb').mpr q)) (fun h => kf ((nI_eq ha hb').mp h))
theorem w_ifN_le (hexec : p.tables.exec = Jvm.exec) (hb : c.code = cc) {a : Nat} {off : Int} {tgt : Nat} (hdg : decode cc pc = .ok (.ifCond .le off, 3)) (ht : (pc : Int) + off = (tgt : Int)) (ha : a < 2 ^ 31) (kt : a = 0 → W p l e R s m args below meth c H locs cells slots Q (F0 m tgt ls rest)) (kf : 0 < a → W p l e R s m args below meth c H locs cells slots Q (F0 m (pc + 3) ls rest)) : W p l e R s m args below meth c H locs cells slots Q (F0 m pc ls (.int (nI a) :: rest)) :=
  lv_if_le hexec hb hdg ht (fun h => kt (Nat.eq_zero_of_not_pos fun q => nI_nle q ha h)) (fun h => kf (Nat.pos_of_ne_zero fun q => h (by subst q; decide)))
theorem w_ifN_gt (hexec : p.tables.exec = Jvm.exec) (hb : c.code = cc) {a : Nat} {off : Int} {tgt : Nat} (hdg : decode cc pc = .ok (.ifCond .gt off, 3)) (ht : (pc : Int) + off = (tgt : Int)) (ha : a < 2 ^ 31) (kt : 0 < a → W p l e R s m args below meth c H locs cells slots Q (F0 m tgt ls rest)) (kf : a = 0 → W p l e R s m args below meth c H locs cells slots Q (F0 m (pc + 3) ls rest)) : W p l e R s m args below meth c H locs cells slots Q (F0 m pc ls (.int (nI a) :: rest)) :=
  lv_if_gt hexec hb hdg ht (fun h => kt (Nat.pos_of_ne_zero fun q => by subst q; exact absurd h (by decide))) (fun h => kf (Nat.eq_zero_of_not_pos fun q => h (by have := nI_lt q ha; rwa [nI_0] at this)))
theorem w_ifN_eq (hexec : p.tables.exec = Jvm.exec) (hb : c.code = cc) {a : Nat} {off : Int} {tgt : Nat} (hdg : decode cc pc = .ok (.ifCond .eq off, 3)) (ht : (pc : Int) + off = (tgt : Int)) (ha : a < 2 ^ 31) (kt : a = 0 → W p l e R s m args below meth c H locs cells slots Q (F0 m tgt ls rest)) (kf : 0 < a → W p l e R s m args below meth c H locs cells slots Q (F0 m (pc + 3) ls rest)) : W p l e R s m args below meth c H locs cells slots Q (F0 m pc ls (.int (nI a) :: rest)) :=
  lv_if_eq hexec hb hdg ht (fun h => kt (Nat.eq_zero_of_not_pos fun q => nI_ne0 q ha h)) (fun h => kf (Nat.pos_of_ne_zero fun q => h (by subst q; decide)))
theorem w_ifN_ne (hexec : p.tables.exec = Jvm.exec) (hb : c.code = cc) {a : Nat} {off : Int} {tgt : Nat} (hdg : decode cc pc = .ok (.ifCond .ne off, 3)) (ht : (pc : Int) + off = (tgt : Int)) (ha : a < 2 ^ 31) (kt : 0 < a → W p l e R s m args below meth c H locs cells slots Q (F0 m tgt ls rest)) (kf : a = 0 → W p l e R s m args below meth c H locs cells slots Q (F0 m (pc + 3) ls rest)) : W p l e R s m args below meth c H locs cells slots Q (F0 m pc ls (.int (nI a) :: rest)) :=
  lv_if_ne hexec hb hdg ht (fun h => kt (Nat.pos_of_ne_zero fun q => h (by subst q; decide))) (fun h => kf (Nat.eq_zero_of_not_pos fun q => nI_ne0 q ha h))
/-- the end of a method that only reads -/
theorem w_retR {v r : Int32} (hexec : p.tables.exec = Jvm.exec) (hb : c.code = cc) (hlk : meth.locks = false) (hr : meth.sig.returnType = some .int) (hdg : decode cc pc = .ok (.ireturn, 1)) (hv : v = r) : W p l e R s m args below meth c s.heap [] 0 0 (MQ below (QcRead r) args s 0 0 (fun _ => False)) (F0 m pc ls [.int v]) := by
  subst hv
  exact W.iret hexec hb hr (fun t ht _ => ⟨rfl, ht⟩) (fun q h => nomatch h) hdg hlk
def bI (b : Bool) : Int32 := if b then 1 else 0
theorem bI_nar (b : Bool) : narrow .boolean (.int (bI b)) = .int (bI b) := by cases b <;> rfl
theorem w_retZ {v : Int32} {b : Bool} (hexec : p.tables.exec = Jvm.exec) (hb : c.code = cc) (hlk : meth.locks = false) (hr : meth.sig.returnType = some .boolean) (hdg : decode cc pc = .ok (.ireturn, 1)) (hv : v = bI b) : W p l e R s m args below meth c s.heap [] 0 0 (MQ below (QcRead (bI b)) args s 0 0 (fun _ => False)) (F0 m pc ls [.int v]) := by
  subst hv
  exact W.zret hexec hb hr (bI_nar b) (fun t ht _ => ⟨rfl, ht⟩) (fun q h => nomatch h) hdg hlk
end
theorem w_inc (a n : Nat) : nI a + Int32.ofInt (n : Int) = nI (a + n) := by
  have h : Int32.ofInt (n : Int) = nI n := Int32.ofInt_eq_ofNat
  rw [h]; exact nI_add a n
theorem bI_eq0 {b : Bool} : bI b = 0 ↔ b = false := by cases b <;> decide
theorem bI_ne0 {b : Bool} : ¬ bI b = 0 ↔ b = true := by cases b <;> decide
theorem bI_eq1 {b : Bool} : bI b = 1 ↔ b = true := by cases b <;> decide
theorem w_dec {a : Nat} (h : 0 < a) : nI a + Int32.ofInt (-1) = nI (a - 1) := by
  have e : Int32.ofInt (-1) = -1 := by decide
  rw [e]; exact sb_m1 h
