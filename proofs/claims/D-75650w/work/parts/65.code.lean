/-! 65: what texts mean; the model's code as a pure machine -/
set_option maxRecDepth 100000
abbrev Vals : Type := Nat → Int64
abbrev Sm : Type := Vals → Option Int64
abbrev Ts : Type := Vals → Option Bool
/-- within a thousand million, else broken -/
def bnd (x : Int64) : Option Int64 := if 1000000000 < x ∨ x < -1000000000 then none else some x
/-- what two make, by the model's operation -/
def op2 (o : Nat) (a b : Int64) : Option Int64 :=
  if o = 20 then some (a + b) else if o = 21 then some (a - b) else if o = 22 then some (a * b) else if o = 23 then (if b = 0 then none else some (a / b)) else if o = 24 then (if b = 0 then none else some (a - a / b * b))
  else if o = 25 then some (if a < b then 1 else 0) else if o = 26 then some (if b < a then 1 else 0) else some (if a = b then 1 else 0)
def two (o : Nat) (a b : Sm) : Sm := fun v => (a v).bind fun x => (b v).bind fun y => (op2 o x y).bind bnd
def bI (b : Bool) : Int64 := if b then 1 else 0
abbrev tS (t : Ts) : Sm := fun v => (t v).map bI
def cmpT (o : Nat) (a b : Sm) : Ts := fun v => (a v).bind fun x => (b v).bind fun y => some (if o = 25 then decide (x < y) else if o = 26 then decide (y < x) else decide (x = y))
def notT (t : Ts) : Ts := fun v => (t v).map (!·)
def andT (a b : Ts) : Ts := fun v => (a v).bind fun x => if x then b v else some false
def orT (a b : Ts) : Ts := fun v => (a v).bind fun x => if x then some true else b v
/-- a leaf's value: law's words by their number; orders' words 5 .. 7 by the cask that is named -/
def lf (ord : Bool) (v : Vals) (o a : Nat) : Int64 := if o = 0 then lN a else if ord && decide (5 ≤ o) then v (4 + 8 * (o - 5) + a) else v (o - 1)
/-- one step of the machine: none is stuck, some none is broken -/
def stM (ord : Bool) (C : Nat → Nat × Nat) (v : Vals) (k : Nat) (st : List Int64) : Option (Option (Nat × List Int64)) :=
  if (C k).1 < 20 then some (some (k + 1, lf ord v (C k).1 (C k).2 :: st)) else
  match st with
  | [] => none
  | a :: r =>
    if (C k).1 < 28 then (match r with
      | [] => none
      | b :: r => match (op2 (C k).1 b a).bind bnd with
        | none => some none
        | some x => some (some (k + 1, x :: r))) else
    if (C k).1 = 28 then some (some (k + 1, (1 - a) :: r)) else
    if a = (if (C k).1 = 29 then 0 else 1) then some (some ((C k).2, a :: r)) else some (some (k + 1, r))
def rn (ord : Bool) (C : Nat → Nat × Nat) (v : Vals) (last : Nat) : Nat → Nat → List Int64 → Option (Option (List Int64))
  | 0, _, _ => none
  | n + 1, k, st => if last ≤ k then some (some st) else match stM ord C v k st with
    | none => none
    | some none => some none
    | some (some p) => rn ord C v last n p.1 p.2
theorem rn_end {ord : Bool} {C : Nat → Nat × Nat} {v : Vals} {last n k : Nat} {st : List Int64} (h : last ≤ k) : rn ord C v last (n + 1) k st = some (some st) := by rw [rn, if_pos h]
theorem rn_go {ord : Bool} {C : Nat → Nat × Nat} {v : Vals} {last n k : Nat} {st : List Int64} (h : k < last) {k' : Nat} {st' : List Int64} (e : stM ord C v k st = some (some (k', st'))) : rn ord C v last (n + 1) k st = rn ord C v last n k' st' := by rw [rn, if_neg (by omega), e]
theorem rn_br {ord : Bool} {C : Nat → Nat × Nat} {v : Vals} {last n k : Nat} {st : List Int64} (h : k < last) (e : stM ord C v k st = some none) : rn ord C v last (n + 1) k st = some none := by rw [rn, if_neg (by omega), e]
theorem st_leaf {ord : Bool} {C : Nat → Nat × Nat} {v : Vals} {k : Nat} {st : List Int64} (h : (C k).1 < 20) : stM ord C v k st = some (some (k + 1, lf ord v (C k).1 (C k).2 :: st)) := by rw [stM.eq_def, if_pos h]
theorem st_two {ord : Bool} {C : Nat → Nat × Nat} {v : Vals} {k : Nat} {a b : Int64} {r : List Int64} (h1 : 20 ≤ (C k).1) (h : (C k).1 < 28) : stM ord C v k (b :: a :: r) = match (op2 (C k).1 a b).bind bnd with
    | none => some none
    | some x => some (some (k + 1, x :: r)) := by
  rw [stM.eq_def, if_neg (by omega)]
  exact if_pos h
theorem st_not {ord : Bool} {C : Nat → Nat × Nat} {v : Vals} {k : Nat} {a : Int64} {r : List Int64} (h : (C k).1 = 28) : stM ord C v k (a :: r) = some (some (k + 1, (1 - a) :: r)) := by
  rw [stM.eq_def, if_neg (by omega)]
  exact (if_neg (by omega)).trans (if_pos h)
theorem st_jmp {ord : Bool} {C : Nat → Nat × Nat} {v : Vals} {k : Nat} {a : Int64} {r : List Int64} (h : 29 ≤ (C k).1) : stM ord C v k (a :: r) = if a = (if (C k).1 = 29 then 0 else 1) then some (some ((C k).2, a :: r)) else some (some (k + 1, r)) := by
  rw [stM.eq_def, if_neg (by omega)]
  exact (if_neg (by omega)).trans (if_neg (by omega))
/-- the code from i to j means m -/
def Seg (ord : Bool) (C : Nat → Nat × Nat) (i j : Nat) (m : Sm) : Prop := i < j ∧ ∀ (v : Vals) (last N : Nat) (st : List Int64), j ≤ last → j - i < N → ∃ N', N ≤ N' + (j - i) ∧ rn ord C v last N i st = match m v with
  | none => some none
  | some x => rn ord C v last N' j (x :: st)
theorem seg_leaf {ord : Bool} {C : Nat → Nat × Nat} {i : Nat} (h : (C i).1 < 20) : Seg ord C i (i + 1) fun v => some (lf ord v (C i).1 (C i).2) := by
  refine ⟨by omega, fun v last N st h1 h2 => ⟨N - 1, by omega, ?_⟩⟩
  obtain ⟨N, rfl⟩ : ∃ n, N = n + 1 := ⟨N - 1, by omega⟩
  rw [rn_go (by omega) (st_leaf h)]
  rfl
theorem seg_two {ord : Bool} {C : Nat → Nat × Nat} {i j l : Nat} {a b : Sm} (h1 : Seg ord C i j a) (h2 : Seg ord C j l b) (h3 : 20 ≤ (C l).1) (h4 : (C l).1 < 28) : Seg ord C i (l + 1) (two (C l).1 a b) := by
  have q1 := h1.1
  have q2 := h2.1
  refine ⟨by omega, fun v last N st g1 g2 => ?_⟩
  obtain ⟨N1, e1, r1⟩ := h1.2 v last N st (by omega) (by omega)
  rw [r1, two]
  cases ha : a v with
  | none => exact ⟨N, by omega, rfl⟩
  | some x =>
    obtain ⟨N2, e2, r2⟩ := h2.2 v last N1 (x :: st) (by omega) (by omega)
    simp only [Option.bind_some]
    rw [r2]
    cases hb : b v with
    | none => exact ⟨N, by omega, rfl⟩
    | some y =>
      simp only [Option.bind_some]
      obtain ⟨N2, rfl⟩ : ∃ n, N2 = n + 1 := ⟨N2 - 1, by omega⟩
      refine ⟨N2, by omega, ?_⟩
      have q := st_two (ord := ord) (v := v) (a := x) (b := y) (r := st) h3 h4
      cases hx : (op2 (C l).1 x y).bind bnd with
      | none =>
        rw [hx] at q
        exact rn_br (by omega) q
      | some z =>
        rw [hx] at q
        exact rn_go (by omega) q
theorem seg_not {ord : Bool} {C : Nat → Nat × Nat} {i j : Nat} {t : Ts} (h1 : Seg ord C i j (tS t)) (h3 : (C j).1 = 28) : Seg ord C i (j + 1) (tS (notT t)) := by
  have q1 := h1.1
  refine ⟨by omega, fun v last N st g1 g2 => ?_⟩
  obtain ⟨N1, e1, r1⟩ := h1.2 v last N st (by omega) (by omega)
  rw [r1, tS, tS, notT]
  cases ha : t v with
  | none => exact ⟨N, by omega, rfl⟩
  | some x =>
    obtain ⟨N1, rfl⟩ : ∃ n, N1 = n + 1 := ⟨N1 - 1, by omega⟩
    refine ⟨N1, by omega, ?_⟩
    simp only [Option.map_some]
    rw [rn_go (by omega) (st_not h3)]
    cases x <;> rfl
theorem seg_and {ord : Bool} {C : Nat → Nat × Nat} {i j e : Nat} {a b : Ts} (h1 : Seg ord C i j (tS a)) (h3 : (C j).1 = 29) (h4 : (C j).2 = e) (h2 : Seg ord C (j + 1) e (tS b)) : Seg ord C i e (tS (andT a b)) := by
  have q1 := h1.1
  have q2 := h2.1
  refine ⟨by omega, fun v last N st g1 g2 => ?_⟩
  obtain ⟨N1, e1, r1⟩ := h1.2 v last N st (by omega) (by omega)
  rw [r1, tS, tS, andT]
  cases ha : a v with
  | none => exact ⟨N, by omega, rfl⟩
  | some x =>
    obtain ⟨N1, rfl⟩ : ∃ n, N1 = n + 1 := ⟨N1 - 1, by omega⟩
    simp only [Option.map_some, Option.bind_some]
    have q := st_jmp (ord := ord) (C := C) (v := v) (k := j) (a := bI x) (r := st) (by omega)
    rw [if_pos h3, h4] at q
    cases x with
    | false => exact ⟨N1, by omega, rn_go (by omega) (q.trans (if_pos rfl))⟩
    | true =>
      obtain ⟨N2, e2, r2⟩ := h2.2 v last N1 st (by omega) (by omega)
      refine ⟨N2, by omega, ?_⟩
      rw [rn_go (by omega) (q.trans (if_neg (by decide))), r2, if_pos rfl]
theorem seg_or {ord : Bool} {C : Nat → Nat × Nat} {i j e : Nat} {a b : Ts} (h1 : Seg ord C i j (tS a)) (h3 : (C j).1 = 30) (h4 : (C j).2 = e) (h2 : Seg ord C (j + 1) e (tS b)) : Seg ord C i e (tS (orT a b)) := by
  have q1 := h1.1
  have q2 := h2.1
  refine ⟨by omega, fun v last N st g1 g2 => ?_⟩
  obtain ⟨N1, e1, r1⟩ := h1.2 v last N st (by omega) (by omega)
  rw [r1, tS, tS, orT]
  cases ha : a v with
  | none => exact ⟨N, by omega, rfl⟩
  | some x =>
    obtain ⟨N1, rfl⟩ : ∃ n, N1 = n + 1 := ⟨N1 - 1, by omega⟩
    simp only [Option.map_some, Option.bind_some]
    have q := st_jmp (ord := ord) (C := C) (v := v) (k := j) (a := bI x) (r := st) (by omega)
    rw [if_neg (by omega : ¬ (C j).1 = 29), h4] at q
    cases x with
    | true => exact ⟨N1, by omega, rn_go (by omega) (q.trans (if_pos rfl))⟩
    | false =>
      obtain ⟨N2, e2, r2⟩ := h2.2 v last N1 st (by omega) (by omega)
      refine ⟨N2, by omega, ?_⟩
      rw [rn_go (by omega) (q.trans (if_neg (by decide))), r2, if_neg (by decide)]
theorem cmp_two {o : Nat} (h : o = 25 ∨ o = 26 ∨ o = 27) (a b : Sm) : two o a b = tS (cmpT o a b) := by
  funext v
  rw [two, tS, cmpT]
  cases a v with
  | none => rfl
  | some x =>
    cases b v with
    | none => rfl
    | some y =>
      simp only [Option.bind_some, Option.map_some]
      rcases h with h | h | h <;> subst h <;> simp only [op2, bI, Nat.reduceEqDiff, if_false, if_true]
      · by_cases q : x < y <;> simp [q, bnd] <;> decide
      · by_cases q : y < x <;> simp [q, bnd] <;> decide
      · by_cases q : x = y <;> simp [q, bnd] <;> decide
