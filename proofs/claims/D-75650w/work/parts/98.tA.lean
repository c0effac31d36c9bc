/-! 98: texts: bytes, tokens -/
set_option maxRecDepth 100000
/-- from p on as long as it is so, over at most k bytes -/
def rnP (P : Nat → Bool) (tp : Nat → Nat) (n : Nat) : Nat → Nat → Nat
  | 0, p => p
  | k + 1, p => if p < n ∧ P (tp p) = true then rnP P tp n k (p + 1) else p
def ovr (P : Nat → Bool) (tp : Nat → Nat) (n p : Nat) : Nat := rnP P tp n (n - p) p
theorem ovr_s {P : Nat → Bool} {tp : Nat → Nat} {n p : Nat} (h : p < n) (q : P (tp p) = true) : ovr P tp n p = ovr P tp n (p + 1) := by
  rw [ovr, ovr, show n - p = (n - (p + 1)) + 1 by omega, rnP, if_pos ⟨h, q⟩]
theorem ovr_e {P : Nat → Bool} {tp : Nat → Nat} {n p : Nat} (h : ¬ (p < n ∧ P (tp p) = true)) : ovr P tp n p = p := by
  rw [ovr]
  cases hk : n - p with
  | zero => rfl
  | succ k => rw [rnP, if_neg h]
theorem rnP_b {P : Nat → Bool} {tp : Nat → Nat} {n : Nat} : ∀ k p, p ≤ rnP P tp n k p ∧ rnP P tp n k p ≤ p + k ∧ (∀ i, p ≤ i → i < rnP P tp n k p → i < n ∧ P (tp i) = true) := by
  intro k
  induction k with
  | zero => intro p; exact ⟨Nat.le_refl _, Nat.le_refl _, fun i h1 h2 => absurd h2 (Nat.not_lt.mpr h1)⟩
  | succ k ih =>
    intro p
    rw [rnP]
    split
    · rename_i q
      have := ih (p + 1)
      refine ⟨by omega, by omega, fun i h1 h2 => ?_⟩
      by_cases e : i = p
      · rw [e]
        exact q
      · exact this.2.2 i (by omega) h2
    · exact ⟨Nat.le_refl _, by omega, fun i h1 h2 => absurd h2 (Nat.not_lt.mpr h1)⟩
theorem ovr_le {P : Nat → Bool} {tp : Nat → Nat} {n p : Nat} : p ≤ ovr P tp n p := (rnP_b _ _).1
theorem ovr_n {P : Nat → Bool} {tp : Nat → Nat} {n p : Nat} (h : p ≤ n) : ovr P tp n p ≤ n := by
  have := (rnP_b (P := P) (tp := tp) (n := n) (n - p) p).2.1
  rw [ovr]
  omega
theorem ovr_all {P : Nat → Bool} {tp : Nat → Nat} {n p i : Nat} (h1 : p ≤ i) (h2 : i < ovr P tp n p) : P (tp i) = true := ((rnP_b _ _).2.2 i h1 h2).2
def isL (b : Nat) : Bool := decide (97 ≤ b ∧ b ≤ 122)
def isD (b : Nat) : Bool := decide (48 ≤ b ∧ b ≤ 57)
def isW (b : Nat) : Bool := decide (b = 32)
def skp (tp : Nat → Nat) (n p : Nat) : Nat := ovr isW tp n p
/-- where a token ends that begins at f -/
def tkE (tp : Nat → Nat) (n f : Nat) : Nat := if f < n then (if isL (tp f) = true then ovr isL tp n f else if isD (tp f) = true then ovr isD tp n f else f + 1) else f
theorem tkE_lt {tp : Nat → Nat} {n f : Nat} (h : f < n) : f < tkE tp n f := by
  rw [tkE, if_pos h]
  split
  · rename_i q
    rw [ovr_s h q]
    exact Nat.lt_of_lt_of_le (Nat.lt_succ_self f) ovr_le
  · split
    · rename_i q
      rw [ovr_s h q]
      exact Nat.lt_of_lt_of_le (Nat.lt_succ_self f) ovr_le
    · omega
theorem tkE_n {tp : Nat → Nat} {n f : Nat} (h : f ≤ n) : tkE tp n f ≤ n := by
  rw [tkE]
  split
  · split
    · exact ovr_n h
    · split
      · exact ovr_n h
      · omega
  · exact h
theorem tkE_le {tp : Nat → Nat} {n f : Nat} : f ≤ tkE tp n f := by
  by_cases h : f < n
  · exact Nat.le_of_lt (tkE_lt h)
  · rw [tkE, if_neg h]
    exact Nat.le_refl _
/-- a state of reading: the token's place, leaves, brackets that are open -/
abbrev Sg : Type := (Nat) × (Nat) × (Nat) × (Nat)
abbrev Sg.fr (x__ : Sg) : Nat := x__.1
abbrev Sg.to (x__ : Sg) : Nat := x__.2.1
abbrev Sg.lv (x__ : Sg) : Nat := x__.2.2.1
abbrev Sg.dp (x__ : Sg) : Nat := x__.2.2.2
def nx (tp : Nat → Nat) (n : Nat) (s : Sg) : Sg := ⟨skp tp n s.to, tkE tp n (skp tp n s.to), s.lv, s.dp⟩
/-- what always holds of it -/
abbrev okR (tp : Nat → Nat) (n : Nat) (s : Sg) : Prop := (s.fr ≤ n) ∧ (s.to = tkE tp n s.fr) ∧ (s.lv ≤ 50) ∧ (s.dp ≤ 8)
theorem okR.n {tp : Nat → Nat} {n : Nat} {s : Sg} (h__ : okR tp n s) : s.fr ≤ n := h__.1
theorem okR.t {tp : Nat → Nat} {n : Nat} {s : Sg} (h__ : okR tp n s) : s.to = tkE tp n s.fr := h__.2.1
theorem okR.l {tp : Nat → Nat} {n : Nat} {s : Sg} (h__ : okR tp n s) : s.lv ≤ 50 := h__.2.2.1
theorem okR.d {tp : Nat → Nat} {n : Nat} {s : Sg} (h__ : okR tp n s) : s.dp ≤ 8 := h__.2.2.2
theorem nx_ok {tp : Nat → Nat} {n : Nat} {s : Sg} (h : s.to ≤ n) (hl : s.lv ≤ 50) (hd : s.dp ≤ 8) : okR tp n (nx tp n s) := ⟨ovr_n h, rfl, hl, hd⟩
theorem okR.to {tp : Nat → Nat} {n : Nat} {s : Sg} (h : okR tp n s) : s.to ≤ n := by
  rw [h.t]
  exact tkE_n h.n
theorem okR.nx {tp : Nat → Nat} {n : Nat} {s : Sg} (h : okR tp n s) : okR tp n (nx tp n s) := nx_ok h.to h.l h.d
theorem nx_lt {tp : Nat → Nat} {n : Nat} {s : Sg} (h : okR tp n s) (q : s.fr < n) : s.fr < (nx tp n s).fr := by
  have h1 := tkE_lt (tp := tp) q
  have h2 : s.to ≤ (nx tp n s).fr := ovr_le
  have h3 := h.t
  omega
/-- the bytes from f on are these -/
def eqA (tp : Nat → Nat) : Nat → List Nat → Bool
  | _, [] => true
  | f, c :: w => decide (tp f = c) && eqA tp (f + 1) w
/-- the token is this word, this sign -/
def tkw (tp : Nat → Nat) (s : Sg) (w : List Nat) : Bool := decide (s.to = s.fr + w.length) && eqA tp s.fr w
/-- it is a number -/
def dg (tp : Nat → Nat) (n : Nat) (s : Sg) : Bool := decide (s.fr < n) && isD (tp s.fr)
def dvN (tp : Nat → Nat) (f : Nat) : Nat → Nat
  | 0 => 0
  | k + 1 => 10 * dvN tp f k + (tp (f + k) - 48)
abbrev Rs (α : Type) : Type := Nat ⊕ (α × Sg)
def rb {α β : Type} (x : Rs α) (f : α → Sg → Rs β) : Rs β := match x with
  | .inl p => .inl p
  | .inr (a, s) => f a s
def Sg.wl (s : Sg) : Sg := ⟨s.fr, s.to, s.lv + 1, s.dp⟩
def Sg.up (s : Sg) : Sg := ⟨s.fr, s.to, s.lv, s.dp + 1⟩
def Sg.dn (s : Sg) : Sg := ⟨s.fr, s.to, s.lv, s.dp - 1⟩
def spN (tp : Nat → Nat) (n lo hi : Nat) (s : Sg) : Rs Nat := if dg tp n s = true ∧ lo ≤ dvN tp s.fr (s.to - s.fr) ∧ dvN tp s.fr (s.to - s.fr) ≤ hi then .inr (dvN tp s.fr (s.to - s.fr), nx tp n s) else .inl s.fr
def wCask : List Nat := [99, 97, 115, 107]
def wTier : List Nat := [116, 105, 101, 114]
def wSize : List Nat := [115, 105, 122, 101]
def wFull : List Nat := [102, 117, 108, 108]
def wMean : List Nat := [109, 101, 97, 110]
def wYear : List Nat := [121, 101, 97, 114]
def wMood : List Nat := [109, 111, 111, 100]
def wDone : List Nat := [100, 111, 110, 101]
def wLatest : List Nat := [108, 97, 116, 101, 115, 116]
def wBottled : List Nat := [98, 111, 116, 116, 108, 101, 100]
def wRoom : List Nat := [114, 111, 111, 109]
/-- which value a word is -/
def vwd (tp : Nat → Nat) (ord : Bool) (s : Sg) : Option Nat :=
  if ord = true then (if tkw tp s wYear = true then some 0 else if tkw tp s wDone = true then some 1 else if tkw tp s wLatest = true then some 2 else if tkw tp s wBottled = true then some 3 else if tkw tp s wFull = true then some 4 else if tkw tp s wRoom = true then some 5 else if tkw tp s wMean = true then some 6 else none)
  else (if tkw tp s wCask = true then some 0 else if tkw tp s wTier = true then some 1 else if tkw tp s wSize = true then some 2 else if tkw tp s wFull = true then some 3 else if tkw tp s wMean = true then some 4 else if tkw tp s wYear = true then some 5 else if tkw tp s wMood = true then some 6 else none)
def spV (tp : Nat → Nat) (n : Nat) (ord : Bool) (s : Sg) : Rs Nat := match vwd tp ord s with
  | none => .inl s.fr
  | some i => if s.lv = 50 then .inl s.fr else if ord = true ∧ 4 ≤ i then rb (spN tp n 0 7 (nx tp n s.wl)) (fun k s2 => .inr (4 + 8 * (i - 4) + k, s2)) else .inr (i, nx tp n s.wl)
def spPart (tp : Nat → Nat) (n : Nat) (ord : Bool) (rs : Sg → Rs Sm) (s : Sg) : Rs Sm :=
  if tkw tp s [91] = true then (if s.dp = 8 then .inl s.fr else rb (rs (nx tp n s.up)) fun m s2 => if tkw tp s2 [93] = true then .inr (m, (nx tp n s2).dn) else .inl s2.fr)
  else if dg tp n s = true then (if s.lv = 50 then .inl s.fr else rb (spN tp n 0 1000 s.wl) fun k s2 => .inr ((fun _ => some (lN k)), s2))
  else rb (spV tp n ord s) fun w s2 => .inr ((fun v => some (v w)), s2)
def op6 (tp : Nat → Nat) (s : Sg) : Option Nat := if tkw tp s [42] = true then some 22 else if tkw tp s [47] = true then some 23 else if tkw tp s [37] = true then some 24 else none
def op5 (tp : Nat → Nat) (s : Sg) : Option Nat := if tkw tp s [43] = true then some 20 else if tkw tp s [45] = true then some 21 else none
def op4 (tp : Nat → Nat) (s : Sg) : Option Nat := if tkw tp s [60] = true then some 25 else if tkw tp s [62] = true then some 26 else if tkw tp s [61] = true then some 27 else none
/-- operands by an operator -/
def spL (tp : Nat → Nat) (n : Nat) (op : Sg → Option Nat) (pt : Sg → Rs Sm) : Nat → Sm → Sg → Rs Sm
  | 0, _, s => .inl s.fr
  | k + 1, m, s => match op s with
    | none => .inr (m, s)
    | some o => rb (pt (nx tp n s)) fun m2 s2 => spL tp n op pt k (two o m m2) s2
def spTerm (tp : Nat → Nat) (n : Nat) (ord : Bool) (rs : Sg → Rs Sm) (s : Sg) : Rs Sm := rb (spPart tp n ord rs s) fun m s2 => spL tp n (op6 tp) (spPart tp n ord rs) 500 m s2
def spSum (tp : Nat → Nat) (n : Nat) (ord : Bool) (rs : Sg → Rs Sm) (s : Sg) : Rs Sm := rb (spTerm tp n ord rs s) fun m s2 => spL tp n (op5 tp) (spTerm tp n ord rs) 500 m s2
def spSumD (tp : Nat → Nat) (n : Nat) (ord : Bool) : Nat → Sg → Rs Sm
  | 0, s => .inl s.fr
  | d + 1, s => spSum tp n ord (spSumD tp n ord d) s
def wNot : List Nat := [110, 111, 116]
def wAnd : List Nat := [97, 110, 100]
def wOr : List Nat := [111, 114]
def spPos (tp : Nat → Nat) (n : Nat) (ord : Bool) (rt : Sg → Rs Ts) (s : Sg) : Rs Ts :=
  if tkw tp s [40] = true then (if s.dp = 8 then .inl s.fr else rb (rt (nx tp n s.up)) fun m s2 => if tkw tp s2 [41] = true then .inr (m, (nx tp n s2).dn) else .inl s2.fr)
  else rb (spSumD tp n ord 12 s) fun a s2 => match op4 tp s2 with
    | none => .inl s2.fr
    | some o => rb (spSumD tp n ord 12 (nx tp n s2)) fun b s3 => .inr (cmpT o a b, s3)
/-- nots before a test: whether it is turned, where it begins -/
def spNot (tp : Nat → Nat) (n : Nat) : Nat → Bool → Sg → Bool × Sg
  | 0, b, s => (b, s)
  | k + 1, b, s => if tkw tp s wNot = true then spNot tp n k (!b) (nx tp n s) else (b, s)
def spPlain (tp : Nat → Nat) (n : Nat) (ord : Bool) (rt : Sg → Rs Ts) (s : Sg) : Rs Ts := rb (spPos tp n ord rt (spNot tp n 500 false s).2) fun t s2 => .inr (if (spNot tp n 500 false s).1 = true then notT t else t, s2)
/-- several tests by a word, behind one another: all, any -/
def spSv (tp : Nat → Nat) (n : Nat) (al : Bool) (w : List Nat) (pt : Sg → Rs Ts) : Nat → Ts → Sg → Rs Ts
  | 0, _, s => .inl s.fr
  | k + 1, t, s => if tkw tp s w = true then rb (pt (nx tp n s)) fun t2 s2 => spSv tp n al w pt k (if al = true then andT t t2 else orT t t2) s2 else .inr (t, s)
def spBoth (tp : Nat → Nat) (n : Nat) (ord : Bool) (rt : Sg → Rs Ts) (s : Sg) : Rs Ts := rb (spPlain tp n ord rt s) fun t s2 => spSv tp n true wAnd (spPlain tp n ord rt) 500 t s2
def spTest (tp : Nat → Nat) (n : Nat) (ord : Bool) (rt : Sg → Rs Ts) (s : Sg) : Rs Ts := rb (spBoth tp n ord rt s) fun t s2 => spSv tp n false wOr (spBoth tp n ord rt) 500 t s2
def spTestD (tp : Nat → Nat) (n : Nat) (ord : Bool) : Nat → Sg → Rs Ts
  | 0, s => .inl s.fr
  | d + 1, s => spTest tp n ord (spTestD tp n ord d) s
