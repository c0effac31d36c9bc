/-! STAGE 2: plain Lean about the decompiled functions. 60: reading and writing the pure memory, counting. -/
set_option maxRecDepth 100000
theorem rq {c : Prop} [Decidable c] {β : Type} {k : Option β} (h : c) : req c k = k := by simp [req, h]
theorem dr {β : Type} {x : Option Nat} {k : Nat → Option β} {a : Nat} (h : x = some a) : drf x k = k a := by simp [drf, h]
theorem sp {α β : Type} {x : α} {k : α → Option β} : stp x k = k x := rfl
theorem pc {α β : Type} {f : Option α} {k : α → Option β} {a : α} (h : f = some a) : pcl f k = k a := by simp [pcl, h]
theorem cl {α γ β : Type} {f : Option (α × γ)} {k : α → γ → Option β} {a : α} {c : γ} (h : f = some (a, c)) : cal f k = k a c := by simp [cal, h]
theorem uI1 {V : Vt} {a k b j : Nat} {x : Int32} : (uI V a k x).1 b j = if b = a ∧ j = k then x else V.1 b j := by
  unfold uI up
  by_cases h : b = a <;> by_cases h2 : j = k <;> simp [h, h2]
theorem uI2 {V : Vt} {a k : Nat} {x : Int32} : (uI V a k x).2 = V.2 := Eq.trans rfl rfl
theorem uL1 {V : Vt} {a k : Nat} {x : Int64} : (uL V a k x).1 = V.1 := Eq.trans rfl rfl
theorem uL2 {V : Vt} {a k b j : Nat} {x : Int64} : (uL V a k x).2.1 b j = if b = a ∧ j = k then x else V.2.1 b j := by
  unfold uL up
  by_cases h : b = a <;> by_cases h2 : j = k <;> simp [h, h2]
theorem uL3 {V : Vt} {a k : Nat} {x : Int64} : (uL V a k x).2.2 = V.2.2 := Eq.trans rfl rfl
theorem uR1 {V : Vt} {a k : Nat} {x : Option Nat} : (uR V a k x).1 = V.1 := Eq.trans rfl rfl
theorem uR2 {V : Vt} {a k : Nat} {x : Option Nat} : (uR V a k x).2.1 = V.2.1 := Eq.trans rfl rfl
theorem uR3 {V : Vt} {a k b j : Nat} {x : Option Nat} : (uR V a k x).2.2 b j = if b = a ∧ j = k then x else V.2.2 b j := by
  unfold uR up
  by_cases h : b = a <;> by_cases h2 : j = k <;> simp [h, h2]
/-- indices: what the code reckons, as nI of what it is -/
theorem aIn_nI {T : Tt} {a t n : Nat} (h1 : T.1 a = 100 + t) (h2 : n < T.2.1 a) (h3 : n < 2 ^ 31) : aIn T a t (nI n) := ⟨h1, nI_pos h3, by rw [ixN, nI_clamp h3]; exact h2⟩
theorem ix_nI {n : Nat} (h : n < 2 ^ 31) : ixN (nI n) = n := nI_clamp h
theorem lit (n : Nat) : (OfNat.ofNat n : Int32) = nI n := rfl
/-- a sum of n terms -/
def sg (n : Nat) (f : Nat → Nat) : Nat := match n with
  | 0 => 0
  | n + 1 => sg n f + f n
theorem sg_congr {n : Nat} {f g : Nat → Nat} (h : ∀ i, i < n → f i = g i) : sg n f = sg n g := by
  induction n with
  | zero => rfl
  | succ n ih => rw [sg, sg, ih (fun i hi => h i (by omega)), h n (by omega)]
theorem sg_le {n : Nat} {f g : Nat → Nat} (h : ∀ i, i < n → f i ≤ g i) : sg n f ≤ sg n g := by
  induction n with
  | zero => exact Nat.le_refl _
  | succ n ih => rw [sg, sg]; exact Nat.add_le_add (ih (fun i hi => h i (by omega))) (h n (by omega))
theorem sg_mono {m n : Nat} {f : Nat → Nat} (h : m ≤ n) : sg m f ≤ sg n f := by
  induction n with
  | zero => rw [Nat.le_zero.mp h]; exact Nat.le_refl _
  | succ n ih =>
    by_cases e : m = n + 1
    · rw [e]; exact Nat.le_refl _
    · rw [sg]; exact Nat.le_trans (ih (by omega)) (Nat.le_add_right _ _)
theorem sg_one {n i : Nat} {f : Nat → Nat} (h : i < n) : f i ≤ sg n f := Nat.le_trans (Nat.le_add_left _ _) (sg_mono (m := i + 1) h)
theorem rq_t {β : Type} {k : Option β} : req True k = k := rfl
theorem rq_eq {T : Tt} {a n : Nat} (h : T.1 a = n) {β : Type} {k : Option β} : req (T.1 a = n) k = k := rq h
theorem drs {β : Type} {k : Nat → Option β} {a : Nat} : drf (some a) k = k a := rfl
theorem pcs {α β : Type} {k : α → Option β} {a : α} : pcl (some a) k = k a := rfl
theorem cls {α γ β : Type} {k : α → γ → Option β} {a : α} {c : γ} : cal (some (a, c)) k = k a c := rfl
/-- a loop that counts: it goes through its states -/
theorem lp {α β : Type} (F : Nat → α → β) (st : Nat → α) (m : Nat) {r : β} (hs : ∀ i n, i < m → F (n + 1) (st i) = F n (st (i + 1))) (he : ∀ n, F (n + 1) (st m) = r) : ∀ N, m < N → F N (st 0) = r := by
  have : ∀ j i N, i + j = m → j < N → F N (st i) = r := by
    intro j
    induction j with
    | zero =>
      intro i N h1 h2
      obtain ⟨N, rfl⟩ : ∃ n, N = n + 1 := ⟨N - 1, by omega⟩
      rw [show i = m by omega]
      exact he N
    | succ j ih =>
      intro i N h1 h2
      obtain ⟨N, rfl⟩ : ∃ n, N = n + 1 := ⟨N - 1, by omega⟩
      rw [hs i N (by omega)]
      exact ih (i + 1) N (by omega) (by omega)
  intro N h
  exact this m 0 N (by omega) h
/-- the same, by what holds of its states -/
theorem lpr {α β : Type} (F : Nat → α → β) (P : Nat → α → Prop) (m : Nat) {K : α → β} (hs : ∀ i n s, i < m → P i s → ∃ s', P (i + 1) s' ∧ F (n + 1) s = F n s') (he : ∀ n s, P m s → F (n + 1) s = K s) : ∀ N s, m < N → P 0 s → ∃ s', P m s' ∧ F N s = K s' := by
  have : ∀ j i N s, i + j = m → j < N → P i s → ∃ s', P m s' ∧ F N s = K s' := by
    intro j
    induction j with
    | zero =>
      intro i N s h1 h2 h3
      obtain ⟨N, rfl⟩ : ∃ n, N = n + 1 := ⟨N - 1, by omega⟩
      obtain rfl : i = m := by omega
      exact ⟨s, h3, he N s h3⟩
    | succ j ih =>
      intro i N s h1 h2 h3
      obtain ⟨N, rfl⟩ : ∃ n, N = n + 1 := ⟨N - 1, by omega⟩
      obtain ⟨s', h4, h5⟩ := hs i N s (by omega) h3
      rw [h5]
      exact ih (i + 1) N s' (by omega) (by omega) h4
  intro N s h h0
  exact this m 0 N s (by omega) h h0
theorem lgc_c (a b : Int64) : (lg_cmp a b = 1 ∧ b < a) ∨ (lg_cmp a b = 0 ∧ a = b) ∨ (lg_cmp a b = -1 ∧ a < b) := by
  unfold lg_cmp
  by_cases h : a > b
  · exact Or.inl ⟨if_pos h, h⟩
  · by_cases e : a = b
    · exact Or.inr (Or.inl ⟨by rw [if_neg h, if_pos e], e⟩)
    · refine Or.inr (Or.inr ⟨by rw [if_neg h, if_neg e], ?_⟩)
      have h1 : ¬ b.toInt < a.toInt := fun q => h (Int64.lt_iff_toInt_lt.mpr q)
      have h2 : a.toInt ≠ b.toInt := fun q => e (Int64.toInt_inj.mp q)
      exact Int64.lt_iff_toInt_lt.mpr (by omega)
theorem l64_nlt {a b : Int64} (h : a < b) : ¬ b < a := by
  rw [Int64.lt_iff_toInt_lt] at *
  omega
theorem l64_irr (a : Int64) : ¬ a < a := by
  rw [Int64.lt_iff_toInt_lt]
  omega
theorem lgc_lt0 (a b : Int64) : (lg_cmp a b < 0) = (a < b) := by
  rcases lgc_c a b with ⟨h, g⟩ | ⟨h, g⟩ | ⟨h, g⟩ <;> rw [h]
  · exact propext ⟨fun q => absurd q (by decide), fun q => absurd q (l64_nlt g)⟩
  · exact propext ⟨fun q => absurd q (by decide), fun q => absurd q (by rw [g]; exact l64_irr b)⟩
  · exact propext ⟨fun _ => g, fun _ => by decide⟩
theorem lgc_gt0 (a b : Int64) : (0 < lg_cmp a b) = (b < a) := by
  rcases lgc_c a b with ⟨h, g⟩ | ⟨h, g⟩ | ⟨h, g⟩ <;> rw [h]
  · exact propext ⟨fun _ => g, fun _ => by decide⟩
  · exact propext ⟨fun q => absurd q (by decide), fun q => absurd q (by rw [g]; exact l64_irr b)⟩
  · exact propext ⟨fun q => absurd q (by decide), fun q => absurd q (l64_nlt g)⟩
theorem lgc_le0 (a b : Int64) : (lg_cmp a b ≤ 0) = ¬ (b < a) := by
  rcases lgc_c a b with ⟨h, g⟩ | ⟨h, g⟩ | ⟨h, g⟩ <;> rw [h]
  · exact propext ⟨fun q => absurd q (by decide), fun q => absurd g q⟩
  · exact propext ⟨fun _ => by rw [g]; exact l64_irr b, fun _ => by decide⟩
  · exact propext ⟨fun _ => l64_nlt g, fun _ => by decide⟩
theorem lgc_ge0 (a b : Int64) : (0 ≤ lg_cmp a b) = ¬ (a < b) := by
  rcases lgc_c a b with ⟨h, g⟩ | ⟨h, g⟩ | ⟨h, g⟩ <;> rw [h]
  · exact propext ⟨fun _ => l64_nlt g, fun _ => by decide⟩
  · exact propext ⟨fun _ => by rw [g]; exact l64_irr b, fun _ => by decide⟩
  · exact propext ⟨fun q => absurd q (by decide), fun q => absurd g q⟩
theorem lgc_eq0 (a b : Int64) : (lg_cmp a b = 0) = (a = b) := by
  rcases lgc_c a b with ⟨h, g⟩ | ⟨h, g⟩ | ⟨h, g⟩ <;> rw [h]
  · exact propext ⟨fun q => absurd q (by decide), fun q => absurd g (by rw [q]; exact l64_irr b)⟩
  · exact propext ⟨fun _ => g, fun _ => rfl⟩
  · exact propext ⟨fun q => absurd q (by decide), fun q => absurd g (by rw [q]; exact l64_irr b)⟩
theorem lgc_lt (a b : Int64) : (lg_cmp a b < nI 0) = (a < b) := lgc_lt0 a b
theorem lgc_gt (a b : Int64) : (nI 0 < lg_cmp a b) = (b < a) := lgc_gt0 a b
theorem lgc_le (a b : Int64) : (lg_cmp a b ≤ nI 0) = ¬ (b < a) := lgc_le0 a b
theorem lgc_ge (a b : Int64) : (nI 0 ≤ lg_cmp a b) = ¬ (a < b) := lgc_ge0 a b
theorem lgc_eq (a b : Int64) : (lg_cmp a b = nI 0) = (a = b) := lgc_eq0 a b
theorem leT {a b : Nat} (h : a ≤ b) : (a ≤ b) = True := eq_true h
theorem leF {a b : Nat} (h : b < a) : (a ≤ b) = False := eq_false (by omega)
theorem ltT {a b : Nat} (h : a < b) : (a < b) = True := eq_true h
theorem ltF {a b : Nat} (h : b ≤ a) : (a < b) = False := eq_false (by omega)
theorem eqT {a b : Nat} (h : a = b) : (a = b) = True := eq_true h
theorem eqF {a b : Nat} (h : a ≠ b) : (a = b) = False := eq_false h
/-- the greatest below n of which it is so -/
def gr (P : Nat → Bool) : Nat → Option Nat
  | 0 => none
  | n + 1 => if P n then some n else gr P n
def oI (o : Option Nat) : Int32 := match o with
  | none => -nI 1
  | some n => nI n
theorem ngT {k : Nat} (h : k < 2 ^ 31) : (-nI k : Int32).toInt = -(k : Int) := sb_negT h
theorem ngEq {n k : Nat} (h : n < 2 ^ 31) (hk : k < 2 ^ 31) (h0 : 0 < k) : (nI n = -nI k) = False := eq_false fun e => by
  have := congrArg Int32.toInt e
  rw [nI_toInt h, ngT hk] at this
  omega
theorem ngEq' {n k : Nat} (h : n < 2 ^ 31) (hk : k < 2 ^ 31) (h0 : 0 < k) : (-nI k = nI n) = False := eq_false fun e => by
  have := congrArg Int32.toInt e
  rw [nI_toInt h, ngT hk] at this
  omega
theorem ngLt {n k : Nat} (h : n < 2 ^ 31) (hk : k < 2 ^ 31) (h0 : 0 < k) : (-nI k < nI n) = True := eq_true (by rw [Int32.lt_iff_toInt_lt, nI_toInt h, ngT hk]; omega)
theorem ngLt' {n k : Nat} (h : n < 2 ^ 31) (hk : k < 2 ^ 31) : (nI n < -nI k) = False := eq_false (by rw [Int32.lt_iff_toInt_lt, nI_toInt h, ngT hk]; omega)
theorem ngLe {n k : Nat} (h : n < 2 ^ 31) (hk : k < 2 ^ 31) : (-nI k ≤ nI n) = True := eq_true (by rw [Int32.le_iff_toInt_le, nI_toInt h, ngT hk]; omega)
theorem ngLe' {n k : Nat} (h : n < 2 ^ 31) (hk : k < 2 ^ 31) (h0 : 0 < k) : (nI n ≤ -nI k) = False := eq_false (by rw [Int32.le_iff_toInt_le, nI_toInt h, ngT hk]; omega)
theorem ngNg (x : Int32) : - -x = x := Int32.neg_neg
theorem nI_p {n : Nat} (h : 0 < n) : nI n + -nI 1 = nI (n - 1) := by
  obtain ⟨m, rfl⟩ : ∃ m, n = m + 1 := ⟨n - 1, by omega⟩
  exact pk_m1 m
theorem sg_s (n : Nat) (f : Nat → Nat) : sg (n + 1) f = sg n f + f n := rfl
def Ret {β : Type} (f : Option β) (R : β → Prop) : Prop := ∃ r, f = some r ∧ R r
theorem Ret.ok {β : Type} {r : β} {R : β → Prop} (h : R r) : Ret (some r) R := ⟨r, rfl, h⟩
theorem Ret.im {β : Type} {f : Option β} {R S : β → Prop} (h : Ret f R) (g : ∀ r, R r → S r) : Ret f S := ⟨h.choose, h.choose_spec.1, g _ h.choose_spec.2⟩
theorem Ret.p {α β : Type} {f : Option α} {k : α → Option β} {R : α → Prop} {S : β → Prop} (h : Ret f R) (g : ∀ a, R a → Ret (k a) S) : Ret (pcl f k) S := by
  obtain ⟨a, h1, h2⟩ := h
  rw [pc h1]
  exact g a h2
theorem Ret.c {α γ β : Type} {f : Option (α × γ)} {k : α → γ → Option β} {R : α × γ → Prop} {S : β → Prop} (h : Ret f R) (g : ∀ a c, R (a, c) → Ret (k a c) S) : Ret (cal f k) S := by
  obtain ⟨⟨a, c⟩, h1, h2⟩ := h
  rw [cl h1]
  exact g a c h2
theorem lpk {α β : Type} (F : Nat → α → Option β) (P : Nat → α → Prop) (m : Nat) {R : β → Prop} (hs : ∀ i n s, i < m → P i s → ∃ s', P (i + 1) s' ∧ F (n + 1) s = F n s') (he : ∀ n s, P m s → Ret (F (n + 1) s) R) : ∀ N s, m < N → P 0 s → Ret (F N s) R := by
  have : ∀ j i N s, i + j = m → j < N → P i s → Ret (F N s) R := by
    intro j
    induction j with
    | zero =>
      intro i N s h1 h2 h3
      obtain ⟨N, rfl⟩ : ∃ n, N = n + 1 := ⟨N - 1, by omega⟩
      obtain rfl : i = m := by omega
      exact he N s h3
    | succ j ih =>
      intro i N s h1 h2 h3
      obtain ⟨N, rfl⟩ : ∃ n, N = n + 1 := ⟨N - 1, by omega⟩
      obtain ⟨s', h4, h5⟩ := hs i N s (by omega) h3
      rw [h5]
      exact ih (i + 1) N s' (by omega) (by omega) h4
  intro N s h h0
  exact this m 0 N s (by omega) h h0
theorem lpe {α β : Type} (F : Nat → α → Option β) (P : Nat → α → Prop) (m : Nat) {R : β → Prop} (hs : ∀ i n s, i < m → P i s → (∃ s', P (i + 1) s' ∧ F (n + 1) s = F n s') ∨ Ret (F (n + 1) s) R) (he : ∀ n s, P m s → Ret (F (n + 1) s) R) : ∀ N s, m < N → P 0 s → Ret (F N s) R := by
  have : ∀ j i N s, i + j = m → j < N → P i s → Ret (F N s) R := by
    intro j
    induction j with
    | zero =>
      intro i N s h1 h2 h3
      obtain ⟨N, rfl⟩ : ∃ n, N = n + 1 := ⟨N - 1, by omega⟩
      obtain rfl : i = m := by omega
      exact he N s h3
    | succ j ih =>
      intro i N s h1 h2 h3
      obtain ⟨N, rfl⟩ : ∃ n, N = n + 1 := ⟨N - 1, by omega⟩
      rcases hs i N s (by omega) h3 with ⟨s', h4, h5⟩ | h4
      · rw [h5]
        exact ih (i + 1) N s' (by omega) (by omega) h4
      · exact h4
  intro N s h h0
  exact this m 0 N s (by omega) h h0
