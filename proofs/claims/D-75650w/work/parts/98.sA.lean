/-! 98: cells made anew; lists that grow, are cleared, are filled -/
set_option maxRecDepth 100000
def exT (T T' : Tt) : Prop := T.2.2 ≤ T'.2.2 ∧ ∀ h, h < T.2.2 → T'.1 h = T.1 h ∧ T'.2.1 h = T.2.1 h
theorem exT.rfl' {T : Tt} : exT T T := ⟨Nat.le_refl _, fun _ _ => ⟨rfl, rfl⟩⟩
theorem exT.tr {T U W : Tt} (h : exT T U) (g : exT U W) : exT T W := ⟨Nat.le_trans h.1 g.1, fun a q => ⟨((g.2 a (Nat.lt_of_lt_of_le q h.1)).1).trans (h.2 a q).1, ((g.2 a (Nat.lt_of_lt_of_le q h.1)).2).trans (h.2 a q).2⟩⟩
theorem up_e {α : Type} {f : Nat → α} {a : Nat} {v : α} : up f a v a = v := by unfold up; exact if_pos rfl
theorem up_o {α : Type} {f : Nat → α} {a h : Nat} {v : α} (q : h ≠ a) : up f a v h = f h := by unfold up; exact if_neg q
theorem aT_ex {T : Tt} {k n : Nat} : exT T (aT T k n) := ⟨Nat.le_succ _, fun h q => ⟨up_o (Nat.ne_of_lt q), up_o (Nat.ne_of_lt q)⟩⟩
theorem aT_k {T : Tt} {k n : Nat} : (aT T k n).1 T.2.2 = k := up_e
theorem aT_n {T : Tt} {k n : Nat} : (aT T k n).2.1 T.2.2 = n := up_e
theorem aT_m {T : Tt} {k n : Nat} : (aT T k n).2.2 = T.2.2 + 1 := rfl
theorem zV1 {V : Vt} {q h j : Nat} : (zV V q).1 h j = if h = q then 0 else V.1 h j := by
  by_cases e : h = q
  · rw [if_pos e, e]; exact congrFun up_e j
  · rw [if_neg e]; exact congrFun (up_o e) j
theorem zV2 {V : Vt} {q h j : Nat} : (zV V q).2.1 h j = if h = q then 0 else V.2.1 h j := by
  by_cases e : h = q
  · rw [if_pos e, e]; exact congrFun up_e j
  · rw [if_neg e]; exact congrFun (up_o e) j
theorem zV3 {V : Vt} {q h j : Nat} : (zV V q).2.2 h j = if h = q then none else V.2.2 h j := by
  by_cases e : h = q
  · rw [if_pos e, e]; exact congrFun up_e j
  · rw [if_neg e]; exact congrFun (up_o e) j
/-- cells below n other than S are as they were -/
def frO (S : Nat → Prop) (n : Nat) (V W : Vt) : Prop := ∀ h j, h < n → ¬ S h → W.1 h j = V.1 h j ∧ W.2.1 h j = V.2.1 h j ∧ W.2.2 h j = V.2.2 h j
theorem frO.rfl' {S : Nat → Prop} {n : Nat} {V : Vt} : frO S n V V := fun _ _ _ _ => ⟨rfl, rfl, rfl⟩
theorem frO.tr {S : Nat → Prop} {n m : Nat} {V W U : Vt} (h : frO S n V W) (g : frO S m W U) (q : n ≤ m) : frO S n V U := fun a j w s => ⟨(g a j (Nat.lt_of_lt_of_le w q) s).1.trans (h a j w s).1, (g a j (Nat.lt_of_lt_of_le w q) s).2.1.trans (h a j w s).2.1, (g a j (Nat.lt_of_lt_of_le w q) s).2.2.trans (h a j w s).2.2⟩
theorem frO.mo {S S' : Nat → Prop} {n m : Nat} {V W : Vt} (h : frO S n V W) (q : m ≤ n) (s : ∀ a, a < m → S a → S' a) : frO S' m V W := fun a j w z => h a j (Nat.lt_of_lt_of_le w q) fun y => z (s a w y)
theorem frO_z {S : Nat → Prop} {V : Vt} {q : Nat} : frO S q V (zV V q) := fun a j w _ => ⟨by rw [zV1, if_neg (by omega)], by rw [zV2, if_neg (by omega)], by rw [zV3, if_neg (by omega)]⟩
theorem frO_ne {S : Nat → Prop} {n c a : Nat} (h : c < n → S c) (w : a < n) (z : ¬ S a) : a ≠ c := fun e => by
  subst e
  exact z (h w)
theorem frO_I {S : Nat → Prop} {n : Nat} {V : Vt} {c k : Nat} {x : Int32} (h : c < n → S c) : frO S n V (uI V c k x) := fun a j w z => ⟨by rw [uI1, if_neg (fun y => frO_ne h w z y.1)], rfl, rfl⟩
theorem frO_R {S : Nat → Prop} {n : Nat} {V : Vt} {c k : Nat} {x : Option Nat} (h : c < n → S c) : frO S n V (uR V c k x) := fun a j w z => ⟨rfl, rfl, by rw [uR3, if_neg (fun y => frO_ne h w z y.1)]⟩
/-- what is made comes on top -/
theorem Ret.i {ρ : Type} {a b : Nat} {x : Option (ρ × Nat × Nat)} {S : ρ × Nat × Nat → Prop} (h : Ret x fun z => S (z.1, z.2.1 + a, z.2.2 + b)) : Ret (inc a b x) S := by
  obtain ⟨⟨z, n, k⟩, h1, h2⟩ := h
  subst h1
  exact ⟨(z, n + a, k + b), rfl, h2⟩
theorem Ret.d {α ρ : Type} {f : Option ((α × Vt × Tt) × Nat × Nat)} {k : α → Vt → Tt → Option (ρ × Nat × Nat)} {R : (α × Vt × Tt) × Nat × Nat → Prop} {S : ρ × Nat × Nat → Prop} (h : Ret f R) (g : ∀ x V T a b, R ((x, V, T), a, b) → Ret (k x V T) fun z => S (z.1, z.2.1 + a, z.2.2 + b)) : Ret (dcl f k) S := by
  obtain ⟨⟨⟨x, V, T⟩, a, b⟩, h1, h2⟩ := h
  subst h1
  exact Ret.i (g x V T a b h2)
theorem Ret.dv {ρ : Type} {f : Option ((Vt × Tt) × Nat × Nat)} {k : Vt → Tt → Option (ρ × Nat × Nat)} {R : (Vt × Tt) × Nat × Nat → Prop} {S : ρ × Nat × Nat → Prop} (h : Ret f R) (g : ∀ V T a b, R ((V, T), a, b) → Ret (k V T) fun z => S (z.1, z.2.1 + a, z.2.2 + b)) : Ret (dcv f k) S := by
  obtain ⟨⟨⟨V, T⟩, a, b⟩, h1, h2⟩ := h
  subst h1
  exact Ret.i (g V T a b h2)
theorem Ret.dh {α ρ : Type} {f : Option (((α ⊕ Nat) × Vt × Tt) × Nat × Nat)} {k : α → Vt → Tt → Option (ρ × Nat × Nat)} {kh : Nat → Vt → Tt → Option (ρ × Nat × Nat)} {R : ((α ⊕ Nat) × Vt × Tt) × Nat × Nat → Prop} {S : ρ × Nat × Nat → Prop} (h : Ret f R) (g : ∀ x V T a b, R ((.inl x, V, T), a, b) → Ret (k x V T) fun z => S (z.1, z.2.1 + a, z.2.2 + b)) (g2 : ∀ q V T a b, R ((.inr q, V, T), a, b) → Ret (kh q V T) fun z => S (z.1, z.2.1 + a, z.2.2 + b)) : Ret (dhl f k kh) S := by
  obtain ⟨⟨⟨x, V, T⟩, a, b⟩, h1, h2⟩ := h
  subst h1
  cases x with
  | inl x => exact Ret.i (g x V T a b h2)
  | inr q => exact Ret.i (g2 q V T a b h2)
theorem Ret.dx {α γ : Type} {f : Option (((α ⊕ Nat) × Vt × Tt) × Nat × Nat)} {k : α → Vt → Tt → Option (((γ ⊕ Nat) × Vt × Tt) × Nat × Nat)} {R : ((α ⊕ Nat) × Vt × Tt) × Nat × Nat → Prop} {S : ((γ ⊕ Nat) × Vt × Tt) × Nat × Nat → Prop} (h : Ret f R) (g : ∀ x V T a b, R ((.inl x, V, T), a, b) → Ret (k x V T) fun z => S (z.1, z.2.1 + a, z.2.2 + b)) (g2 : ∀ q V T a b, R ((.inr q, V, T), a, b) → S ((.inr q, V, T), a, b)) : Ret (dxl f k) S := by
  obtain ⟨⟨⟨x, V, T⟩, a, b⟩, h1, h2⟩ := h
  subst h1
  cases x with
  | inl x => exact Ret.i (g x V T a b h2)
  | inr q => exact ⟨_, rfl, g2 q V T a b h2⟩
theorem cp_r {V : Vt} {a b h j s d n : Nat} : (cpR V a s b d n).2.2 h j = if h = b ∧ d ≤ j ∧ j < d + n then V.2.2 a (s + (j - d)) else V.2.2 h j := by
  unfold cpR up
  show (if h = b then va_cpy (V.2.2 a) (V.2.2 b) s d n else V.2.2 h) j = _
  by_cases e : h = b
  · subst e
    rw [if_pos rfl]
    by_cases q : d ≤ j ∧ j < d + n
    · rw [pk_cpy_in q.1 q.2, if_pos ⟨rfl, q⟩]
    · rw [pk_cpy_out (by omega), if_neg (fun w => q w.2)]
  · rw [if_neg e, if_neg (fun w => e w.1)]
theorem okEl_mk {V : Vt} {T : Tt} {a sp n : Nat} (h : ∀ i y, i < n → V.2.2 a (sp + i) = some y → isO T y) : okEl V T a sp n = true := by
  rw [okEl, List.all_eq_true]
  intro i hi
  have hi := List.mem_range.mp hi
  cases hq : V.2.2 a (sp + i) with
  | none => rfl
  | some y => exact decide_eq_true (h i y hi hq)
theorem isO_ex {T T' : Tt} (h : exT T T') {y : Nat} (hy : y < T.2.2) (q : isO T y) : isO T' y := by
  unfold isO at *
  rw [(h.2 y hy).1]
  exact q
/-- what a copied array is -/
theorem c_copyOf {T : Tt} {V : Vt} {a c m : Nat} (ka : T.1 a = 104) (la : T.2.1 a = c) (ha : a < T.2.2) (hc : c ≤ 1000) (hm : m ≤ 1000) (hel : ∀ i y, i < c → V.2.2 a i = some y → isO T y ∧ y < T.2.2) :
    Ret (f_J12_copyOf T V a (nI m)) fun q => q.1.1 = T.2.2 ∧ q.1.2.2 = aT T 104 m ∧ frO (fun _ => False) T.2.2 V q.1.2.1 ∧ (∀ i, i < m → q.1.2.1.2.2 T.2.2 i = if i < c then V.2.2 a i else none) ∧ q.2 = (1, m) := by
  have e1 : (aT T 104 m).1 a = 104 := (aT_ex.2 a ha).1.trans ka
  have e2 : (aT T 104 m).2.1 a = c := (aT_ex.2 a ha).2.trans la
  have hmin : ∀ x, x = c → (if nI m < nI x then nI m else nI x) = nI (if m < c then m else c) := by
    intro x hx
    subst hx
    by_cases q : m < x
    · rw [if_pos (by rw [nI_ltI (by omega) (by omega)]; exact q), if_pos q]
    · rw [if_neg (by rw [nI_ltI (by omega) (by omega)]; exact q), if_neg q]
  rw [f_J12_copyOf, rq ka, rq ⟨nI_pos (by omega), by rw [ix_nI (by omega)]; omega⟩, ix_nI (by omega), sp, sp, sp, rq e1, hmin _ e2]
  have hk : (if m < c then m else c) ≤ 1000 := by split <;> omega
  have hk1 : (if m < c then m else c) ≤ m := by split <;> omega
  have hk2 : (if m < c then m else c) ≤ c := by split <;> omega
  have hk3 : ∀ i, i < m → (i < (if m < c then m else c) ↔ i < c) := fun i hi => by split <;> omega
  generalize (if m < c then m else c) = k at hk hk1 hk2 hk3 ⊢
  have za : ∀ i, (zV V T.2.2).2.2 a i = V.2.2 a i := fun i => by rw [zV3, if_neg (by omega)]
  rw [rq ⟨e1, aT_k, by decide, by decide, nI_pos (by omega), by rw [ix_nI (by omega), e2]; show 0 + k ≤ c; omega, by rw [ix_nI (by omega), aT_n]; show 0 + k ≤ m; omega⟩]
  rw [rq (okEl_mk fun i y hi hy => ?_), sp, ix_nI (by omega)]
  · refine Ret.i (Ret.ok ⟨rfl, rfl, ?_, ?_, by show (0 + 1, 0 + m) = _; rw [Nat.zero_add, Nat.zero_add]⟩)
    · intro h j w _
      refine ⟨by show (zV V T.2.2).1 h j = _; rw [zV1, if_neg (by omega)], by show (zV V T.2.2).2.1 h j = _; rw [zV2, if_neg (by omega)], ?_⟩
      show (cpR _ _ _ _ _ _).2.2 h j = _
      rw [cp_r, if_neg (by omega), zV3, if_neg (by omega)]
    · intro i hi
      show (cpR _ _ _ _ _ _).2.2 T.2.2 i = _
      have hz := hk3 i hi
      by_cases q : i < c
      · rw [cp_r, if_pos ⟨rfl, Nat.zero_le _, by have := hz.mpr q; show i < 0 + k; omega⟩, if_pos q]
        show (zV V T.2.2).2.2 a (0 + (i - 0)) = _
        rw [za, Nat.zero_add, Nat.sub_zero]
      · rw [cp_r, if_neg (fun w => q (hz.mp (by have := w.2.2; have : i < 0 + k := this; omega))), if_neg q, zV3, if_pos rfl]
  · rw [ix_nI (by omega)] at hi
    have hy : (zV V T.2.2).2.2 a (0 + i) = some y := hy
    rw [za, Nat.zero_add] at hy
    have := hel i y (by omega) hy
    exact isO_ex aT_ex this.2 this.1
/-- how much room a list has that grows to hold m -/
def grC (c m : Nat) : Nat := if c < m then c + (if m - c < c / 2 then c / 2 else m - c) else c
theorem c_grow {T : Tt} {V : Vt} {o a c m : Nat} (ko : T.1 o = 20) (ho : o < T.2.2) (ra : V.2.2 o 1 = some a) (ka : T.1 a = 104) (la : T.2.1 a = c) (ha : a < T.2.2) (h1 : 1 ≤ c) (hm : c < m) (hb : m ≤ 600) (hel : ∀ i y, i < c → V.2.2 a i = some y → isO T y ∧ y < T.2.2) :
    Ret (f_J2_grow T V o (nI m)) fun q => q.1.1 = T.2.2 ∧ q.1.2.2 = aT T 104 (grC c m) ∧ frO (fun h => h = o) T.2.2 V q.1.2.1 ∧ (∀ j, q.1.2.1.1 o j = V.1 o j) ∧ q.1.2.1.2.2 o 1 = some T.2.2 ∧ (∀ i, i < grC c m → q.1.2.1.2.2 T.2.2 i = if i < c then V.2.2 a i else none) ∧ q.2 = (1, grC c m) := by
  have hg : grC c m ≤ 1000 := by
    rw [grC]
    split
    · split <;> omega
    · omega
  have eg : c + (if m - c < c / 2 then c / 2 else m - c) = grC c m := by rw [grC, if_pos hm]
  rw [f_J2_grow, rq ko, dr ra, rq ka, sp, la, if_pos (show (0 : Int32) < nI c by rw [l0, nI_ltI (by omega) (by omega)]; omega), pk_shrN (by omega) _ 1 (by decide), pk_sub (by omega)]
  have en : f_J11_newLength T V (nI c) (nI (m - c)) (nI (c / 2 ^ 1)) = some (nI (grC c m)) := by
    have : (if nI (m - c) < nI (c / 2 ^ 1) then nI (c / 2 ^ 1) else nI (m - c)) = nI (if m - c < c / 2 then c / 2 else m - c) := by
      by_cases q : m - c < c / 2
      · rw [if_pos (by rw [nI_ltI (by omega) (by omega)]; exact q), if_pos q]
      · rw [if_neg (by rw [nI_ltI (by omega) (by omega)]; exact q), if_neg q]
    rw [f_J11_newLength, this, nI_add, eg, sp, if_neg (by rw [l0, nI_leI (by omega) (by omega)]; rw [← eg]; split <;> omega), if_neg (by rw [l2147483639, nI_ltI (by omega) (by omega)]; omega)]
  rw [pc en, dr ra]
  refine Ret.d (c_copyOf ka la ha (by omega) hg hel) ?_
  intro r U T' n k ⟨q1, q2, q3, q4, q5⟩
  dsimp only at q1 q2 q3 q4 q5
  subst q1 q2
  cases q5
  rw [rq ((aT_ex.2 o ho).1.trans ko), sp]
  refine Ret.ok ⟨rfl, rfl, ?_, fun j => (q3 o j ho id).1, ?_, fun i hi => ?_, ?_⟩
  · exact (q3.mo (Nat.le_refl _) fun _ _ w => absurd w id).tr (frO_R fun _ => rfl) (Nat.le_refl _)
  · show (uR U o 1 (some T.2.2)).2.2 o 1 = _
    rw [uR3, if_pos ⟨rfl, rfl⟩]
  · show (uR U o 1 (some T.2.2)).2.2 T.2.2 i = _
    rw [uR3, if_neg (by omega)]
    exact q4 i hi
  · show (0 + 1, 0 + grC c m) = _
    rw [Nat.zero_add, Nat.zero_add]
