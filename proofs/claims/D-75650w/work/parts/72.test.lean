/-! 72: the component's tests and what they mean -/
set_option maxRecDepth 100000
/-- several tests, one behind another: all of them, any of them -/
def sv (al : Bool) (tl : Nat → Ts) : Nat → Ts
  | 0 => fun _ => some al
  | n + 1 => if al then andT (sv al tl n) (tl n) else orT (sv al tl n) (tl n)
theorem sv_none {al : Bool} {tl : Nat → Ts} {v : Vals} {i : Nat} (h : sv al tl i v = none) : ∀ j, sv al tl (i + j) v = none := by
  intro j
  induction j with
  | zero => exact h
  | succ j ih =>
    rw [← Nat.add_assoc, sv]
    cases al
    · rw [if_neg (by decide), orT, ih]
      rfl
    · rw [if_pos rfl, andT, ih]
      rfl
theorem sv_not {al : Bool} {tl : Nat → Ts} {v : Vals} {i : Nat} (h : sv al tl i v = some (!al)) : ∀ j, sv al tl (i + j) v = some (!al) := by
  intro j
  induction j with
  | zero => exact h
  | succ j ih =>
    rw [← Nat.add_assoc, sv]
    cases al
    · rw [if_neg (by decide), orT, ih]
      rfl
    · rw [if_pos rfl, andT, ih]
      rfl
theorem sv_s {al : Bool} {tl : Nat → Ts} {v : Vals} {i : Nat} (h : sv al tl i v = some al) : sv al tl (i + 1) v = tl i v := by
  rw [sv]
  cases al
  · rw [if_neg (by decide), orT, h]
    rfl
  · rw [if_pos rfl, andT, h]
    rfl
def isTst : Nat → (Nat → Prop) → Tt → Vt → Nat → Ts → Prop
  | 0, _, _, _, _, _ => False
  | d + 1, B, T, V, h, t => B h ∧ (
    (T.1 h = 13 ∧ ∃ o l r ml mr, 25 ≤ o ∧ o < 28 ∧ V.1 h 0 = nI (chO o) ∧ V.2.2 h 1 = some l ∧ V.2.2 h 2 = some r ∧ isSum 60 B T V l ml ∧ isSum 60 B T V r mr ∧ t = cmpT o ml mr) ∨
    (T.1 h = 14 ∧ ∃ l tl, V.2.2 h 0 = some l ∧ isTst d B T V l tl ∧ t = notT tl) ∨
    (T.1 h = 15 ∧ ∃ (al : Bool) (ls a c n : Nat) (el : Nat → Nat) (tl : Nat → Ts), V.1 h 0 = nI (if al then 1 else 0) ∧ V.2.2 h 1 = some ls ∧ B ls ∧ B a ∧ isLs T V ls a c n el ∧ 1 ≤ n ∧ (∀ i, i < n → isTst d B T V (el i) (tl i)) ∧ t = sv al tl n))
def xb (o : Option Bool) : Int32 ⊕ Nat := match o with
  | none => .inr 23
  | some b => .inl (nI (if b then 1 else 0))
theorem c_X15 {T : Tt} {V : Vt} {v : Vals} (hs : cSet T V v) {B : Nat → Prop} {h o l r : Nat} {ml mr : Sm} (k : T.1 h = 13) (o1 : 25 ≤ o) (o2 : o < 28) (e : V.1 h 0 = nI (chO o)) (el : V.2.2 h 1 = some l) (er : V.2.2 h 2 = some r) (ql : isSum 60 B T V l ml) (qr : isSum 60 B T V r mr) :
    f_X15_is T V h 22 = some (xb (cmpT o ml mr v)) := by
  rw [f_X15_is, rq k, dr el, c_sumOf hs 60 fuelE l ml ql (by decide), cmpT]
  cases hl : ml v with
  | none => rfl
  | some x =>
    rw [xr, xcs, dr er, c_sumOf hs 60 fuelE r mr qr (by decide)]
    cases hr : mr v with
    | none => rfl
    | some y =>
      rw [xr, xcs, e]
      simp only [Option.bind_some]
      have : o = 25 ∨ o = 26 ∨ o = 27 := by omega
      rcases this with h | h | h <;> subst h
      · rw [if_pos (by decide)]
        simp only [lgc_ge0]
        by_cases z : x < y
        · rw [if_neg (not_not_intro z)]
          simp [z, xb]
          rfl
        · rw [if_pos z]
          simp [z, xb]
          rfl
      · rw [if_neg (by decide), if_pos (by decide)]
        simp only [lgc_le0]
        by_cases z : y < x
        · rw [if_neg (not_not_intro z)]
          simp [z, xb]
          rfl
        · rw [if_pos z]
          simp [z, xb]
          rfl
      · rw [if_neg (by decide), if_neg (by decide)]
        simp only [lgc_eq0]
        by_cases z : x = y
        · rw [if_pos z]
          simp [z, xb]
          rfl
        · rw [if_neg z]
          simp [z, xb]
          rfl
theorem c_X17_L {T : Tt} {V : Vt} {v : Vals} {h ls a c n : Nat} {el : Nat → Nat} {tl : Nat → Ts} {al : Bool} {f : Tt → Vt → Nat → Nat → Option (Int32 ⊕ Nat)} (e : V.1 h 0 = nI (if al then 1 else 0)) (el1 : V.2.2 h 1 = some ls) (hl : isLs T V ls a c n el) (ht : ∀ i, i < n → isTs T (el i)) (hf : ∀ i, i < n → f T V (el i) 22 = some (xb (tl i v))) {k1 k2 : Option (Int32 ⊕ Nat)} (h1 : k1 = some (xb (some (!al)))) (h2 : k2 = some (xb (some al))) :
    ∀ (j i N : Nat), i + j = n → j < N → sv al tl i v = some al → f_X17_is_L2 f T V h 22 k1 k2 N (nI i) = some (xb (sv al tl n v)) := by
  have hn : n ≤ 1000 := Nat.le_trans hl.2.2.2.2.2.1 hl.2.2.2.2.2.2.1
  intro j
  induction j with
  | zero =>
    intro i N hi hN hv
    obtain ⟨N, rfl⟩ : ∃ n, N = n + 1 := ⟨N - 1, by omega⟩
    obtain rfl : i = n := by omega
    rw [f_X17_is_L2, dr el1, pc (c_size hl), if_pos (nI_le (Nat.le_refl _) (by omega)), hv]
    exact h2
  | succ j ih =>
    intro i N hi hN hv
    obtain ⟨N, rfl⟩ : ∃ n, N = n + 1 := ⟨N - 1, by omega⟩
    rw [f_X17_is_L2, dr el1, pc (c_size hl), if_neg (nI_ge (by omega) (by omega)), dr el1, pc (c_get hl (by omega)), rq (ht i (by omega)), hf i (by omega)]
    have hs := sv_s hv
    cases ht : tl i v with
    | none =>
      have := sv_none (hs.trans ht) (n - (i + 1))
      rw [show i + 1 + (n - (i + 1)) = n by omega] at this
      rw [this]
      rfl
    | some b =>
      rw [xb, xcs, e]
      by_cases q : b = al
      · subst q
        rw [if_pos rfl, sp, nI_1]
        exact ih (i + 1) N (by omega) (by omega) (hs.trans ht)
      · have q2 : b = !al := by cases b <;> cases al <;> simp_all
        subst q2
        have := sv_not (hs.trans ht) (n - (i + 1))
        rw [show i + 1 + (n - (i + 1)) = n by omega] at this
        rw [if_neg (by cases al <;> decide), this]
        exact h1
theorem isTst_k {d : Nat} {B : Nat → Prop} {T : Tt} {V : Vt} {h : Nat} {t : Ts} (q : isTst d B T V h t) : isTs T h := by
  cases d with
  | zero => exact absurd q id
  | succ d =>
    obtain ⟨-, ⟨k, -⟩ | ⟨k, -⟩ | ⟨k, -⟩⟩ := q
    · exact Or.inl k
    · exact Or.inr (Or.inl k)
    · exact Or.inr (Or.inr k)
theorem c_testIs {T : Tt} {V : Vt} {v : Vals} (hs : cSet T V v) {B : Nat → Prop} : ∀ (d N h : Nat) (t : Ts), isTst d B T V h t → d ≤ N → f_testIs N T V h 22 = some (xb (t v)) := by
  intro d
  induction d with
  | zero => intro N h t q; exact absurd q id
  | succ d ih =>
    intro N h t q hN
    obtain ⟨N, rfl⟩ : ∃ n, N = n + 1 := ⟨N - 1, by omega⟩
    obtain ⟨b1, q⟩ := q
    rcases q with ⟨k, o, l, r, ml, mr, o1, o2, e, el, er, ql, qr, rfl⟩ | ⟨k, l, tl, e, q, rfl⟩ | ⟨k, al, ls, a, c, n, el, tl, e, e1, -, -, hl, hn, ht, rfl⟩
    · rw [f_testIs, if_pos k]
      exact c_X15 hs k o1 o2 e el er ql qr
    · rw [f_testIs, if_neg (by omega), if_pos k, f_X16_is, rq k, dr e, ih N l tl q (by omega), notT]
      cases tl v with
      | none => rfl
      | some b => cases b <;> rfl
    · rw [f_testIs, if_neg (by omega), if_neg (by omega), if_pos k, f_X17_is, rq k]
      have hn2 : n ≤ 1000 := Nat.le_trans hl.2.2.2.2.2.1 hl.2.2.2.2.2.2.1
      refine c_X17_L e e1 hl (fun i hi => isTst_k (ht i hi)) (fun i hi => ih N (el i) (tl i) (ht i hi) (by omega)) ?_ ?_ n 0 fuel (by omega) (Nat.lt_of_le_of_lt hn2 (by decide)) rfl
      · rw [e]
        cases al <;> rfl
      · rw [e]
        cases al <;> rfl
