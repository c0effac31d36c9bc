/-! 70: the component's trees and what they mean -/
set_option maxRecDepth 100000
def chO (o : Nat) : Nat := if o = 20 then 43 else if o = 21 then 45 else if o = 22 then 42 else if o = 23 then 47 else if o = 24 then 37 else if o = 25 then 60 else if o = 26 then 62 else 61
def isSum : Nat → (Nat → Prop) → Tt → Vt → Nat → Sm → Prop
  | 0, _, _, _, _, _ => False
  | d + 1, B, T, V, h, m => B h ∧ (
    (T.1 h = 10 ∧ ∃ n, n < 2 ^ 31 ∧ V.1 h 0 = nI n ∧ m = fun _ => some (lN n)) ∨
    (T.1 h = 11 ∧ ∃ w, w < 28 ∧ V.1 h 0 = nI w ∧ m = fun v => some (v w)) ∨
    (T.1 h = 12 ∧ ∃ o l r ml mr, 20 ≤ o ∧ o < 25 ∧ V.1 h 0 = nI (chO o) ∧ V.2.2 h 1 = some l ∧ V.2.2 h 2 = some r ∧ isSum d B T V l ml ∧ isSum d B T V r mr ∧ m = two o ml mr))
/-- the component's setting, with these values -/
def cSet (T : Tt) (V : Vt) (v : Vals) : Prop := T.1 22 = 4 ∧ V.2.2 22 0 = some 23 ∧ T.1 23 = 5 ∧ V.2.2 22 1 = some 24 ∧ T.1 24 = 101 ∧ T.2.1 24 = 28 ∧ ∀ i, i < 28 → V.2.1 24 i = v i
def xr (o : Option Int64) : Int64 ⊕ Nat := match o with
  | none => .inr 23
  | some x => .inl x
theorem c_J117 {T : Tt} {V : Vt} {v : Vals} (hs : cSet T V v) {f : Tt → Vt → Nat → Nat → Option (Int64 ⊕ Nat)} (x : Int64) : f_X13_of_J117 f T V 22 x = some (xr (bnd x)) := by
  obtain ⟨s1, s2, s3, -⟩ := hs
  simp (disch := omega) only [f_X13_of_J117, f_X13_of_J137, rq_t, drs, sp, pcs, cls, ↓reduceIte, not_true_eq_false, not_false_eq_true, and_true, true_and, and_false, false_and, or_true, true_or, or_false, false_or, eq_self, l0, l1, l2, l3, l4, l5, l6, l7, l8, l9, l10, l11, l12, l13, l14, l15, l16, l17, l18, l19, l20, l21, l22, l23, l24, l25, l26, l27, l28, l29, l30, l31, l32, l33, l34, l35, l36, l37, l40, l41, l42, l43, l45, l47, l48, l50, l57, l59, l60, l61, l62, l63, l85, l91, l93, l96, l97, l98, l99, l100, l120, l122, l146, l160, l165, l170, l178, l186, l198, l255, l400, l900, l948, l999, l1000, l2475, l2640, l2970, l3990, l9390, l18780, l19000, l999999, l1000000, l100000000, l2147483639, nI_add, pk_mul, ix_nI, leT, leF, ltT, ltF, eqT, eqF, nI_leI, nI_ltI, nI_eq, ngEq, ngEq', ngLt, ngLt', ngLe, ngLe', ngNg, nI_p, pk_sub, Nat.reduceAdd, Nat.reduceMul, Nat.reduceSub, uI1, uI2, uL1, uL2, uL3, uR1, uR2, uR3, lgc_lt, lgc_gt, lgc_le, lgc_ge, lgc_eq, rq_eq s1, s2, rq_eq s3]
  rw [bnd]
  by_cases h1 : 1000000000 < x
  · rw [if_pos h1, if_pos (Or.inl h1)]
    rfl
  · by_cases h2 : x < -1000000000
    · rw [if_neg h1, if_neg (not_not_intro h2), if_pos (Or.inr h2)]
      rfl
    · rw [if_neg h1, if_pos h2, if_neg (by intro w; rcases w with w | w <;> contradiction)]
      rfl
theorem xcs {α γ : Type} {k : α → Option (γ ⊕ Nat)} {a : α} : xcl (some (.inl a)) k = k a := rfl
theorem xcr {α γ : Type} {k : α → Option (γ ⊕ Nat)} {a : Nat} : xcl (α := α) (some (.inr a)) k = some (.inr a) := rfl
theorem c_sumOf {T : Tt} {V : Vt} {v : Vals} (hs : cSet T V v) {B : Nat → Prop} : ∀ (d N h : Nat) (m : Sm), isSum d B T V h m → d ≤ N → f_sumOf N T V h 22 = some (xr (m v)) := by
  intro d
  induction d with
  | zero => intro N h m q; exact absurd q id
  | succ d ih =>
    intro N h m q hN
    obtain ⟨N, rfl⟩ : ∃ n, N = n + 1 := ⟨N - 1, by omega⟩
    obtain ⟨s1, s2, s3, s4, s5, s6, s7⟩ := id hs
    obtain ⟨b1, q⟩ := q
    rcases q with ⟨k, n, hn, e, rfl⟩ | ⟨k, w, hw, e, rfl⟩ | ⟨k, o, l, r, ml, mr, o1, o2, e, el, er, ql, qr, rfl⟩
    · simp (disch := omega) only [f_sumOf, f_X11_of, rq_t, drs, sp, pcs, cls, ↓reduceIte, not_true_eq_false, not_false_eq_true, and_true, true_and, and_false, false_and, or_true, true_or, or_false, false_or, eq_self, l0, l1, l2, l3, l4, l5, l6, l7, l8, l9, l10, l11, l12, l13, l14, l15, l16, l17, l18, l19, l20, l21, l22, l23, l24, l25, l26, l27, l28, l29, l30, l31, l32, l33, l34, l35, l36, l37, l40, l41, l42, l43, l45, l47, l48, l50, l57, l59, l60, l61, l62, l63, l85, l91, l93, l96, l97, l98, l99, l100, l120, l122, l146, l160, l165, l170, l178, l186, l198, l255, l400, l900, l948, l999, l1000, l2475, l2640, l2970, l3990, l9390, l18780, l19000, l999999, l1000000, l100000000, l2147483639, nI_add, pk_mul, ix_nI, leT, leF, ltT, ltF, eqT, eqF, nI_leI, nI_ltI, nI_eq, ngEq, ngEq', ngLt, ngLt', ngLe, ngLe', ngNg, nI_p, pk_sub, Nat.reduceAdd, Nat.reduceMul, Nat.reduceSub, uI1, uI2, uL1, uL2, uL3, uR1, uR2, uR3, k, rq_eq k, e, nI_l]
      rfl
    · have := rq (β := Int64 ⊕ Nat) (k := some (.inl (V.2.1 24 w))) (aIn_nI (T := T) (a := 24) (t := 1) (n := w) s5 (by omega) (by omega))
      simp (disch := omega) only [f_sumOf, f_X12_of, rq_t, drs, sp, pcs, cls, ↓reduceIte, not_true_eq_false, not_false_eq_true, and_true, true_and, and_false, false_and, or_true, true_or, or_false, false_or, eq_self, l0, l1, l2, l3, l4, l5, l6, l7, l8, l9, l10, l11, l12, l13, l14, l15, l16, l17, l18, l19, l20, l21, l22, l23, l24, l25, l26, l27, l28, l29, l30, l31, l32, l33, l34, l35, l36, l37, l40, l41, l42, l43, l45, l47, l48, l50, l57, l59, l60, l61, l62, l63, l85, l91, l93, l96, l97, l98, l99, l100, l120, l122, l146, l160, l165, l170, l178, l186, l198, l255, l400, l900, l948, l999, l1000, l2475, l2640, l2970, l3990, l9390, l18780, l19000, l999999, l1000000, l100000000, l2147483639, nI_add, pk_mul, ix_nI, leT, leF, ltT, ltF, eqT, eqF, nI_leI, nI_ltI, nI_eq, ngEq, ngEq', ngLt, ngLt', ngLe, ngLe', ngNg, nI_p, pk_sub, Nat.reduceAdd, Nat.reduceMul, Nat.reduceSub, uI1, uI2, uL1, uL2, uL3, uR1, uR2, uR3, k, rq_eq k, e, rq_eq s1, s4, this]
      rw [s7 w hw]
      rfl
    · have i1 := ih N l ml ql (by omega)
      have i2 := ih N r mr qr (by omega)
      simp (disch := omega) only [f_sumOf, rq_t, drs, sp, pcs, cls, ↓reduceIte, not_true_eq_false, not_false_eq_true, and_true, true_and, and_false, false_and, or_true, true_or, or_false, false_or, eq_self, l0, l1, l2, l3, l4, l5, l6, l7, l8, l9, l10, l11, l12, l13, l14, l15, l16, l17, l18, l19, l20, l21, l22, l23, l24, l25, l26, l27, l28, l29, l30, l31, l32, l33, l34, l35, l36, l37, l40, l41, l42, l43, l45, l47, l48, l50, l57, l59, l60, l61, l62, l63, l85, l91, l93, l96, l97, l98, l99, l100, l120, l122, l146, l160, l165, l170, l178, l186, l198, l255, l400, l900, l948, l999, l1000, l2475, l2640, l2970, l3990, l9390, l18780, l19000, l999999, l1000000, l100000000, l2147483639, nI_add, pk_mul, ix_nI, leT, leF, ltT, ltF, eqT, eqF, nI_leI, nI_ltI, nI_eq, ngEq, ngEq', ngLt, ngLt', ngLe, ngLe', ngNg, nI_p, pk_sub, Nat.reduceAdd, Nat.reduceMul, Nat.reduceSub, uI1, uI2, uL1, uL2, uL3, uR1, uR2, uR3, k]
      rw [f_X13_of, rq k, dr el, i1, two]
      cases hl : ml v with
      | none => rfl
      | some x =>
        rw [xr, xcs, dr er, i2]
        cases hr : mr v with
        | none => rfl
        | some y =>
          rw [xr, xcs, e]
          simp only [Option.bind_some]
          have : o = 20 ∨ o = 21 ∨ o = 22 ∨ o = 23 ∨ o = 24 := by omega
          rcases this with h | h | h | h | h <;> subst h
          · rw [if_neg (by decide), if_neg (by decide), f_X13_of_J49, e, if_pos (by decide), c_J117 hs]
            rfl
          · rw [if_neg (by decide), if_neg (by decide), f_X13_of_J49, e, if_neg (by decide), if_pos (by decide), c_J117 hs]
            rfl
          · rw [if_neg (by decide), if_neg (by decide), f_X13_of_J49, e, if_neg (by decide), if_neg (by decide), if_pos (by decide), c_J117 hs]
            rfl
          · rw [if_pos (by decide), f_X13_of_J37]
            simp only [lgc_eq0]
            by_cases z : y = 0
            · rw [if_pos z, rq s1, dr s2, rq s3, z]
              rfl
            · rw [if_neg z, f_X13_of_J49, e, if_neg (by decide), if_neg (by decide), if_neg (by decide), if_pos (by decide), rq z, c_J117 hs]
              simp [op2, z]
          · rw [if_neg (by decide), if_pos (by decide), f_X13_of_J37]
            simp only [lgc_eq0]
            by_cases z : y = 0
            · rw [if_pos z, rq s1, dr s2, rq s3, z]
              rfl
            · rw [if_neg z, f_X13_of_J49, e, if_neg (by decide), if_neg (by decide), if_neg (by decide), if_neg (by decide), rq z, c_J117 hs]
              simp [op2, z]
