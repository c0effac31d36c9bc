/-! 71: lists of the component -/
set_option maxRecDepth 100000
/-- a list at o, its array, its room, how many, which -/
def isLs (T : Tt) (V : Vt) (o a c n : Nat) (el : Nat → Nat) : Prop := T.1 o = 20 ∧ V.2.2 o 1 = some a ∧ T.1 a = 104 ∧ T.2.1 a = c ∧ V.1 o 2 = nI n ∧ n ≤ c ∧ c ≤ 1000 ∧ ∀ i, i < c → V.2.2 a i = if i < n then some (el i) else none
theorem c_size {T : Tt} {V : Vt} {o a c n : Nat} {el : Nat → Nat} (h : isLs T V o a c n el) : f_J2_size T V o = some (nI n) := by
  rw [f_J2_size, rq h.1, h.2.2.2.2.1]
theorem c_get {T : Tt} {V : Vt} {o a c n : Nat} {el : Nat → Nat} (h : isLs T V o a c n el) {i : Nat} (hi : i < n) : f_J2_get T V o (nI i) = some (el i) := by
  obtain ⟨h1, h2, h3, h4, h5, h6, h7, h8⟩ := h
  have e8 := h8 i (by omega)
  rw [if_pos hi] at e8
  have hq : ∀ {β : Type} {k : Option β}, req (aIn T a 4 (nI i)) k = k := fun {β k} => rq (aIn_nI h3 (by omega) (by omega))
  simp (disch := omega) only [f_J2_get, f_J5_checkIndex, f_J6_checkIndex, f_J2_elementData, rq_t, drs, sp, pcs, cls, ↓reduceIte, not_true_eq_false, not_false_eq_true, and_true, true_and, and_false, false_and, or_true, true_or, or_false, false_or, eq_self, l0, l1, l2, l3, l4, l5, l6, l7, l8, l9, l10, l11, l12, l13, l14, l15, l16, l17, l18, l19, l20, l21, l22, l23, l24, l25, l26, l27, l28, l29, l30, l31, l32, l33, l34, l35, l36, l37, l40, l41, l42, l43, l45, l47, l48, l50, l57, l59, l60, l61, l62, l63, l85, l91, l93, l96, l97, l98, l99, l100, l120, l122, l146, l160, l165, l170, l178, l186, l198, l255, l400, l900, l948, l999, l1000, l2475, l2640, l2970, l3990, l9390, l18780, l19000, l999999, l1000000, l100000000, l2147483639, nI_add, pk_mul, ix_nI, leT, leF, ltT, ltF, eqT, eqF, nI_leI, nI_ltI, nI_eq, ngEq, ngEq', ngLt, ngLt', ngLe, ngLe', ngNg, nI_p, pk_sub, Nat.reduceAdd, Nat.reduceMul, Nat.reduceSub, uI1, uI2, uL1, uL2, uL3, uR1, uR2, uR3, rq_eq h1, h2, h5, hq, e8]
