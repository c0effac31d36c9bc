/-! 93: which cask it can be -/
set_option maxRecDepth 100000
def noF (r : Int32) : Int32 := if r = -1 then 999 else r
def fct (a : St) (c f : Nat) : Int32 := noF (if f = 0 then tYrs a.t.D c else if f = 1 then tFull a.t.D c else tLab a.t.D c a.g.pa)
theorem c_factOf {T : Tt} {V : Vt} {x : HS} {a : St} (h : CR T V x a) (ok : OK a) {c f : Nat} (hc : c < a.g.n) (hf : f < 3) : f_X0_factOf T V 0 (nI c) (nI f) = some (fct a c f) := by
  have g8 := ok.g.n
  have hB := ok.t.a ok.g hc
  have hp : V.1 2 10 = nI a.g.pa := h.cf.pa
  have hJ : ∀ r, f_X0_factOf_J46 T V r = some (noF r) := fun r => by
    rw [f_X0_factOf_J46, noF]
    split <;> rfl
  rw [f_X0_factOf, rq h.hC.k0, fct]
  have : f = 0 ∨ f = 1 ∨ f = 2 := by omega
  rcases this with e | e | e <;> subst e
  · rw [if_pos (by decide), pc (c_table h.hC h.hU), pc (c_years h.ct.k h.ct.D (by omega) hB), hJ]
    rfl
  · rw [if_neg (by decide), if_pos (by decide), pc (c_table h.hC h.hU), pc (c_full h.ct.k h.ct.D (by omega) hB), hJ]
    rfl
  · rw [if_neg (by decide), if_neg (by decide), pc (c_table h.hC h.hU), dr h.hU.r0_2, rq h.hC.k2, hp, pc (c_label h.ct.k h.ct.D (by omega) hB ok.g.pa.2), hJ]
    rfl
theorem m_tasteOf {T : Tt} {V : Vt} (hT : MT T) {a : St} (h : MR V a) (ok : OK a) {c f : Nat} (hc : c < a.g.n) (hf : f < 3) : f_X5_tasteOf T V 94 (nI c) (nI f) = some (fct a c f) := by
  have g8 := ok.g.n
  have hB := ok.t.a ok.g hc
  have hJ : ∀ r, f_X5_tasteOf_J34 T V r = some (noF r) := fun r => by
    rw [f_X5_tasteOf_J34, noF]
    split <;> rfl
  rw [f_X5_tasteOf, rq hT.1, fct]
  have : f = 0 ∨ f = 1 ∨ f = 2 := by omega
  rcases this with e | e | e <;> subst e
  · rw [if_pos (by decide), pc (m_years hT h.hV h.mt.D (by omega) hB), hJ]
    rfl
  · rw [if_neg (by decide), if_pos (by decide), pc (m_all hT h.hV h.mt.D (by omega)), hJ, l1000, pk_div (by omega) (by omega) (by omega)]
    rfl
  · rw [if_neg (by decide), if_neg (by decide), pc (m_label hT h.hV h.mt.D (by omega) hB ok.g.pa.2 h.mf.pa), hJ]
    rfl
/-- it is so by the first k of what was tasted -/
def isS (a : St) (c : Nat) : Nat → Bool
  | 0 => true
  | k + 1 => isS a c k && decide (fct a c (a.g.ta (2 * k)) = nI (a.g.ta (2 * k + 1)))
theorem isS_f {a : St} {c i : Nat} (h : isS a c i = false) : ∀ j, isS a c (i + j) = false := by
  intro j
  induction j with
  | zero => exact h
  | succ j ih => rw [← Nat.add_assoc, isS, ih, Bool.false_and]
theorem c_isSo {T : Tt} {V : Vt} {x : HS} {a : St} (h : CR T V x a) (ok : OK a) {c : Nat} (hc : c < a.g.n) : f_X0_isSo T V 0 (nI c) = some (b1 (isS a c a.g.nt)) := by
  have hC := h.hC
  have hU := h.hU
  have h6 := ok.g.nt
  have hn : V.1 2 7 = nI a.g.nt := h.cf.nt
  rw [f_X0_isSo, rq hC.k0]
  have : ∀ j i N, i + j = a.g.nt → j < N → isS a c i = true → f_X0_isSo_L2 T V 0 (nI c) (some 0) (some 1) N (nI (2 * i)) = some (b1 (isS a c a.g.nt)) := by
    intro j
    induction j with
    | zero =>
      intro i N h1 h2 h3
      obtain ⟨N, rfl⟩ : ∃ n, N = n + 1 := ⟨N - 1, by omega⟩
      obtain rfl : i = a.g.nt := by omega
      rw [f_X0_isSo_L2, dr hU.r0_2, rq hC.k2, hn, l2, pk_mul, if_pos (nI_le (Nat.le_refl _) (by omega)), h3]
      rfl
    | succ j ih =>
      intro i N h1 h2 h3
      obtain ⟨N, rfl⟩ : ∃ n, N = n + 1 := ⟨N - 1, by omega⟩
      have e0 : V.1 7 (2 * i) = nI (a.g.ta (2 * i)) := h.cf.ta _ (by omega)
      have e1 : V.1 7 (2 * i + 1) = nI (a.g.ta (2 * i + 1)) := h.cf.ta _ (by omega)
      have ht := ok.g.ta i (by omega)
      have hf := c_factOf h ok hc ht.1
      have s : isS a c (i + 1) = decide (fct a c (a.g.ta (2 * i)) = nI (a.g.ta (2 * i + 1))) := by rw [isS, h3, Bool.true_and]
      simp (disch := omega) only [f_X0_isSo_L2, rq_t, drs, sp, pcs, cls, ↓reduceIte, not_true_eq_false, not_false_eq_true, and_true, true_and, and_false, false_and, or_true, true_or, or_false, false_or, eq_self, l0, l1, l2, l3, l4, l5, l6, l7, l8, l9, l10, l11, l12, l13, l14, l15, l16, l17, l18, l19, l20, l21, l22, l23, l24, l25, l26, l27, l28, l29, l30, l31, l32, l33, l34, l35, l36, l37, l40, l41, l42, l43, l45, l47, l48, l50, l57, l59, l60, l61, l62, l63, l85, l91, l93, l96, l97, l98, l99, l100, l120, l122, l146, l160, l165, l170, l178, l186, l198, l255, l400, l900, l948, l999, l1000, l2475, l2640, l2970, l3990, l9390, l18780, l19000, l999999, l1000000, l100000000, l2147483639, nI_add, pk_mul, ix_nI, leT, leF, ltT, ltF, eqT, eqF, nI_leI, nI_ltI, nI_eq, ngEq, ngEq', ngLt, ngLt', ngLe, ngLe', ngNg, nI_p, pk_sub, Nat.reduceAdd, Nat.reduceMul, Nat.reduceSub, uI1, uI2, uL1, uL2, uL3, uR1, uR2, uR3, rq_eq hC.k0, rq_eq hC.k2, rq_eq hC.k3, rq_eq hC.k8, rq_eq hC.k10, rq_eq hC.k17, rq_eq hC.k19, rq_eq hC.k22, rq_eq hC.k23, rq_eq hC.k28, cq1 hC, cq4 hC, cq5 hC, cq6 hC, cq7 hC, cq12 hC, cq13 hC, cq14 hC, cq15 hC, cq16 hC, cq18 hC, cq20 hC, cq21 hC, cq24 hC, cq25 hC, cq26 hC, cq27 hC, cq29 hC, hU.r0_1, hU.r0_2, hU.r0_3, hU.r0_4, hU.r0_5, hU.r0_6, hU.r0_7, hU.r0_8, hU.r0_9, hU.r0_10, hU.r0_16, hU.r0_17, hU.r0_18, hU.r0_22, hU.r0_23, hU.r2_0, hU.r2_1, hU.r2_2, hU.r2_3, hU.r2_4, hU.r2_5, hU.r3_0, hU.r17_0, hU.r19_0, hU.r28_0, hU.r22_0, hU.r22_1, hn, e0, e1, hf]
      by_cases q : fct a c (a.g.ta (2 * i)) = nI (a.g.ta (2 * i + 1))
      · rw [if_pos q]
        exact ih (i + 1) N (by omega) (by omega) (by rw [s]; exact decide_eq_true q)
      · rw [if_neg q]
        have := isS_f (s.trans (decide_eq_false q)) j
        rw [show i + 1 + j = a.g.nt by omega] at this
        rw [this]
        rfl
  exact this a.g.nt 0 fuel (by omega) (Nat.lt_of_le_of_lt h6 (by decide)) rfl
def bts (a : St) : Nat → Int32
  | 0 => 0
  | c + 1 => bts a c ||| (if isS a c a.g.nt then (1 : Int32) <<< (nI c &&& 31) else 0)
theorem c_canBe {T : Tt} {V : Vt} {x : HS} {a : St} (h : CR T V x a) (ok : OK a) : f_X0_canBe T V 0 = some (bts a a.g.n) := by
  have hC := h.hC
  have hU := h.hU
  have g8 := ok.g.n
  have hn : V.1 2 6 = nI a.g.n := h.cf.n
  rw [f_X0_canBe, rq hC.k0]
  refine lp (fun n (p : Int32 × Int32) => f_X0_canBe_L4 T V 0 _ n p.1 p.2) (fun i => (bts a i, nI i)) a.g.n ?_ ?_ _ (Nat.lt_of_le_of_lt g8 (by decide))
  · intro i n hi
    dsimp only
    rw [f_X0_canBe_L4, dr hU.r0_2, rq hC.k2, hn, if_neg (nI_ge hi (by omega)), pc (c_isSo h ok hi), bts]
    simp only [f_X0_canBe_J31, sp, l1, nI_add]
    cases isS a i a.g.nt with
    | false => rfl
    | true => rfl
  · intro n
    dsimp only
    rw [f_X0_canBe_L4, dr hU.r0_2, rq hC.k2, hn, if_pos (nI_le (Nat.le_refl _) (by omega))]
theorem m_canL {T : Tt} {V : Vt} (hT : MT T) {a : St} (h : MR V a) (ok : OK a) {c : Nat} (hc : c < a.g.n) {x1 : Int32} {kc : Int32 → Int32 → Option Int32} {kx k : Int32 → Option Int32} : f_X5_thatCanBe_L19 T V 94 x1 (nI c) kc kx k fuel (nI 1) (nI 0) = k (b1 (isS a c a.g.nt)) := by
  have hV := h.hV
  have h6 := ok.g.nt
  have hn := h.mf.nt
  refine lp (fun n (p : Int32 × Int32) => f_X5_thatCanBe_L19 T V 94 x1 (nI c) kc kx k n p.1 p.2) (fun i => (b1 (isS a c i), nI i)) a.g.nt ?_ ?_ _ (Nat.lt_of_le_of_lt h6 (by decide))
  · intro i n hi
    have e0 := h.mf.ta (2 * i) (by omega)
    have e1 := h.mf.ta (2 * i + 1) (by omega)
    have ht := ok.g.ta i (by omega)
    have hf := m_tasteOf hT h ok hc ht.1
    rw [← Nat.add_assoc] at e1
    dsimp only
    rw [isS]
    cases hs : isS a c i with
    | false =>
      simp (disch := omega) only [f_X5_thatCanBe_L19, f_X5_thatCanBe_J74, f_X5_thatCanBe_J75, rq_t, drs, sp, pcs, cls, ↓reduceIte, not_true_eq_false, not_false_eq_true, and_true, true_and, and_false, false_and, or_true, true_or, or_false, false_or, eq_self, l0, l1, l2, l3, l4, l5, l6, l7, l8, l9, l10, l11, l12, l13, l14, l15, l16, l17, l18, l19, l20, l21, l22, l23, l24, l25, l26, l27, l28, l29, l30, l31, l32, l33, l34, l35, l36, l37, l40, l41, l42, l43, l45, l47, l48, l50, l57, l59, l60, l61, l62, l63, l85, l91, l93, l96, l97, l98, l99, l100, l120, l122, l146, l160, l165, l170, l178, l186, l198, l255, l400, l900, l948, l999, l1000, l2475, l2640, l2970, l3990, l9390, l18780, l19000, l999999, l1000000, l100000000, l2147483639, nI_add, pk_mul, ix_nI, leT, leF, ltT, ltF, eqT, eqF, nI_leI, nI_ltI, nI_eq, ngEq, ngEq', ngLt, ngLt', ngLe, ngLe', ngNg, nI_p, pk_sub, Nat.reduceAdd, Nat.reduceMul, Nat.reduceSub, uI1, uI2, uL1, uL2, uL3, uR1, uR2, uR3, rq_eq (MT0 hT), rq95 hT, rf2 hV, rq96 hT, rf3 hV, rq97 hT, rf4 hV, rq98 hT, rf5 hV, rq99 hT, rf6 hV, rq100 hT, rf7 hV, rq101 hT, rf9 hV, rq102 hT, rf10 hV, rq103 hT, rf12 hV, rq104 hT, rf22 hV, rq105 hT, rf24 hV, rq106 hT, rf25 hV, rq107 hT, rf27 hV, rq108 hT, rf28 hV, rq109 hT, rf31 hV, rq110 hT, rf32 hV, rq111 hT, rf33 hV, rq112 hT, rf35 hV, rq113 hT, rf36 hV, rq114 hT, rf37 hV, rq115 hT, rf41 hV, rq116 hT, rf44 hV, rq117 hT, rf45 hV, rq118 hT, rf51 hV, rq119 hT, rf53 hV, hn, b1, Bool.false_and]
      rfl
    | true =>
      rw [Bool.true_and]
      simp (disch := omega) only [f_X5_thatCanBe_L19, f_X5_thatCanBe_J74, f_X5_thatCanBe_J75, rq_t, drs, sp, pcs, cls, ↓reduceIte, not_true_eq_false, not_false_eq_true, and_true, true_and, and_false, false_and, or_true, true_or, or_false, false_or, eq_self, l0, l1, l2, l3, l4, l5, l6, l7, l8, l9, l10, l11, l12, l13, l14, l15, l16, l17, l18, l19, l20, l21, l22, l23, l24, l25, l26, l27, l28, l29, l30, l31, l32, l33, l34, l35, l36, l37, l40, l41, l42, l43, l45, l47, l48, l50, l57, l59, l60, l61, l62, l63, l85, l91, l93, l96, l97, l98, l99, l100, l120, l122, l146, l160, l165, l170, l178, l186, l198, l255, l400, l900, l948, l999, l1000, l2475, l2640, l2970, l3990, l9390, l18780, l19000, l999999, l1000000, l100000000, l2147483639, nI_add, pk_mul, ix_nI, leT, leF, ltT, ltF, eqT, eqF, nI_leI, nI_ltI, nI_eq, ngEq, ngEq', ngLt, ngLt', ngLe, ngLe', ngNg, nI_p, pk_sub, Nat.reduceAdd, Nat.reduceMul, Nat.reduceSub, uI1, uI2, uL1, uL2, uL3, uR1, uR2, uR3, rq_eq (MT0 hT), rq95 hT, rf2 hV, rq96 hT, rf3 hV, rq97 hT, rf4 hV, rq98 hT, rf5 hV, rq99 hT, rf6 hV, rq100 hT, rf7 hV, rq101 hT, rf9 hV, rq102 hT, rf10 hV, rq103 hT, rf12 hV, rq104 hT, rf22 hV, rq105 hT, rf24 hV, rq106 hT, rf25 hV, rq107 hT, rf27 hV, rq108 hT, rf28 hV, rq109 hT, rf31 hV, rq110 hT, rf32 hV, rq111 hT, rf33 hV, rq112 hT, rf35 hV, rq113 hT, rf36 hV, rq114 hT, rf37 hV, rq115 hT, rf41 hV, rq116 hT, rf44 hV, rq117 hT, rf45 hV, rq118 hT, rf51 hV, rq119 hT, rf53 hV, hn, e0, e1, hf, show b1 true = nI 1 from rfl]
      by_cases q : fct a c (a.g.ta (2 * i)) = nI (a.g.ta (2 * i + 1))
      · rw [if_pos q, decide_eq_true q]
        rfl
      · rw [if_neg q, decide_eq_false q]
        rfl
  · intro n
    simp (disch := omega) only [f_X5_thatCanBe_L19, rq_t, drs, sp, pcs, cls, ↓reduceIte, not_true_eq_false, not_false_eq_true, and_true, true_and, and_false, false_and, or_true, true_or, or_false, false_or, eq_self, l0, l1, l2, l3, l4, l5, l6, l7, l8, l9, l10, l11, l12, l13, l14, l15, l16, l17, l18, l19, l20, l21, l22, l23, l24, l25, l26, l27, l28, l29, l30, l31, l32, l33, l34, l35, l36, l37, l40, l41, l42, l43, l45, l47, l48, l50, l57, l59, l60, l61, l62, l63, l85, l91, l93, l96, l97, l98, l99, l100, l120, l122, l146, l160, l165, l170, l178, l186, l198, l255, l400, l900, l948, l999, l1000, l2475, l2640, l2970, l3990, l9390, l18780, l19000, l999999, l1000000, l100000000, l2147483639, nI_add, pk_mul, ix_nI, leT, leF, ltT, ltF, eqT, eqF, nI_leI, nI_ltI, nI_eq, ngEq, ngEq', ngLt, ngLt', ngLe, ngLe', ngNg, nI_p, pk_sub, Nat.reduceAdd, Nat.reduceMul, Nat.reduceSub, uI1, uI2, uL1, uL2, uL3, uR1, uR2, uR3, rq_eq (MT0 hT), rq95 hT, rf2 hV, rq96 hT, rf3 hV, rq97 hT, rf4 hV, rq98 hT, rf5 hV, rq99 hT, rf6 hV, rq100 hT, rf7 hV, rq101 hT, rf9 hV, rq102 hT, rf10 hV, rq103 hT, rf12 hV, rq104 hT, rf22 hV, rq105 hT, rf24 hV, rq106 hT, rf25 hV, rq107 hT, rf27 hV, rq108 hT, rf28 hV, rq109 hT, rf31 hV, rq110 hT, rf32 hV, rq111 hT, rf33 hV, rq112 hT, rf35 hV, rq113 hT, rf36 hV, rq114 hT, rf37 hV, rq115 hT, rf41 hV, rq116 hT, rf44 hV, rq117 hT, rf45 hV, rq118 hT, rf51 hV, rq119 hT, rf53 hV, hn]
theorem m_canBe' {T : Tt} {V : Vt} (hT : MT T) {a : St} (h : MR V a) (ok : OK a) : f_X5_thatCanBe T V 94 = some (bts a a.g.n) := by
  have hV := h.hV
  have g8 := ok.g.n
  have hn := h.mf.n
  rw [f_X5_thatCanBe, rq hT.1]
  refine lp (fun n (p : Int32 × Int32) => f_X5_thatCanBe_L4 T V 94 _ n p.1 p.2) (fun i => (bts a i, nI i)) a.g.n ?_ ?_ _ (Nat.lt_of_le_of_lt g8 (by decide))
  · intro i n hi
    dsimp only
    simp (disch := omega) only [f_X5_thatCanBe_L4, rq_t, drs, sp, pcs, cls, ↓reduceIte, not_true_eq_false, not_false_eq_true, and_true, true_and, and_false, false_and, or_true, true_or, or_false, false_or, eq_self, l0, l1, l2, l3, l4, l5, l6, l7, l8, l9, l10, l11, l12, l13, l14, l15, l16, l17, l18, l19, l20, l21, l22, l23, l24, l25, l26, l27, l28, l29, l30, l31, l32, l33, l34, l35, l36, l37, l40, l41, l42, l43, l45, l47, l48, l50, l57, l59, l60, l61, l62, l63, l85, l91, l93, l96, l97, l98, l99, l100, l120, l122, l146, l160, l165, l170, l178, l186, l198, l255, l400, l900, l948, l999, l1000, l2475, l2640, l2970, l3990, l9390, l18780, l19000, l999999, l1000000, l100000000, l2147483639, nI_add, pk_mul, ix_nI, leT, leF, ltT, ltF, eqT, eqF, nI_leI, nI_ltI, nI_eq, ngEq, ngEq', ngLt, ngLt', ngLe, ngLe', ngNg, nI_p, pk_sub, Nat.reduceAdd, Nat.reduceMul, Nat.reduceSub, uI1, uI2, uL1, uL2, uL3, uR1, uR2, uR3, rq_eq (MT0 hT), rq95 hT, rf2 hV, rq96 hT, rf3 hV, rq97 hT, rf4 hV, rq98 hT, rf5 hV, rq99 hT, rf6 hV, rq100 hT, rf7 hV, rq101 hT, rf9 hV, rq102 hT, rf10 hV, rq103 hT, rf12 hV, rq104 hT, rf22 hV, rq105 hT, rf24 hV, rq106 hT, rf25 hV, rq107 hT, rf27 hV, rq108 hT, rf28 hV, rq109 hT, rf31 hV, rq110 hT, rf32 hV, rq111 hT, rf33 hV, rq112 hT, rf35 hV, rq113 hT, rf36 hV, rq114 hT, rf37 hV, rq115 hT, rf41 hV, rq116 hT, rf44 hV, rq117 hT, rf45 hV, rq118 hT, rf51 hV, rq119 hT, rf53 hV, hn]
    rw [m_canL hT h ok hi, bts]
    simp only [f_X5_thatCanBe_J94, sp, l1, nI_add]
    cases isS a i a.g.nt with
    | false => rfl
    | true => rfl
  · intro n
    simp (disch := omega) only [f_X5_thatCanBe_L4, rq_t, drs, sp, pcs, cls, ↓reduceIte, not_true_eq_false, not_false_eq_true, and_true, true_and, and_false, false_and, or_true, true_or, or_false, false_or, eq_self, l0, l1, l2, l3, l4, l5, l6, l7, l8, l9, l10, l11, l12, l13, l14, l15, l16, l17, l18, l19, l20, l21, l22, l23, l24, l25, l26, l27, l28, l29, l30, l31, l32, l33, l34, l35, l36, l37, l40, l41, l42, l43, l45, l47, l48, l50, l57, l59, l60, l61, l62, l63, l85, l91, l93, l96, l97, l98, l99, l100, l120, l122, l146, l160, l165, l170, l178, l186, l198, l255, l400, l900, l948, l999, l1000, l2475, l2640, l2970, l3990, l9390, l18780, l19000, l999999, l1000000, l100000000, l2147483639, nI_add, pk_mul, ix_nI, leT, leF, ltT, ltF, eqT, eqF, nI_leI, nI_ltI, nI_eq, ngEq, ngEq', ngLt, ngLt', ngLe, ngLe', ngNg, nI_p, pk_sub, Nat.reduceAdd, Nat.reduceMul, Nat.reduceSub, uI1, uI2, uL1, uL2, uL3, uR1, uR2, uR3, rq_eq (MT0 hT), rq95 hT, rf2 hV, rq96 hT, rf3 hV, rq97 hT, rf4 hV, rq98 hT, rf5 hV, rq99 hT, rf6 hV, rq100 hT, rf7 hV, rq101 hT, rf9 hV, rq102 hT, rf10 hV, rq103 hT, rf12 hV, rq104 hT, rf22 hV, rq105 hT, rf24 hV, rq106 hT, rf25 hV, rq107 hT, rf27 hV, rq108 hT, rf28 hV, rq109 hT, rf31 hV, rq110 hT, rf32 hV, rq111 hT, rf33 hV, rq112 hT, rf35 hV, rq113 hT, rf36 hV, rq114 hT, rf37 hV, rq115 hT, rf41 hV, rq116 hT, rf44 hV, rq117 hT, rf45 hV, rq118 hT, rf51 hV, rq119 hT, rf53 hV, hn]
theorem m_canBe {T : Tt} {V : Vt} (hT : MT T) {a : St} (h : MR V a) (ok : OK a) : mOp (f_X5_canBe T V 94) V (bts a a.g.n) a := by
  have h := h.s0 ok.g (j := 0) (v := 0) (by omega)
  rw [f_X5_canBe, rq hT.1, sp, pc (m_canBe' hT h ok)]
  exact Ret.ok ⟨rfl, h, mF_uI (by omega)⟩
