/-! 88: count, drawn, compare -/
set_option maxRecDepth 100000
def cnt (a : St) (k : Nat) : Int32 := match k with
  | 0 => nI a.g.n
  | 1 => nI a.t.b
  | 2 => nI a.g.nt
  | 3 => nI a.g.nl
  | 4 => nI a.g.np
  | 5 => nI a.u.n
  | 6 => nI a.tn
  | 7 => a.rf 1
  | 8 => a.rf 2
  | 9 => a.rf 3
  | 10 => a.rf 5
  | 11 => a.rf 6
  | 12 => oI a.g.fo
  | 13 => nI a.t.y
  | 14 => nI a.g.co
  | 15 => nI a.g.mo
  | _ => nI a.g.pa
def rCount (a : St) (w : Int32) : Int32 := if iN w 0 16 then cnt a (ixN w) else -nI 1
theorem iN_no {w : Int32} (h : ¬ iN w 0 16 = true) : (∀ k : Nat, k ≤ 16 → ¬ w = nI k) ∧ ∀ lo hi : Int, 0 ≤ lo → hi ≤ 16 → iN w lo hi = false := by
  refine ⟨fun k hk e => h ?_, fun lo hi h1 h2 => ?_⟩
  · rw [e, iN_nI (by omega)]
    exact decide_eq_true (by omega)
  · apply decide_eq_false
    intro q
    exact h (decide_eq_true (by omega))
theorem c_count {T : Tt} {V : Vt} {x : HS} {a : St} (h : CR T V x a) {w : Int32} : f_X0_count T V 0 w = some (rCount a w) := by
  have hC := h.hC
  have hU := h.hU
  rw [rCount]
  by_cases q : iN w 0 16 = true
  · obtain ⟨k, rfl, -, k2, k3⟩ := iN_of q (by omega)
    have e0 : V.1 2 6 = nI a.g.n := h.cf.n
    have e1 := h.ct.b
    have e2 : V.1 2 7 = nI a.g.nt := h.cf.nt
    have e12 : V.1 2 11 = oI a.g.fo := h.cf.fo
    obtain ⟨c1, el1, ls1, -⟩ := h.cf.lw
    obtain ⟨c2, el2, ls2, -⟩ := h.cf.pl
    have s1 : f_J2_size T V 8 = some (nI a.g.nl) := c_size ls1
    have s2 : f_J2_size T V 10 = some (nI a.g.np) := c_size ls2
    have e5 := h.cu.n
    have e6 := h.tn
    have r1 := h.rf 1 (by omega)
    have r2 := h.rf 2 (by omega)
    have r3 := h.rf 3 (by omega)
    have r5 := h.rf 5 (by omega)
    have r6 := h.rf 6 (by omega)
    have ht := c_table hC hU
    have tm : ∀ v, f_X0_termNow T V 0 v = some (tmV a v) := fun v => c_termNow h
    rw [if_pos q, ix_nI k3]
    have : k = 0 ∨ k = 1 ∨ k = 2 ∨ k = 3 ∨ k = 4 ∨ k = 5 ∨ k = 6 ∨ k = 7 ∨ k = 8 ∨ k = 9 ∨ k = 10 ∨ k = 11 ∨ k = 12 ∨ k = 13 ∨ k = 14 ∨ k = 15 ∨ k = 16 := by omega
    clear h q
    rcases this with e | e | e | e | e | e | e | e | e | e | e | e | e | e | e | e | e <;> subst e <;> simp (disch := omega) only [f_X0_count, f_X0_in, rq_t, drs, sp, pcs, cls, ↓reduceIte, not_true_eq_false, not_false_eq_true, and_true, true_and, and_false, false_and, or_true, true_or, or_false, false_or, eq_self, l0, l1, l2, l3, l4, l5, l6, l7, l8, l9, l10, l11, l12, l13, l14, l15, l16, l17, l18, l19, l20, l21, l22, l23, l24, l25, l26, l27, l28, l29, l30, l31, l32, l33, l34, l35, l36, l37, l40, l41, l42, l43, l45, l47, l48, l50, l57, l59, l60, l61, l62, l63, l85, l91, l93, l96, l97, l98, l99, l100, l120, l122, l146, l160, l165, l170, l178, l186, l198, l255, l400, l900, l948, l999, l1000, l2475, l2640, l2970, l3990, l9390, l18780, l19000, l999999, l1000000, l100000000, l2147483639, nI_add, pk_mul, ix_nI, leT, leF, ltT, ltF, eqT, eqF, nI_leI, nI_ltI, nI_eq, ngEq, ngEq', ngLt, ngLt', ngLe, ngLe', ngNg, nI_p, pk_sub, Nat.reduceAdd, Nat.reduceMul, Nat.reduceSub, uI1, uI2, uL1, uL2, uL3, uR1, uR2, uR3, rq_eq hC.k0, rq_eq hC.k2, rq_eq hC.k3, rq_eq hC.k8, rq_eq hC.k10, rq_eq hC.k17, rq_eq hC.k19, rq_eq hC.k22, rq_eq hC.k23, rq_eq hC.k28, cq1 hC, cq4 hC, cq5 hC, cq6 hC, cq7 hC, cq12 hC, cq13 hC, cq14 hC, cq15 hC, cq16 hC, cq18 hC, cq20 hC, cq21 hC, cq24 hC, cq25 hC, cq26 hC, cq27 hC, cq29 hC, hU.r0_1, hU.r0_2, hU.r0_3, hU.r0_4, hU.r0_5, hU.r0_6, hU.r0_7, hU.r0_8, hU.r0_9, hU.r0_10, hU.r0_16, hU.r0_17, hU.r0_18, hU.r0_22, hU.r0_23, hU.r2_0, hU.r2_1, hU.r2_2, hU.r2_3, hU.r2_4, hU.r2_5, hU.r3_0, hU.r17_0, hU.r19_0, hU.r28_0, hU.r22_0, hU.r22_1, ht, e0, e1, e2, e12, s1, s2, e5, e6, r1, r2, r3, r5, r6, tm, cnt, tmV]
  · obtain ⟨n1, n2⟩ := iN_no q
    rw [if_neg q, f_X0_count, rq hC.k0, pc c_in, show (13 : Int32).toInt = 13 from rfl, show (16 : Int32).toInt = 16 from rfl, n2 13 16 (by omega) (by omega), if_pos (by decide), pc c_in, show (7 : Int32).toInt = 7 from rfl, show (9 : Int32).toInt = 9 from rfl, n2 7 9 (by omega) (by omega), if_pos (by decide), if_neg (show ¬ w = (0 : Int32) from n1 0 (by omega)), if_neg (show ¬ w = (1 : Int32) from n1 1 (by omega)), if_neg (show ¬ w = (2 : Int32) from n1 2 (by omega)), if_neg (show ¬ w = (3 : Int32) from n1 3 (by omega)), if_neg (show ¬ w = (4 : Int32) from n1 4 (by omega)), if_neg (show ¬ w = (5 : Int32) from n1 5 (by omega)), if_neg (show ¬ w = (6 : Int32) from n1 6 (by omega)), if_neg (show ¬ w = (7 : Int32) from n1 7 (by omega)), if_neg (show ¬ w = (8 : Int32) from n1 8 (by omega)), if_neg (show ¬ w = (9 : Int32) from n1 9 (by omega)), if_neg (show ¬ w = (10 : Int32) from n1 10 (by omega)), if_neg (show ¬ w = (11 : Int32) from n1 11 (by omega)), if_neg (show ¬ w = (12 : Int32) from n1 12 (by omega))]
    rfl
theorem m_count {T : Tt} {V : Vt} (hT : MT T) {a : St} (h : MR V a) (ok : OK a) {w : Int32} : mOp (f_X5_count T V 94 w) V (rCount a w) a := by
  have h := h.s0 ok.g (j := 0) (v := 0) (by omega)
  rw [f_X5_count, rq hT.1, sp]
  refine mOp.fr (W := uI V 94 0 0) (mF_uI (by omega)) ?_
  generalize uI V 94 0 0 = V at h ⊢
  have hV := h.hV
  rw [rCount]
  by_cases q : iN w 0 16 = true
  · obtain ⟨k, rfl, -, k2, k3⟩ := iN_of q (by omega)
    have e0 := h.mf.n
    have e1 := h.mt.b
    have e2 := h.mf.nt
    have e3 := h.mf.nl
    have e4 := h.mf.np
    have e5 := h.mu.n
    have e6 := h.tn
    have e12 := h.mf.fo
    have e13 := h.mt.y
    have e14 := h.mf.co
    have e15 := h.mf.mo
    have e16 := h.mf.pa
    have r1 := h.rf 1 (by omega)
    have r2 := h.rf 2 (by omega)
    have r3 := h.rf 3 (by omega)
    have r5 := h.rf 5 (by omega)
    have r6 := h.rf 6 (by omega)
    have hk : ∀ r, mOp (some (r, V)) V r a := fun r => mOp.k h
    have hin : ∀ j : Nat, 13 ≤ j → j ≤ 16 → f_X5_in T V (nI j).toInt64 13 16 = some (nI 1) := fun j j1 j2 => by
      rw [m_inI, iN_nI (by omega), show (13 : Int64).toInt = 13 from rfl, show (16 : Int64).toInt = 16 from rfl, decide_eq_true (by omega)]
      rfl
    rw [if_pos q, ix_nI k3]
    have : k = 0 ∨ k = 1 ∨ k = 2 ∨ k = 3 ∨ k = 4 ∨ k = 5 ∨ k = 6 ∨ k = 7 ∨ k = 8 ∨ k = 9 ∨ k = 10 ∨ k = 11 ∨ k = 12 ∨ k = 13 ∨ k = 14 ∨ k = 15 ∨ k = 16 := by omega
    clear h q
    rcases this with e | e | e | e | e | e | e | e | e | e | e | e | e | e | e | e | e <;> subst e <;> simp (disch := omega) only [rq_t, drs, sp, pcs, cls, ↓reduceIte, not_true_eq_false, not_false_eq_true, and_true, true_and, and_false, false_and, or_true, true_or, or_false, false_or, eq_self, l0, l1, l2, l3, l4, l5, l6, l7, l8, l9, l10, l11, l12, l13, l14, l15, l16, l17, l18, l19, l20, l21, l22, l23, l24, l25, l26, l27, l28, l29, l30, l31, l32, l33, l34, l35, l36, l37, l40, l41, l42, l43, l45, l47, l48, l50, l57, l59, l60, l61, l62, l63, l85, l91, l93, l96, l97, l98, l99, l100, l120, l122, l146, l160, l165, l170, l178, l186, l198, l255, l400, l900, l948, l999, l1000, l2475, l2640, l2970, l3990, l9390, l18780, l19000, l999999, l1000000, l100000000, l2147483639, nI_add, pk_mul, ix_nI, leT, leF, ltT, ltF, eqT, eqF, nI_leI, nI_ltI, nI_eq, ngEq, ngEq', ngLt, ngLt', ngLe, ngLe', ngNg, nI_p, pk_sub, Nat.reduceAdd, Nat.reduceMul, Nat.reduceSub, uI1, uI2, uL1, uL2, uL3, uR1, uR2, uR3, rq_eq (MT0 hT), rq95 hT, rf2 hV, rq96 hT, rf3 hV, rq97 hT, rf4 hV, rq98 hT, rf5 hV, rq99 hT, rf6 hV, rq100 hT, rf7 hV, rq101 hT, rf9 hV, rq102 hT, rf10 hV, rq103 hT, rf12 hV, rq104 hT, rf22 hV, rq105 hT, rf24 hV, rq106 hT, rf25 hV, rq107 hT, rf27 hV, rq108 hT, rf28 hV, rq109 hT, rf31 hV, rq110 hT, rf32 hV, rq111 hT, rf33 hV, rq112 hT, rf35 hV, rq113 hT, rf36 hV, rq114 hT, rf37 hV, rq115 hT, rf41 hV, rq116 hT, rf44 hV, rq117 hT, rf45 hV, rq118 hT, rf51 hV, rq119 hT, rf53 hV, hin, e0, e1, e2, e3, e4, e5, e6, e12, e13, e14, e15, e16, r1, r2, r3, r5, r6, cnt] <;> exact hk _
  · obtain ⟨n1, n2⟩ := iN_no q
    rw [if_neg q, if_neg (show ¬ w = (0 : Int32) from n1 0 (by omega)), if_neg (show ¬ w = (1 : Int32) from n1 1 (by omega)), if_neg (show ¬ w = (2 : Int32) from n1 2 (by omega)), if_neg (show ¬ w = (3 : Int32) from n1 3 (by omega)), if_neg (show ¬ w = (4 : Int32) from n1 4 (by omega)), if_neg (show ¬ w = (5 : Int32) from n1 5 (by omega)), if_neg (show ¬ w = (6 : Int32) from n1 6 (by omega)), if_neg (show ¬ w = (7 : Int32) from n1 7 (by omega)), if_neg (show ¬ w = (8 : Int32) from n1 8 (by omega)), if_neg (show ¬ w = (9 : Int32) from n1 9 (by omega)), if_neg (show ¬ w = (10 : Int32) from n1 10 (by omega)), if_neg (show ¬ w = (11 : Int32) from n1 11 (by omega)), if_neg (show ¬ w = (12 : Int32) from n1 12 (by omega)), pc m_inI, show (13 : Int64).toInt = 13 from rfl, show (16 : Int64).toInt = 16 from rfl, n2 13 16 (by omega) (by omega), if_pos (by decide)]
    exact mOp.k h
