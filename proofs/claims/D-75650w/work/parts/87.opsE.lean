/-! 87: what is asked: of, old, count, drawn -/
set_option maxRecDepth 100000
def rOf (a : St) (c w : Int32) : Int32 := if isKa a.g c then (if iN w 8 27 then nI (a.t.D (20 * ixN c + (ixN w - 8))) else if w = 0 then nI (a.g.ti (ixN c)) else if w = 1 then nI (a.g.sz (ixN c)) else if w = 2 then nI (tAll a.t.D (ixN c)) else if w = 3 then tMean a.t.D (ixN c) else if w = 4 then tLab a.t.D (ixN c) a.g.pa else if w = 5 then nI (los a.g a.t (ixN c)) else if w = 6 then nI (yil a.g a.t (ixN c)) else if w = 7 then b1 (bar a.g a.t (ixN c)) else -nI 1) else -nI 1
theorem ne_lit {k n : Nat} (h : k < 2 ^ 31) (hn : n < 2 ^ 31) (e : k ≠ n) : ¬ nI k = nI n := by rw [nI_eq h hn]; exact e
theorem cOp.k {T : Tt} {V : Vt} {x : HS} {a : St} (h : CR T V x a) {r : Int32} : cOp (some (r, V)) T V r a := Ret.ok ⟨rfl, ⟨x, h⟩, cFr.rfl'⟩
theorem c_of {T : Tt} {V : Vt} {x : HS} {a : St} (h : CR T V x a) (ok : OK a) {c w : Int32} : cOp (f_X0_of T V 0 c w) T V (rOf a c w) a := by
  have hC := h.hC
  have hU := h.hU
  have g8 := ok.g.n
  rw [f_X0_of, rq hC.k0, pc (c_isCask hC hU ok.g h.cf), rOf]
  simp only [b1_0]
  cases hc : isKa a.g c with
  | false => exact cOp.k h
  | true =>
    obtain ⟨c', rfl, h1⟩ := isKa_of hc
    have hB := ok.t.a ok.g h1
    rw [if_neg (by decide), if_pos rfl, pc (c_table hC hU), pc c_in, show (8 : Int32).toInt = 8 from rfl, show (27 : Int32).toInt = 27 from rfl]
    simp only [ix_nI (show c' < 2 ^ 31 by omega)]
    by_cases q : iN w 8 27 = true
    · obtain ⟨k, rfl, k1, k2, k3⟩ := iN_of q (by omega)
      have hd := h.ct.D (20 * c' + (k - 8)) (by omega)
      rw [if_pos q, q, if_neg (by decide), rq hC.k3, dr hU.r3_0]
      simp (disch := omega) only [rq_t, drs, sp, pcs, cls, ↓reduceIte, not_true_eq_false, not_false_eq_true, and_true, true_and, and_false, false_and, or_true, true_or, or_false, false_or, eq_self, l0, l1, l2, l3, l4, l5, l6, l7, l8, l9, l10, l11, l12, l13, l14, l15, l16, l17, l18, l19, l20, l21, l22, l23, l24, l25, l26, l27, l28, l29, l30, l31, l32, l33, l34, l35, l36, l37, l40, l41, l42, l43, l45, l47, l48, l50, l57, l59, l60, l61, l62, l63, l85, l91, l93, l96, l97, l98, l99, l100, l120, l122, l146, l160, l165, l170, l178, l186, l198, l255, l400, l900, l948, l999, l1000, l2475, l2640, l2970, l3990, l9390, l18780, l19000, l999999, l1000000, l100000000, l2147483639, nI_add, pk_mul, ix_nI, leT, leF, ltT, ltF, eqT, eqF, nI_leI, nI_ltI, nI_eq, ngEq, ngEq', ngLt, ngLt', ngLe, ngLe', ngNg, nI_p, pk_sub, Nat.reduceAdd, Nat.reduceMul, Nat.reduceSub, uI1, uI2, uL1, uL2, uL3, uR1, uR2, uR3, rq_eq hC.k0, rq_eq hC.k2, rq_eq hC.k3, rq_eq hC.k8, rq_eq hC.k10, rq_eq hC.k17, rq_eq hC.k19, rq_eq hC.k22, rq_eq hC.k23, rq_eq hC.k28, cq1 hC, cq4 hC, cq5 hC, cq6 hC, cq7 hC, cq12 hC, cq13 hC, cq14 hC, cq15 hC, cq16 hC, cq18 hC, cq20 hC, cq21 hC, cq24 hC, cq25 hC, cq26 hC, cq27 hC, cq29 hC, hU.r0_1, hU.r0_2, hU.r0_3, hU.r0_4, hU.r0_5, hU.r0_6, hU.r0_7, hU.r0_8, hU.r0_9, hU.r0_10, hU.r0_16, hU.r0_17, hU.r0_18, hU.r0_22, hU.r0_23, hU.r2_0, hU.r2_1, hU.r2_2, hU.r2_3, hU.r2_4, hU.r2_5, hU.r3_0, hU.r17_0, hU.r19_0, hU.r28_0, hU.r22_0, hU.r22_1, show 20 * c' + k - 8 = 20 * c' + (k - 8) by omega, hd]
      exact cOp.k h
    · have q' : iN w 8 27 = false := by cases hq : iN w 8 27 with
        | true => exact absurd hq q
        | false => rfl
      rw [if_neg q, q', if_pos (by decide)]
      by_cases w0 : w = 0
      · rw [if_pos w0, if_pos w0, dr hU.r0_2, rq hC.k2, dr hU.r2_1, cq5 hC (by omega), show V.1 5 c' = nI (a.g.ti c') from h.cf.ti c' h1]
        exact cOp.k h
      rw [if_neg w0, if_neg w0]
      by_cases w1 : w = 1
      · rw [if_pos w1, if_pos w1, dr hU.r0_2, rq hC.k2, dr hU.r2_2, cq6 hC (by omega), show V.1 6 c' = nI (a.g.sz c') from h.cf.sz c' h1]
        exact cOp.k h
      rw [if_neg w1, if_neg w1]
      by_cases w2 : w = 2
      · rw [if_pos w2, if_pos w2, pc (c_all h.ct.k h.ct.D (by omega))]
        exact cOp.k h
      rw [if_neg w2, if_neg w2]
      by_cases w3 : w = 3
      · rw [if_pos w3, if_pos w3, pc (c_mean h.ct.k h.ct.D (by omega) (by omega))]
        exact cOp.k h
      rw [if_neg w3, if_neg w3]
      by_cases w4 : w = 4
      · rw [if_pos w4, if_pos w4, dr hU.r0_2, rq hC.k2, show V.1 2 10 = nI a.g.pa from h.cf.pa, pc (c_label h.ct.k h.ct.D (by omega) hB ok.g.pa.2)]
        exact cOp.k h
      rw [if_neg w4, if_neg w4]
      by_cases w5 : w = 5
      · rw [if_pos w5, if_pos w5, cal_id]
        exact (c_loses hC hU h.P' ok.g h.cf ok.t h.ct h1).im fun p ⟨e, f⟩ => ⟨e, ⟨x, h.fk f⟩, (cKp.m f fun _ _ q => absurd q id).c⟩
      rw [if_neg w5, if_neg w5]
      by_cases w6 : w = 6
      · rw [if_pos w6, if_pos w6, cal_id]
        exact (c_yield hC hU h.P' ok.g h.cf ok.t h.ct h1).im fun p ⟨e, f⟩ => ⟨e, ⟨x, h.fk f⟩, (cKp.m f fun _ _ q => absurd q id).c⟩
      rw [if_neg w6, if_neg w6]
      by_cases w7 : w = 7
      · rw [if_pos w7, if_pos w7]
        refine Ret.c (c_barred hC hU h.P' ok.g h.cf ok.t h.ct h1) ?_
        intro z W ⟨e, f⟩
        dsimp only at e f
        subst e
        have f2 := (cKp.m f fun _ _ q => absurd q id).c
        cases bar a.g a.t c' with
        | false => exact Ret.ok ⟨rfl, ⟨x, h.fk f⟩, f2⟩
        | true => exact Ret.ok ⟨rfl, ⟨x, h.fk f⟩, f2⟩
      rw [if_neg w7, if_neg w7]
      exact cOp.k h
theorem mOp.k {V : Vt} {a : St} (h : MR V a) {r : Int32} : mOp (some (r, V)) V r a := Ret.ok ⟨rfl, h, mFr.rfl'⟩
theorem sF_m {V W : Vt} (h : frM sF lF V W) : mFr V W := ⟨fun a j q => h.1 a j (by omega), fun a j q => h.2.1 a j (by omega), h.2.2⟩
theorem m_of {T : Tt} {V : Vt} (hT : MT T) {a : St} (h : MR V a) (ok : OK a) {c w : Int32} : mOp (f_X5_of T V 94 c w) V (rOf a c w) a := by
  have h := h.s0 ok.g (j := 0) (v := 0) (by omega)
  rw [f_X5_of, rq hT.1, sp]
  refine mOp.fr (W := uI V 94 0 0) (mF_uI (by omega)) ?_
  generalize uI V 94 0 0 = V at h ⊢
  have hV := h.hV
  have g8 := ok.g.n
  have ho : isB (V.1 94 20) := by rw [h.od]; exact Or.inl rfl
  rw [pc (m_isCask hT hV ok.g h.mf), rOf]
  simp only [b1_0]
  cases hc : isKa a.g c with
  | false => exact mOp.k h
  | true =>
    obtain ⟨c', rfl, h1⟩ := isKa_of hc
    have hB := ok.t.a ok.g h1
    rw [if_neg (by decide), if_pos rfl, ix_nI (by omega)]
    by_cases q : iN w 8 27 = true
    · obtain ⟨k, rfl, k1, k2, k3⟩ := iN_of q (by omega)
      rw [if_pos q, if_neg (show ¬ nI k = (0 : Int32) from ne_lit (n := 0) k3 (by omega) (by omega)), if_neg (show ¬ nI k = (1 : Int32) from ne_lit (n := 1) k3 (by omega) (by omega)), if_neg (show ¬ nI k = (2 : Int32) from ne_lit (n := 2) k3 (by omega) (by omega)), if_neg (show ¬ nI k = (3 : Int32) from ne_lit (n := 3) k3 (by omega) (by omega)), if_neg (show ¬ nI k = (4 : Int32) from ne_lit (n := 4) k3 (by omega) (by omega)), if_neg (show ¬ nI k = (5 : Int32) from ne_lit (n := 5) k3 (by omega) (by omega)), if_neg (show ¬ nI k = (6 : Int32) from ne_lit (n := 6) k3 (by omega) (by omega)), if_neg (show ¬ nI k = (7 : Int32) from ne_lit (n := 7) k3 (by omega) (by omega)), pc m_inI, show (8 : Int64).toInt = 8 from rfl, show (27 : Int64).toInt = 27 from rfl, q, if_neg (by decide), l8, pk_sub (by omega), pc (m_drops hT hV h.mt.D (by omega) (by omega)), ix_nI k3]
      exact mOp.k h
    · have q' : iN w 8 27 = false := by cases hq : iN w 8 27 with
        | true => exact absurd hq q
        | false => rfl
      rw [if_neg q]
      by_cases w0 : w = 0
      · rw [if_pos w0, if_pos w0]
        simp (disch := omega) only [rq_t, drs, sp, pcs, cls, ↓reduceIte, not_true_eq_false, not_false_eq_true, and_true, true_and, and_false, false_and, or_true, true_or, or_false, false_or, eq_self, l0, l1, l2, l3, l4, l5, l6, l7, l8, l9, l10, l11, l12, l13, l14, l15, l16, l17, l18, l19, l20, l21, l22, l23, l24, l25, l26, l27, l28, l29, l30, l31, l32, l33, l34, l35, l36, l37, l40, l41, l42, l43, l45, l47, l48, l50, l57, l59, l60, l61, l62, l63, l85, l91, l93, l96, l97, l98, l99, l100, l120, l122, l146, l160, l165, l170, l178, l186, l198, l255, l400, l900, l948, l999, l1000, l2475, l2640, l2970, l3990, l9390, l18780, l19000, l999999, l1000000, l100000000, l2147483639, nI_add, pk_mul, ix_nI, leT, leF, ltT, ltF, eqT, eqF, nI_leI, nI_ltI, nI_eq, ngEq, ngEq', ngLt, ngLt', ngLe, ngLe', ngNg, nI_p, pk_sub, Nat.reduceAdd, Nat.reduceMul, Nat.reduceSub, uI1, uI2, uL1, uL2, uL3, uR1, uR2, uR3, rq_eq (MT0 hT), rq95 hT, rf2 hV, rq96 hT, rf3 hV, rq97 hT, rf4 hV, rq98 hT, rf5 hV, rq99 hT, rf6 hV, rq100 hT, rf7 hV, rq101 hT, rf9 hV, rq102 hT, rf10 hV, rq103 hT, rf12 hV, rq104 hT, rf22 hV, rq105 hT, rf24 hV, rq106 hT, rf25 hV, rq107 hT, rf27 hV, rq108 hT, rf28 hV, rq109 hT, rf31 hV, rq110 hT, rf32 hV, rq111 hT, rf33 hV, rq112 hT, rf35 hV, rq113 hT, rf36 hV, rq114 hT, rf37 hV, rq115 hT, rf41 hV, rq116 hT, rf44 hV, rq117 hT, rf45 hV, rq118 hT, rf51 hV, rq119 hT, rf53 hV, h.mf.ti c' h1]
        exact mOp.k h
      rw [if_neg w0, if_neg w0]
      by_cases w1 : w = 1
      · rw [if_pos w1, if_pos w1]
        simp (disch := omega) only [rq_t, drs, sp, pcs, cls, ↓reduceIte, not_true_eq_false, not_false_eq_true, and_true, true_and, and_false, false_and, or_true, true_or, or_false, false_or, eq_self, l0, l1, l2, l3, l4, l5, l6, l7, l8, l9, l10, l11, l12, l13, l14, l15, l16, l17, l18, l19, l20, l21, l22, l23, l24, l25, l26, l27, l28, l29, l30, l31, l32, l33, l34, l35, l36, l37, l40, l41, l42, l43, l45, l47, l48, l50, l57, l59, l60, l61, l62, l63, l85, l91, l93, l96, l97, l98, l99, l100, l120, l122, l146, l160, l165, l170, l178, l186, l198, l255, l400, l900, l948, l999, l1000, l2475, l2640, l2970, l3990, l9390, l18780, l19000, l999999, l1000000, l100000000, l2147483639, nI_add, pk_mul, ix_nI, leT, leF, ltT, ltF, eqT, eqF, nI_leI, nI_ltI, nI_eq, ngEq, ngEq', ngLt, ngLt', ngLe, ngLe', ngNg, nI_p, pk_sub, Nat.reduceAdd, Nat.reduceMul, Nat.reduceSub, uI1, uI2, uL1, uL2, uL3, uR1, uR2, uR3, rq_eq (MT0 hT), rq95 hT, rf2 hV, rq96 hT, rf3 hV, rq97 hT, rf4 hV, rq98 hT, rf5 hV, rq99 hT, rf6 hV, rq100 hT, rf7 hV, rq101 hT, rf9 hV, rq102 hT, rf10 hV, rq103 hT, rf12 hV, rq104 hT, rf22 hV, rq105 hT, rf24 hV, rq106 hT, rf25 hV, rq107 hT, rf27 hV, rq108 hT, rf28 hV, rq109 hT, rf31 hV, rq110 hT, rf32 hV, rq111 hT, rf33 hV, rq112 hT, rf35 hV, rq113 hT, rf36 hV, rq114 hT, rf37 hV, rq115 hT, rf41 hV, rq116 hT, rf44 hV, rq117 hT, rf45 hV, rq118 hT, rf51 hV, rq119 hT, rf53 hV, h.mf.sz c' h1]
        exact mOp.k h
      rw [if_neg w1, if_neg w1]
      by_cases w2 : w = 2
      · rw [if_pos w2, if_pos w2, pc (m_all hT hV h.mt.D (by omega))]
        exact mOp.k h
      rw [if_neg w2, if_neg w2]
      by_cases w3 : w = 3
      · rw [if_pos w3, if_pos w3, pc (m_mean hT hV h.mt.D (by omega) (by omega))]
        exact mOp.k h
      rw [if_neg w3, if_neg w3]
      by_cases w4 : w = 4
      · rw [if_pos w4, if_pos w4, pc (m_label hT hV h.mt.D (by omega) hB ok.g.pa.2 h.mf.pa)]
        exact mOp.k h
      rw [if_neg w4, if_neg w4]
      by_cases w5 : w = 5
      · rw [if_pos w5, if_pos w5, cal_id]
        exact (m_loses hT hV ok.g h.mf ok.t h.mt ho h1).im fun p ⟨e, f⟩ => ⟨e, h.fk ok.g f, sF_m f⟩
      rw [if_neg w5, if_neg w5]
      by_cases w6 : w = 6
      · rw [if_pos w6, if_pos w6, cal_id]
        exact (m_yields hT hV ok.g h.mf ok.t h.mt ho h1).im fun p ⟨e, f⟩ => ⟨e, h.fk ok.g f, sF_m f⟩
      rw [if_neg w6, if_neg w6]
      by_cases w7 : w = 7
      · rw [if_pos w7, if_pos w7]
        refine Ret.c (m_barred hT hV ok.g h.mf ok.t h.mt ho h1) ?_
        intro z W ⟨e, f⟩
        dsimp only at e f
        subst e
        cases bar a.g a.t c' with
        | false => exact Ret.ok ⟨rfl, h.fk ok.g f, sF_m f⟩
        | true => exact Ret.ok ⟨rfl, h.fk ok.g f, sF_m f⟩
      rw [if_neg w7, if_neg w7, pc m_inI, show (8 : Int64).toInt = 8 from rfl, show (27 : Int64).toInt = 27 from rfl, q', if_pos (by decide)]
      exact mOp.k h
/-- old -/
def rOld (a : St) (c w : Int32) : Int64 := if isKa a.g c then (if iN w 0 19 then (if tAll a.t.D (ixN c) = 0 then -1 else lN (tOld a.t.D (ixN c) (ixN w) * 1000000000000 / tAll a.t.D (ixN c))) else -1) else -1
theorem c_old {T : Tt} {V : Vt} {x : HS} {a : St} (h : CR T V x a) (ok : OK a) {c w : Int32} : f_X0_old T V 0 c w = some (rOld a c w) := by
  have hC := h.hC
  have hU := h.hU
  have g8 := ok.g.n
  rw [f_X0_old, rq hC.k0, pc (c_isCask hC hU ok.g h.cf), rOld]
  simp only [b1_0, f_X0_old_J29]
  cases hc : isKa a.g c with
  | false => rfl
  | true =>
    obtain ⟨c', rfl, h1⟩ := isKa_of hc
    have hB := ok.t.a ok.g h1
    rw [if_neg (by decide), if_pos rfl, pc c_in, ix_nI (by omega), show (0 : Int32).toInt = 0 from rfl, show (19 : Int32).toInt = 19 from rfl]
    simp only [b1_0]
    cases hq : iN w 0 19 with
    | false => rfl
    | true =>
      obtain ⟨k, rfl, k1, k2, k3⟩ := iN_of hq (by omega)
      have ho := old_le (D := a.t.D) (c := c') (a := k) (by omega)
      rw [if_neg (by decide), if_pos rfl, pc (c_table hC hU), pc (c_all h.ct.k h.ct.D (by omega)), ix_nI k3]
      by_cases z : tAll a.t.D c' = 0
      · rw [if_pos (by rw [z]; rfl), if_pos z]
      · rw [if_neg (nI_ne0 (by omega) (by omega)), if_neg z, pc (c_table hC hU), pc (c_older h.ct.k h.ct.D (by omega) (by omega)), pc (c_table hC hU), pc (c_all h.ct.k h.ct.D (by omega)), nI_l (by omega), nI_l (by omega), LM, lN_mul, rq (by rw [L0, pk_lEQ (by omega) (by omega)]; exact z), pk_lDiv (by omega) (by omega) (by omega)]
theorem m_old {T : Tt} {V : Vt} (hT : MT T) {a : St} (h : MR V a) (ok : OK a) {c w : Int32} : Ret (f_X5_old T V 94 c w) fun p => p.1 = rOld a c w ∧ MR p.2 a ∧ mFr V p.2 := by
  have h := h.s0 ok.g (j := 0) (v := 0) (by omega)
  rw [f_X5_old, rq hT.1, sp]
  have f0 : mFr V (uI V 94 0 0) := mF_uI (by omega)
  generalize uI V 94 0 0 = W at h f0 ⊢
  have hV := h.hV
  have g8 := ok.g.n
  rw [pc (m_isCask hT hV ok.g h.mf), rOld]
  simp only [b1_0, f_X5_old_J33]
  cases hc : isKa a.g c with
  | false => exact Ret.ok ⟨rfl, h, f0⟩
  | true =>
    obtain ⟨c', rfl, h1⟩ := isKa_of hc
    have hB := ok.t.a ok.g h1
    rw [if_neg (by decide), if_pos rfl, pc m_inI, ix_nI (by omega), show (0 : Int64).toInt = 0 from rfl, show (19 : Int64).toInt = 19 from rfl]
    simp only [b1_0]
    cases hq : iN w 0 19 with
    | false => exact Ret.ok ⟨rfl, h, f0⟩
    | true =>
      obtain ⟨k, rfl, k1, k2, k3⟩ := iN_of hq (by omega)
      have ho := old_le (D := a.t.D) (c := c') (a := k) (by omega)
      rw [if_neg (by decide), if_pos rfl, pc (m_all hT hV h.mt.D (by omega)), ix_nI k3]
      by_cases z : tAll a.t.D c' = 0
      · rw [if_pos (by rw [z]; rfl), if_pos z]
        exact Ret.ok ⟨rfl, h, f0⟩
      · rw [if_neg (nI_ne0 (by omega) (by omega)), if_neg z, pc (m_older hT hV h.mt.D (by omega) (by omega)), pc (m_all hT hV h.mt.D (by omega)), nI_l (by omega), nI_l (by omega), LM, lN_mul, rq (by rw [L0, pk_lEQ (by omega) (by omega)]; exact z), pk_lDiv (by omega) (by omega) (by omega), Nat.mul_comm]
        exact Ret.ok ⟨rfl, h, f0⟩
