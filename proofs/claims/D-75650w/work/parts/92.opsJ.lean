/-! 92: a row of casks, by the tape -/
set_option maxRecDepth 100000
def okTr (a : St) (k : Nat) : Bool := decide (a.g.n < 8) && (decide (a.tp k ≤ 4) && decide (1 ≤ a.tp (k + 1))) && decide (a.tp (k + 2) ≤ a.tp (k + 1))
def rwS (a : St) : Nat → St × Nat × Nat
  | 0 => (a, 0, 0)
  | i + 1 => if okTr (rwS a i).1 (3 * i) then (addS (rwS a i).1 (a.tp (3 * i)) (a.tp (3 * i + 1)) (a.tp (3 * i + 2)), (rwS a i).2.1 + 1, (rwS a i).2.2) else ((rwS a i).1, (rwS a i).2.1, (rwS a i).2.2 + 1)
theorem rw_tp {a : St} : ∀ i, (rwS a i).1.tp = a.tp := by
  intro i
  induction i with
  | zero => rfl
  | succ i ih =>
    rw [rwS]
    split
    · exact ih
    · exact ih
theorem okTr_of {a : St} {k : Nat} (h : okTr a k = true) : a.g.n < 8 ∧ a.tp k ≤ 4 ∧ 1 ≤ a.tp (k + 1) ∧ a.tp (k + 2) ≤ a.tp (k + 1) := by
  rw [okTr] at h
  simp only [Bool.and_eq_true, decide_eq_true_eq] at h
  omega
theorem rw_ok {a : St} (ok : OK a) : ∀ i, OK ((rwS a i).1.wu (u0 (rwS a i).1.u)) := by
  intro i
  induction i with
  | zero => exact ok.zu
  | succ i ih =>
    rw [rwS]
    split
    · rename_i h
      have h := okTr_of h
      rw [rw_tp] at h
      have h9 := ok.tp (3 * i + 1)
      exact OK.ad ih h.1 (by omega) h.2.2.1 (by omega) h.2.2.2
    · exact ih
theorem rw_c {a : St} : ∀ i, (rwS a i).2.1 ≤ i ∧ (rwS a i).2.2 ≤ i := by
  intro i
  induction i with
  | zero => exact ⟨Nat.le_refl _, Nat.le_refl _⟩
  | succ i ih =>
    rw [rwS]
    split
    · dsimp only
      omega
    · dsimp only
      omega
theorem by8_and : ∀ n, n < 256 → by8 n &&& 255 = nI n := by decide +kernel
theorem isCk_b {t s : Nat} (ht : t < 256) (hs : s < 256) : isCk (by8 t) (nI s) = (decide (t ≤ 4) && decide (1 ≤ s)) := by
  rw [isCk, iN, by8_t ht, iN_nI (by omega)]
  congr 1
  · by_cases q : t ≤ 4
    · rw [decide_eq_true q]
      exact decide_eq_true (by rw [if_pos (by omega)]; omega)
    · rw [decide_eq_false q]
      apply decide_eq_false
      split <;> omega
  · by_cases q : 1 ≤ s
    · rw [decide_eq_true q]
      exact decide_eq_true (by omega)
    · rw [decide_eq_false q]
      exact decide_eq_false (by omega)
theorem isCk_n {t s : Nat} (ht : t < 256) (hs : s < 256) : isCk (nI t) (nI s) = (decide (t ≤ 4) && decide (1 ≤ s)) := by
  rw [isCk, iN_nI (by omega), iN_nI (by omega)]
  congr 1
  · by_cases q : t ≤ 4
    · rw [decide_eq_true q]
      exact decide_eq_true (by omega)
    · rw [decide_eq_false q]
      exact decide_eq_false (by omega)
  · by_cases q : 1 ≤ s
    · rw [decide_eq_true q]
      exact decide_eq_true (by omega)
    · rw [decide_eq_false q]
      exact decide_eq_false (by omega)
theorem c_row_no {T : Tt} {W : Vt} (hC : CT T) {x1 x4 x5 : Int32} {c k l : Nat} (hl : W.1 0 13 = nI l) {kc : Int32 → Int32 → Vt → Option (Int32 × Vt)} {kx : Int32 → Vt → Option (Int32 × Vt)} : f_X0_row_J112 T W 0 x1 (nI c) (nI k) x4 x5 kc kx = kc (nI c) (nI (k + 3)) (uI W 0 13 (nI (l + 1))) := by
  simp (disch := omega) only [f_X0_row_J112, f_X0_row_J113, f_X0_row_J135, f_X0_row_J146, f_X0_row_J163, rq_t, drs, sp, pcs, cls, ↓reduceIte, not_true_eq_false, not_false_eq_true, and_true, true_and, and_false, false_and, or_true, true_or, or_false, false_or, eq_self, l0, l1, l2, l3, l4, l5, l6, l7, l8, l9, l10, l11, l12, l13, l14, l15, l16, l17, l18, l19, l20, l21, l22, l23, l24, l25, l26, l27, l28, l29, l30, l31, l32, l33, l34, l35, l36, l37, l40, l41, l42, l43, l45, l47, l48, l50, l57, l59, l60, l61, l62, l63, l85, l91, l93, l96, l97, l98, l99, l100, l120, l122, l146, l160, l165, l170, l178, l186, l198, l255, l400, l900, l948, l999, l1000, l2475, l2640, l2970, l3990, l9390, l18780, l19000, l999999, l1000000, l100000000, l2147483639, nI_add, pk_mul, ix_nI, leT, leF, ltT, ltF, eqT, eqF, nI_leI, nI_ltI, nI_eq, ngEq, ngEq', ngLt, ngLt', ngLe, ngLe', ngNg, nI_p, pk_sub, Nat.reduceAdd, Nat.reduceMul, Nat.reduceSub, uI1, uI2, uL1, uL2, uL3, uR1, uR2, uR3, rq_eq hC.k0, hl, Nat.add_zero]
theorem c_row_ye {T : Tt} {W : Vt} (hC : CT T) {x1 : Int32} {c k : Nat} {kc : Int32 → Int32 → Vt → Option (Int32 × Vt)} {kx : Int32 → Vt → Option (Int32 × Vt)} : f_X0_row_J135 T W 0 x1 (nI c) (nI k) 1 kc kx = kc (nI (c + 1)) (nI (k + 3)) W := by
  have e : uI W 0 13 (W.1 0 13 + nI 0) = W := uI_id (by rw [nI_0]; exact (Int32.add_zero _).symm)
  simp (disch := omega) only [f_X0_row_J135, f_X0_row_J146, f_X0_row_J163, rq_t, drs, sp, pcs, cls, ↓reduceIte, not_true_eq_false, not_false_eq_true, and_true, true_and, and_false, false_and, or_true, true_or, or_false, false_or, eq_self, l0, l1, l2, l3, l4, l5, l6, l7, l8, l9, l10, l11, l12, l13, l14, l15, l16, l17, l18, l19, l20, l21, l22, l23, l24, l25, l26, l27, l28, l29, l30, l31, l32, l33, l34, l35, l36, l37, l40, l41, l42, l43, l45, l47, l48, l50, l57, l59, l60, l61, l62, l63, l85, l91, l93, l96, l97, l98, l99, l100, l120, l122, l146, l160, l165, l170, l178, l186, l198, l255, l400, l900, l948, l999, l1000, l2475, l2640, l2970, l3990, l9390, l18780, l19000, l999999, l1000000, l100000000, l2147483639, nI_add, pk_mul, ix_nI, leT, leF, ltT, ltF, eqT, eqF, nI_leI, nI_ltI, nI_eq, ngEq, ngEq', ngLt, ngLt', ngLe, ngLe', ngNg, nI_p, pk_sub, Nat.reduceAdd, Nat.reduceMul, Nat.reduceSub, uI1, uI2, uL1, uL2, uL3, uR1, uR2, uR3, rq_eq hC.k0, e]
theorem c_row_L {T : Tt} {V : Vt} {x : HS} {a : St} (ok : OK a) {n lk : Nat} (hn : n ≤ 400) (hl : lk ≤ 1) (h : CR T V x (a.wle (nI lk))) {k : Int32 → Vt → Option (Int32 × Vt)} {R : Int32 × Vt → Prop}
    (hR : ∀ W, CR T W x ((rwS a (n / 3)).1.wle (nI (lk + (rwS a (n / 3)).2.2))) → cFr V W → Ret (k (nI (rwS a (n / 3)).2.1) W) R) : Ret (f_X0_row_L40 T 0 (nI n) k fuel (nI 0) (nI 0) V) R := by
  refine lq3 (f_X0_row_L40 T 0 (nI n) k) (fun i s z W => s = nI (rwS a i).2.1 ∧ z = nI (3 * i) ∧ CR T W x ((rwS a i).1.wle (nI (lk + (rwS a i).2.2))) ∧ cFr V W) (n / 3) ?_ ?_ fuel _ _ _ (Nat.lt_of_le_of_lt (show n / 3 ≤ 400 by omega) (by decide)) ⟨rfl, rfl, h, cFr.rfl'⟩
  · intro i N s z W hi ⟨q1, q2, q3, q4⟩ ih
    subst q1 q2
    have hC := q3.hC
    have hU := q3.hU
    have hc := rw_c (a := a) i
    have t0 : W.1 21 (3 * i) = by8 (a.tp (3 * i)) := by rw [q3.tp _ (by omega)]; exact congrArg by8 (congrFun (rw_tp i) _)
    have t1 : W.1 21 (3 * i + 1) = by8 (a.tp (3 * i + 1)) := by rw [q3.tp _ (by omega)]; exact congrArg by8 (congrFun (rw_tp i) _)
    have t2 : W.1 21 (3 * i + 2) = by8 (a.tp (3 * i + 2)) := by rw [q3.tp _ (by omega)]; exact congrArg by8 (congrFun (rw_tp i) _)
    have b0 := ok.tp (3 * i)
    have b1' := ok.tp (3 * i + 1)
    have b2 := ok.tp (3 * i + 2)
    have a1 := by8_and _ b1'
    have a2 := by8_and _ b2
    rw [l255] at a1 a2
    have n6 : W.1 2 6 = nI (rwS a i).1.g.n := q3.cf.n
    have g8 := (rw_ok ok i).g.n
    have g8 : (rwS a i).1.g.n ≤ 8 := g8
    have l13 : W.1 0 13 = nI (lk + (rwS a i).2.2) := q3.le
    have cc := c_canCask (T := T) (V := W) (ti := by8 (a.tp (3 * i))) (sz := nI (a.tp (3 * i + 1)))
    rw [isCk_b b0 b1'] at cc
    have noK : okTr (rwS a i).1 (3 * i) = false → Ret (f_X0_row_J112 T W 0 (nI n) (nI (rwS a i).2.1) (nI (3 * i)) (nI (a.tp (3 * i + 1))) (nI (a.tp (3 * i + 2))) (f_X0_row_L40 T 0 (nI n) k N) k) R := by
      intro e
      rw [c_row_no hC l13]
      refine ih _ _ _ ⟨?_, rfl, ?_, q4.tr (cF_uI (by omega))⟩
      · rw [rwS, e]
        rfl
      · rw [rwS, e]
        exact q3.s13
    have hTr : okTr (rwS a i).1 (3 * i) = (decide ((rwS a i).1.g.n < 8) && (decide (a.tp (3 * i) ≤ 4) && decide (1 ≤ a.tp (3 * i + 1))) && decide (a.tp (3 * i + 2) ≤ a.tp (3 * i + 1))) := by rw [okTr, rw_tp]
    simp (disch := omega) only [f_X0_row_L40, rq_t, drs, sp, pcs, cls, ↓reduceIte, not_true_eq_false, not_false_eq_true, and_true, true_and, and_false, false_and, or_true, true_or, or_false, false_or, eq_self, l0, l1, l2, l3, l4, l5, l6, l7, l8, l9, l10, l11, l12, l13, l14, l15, l16, l17, l18, l19, l20, l21, l22, l23, l24, l25, l26, l27, l28, l29, l30, l31, l32, l33, l34, l35, l36, l37, l40, l41, l42, l43, l45, l47, l48, l50, l57, l59, l60, l61, l62, l63, l85, l91, l93, l96, l97, l98, l99, l100, l120, l122, l146, l160, l165, l170, l178, l186, l198, l255, l400, l900, l948, l999, l1000, l2475, l2640, l2970, l3990, l9390, l18780, l19000, l999999, l1000000, l100000000, l2147483639, nI_add, pk_mul, ix_nI, leT, leF, ltT, ltF, eqT, eqF, nI_leI, nI_ltI, nI_eq, ngEq, ngEq', ngLt, ngLt', ngLe, ngLe', ngNg, nI_p, pk_sub, Nat.reduceAdd, Nat.reduceMul, Nat.reduceSub, uI1, uI2, uL1, uL2, uL3, uR1, uR2, uR3, rq_eq hC.k0, rq_eq hC.k2, rq_eq hC.k3, rq_eq hC.k8, rq_eq hC.k10, rq_eq hC.k17, rq_eq hC.k19, rq_eq hC.k22, rq_eq hC.k23, rq_eq hC.k28, cq1 hC, cq4 hC, cq5 hC, cq6 hC, cq7 hC, cq12 hC, cq13 hC, cq14 hC, cq15 hC, cq16 hC, cq18 hC, cq20 hC, cq21 hC, cq24 hC, cq25 hC, cq26 hC, cq27 hC, cq29 hC, hU.r0_1, hU.r0_2, hU.r0_3, hU.r0_4, hU.r0_5, hU.r0_6, hU.r0_7, hU.r0_8, hU.r0_9, hU.r0_10, hU.r0_16, hU.r0_17, hU.r0_18, hU.r0_22, hU.r0_23, hU.r2_0, hU.r2_1, hU.r2_2, hU.r2_3, hU.r2_4, hU.r2_5, hU.r3_0, hU.r17_0, hU.r19_0, hU.r28_0, hU.r22_0, hU.r22_1, t1, t2, a1, a2, n6, t0, cc]
    by_cases c1 : 8 ≤ (rwS a i).1.g.n
    · rw [if_pos c1]
      exact noK (by rw [hTr, decide_eq_false (by omega)]; rfl)
    rw [if_neg c1]
    by_cases c2 : (decide (a.tp (3 * i) ≤ 4) && decide (1 ≤ a.tp (3 * i + 1))) = true
    · rw [c2, if_neg (by decide)]
      have c3 := c2
      rw [Bool.and_eq_true, decide_eq_true_eq, decide_eq_true_eq] at c3
      by_cases c4 : a.tp (3 * i + 1) < a.tp (3 * i + 2)
      · rw [if_pos c4]
        exact noK (by rw [hTr, decide_eq_false (show ¬ a.tp (3 * i + 2) ≤ a.tp (3 * i + 1) by omega), Bool.and_false])
      · rw [if_neg c4, f_X0_row_J113, if_neg (by decide), dr hU.r0_10, cq21 hC (by omega), ix_nI (by omega), t0]
        have e0 : by8 (a.tp (3 * i)) = nI (a.tp (3 * i)) := by rw [by8, if_pos (by omega)]
        have hy : okTr (rwS a i).1 (3 * i) = true := by rw [hTr, c2, decide_eq_true (show (rwS a i).1.g.n < 8 by omega), decide_eq_true (show a.tp (3 * i + 2) ≤ a.tp (3 * i + 1) by omega)]; rfl
        rw [e0]
        refine Ret.c (c_adds q3 (by show (rwS a i).1.g.n < 8; omega)) ?_
        intro z U ⟨_, u1, u2⟩
        dsimp only at u1 u2
        rw [← l1, c_row_ye hC]
        refine ih _ _ _ ⟨?_, rfl, ?_, q4.tr u2⟩
        · rw [rwS, if_pos hy]
        · rw [rwS, if_pos hy]
          exact u1
    · have c2' : (decide (a.tp (3 * i) ≤ 4) && decide (1 ≤ a.tp (3 * i + 1))) = false := by simpa using c2
      rw [c2', if_pos (by decide)]
      exact noK (by rw [hTr, c2', Bool.and_false, Bool.false_and])
  · intro N s z W ⟨q1, q2, q3, q4⟩
    subst q1 q2
    simp (disch := omega) only [f_X0_row_L40, rq_t, drs, sp, pcs, cls, ↓reduceIte, not_true_eq_false, not_false_eq_true, and_true, true_and, and_false, false_and, or_true, true_or, or_false, false_or, eq_self, l0, l1, l2, l3, l4, l5, l6, l7, l8, l9, l10, l11, l12, l13, l14, l15, l16, l17, l18, l19, l20, l21, l22, l23, l24, l25, l26, l27, l28, l29, l30, l31, l32, l33, l34, l35, l36, l37, l40, l41, l42, l43, l45, l47, l48, l50, l57, l59, l60, l61, l62, l63, l85, l91, l93, l96, l97, l98, l99, l100, l120, l122, l146, l160, l165, l170, l178, l186, l198, l255, l400, l900, l948, l999, l1000, l2475, l2640, l2970, l3990, l9390, l18780, l19000, l999999, l1000000, l100000000, l2147483639, nI_add, pk_mul, ix_nI, leT, leF, ltT, ltF, eqT, eqF, nI_leI, nI_ltI, nI_eq, ngEq, ngEq', ngLt, ngLt', ngLe, ngLe', ngNg, nI_p, pk_sub, Nat.reduceAdd, Nat.reduceMul, Nat.reduceSub, uI1, uI2, uL1, uL2, uL3, uR1, uR2, uR3]
    exact hR W q3 q4
def oRow (a : St) : St := if a.tn = 0 then (a.wtn 0).ref 6 else ((rwS (a.wtn 0) (a.tn / 3)).1.wle (nI ((if a.tn % 3 = 0 then 0 else 1) + (rwS (a.wtn 0) (a.tn / 3)).2.2))).set
def rRow (a : St) : Int32 := if a.tn = 0 then -nI 6 else nI (rwS (a.wtn 0) (a.tn / 3)).2.1
theorem OK.wtn {a : St} (ok : OK a) {n : Nat} (h : n ≤ 400) : OK (a.wtn n) := OK.mk ⟨ok.g, ok.t, ok.y, ok.u, ok.ul, ok.im, h, ok.tp, ok.dm⟩
theorem c_row {T : Tt} {V : Vt} {x : HS} {a : St} (h : CR T V x a) (ok : OK a) : cOp (f_X0_row T V 0) T V (rRow a) (oRow a) := by
  have hn := ok.tn
  have hC := h.hC
  have h1 := h.s11 (n := 0)
  rw [f_X0_row, rq hC.k0, sp, sp, h.tn, rRow, oRow]
  refine cOp.fr (W := uI V 0 11 0) (cF_uI (by omega)) ?_
  rw [show uI V 0 11 0 = uI V 0 11 (nI 0) from rfl]
  generalize uI V 0 11 (nI 0) = V at h1 ⊢
  by_cases q : a.tn = 0
  · rw [if_pos (by rw [q]; rfl), if_pos q, if_pos q, cal_id]
    exact c_refuse (w := 6) h1 (by omega) (by omega)
  · rw [if_neg (nI_ne0 (by omega) (by omega)), if_neg q, if_neg q, l3, pk_rem (by omega) (by omega) (by omega)]
    have key : ∀ lk, lk ≤ 1 → cOp (f_X0_row_J35 T V 0 (nI a.tn) (nI 0) 0 (nI lk)) T V (nI (rwS (a.wtn 0) (a.tn / 3)).2.1) ((rwS (a.wtn 0) (a.tn / 3)).1.wle (nI (lk + (rwS (a.wtn 0) (a.tn / 3)).2.2))).set := by
      intro lk hl
      rw [f_X0_row_J35, rq hC.k0, sp]
      refine cOp.fr (W := uI V 0 13 (nI lk)) (cF_uI (by omega)) ?_
      refine c_row_L (ok.wtn (n := 0) (by omega)) hn hl h1.s13 fun W h2 f => ?_
      rw [cal_id]
      exact (c_settles h2).fr f
    by_cases m : a.tn % 3 = 0
    · rw [if_pos (by rw [m]; rfl), if_pos m]
      exact key 0 (by omega)
    · rw [if_neg (nI_ne0 (by omega) (by omega)), if_neg m]
      exact key 1 (by omega)
theorem MR.fil {W : Vt} {b : St} (g8 : b.g.n < 8) {t s f : Nat} (og : okG (addS b t s 0).g) (h : MR W (addS b t s 0)) : MR (uI W 96 (10 + 20 * b.g.n) (nI (1000 * f))) (addS b t s f) := by
  have e : ∀ c k, ¬ (c = 96 ∧ k = 10 + 20 * b.g.n) → (uI W 96 (10 + 20 * b.g.n) (nI (1000 * f))).1 c k = W.1 c k := fun c k q => by rw [uI1, if_neg q]
  have mf' : mCf (uI W 96 (10 + 20 * b.g.n) (nI (1000 * f))) (addS b t s f).g := h.mf.fr og fun j q1 q2 q3 => e _ _ (by omega)
  refine h.up (b := addS b t s f) rfl (fun c j q => e _ _ (by omega)) (fun _ _ _ => rfl) rfl mf' ⟨fun k hk => ?_, (e _ _ (by omega)).trans h.mt.b, (e _ _ (by omega)).trans h.mt.y⟩ (h.mu.fr (fun c j q => e _ _ (by omega))) ((e _ _ (by omega)).trans h.st) (fun i hi => (e _ _ (by omega)).trans (h.rf i hi)) ((e _ _ (by omega)).trans h.od) ((e _ _ (by omega)).trans h.tn) (fun i hi => (e _ _ (by omega)).trans (h.tp i hi)) ((e _ _ (by omega)).trans h.fa) ((e _ _ (by omega)).trans h.le) ((e _ _ (by omega)).trans h.so) ((e _ _ (by omega)).trans h.dm) (fun i hi q => (e _ _ (by omega)).trans (h.dd i hi q))
  show _ = nI (pA b.t.D b.g.n 20 (fun i => if i = 0 then 1000 * f else 0) k)
  by_cases q : k = 20 * b.g.n
  · rw [uI1, if_pos ⟨rfl, by omega⟩, q]
    exact congrArg nI (pA_in (D := b.t.D) (c := b.g.n) (i := 20) (g := fun i => if i = 0 then 1000 * f else 0) (a := 0) (by omega)).symm
  · rw [e _ _ (by omega)]
    have hd : W.1 96 (10 + k) = nI (pA b.t.D b.g.n 20 (fun i => if i = 0 then 1000 * 0 else 0) k) := h.mt.D k hk
    rw [hd]
    congr 1
    by_cases w : 20 * b.g.n ≤ k ∧ k < 20 * b.g.n + 20
    · obtain ⟨i, rfl⟩ : ∃ i, k = 20 * b.g.n + i := ⟨k - 20 * b.g.n, by omega⟩
      rw [pA_in (by omega), pA_in (by omega), if_neg (by omega), if_neg (by omega)]
    · rw [pA_out (by omega), pA_out (by omega)]
theorem m_row_no {T : Tt} {W : Vt} {x1 : Int32} {c k l : Nat} (hl : W.1 94 11 = nI l) {v : Int32} (hv : v < 0) {kc : Int32 → Int32 → Vt → Option (Int32 × Vt)} {kx : Int32 → Vt → Option (Int32 × Vt)} : f_X5_row_J88 T W 94 x1 (nI c) (nI k) v kc kx = kc (nI c) (nI (k + 3)) (uI W 94 11 (nI (l + 1))) := by
  rw [f_X5_row_J88, if_pos hv, sp, f_X5_row_J136, hl, l1, l3, nI_add, nI_add, sp]
theorem m_row_L {T : Tt} {V : Vt} (hT : MT T) {a : St} (ok : OK a) {n : Nat} (hn : n ≤ 400) (h : MR V (a.wle (nI 0))) {k : Int32 → Vt → Option (Int32 × Vt)} {R : Int32 × Vt → Prop}
    (hR : ∀ W, MR W ((rwS a (n / 3)).1.wle (nI ((if n % 3 = 0 then 0 else 1) + (rwS a (n / 3)).2.2))) → mFr V W → Ret (k (nI (rwS a (n / 3)).2.1) W) R) : Ret (f_X5_row_L35 T 94 (nI n) k fuel (nI 0) (nI 0) V) R := by
  refine lq3 (f_X5_row_L35 T 94 (nI n) k) (fun i s z W => z = nI (3 * i) ∧ mFr V W ∧ if i ≤ n / 3 then s = nI (rwS a i).2.1 ∧ MR W ((rwS a i).1.wle (nI (rwS a i).2.2)) else s = nI (rwS a (n / 3)).2.1 ∧ MR W ((rwS a (n / 3)).1.wle (nI ((rwS a (n / 3)).2.2 + 1)))) ((n + 2) / 3) ?_ ?_ fuel _ _ _ (Nat.lt_of_le_of_lt (show (n + 2) / 3 ≤ 400 by omega) (by decide)) ⟨rfl, mFr.rfl', by rw [if_pos (by omega)]; exact ⟨rfl, h⟩⟩
  · intro i N s z W hi0 ⟨q2, q4, q13⟩ ih0
    rw [if_pos (by omega)] at q13
    obtain ⟨q1, q3⟩ := q13
    subst q1 q2
    by_cases hi : ¬ i < n / 3
    · have ei : i = n / 3 := by omega
      have ok2 := rw_ok ok (n / 3)
      rw [f_X5_row_L35, if_neg (nI_ge (by omega) (by omega)), l2, nI_add, if_pos (nI_le (by omega) (by omega)), f_X5_row_J87, m_row_no q3.le (by decide)]
      refine ih0 _ _ _ ⟨rfl, q4.tr (mF_uI (by omega)), ?_⟩
      rw [if_neg (by omega), ei]
      rw [ei] at q3
      exact ⟨rfl, q3.s11 ok2.g⟩
    have hi : i < n / 3 := by omega
    have ih : ∀ (s z : Int32) (W : Vt), s = nI (rwS a (i + 1)).2.1 ∧ z = nI (3 * (i + 1)) ∧ MR W ((rwS a (i + 1)).1.wle (nI (rwS a (i + 1)).2.2)) ∧ mFr V W → Ret (f_X5_row_L35 T 94 (nI n) k N s z W) R := fun s z W ⟨w1, w2, w3, w4⟩ => ih0 s z W ⟨w2, w4, by rw [if_pos (by omega)]; exact ⟨w1, w3⟩⟩
    have hV := q3.hV
    have hc := rw_c (a := a) i
    have t0 : W.1 103 (3 * i) = nI (a.tp (3 * i)) := by rw [q3.tp _ (by omega)]; exact congrArg nI (congrFun (rw_tp i) _)
    have t1 : W.1 103 (3 * i + 1) = nI (a.tp (3 * i + 1)) := by rw [q3.tp _ (by omega)]; exact congrArg nI (congrFun (rw_tp i) _)
    have t2 : W.1 103 (3 * i + 2) = nI (a.tp (3 * i + 2)) := by rw [q3.tp _ (by omega)]; exact congrArg nI (congrFun (rw_tp i) _)
    have b0 := ok.tp (3 * i)
    have b1' := ok.tp (3 * i + 1)
    have b2 := ok.tp (3 * i + 2)
    have ok2 := rw_ok ok i
    have g8 : (rwS a i).1.g.n ≤ 8 := ok2.g.n
    have hTr : okTr (rwS a i).1 (3 * i) = (decide ((rwS a i).1.g.n < 8) && (decide (a.tp (3 * i) ≤ 4) && decide (1 ≤ a.tp (3 * i + 1))) && decide (a.tp (3 * i + 2) ≤ a.tp (3 * i + 1))) := by rw [okTr, rw_tp]
    have noK : ∀ U v, v < 0 → MR U ((rwS a i).1.wle (nI (rwS a i).2.2)) → mFr W U → okTr (rwS a i).1 (3 * i) = false → Ret (f_X5_row_J88 T U 94 (nI n) (nI (rwS a i).2.1) (nI (3 * i)) v (f_X5_row_L35 T 94 (nI n) k N) k) R := by
      intro U v hv hU hF e
      rw [m_row_no hU.le hv]
      refine ih _ _ _ ⟨?_, rfl, ?_, (q4.tr hF).tr (mF_uI (by omega))⟩
      · rw [rwS, e]
        rfl
      · rw [rwS, e]
        exact hU.s11 ok2.g
    simp (disch := omega) only [f_X5_row_L35, rq_t, drs, sp, pcs, cls, ↓reduceIte, not_true_eq_false, not_false_eq_true, and_true, true_and, and_false, false_and, or_true, true_or, or_false, false_or, eq_self, l0, l1, l2, l3, l4, l5, l6, l7, l8, l9, l10, l11, l12, l13, l14, l15, l16, l17, l18, l19, l20, l21, l22, l23, l24, l25, l26, l27, l28, l29, l30, l31, l32, l33, l34, l35, l36, l37, l40, l41, l42, l43, l45, l47, l48, l50, l57, l59, l60, l61, l62, l63, l85, l91, l93, l96, l97, l98, l99, l100, l120, l122, l146, l160, l165, l170, l178, l186, l198, l255, l400, l900, l948, l999, l1000, l2475, l2640, l2970, l3990, l9390, l18780, l19000, l999999, l1000000, l100000000, l2147483639, nI_add, pk_mul, ix_nI, leT, leF, ltT, ltF, eqT, eqF, nI_leI, nI_ltI, nI_eq, ngEq, ngEq', ngLt, ngLt', ngLe, ngLe', ngNg, nI_p, pk_sub, Nat.reduceAdd, Nat.reduceMul, Nat.reduceSub, uI1, uI2, uL1, uL2, uL3, uR1, uR2, uR3, rq_eq (MT0 hT), rq95 hT, rf2 hV, rq96 hT, rf3 hV, rq97 hT, rf4 hV, rq98 hT, rf5 hV, rq99 hT, rf6 hV, rq100 hT, rf7 hV, rq101 hT, rf9 hV, rq102 hT, rf10 hV, rq103 hT, rf12 hV, rq104 hT, rf22 hV, rq105 hT, rf24 hV, rq106 hT, rf25 hV, rq107 hT, rf27 hV, rq108 hT, rf28 hV, rq109 hT, rf31 hV, rq110 hT, rf32 hV, rq111 hT, rf33 hV, rq112 hT, rf35 hV, rq113 hT, rf36 hV, rq114 hT, rf37 hV, rq115 hT, rf41 hV, rq116 hT, rf44 hV, rq117 hT, rf45 hV, rq118 hT, rf51 hV, rq119 hT, rf53 hV, t0, t1, t2]
    by_cases c4 : a.tp (3 * i + 1) < a.tp (3 * i + 2)
    · rw [if_pos c4, f_X5_row_J87]
      exact noK W _ (by decide) q3 mFr.rfl' (by rw [hTr, decide_eq_false (show ¬ a.tp (3 * i + 2) ≤ a.tp (3 * i + 1) by omega), Bool.and_false])
    rw [if_neg c4]
    refine Ret.c (m_comes hT q3 ok2.g) ?_
    intro z U ⟨e, u1, u2⟩
    dsimp only at e u1 u2
    subst e
    rw [isCk_n b0 b1'] at u1
    rw [rCask, isCk_n b0 b1']
    by_cases c2 : (decide (a.tp (3 * i) ≤ 4) && decide (1 ≤ a.tp (3 * i + 1))) = true
    · rw [if_pos c2] at u1
      rw [if_pos c2]
      have c3 := c2
      rw [Bool.and_eq_true, decide_eq_true_eq, decide_eq_true_eq] at c3
      by_cases c5 : (rwS a i).1.g.n = 8
      · rw [if_pos (show ((rwS a i).1.wle (nI (rwS a i).2.2)).g.n = 8 from c5)] at u1
        rw [if_pos (show ((rwS a i).1.wle (nI (rwS a i).2.2)).g.n = 8 from c5)]
        exact noK U _ (by decide) u1 u2 (by rw [hTr, decide_eq_false (by omega)]; rfl)
      · rw [if_neg (show ¬ ((rwS a i).1.wle (nI (rwS a i).2.2)).g.n = 8 from c5), ix_nI (by omega), ix_nI (by omega)] at u1
        rw [if_neg (show ¬ ((rwS a i).1.wle (nI (rwS a i).2.2)).g.n = 8 from c5)]
        have hy : okTr (rwS a i).1 (3 * i) = true := by rw [hTr, c2, decide_eq_true (show (rwS a i).1.g.n < 8 by omega), decide_eq_true (show a.tp (3 * i + 2) ≤ a.tp (3 * i + 1) by omega)]; rfl
        have hV2 := u1.hV
        have t2' : U.1 103 (3 * i + 2) = nI (a.tp (3 * i + 2)) := by rw [u1.tp _ (by omega)]; exact congrArg nI (congrFun (rw_tp i) _)
        have hV := hV2
        show Ret (f_X5_row_J88 T U 94 (nI n) (nI (rwS a i).2.1) (nI (3 * i)) (nI (rwS a i).1.g.n) (f_X5_row_L35 T 94 (nI n) k N) k) R
        rw [f_X5_row_J88, if_neg (nI_pos (by omega))]
        simp (disch := omega) only [rq_t, drs, sp, pcs, cls, ↓reduceIte, not_true_eq_false, not_false_eq_true, and_true, true_and, and_false, false_and, or_true, true_or, or_false, false_or, eq_self, l0, l1, l2, l3, l4, l5, l6, l7, l8, l9, l10, l11, l12, l13, l14, l15, l16, l17, l18, l19, l20, l21, l22, l23, l24, l25, l26, l27, l28, l29, l30, l31, l32, l33, l34, l35, l36, l37, l40, l41, l42, l43, l45, l47, l48, l50, l57, l59, l60, l61, l62, l63, l85, l91, l93, l96, l97, l98, l99, l100, l120, l122, l146, l160, l165, l170, l178, l186, l198, l255, l400, l900, l948, l999, l1000, l2475, l2640, l2970, l3990, l9390, l18780, l19000, l999999, l1000000, l100000000, l2147483639, nI_add, pk_mul, ix_nI, leT, leF, ltT, ltF, eqT, eqF, nI_leI, nI_ltI, nI_eq, ngEq, ngEq', ngLt, ngLt', ngLe, ngLe', ngNg, nI_p, pk_sub, Nat.reduceAdd, Nat.reduceMul, Nat.reduceSub, uI1, uI2, uL1, uL2, uL3, uR1, uR2, uR3, rq_eq (MT0 hT), rq95 hT, rf2 hV, rq96 hT, rf3 hV, rq97 hT, rf4 hV, rq98 hT, rf5 hV, rq99 hT, rf6 hV, rq100 hT, rf7 hV, rq101 hT, rf9 hV, rq102 hT, rf10 hV, rq103 hT, rf12 hV, rq104 hT, rf22 hV, rq105 hT, rf24 hV, rq106 hT, rf25 hV, rq107 hT, rf27 hV, rq108 hT, rf28 hV, rq109 hT, rf31 hV, rq110 hT, rf32 hV, rq111 hT, rf33 hV, rq112 hT, rf35 hV, rq113 hT, rf36 hV, rq114 hT, rf37 hV, rq115 hT, rf41 hV, rq116 hT, rf44 hV, rq117 hT, rf45 hV, rq118 hT, rf51 hV, rq119 hT, rf53 hV, t2', f_X5_row_J136]
        have og2 : okG (addS ((rwS a i).1.wle (nI (rwS a i).2.2)) (a.tp (3 * i)) (a.tp (3 * i + 1)) 0).g := okG.ad ok2.g (by show (rwS a i).1.g.n < 8; omega) (by omega) c3.2 (by omega)
        have h5 := MR.fil (f := a.tp (3 * i + 2)) (b := (rwS a i).1.wle (nI (rwS a i).2.2)) (by show (rwS a i).1.g.n < 8; omega) og2 u1
        refine ih _ _ _ ⟨?_, rfl, ?_, (q4.tr u2).tr (mF_uI (by omega))⟩
        · rw [rwS, if_pos hy]
        · rw [rwS, if_pos hy]
          exact h5
    · have c2' : (decide (a.tp (3 * i) ≤ 4) && decide (1 ≤ a.tp (3 * i + 1))) = false := by simpa using c2
      rw [if_neg c2] at u1
      rw [if_neg c2]
      exact noK U _ (by decide) u1 u2 (by rw [hTr, c2', Bool.and_false, Bool.false_and])
  · intro N s z W ⟨q2, q4, q13⟩
    subst q2
    rw [f_X5_row_L35, if_pos (nI_le (by omega) (by omega))]
    by_cases m : n % 3 = 0
    · rw [if_pos (by omega), show (n + 2) / 3 = n / 3 by omega] at q13
      rw [if_pos m, Nat.zero_add] at hR
      rw [q13.1]
      exact hR W q13.2 q4
    · rw [if_neg (by omega)] at q13
      rw [if_neg m, Nat.add_comm] at hR
      rw [q13.1]
      exact hR W q13.2 q4
theorem m_row {T : Tt} {V : Vt} (hT : MT T) {a : St} (h : MR V a) (ok : OK a) : mOp (f_X5_row T V 94) V (rRow a) (oRow a) := by
  have hn := ok.tn
  have h := h.s0 ok.g (j := 0) (v := 0) (by omega)
  rw [f_X5_row, rq hT.1, sp, sp, sp]
  refine mOp.fr (W := uI V 94 0 0) (mF_uI (by omega)) ?_
  generalize uI V 94 0 0 = V at h ⊢
  have h1 := h.s13 ok.g (n := 0)
  rw [h.tn, rRow, oRow]
  refine mOp.fr (W := uI V 94 13 0) (mF_uI (by omega)) ?_
  rw [show uI V 94 13 0 = uI V 94 13 (nI 0) from rfl]
  generalize uI V 94 13 (nI 0) = V at h1 ⊢
  by_cases q : a.tn = 0
  · rw [if_pos (by rw [q]; rfl), if_pos q, if_pos q, cal_id]
    exact m_tellNo (w := 6) hT h1 ok.g (by omega) (by omega)
  · rw [if_neg (nI_ne0 (by omega) (by omega)), if_neg q, if_neg q, sp]
    refine mOp.fr (W := uI V 94 11 0) (mF_uI (by omega)) ?_
    have hc := rw_c (a := a.wtn 0) (a.tn / 3)
    have ok2 := rw_ok (ok.wtn (n := 0) (by omega)) (a.tn / 3)
    refine m_row_L hT (ok.wtn (n := 0) (by omega)) hn (h1.s11 ok.g) fun W h2 f => ?_
    rw [cal_id]
    exact (m_lasting hT h2 ok2.g (nI_0le (by omega))).fr f
