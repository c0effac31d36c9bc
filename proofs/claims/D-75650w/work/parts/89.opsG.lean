/-! 89: drawn, compare -/
set_option maxRecDepth 100000
def isDr (a : St) (c : Int32) : Bool := match a.dm with
  | none => false
  | some m => iN c 0 ((m : Int) - 1)
def rDrawn (a : St) (c w : Int32) : Int32 := if isDr a c then (if iN w 0 1 then (if w = 0 then nI (tAll a.dd (ixN c)) else tMean a.dd (ixN c)) else -nI 1) else -nI 1
theorem isDr_of {a : St} {c : Int32} (h : isDr a c = true) : ∃ m c' : Nat, a.dm = some m ∧ c = nI c' ∧ c' < m := by
  rw [isDr] at h
  cases hm : a.dm with
  | none => rw [hm] at h; cases h
  | some m =>
    rw [hm] at h
    obtain ⟨n, e, -, h2, -⟩ := iN_of h (by omega)
    exact ⟨m, n, rfl, e, by omega⟩
theorem isDr_s {a : St} {m : Nat} (hm : a.dm = some m) {c : Int32} : isDr a c = iN c 0 ((m : Int) - 1) := by rw [isDr, hm]
theorem isDr_n {a : St} (hm : a.dm = none) {c : Int32} : isDr a c = false := by rw [isDr, hm]
theorem c_drawn {T : Tt} {V : Vt} {x : HS} {a : St} (h : CR T V x a) (ok : OK a) {c w : Int32} : f_X0_drawn T V 0 c w = some (rDrawn a c w) := by
  have hC := h.hC
  have hU := h.hU
  have hdm := h.dm
  rw [f_X0_drawn, rq hC.k0, rDrawn]
  cases hm : a.dm with
  | none =>
    rw [hm] at hdm
    rw [hdm, isDr_n hm]
    rfl
  | some m =>
    rw [hm] at hdm
    have hdm : V.1 0 24 = nI m := hdm
    rw [hdm, isDr_s hm]
    have hd := ok.dm m hm
    have hdd := fun i hi => h.dd i hi (by rw [hm]; exact fun q => nomatch q)
    have n1 : ¬ nI m = -1 := fun e => by
      have e2 := congrArg Int32.toInt e
      rw [nI_toInt (by omega), m1T] at e2
      omega
    rw [if_neg n1, pc c_in, sub1T (by omega), show (0 : Int32).toInt = 0 from rfl]
    simp only [b1_0]
    cases hc : iN c 0 ((m : Int) - 1) with
    | false => rfl
    | true =>
      obtain ⟨c', rfl, -, c2, c3⟩ := iN_of hc (by omega)
      have hB := hd.2 c' (by omega)
      have k1 : isTb T V 28 29 := ⟨hC.k28, hU.r28_0, hC.k29, hC.n29⟩
      rw [if_neg (by decide), if_pos rfl, pc c_in, show (0 : Int32).toInt = 0 from rfl, show (1 : Int32).toInt = 1 from rfl, ix_nI c3]
      simp only [b1_0]
      cases hw : iN w 0 1 with
      | false => rfl
      | true =>
        rw [if_neg (by decide), if_pos rfl]
        by_cases w0 : w = 0
        · rw [if_pos w0, if_pos w0, dr hU.r0_23, pc (c_all k1 hdd (by omega))]
        · rw [if_neg w0, if_neg w0, dr hU.r0_23, pc (c_mean k1 hdd (by omega) (by omega))]
theorem m_drawn_L {T : Tt} {V : Vt} (hT : MT T) (hV : MV V) {D : Nat → Nat} (hD : ∀ i, i < 160 → V.1 119 i = nI (D i)) {c : Nat} (hc : c < 8) (hB : tAll D c ≤ 999000) {w : Int32} {k : Int32 → Int64 → Option (Int32 × Vt)} : f_X5_drawn_L41 T V 94 (nI c) w k fuel (nI 0) 0 (nI 0) = k (nI (tAll D c)) (lN (sg 20 fun a => 1000 * a * D (20 * c + a))) := by
  refine lp (fun n (p : Int32 × Int64 × Int32) => f_X5_drawn_L41 T V 94 (nI c) w k n p.1 p.2.1 p.2.2) (fun i => (nI (sg i fun a => D (20 * c + a)), lN (sg i fun a => 1000 * a * D (20 * c + a)), nI i)) 20 ?_ ?_ _ (by decide)
  · intro i n hi
    have hi2 : D (20 * c + i) ≤ tAll D c := sg_one (f := fun a => D (20 * c + a)) hi
    have hd := hD (20 * c + i) (by omega)
    simp (disch := omega) only [f_X5_drawn_L41, rq_t, drs, sp, pcs, cls, ↓reduceIte, not_true_eq_false, not_false_eq_true, and_true, true_and, and_false, false_and, or_true, true_or, or_false, false_or, eq_self, l0, l1, l2, l3, l4, l5, l6, l7, l8, l9, l10, l11, l12, l13, l14, l15, l16, l17, l18, l19, l20, l21, l22, l23, l24, l25, l26, l27, l28, l29, l30, l31, l32, l33, l34, l35, l36, l37, l40, l41, l42, l43, l45, l47, l48, l50, l57, l59, l60, l61, l62, l63, l85, l91, l93, l96, l97, l98, l99, l100, l120, l122, l146, l160, l165, l170, l178, l186, l198, l255, l400, l900, l948, l999, l1000, l2475, l2640, l2970, l3990, l9390, l18780, l19000, l999999, l1000000, l100000000, l2147483639, nI_add, pk_mul, ix_nI, leT, leF, ltT, ltF, eqT, eqF, nI_leI, nI_ltI, nI_eq, ngEq, ngEq', ngLt, ngLt', ngLe, ngLe', ngNg, nI_p, pk_sub, Nat.reduceAdd, Nat.reduceMul, Nat.reduceSub, uI1, uI2, uL1, uL2, uL3, uR1, uR2, uR3, rq_eq (MT0 hT), rq95 hT, rf2 hV, rq96 hT, rf3 hV, rq97 hT, rf4 hV, rq98 hT, rf5 hV, rq99 hT, rf6 hV, rq100 hT, rf7 hV, rq101 hT, rf9 hV, rq102 hT, rf10 hV, rq103 hT, rf12 hV, rq104 hT, rf22 hV, rq105 hT, rf24 hV, rq106 hT, rf25 hV, rq107 hT, rf27 hV, rq108 hT, rf28 hV, rq109 hT, rf31 hV, rq110 hT, rf32 hV, rq111 hT, rf33 hV, rq112 hT, rf35 hV, rq113 hT, rf36 hV, rq114 hT, rf37 hV, rq115 hT, rf41 hV, rq116 hT, rf44 hV, rq117 hT, rf45 hV, rq118 hT, rf51 hV, rq119 hT, rf53 hV, lN_add, lN_mul, lN_i, nI_l, L0, L1, L10, L100, L1000, LM, hd]
    rfl
  · intro n
    simp (disch := omega) only [f_X5_drawn_L41, rq_t, drs, sp, pcs, cls, ↓reduceIte, not_true_eq_false, not_false_eq_true, and_true, true_and, and_false, false_and, or_true, true_or, or_false, false_or, eq_self, l0, l1, l2, l3, l4, l5, l6, l7, l8, l9, l10, l11, l12, l13, l14, l15, l16, l17, l18, l19, l20, l21, l22, l23, l24, l25, l26, l27, l28, l29, l30, l31, l32, l33, l34, l35, l36, l37, l40, l41, l42, l43, l45, l47, l48, l50, l57, l59, l60, l61, l62, l63, l85, l91, l93, l96, l97, l98, l99, l100, l120, l122, l146, l160, l165, l170, l178, l186, l198, l255, l400, l900, l948, l999, l1000, l2475, l2640, l2970, l3990, l9390, l18780, l19000, l999999, l1000000, l100000000, l2147483639, nI_add, pk_mul, ix_nI, leT, leF, ltT, ltF, eqT, eqF, nI_leI, nI_ltI, nI_eq, ngEq, ngEq', ngLt, ngLt', ngLe, ngLe', ngNg, nI_p, pk_sub, Nat.reduceAdd, Nat.reduceMul, Nat.reduceSub, uI1, uI2, uL1, uL2, uL3, uR1, uR2, uR3, rq_eq (MT0 hT), rq95 hT, rf2 hV, rq96 hT, rf3 hV, rq97 hT, rf4 hV, rq98 hT, rf5 hV, rq99 hT, rf6 hV, rq100 hT, rf7 hV, rq101 hT, rf9 hV, rq102 hT, rf10 hV, rq103 hT, rf12 hV, rq104 hT, rf22 hV, rq105 hT, rf24 hV, rq106 hT, rf25 hV, rq107 hT, rf27 hV, rq108 hT, rf28 hV, rq109 hT, rf31 hV, rq110 hT, rf32 hV, rq111 hT, rf33 hV, rq112 hT, rf35 hV, rq113 hT, rf36 hV, rq114 hT, rf37 hV, rq115 hT, rf41 hV, rq116 hT, rf44 hV, rq117 hT, rf45 hV, rq118 hT, rf51 hV, rq119 hT, rf53 hV]
    rfl
theorem m_drawn {T : Tt} {V : Vt} (hT : MT T) {a : St} (h : MR V a) (ok : OK a) {c w : Int32} : mOp (f_X5_drawn T V 94 c w) V (rDrawn a c w) a := by
  have h := h.s0 ok.g (j := 0) (v := 0) (by omega)
  rw [f_X5_drawn, rq hT.1, sp]
  refine mOp.fr (W := uI V 94 0 0) (mF_uI (by omega)) ?_
  generalize uI V 94 0 0 = V at h ⊢
  have hV := h.hV
  have hdm := h.dm
  rw [rDrawn]
  cases hm : a.dm with
  | none =>
    rw [hm] at hdm
    have hdm : V.1 94 54 = -nI 1 := hdm
    rw [isDr_n hm, hdm, pc m_inI, iN, show (0 : Int64).toInt = 0 from rfl, show ((-nI 1 : Int32).toInt64 - 1).toInt = -2 by decide, decide_eq_false (by omega)]
    exact mOp.k h
  | some m =>
    have hd := ok.dm m hm
    have hdd := fun i hi => h.dd i hi (by rw [hm]; exact fun q => nomatch q)
    rw [hm] at hdm
    have hdm : V.1 94 54 = nI m := hdm
    rw [isDr_s hm, hdm, nI_l (by omega), pc m_inI, sub1L (by omega), show (0 : Int64).toInt = 0 from rfl]
    simp only [b1_0]
    cases hc : iN c 0 ((m : Int) - 1) with
    | false => exact mOp.k h
    | true =>
      obtain ⟨c', rfl, -, c2, c3⟩ := iN_of hc (by omega)
      have hB := hd.2 c' (by omega)
      rw [if_neg (by decide), if_pos rfl, pc m_inI, show (0 : Int64).toInt = 0 from rfl, show (1 : Int64).toInt = 1 from rfl, ix_nI c3]
      simp only [b1_0]
      cases hw : iN w 0 1 with
      | false => exact mOp.k h
      | true =>
        rw [if_neg (by decide), if_pos rfl]
        have hL := m_drawn_L hT hV hdd (c := c') (by omega) hB (w := w) (k := fun z16 z17 => if w = 0 then (some (z16, V)) else (if z16 = 0 then (some (((-1) : Int32), V)) else (req (¬ Int32.toInt64 z16 = 0) (some ((Int64.toInt32 (z17 / (Int32.toInt64 z16))), V)))))
        refine Eq.mpr (congrArg (fun z => mOp z V _ a) hL) ?_
        by_cases w0 : w = 0
        · rw [if_pos w0, if_pos w0]
          exact mOp.k h
        · rw [if_neg w0, if_neg w0, mean_v]
          by_cases z : tAll a.dd c' = 0
          · rw [if_pos (by rw [z]; rfl), if_pos z]
            exact mOp.k h
          · have := mn_le (g := fun i => a.dd (20 * c' + i))
            have hA : sg 20 (fun i => a.dd (20 * c' + i)) = tAll a.dd c' := rfl
            rw [if_neg (nI_ne0 (by omega) (by omega)), if_neg z, nI_l (by omega), rq (by rw [L0, pk_lEQ (by omega) (by omega)]; exact z), pk_lDiv (by omega) (by omega) (by omega), lN_i]
            exact mOp.k h
/-- what another law would lose -/
def rComp (a : St) (v c : Int32) : Int32 := if isLw a.g v then (if isKa a.g c then nI (sg 20 fun i => lsA (a.g.wfo (oN v)) a.t (ixN c) i) else -nI 1) else -nI 1
theorem c_lost_L {T : Tt} {V : Vt} {t d : Nat} (hk : isTb T V t d) {D : Nat → Nat} (hD : cD V d D) {c l : Nat} (hc : c < 8) (hl : l ≤ 99) (hB : tAll D c ≤ 999000) {k : Int32 → Option (Int32 × Vt)} : f_X0_lost_L13 T V t (nI c) (nI l) k fuel (nI 0) (nI 0) = k (nI (sg 20 fun a => D (20 * c + a) * l / 1000)) := by
  refine lp (fun n (p : Int32 × Int32) => f_X0_lost_L13 T V t (nI c) (nI l) k n p.1 p.2) (fun i => (nI (sg i fun a => D (20 * c + a) * l / 1000), nI i)) 20 ?_ ?_ _ (by decide)
  · intro i n hi
    have hi2 : D (20 * c + i) ≤ tAll D c := sg_one (f := fun a => D (20 * c + a)) hi
    have hm : D (20 * c + i) * l ≤ 999000 * 99 := Nat.mul_le_mul (by omega) hl
    simp (disch := omega) only [f_X0_lost_L13, rq_t, drs, sp, pcs, cls, ↓reduceIte, not_true_eq_false, not_false_eq_true, and_true, true_and, and_false, false_and, or_true, true_or, or_false, false_or, eq_self, l0, l1, l2, l3, l4, l5, l6, l7, l8, l9, l10, l11, l12, l13, l14, l15, l16, l17, l18, l19, l20, l21, l22, l23, l24, l25, l26, l27, l28, l29, l30, l31, l32, l33, l34, l35, l36, l37, l40, l41, l42, l43, l45, l47, l48, l50, l57, l59, l60, l61, l62, l63, l85, l91, l93, l96, l97, l98, l99, l100, l120, l122, l146, l160, l165, l170, l178, l186, l198, l255, l400, l900, l948, l999, l1000, l2475, l2640, l2970, l3990, l9390, l18780, l19000, l999999, l1000000, l100000000, l2147483639, nI_add, pk_mul, ix_nI, leT, leF, ltT, ltF, eqT, eqF, nI_leI, nI_ltI, nI_eq, ngEq, ngEq', ngLt, ngLt', ngLe, ngLe', ngNg, nI_p, pk_sub, Nat.reduceAdd, Nat.reduceMul, Nat.reduceSub, uI1, uI2, uL1, uL2, uL3, uR1, uR2, uR3, lN_add, lN_mul, lN_i, nI_l, L0, L1, L10, L100, L1000, LM, hk.2.1, rq_eq hk.1, rqT hk, hD, pk_lDiv]
    rfl
  · intro n
    simp (disch := omega) only [f_X0_lost_L13, rq_t, drs, sp, pcs, cls, ↓reduceIte, not_true_eq_false, not_false_eq_true, and_true, true_and, and_false, false_and, or_true, true_or, or_false, false_or, eq_self, l0, l1, l2, l3, l4, l5, l6, l7, l8, l9, l10, l11, l12, l13, l14, l15, l16, l17, l18, l19, l20, l21, l22, l23, l24, l25, l26, l27, l28, l29, l30, l31, l32, l33, l34, l35, l36, l37, l40, l41, l42, l43, l45, l47, l48, l50, l57, l59, l60, l61, l62, l63, l85, l91, l93, l96, l97, l98, l99, l100, l120, l122, l146, l160, l165, l170, l178, l186, l198, l255, l400, l900, l948, l999, l1000, l2475, l2640, l2970, l3990, l9390, l18780, l19000, l999999, l1000000, l100000000, l2147483639, nI_add, pk_mul, ix_nI, leT, leF, ltT, ltF, eqT, eqF, nI_leI, nI_ltI, nI_eq, ngEq, ngEq', ngLt, ngLt', ngLe, ngLe', ngNg, nI_p, pk_sub, Nat.reduceAdd, Nat.reduceMul, Nat.reduceSub, uI1, uI2, uL1, uL2, uL3, uR1, uR2, uR3]
theorem m_loss_L {T : Tt} {V : Vt} (hT : MT T) (hV : MV V) {D : Nat → Nat} (hD : mD V D) {c l : Nat} (hc : c < 8) (hl : l ≤ 99) (hB : tAll D c ≤ 999000) {k : Int32 → Option (Int32 × Vt)} : f_X5_lossOf_L11 T V 94 (nI c) (nI l) k fuel (nI 0) (nI 0) = k (nI (sg 20 fun a => D (20 * c + a) * l / 1000)) := by
  refine lp (fun n (p : Int32 × Int32) => f_X5_lossOf_L11 T V 94 (nI c) (nI l) k n p.1 p.2) (fun i => (nI (sg i fun a => D (20 * c + a) * l / 1000), nI i)) 20 ?_ ?_ _ (by decide)
  · intro i n hi
    have hi2 : D (20 * c + i) ≤ tAll D c := sg_one (f := fun a => D (20 * c + a)) hi
    have hm : D (20 * c + i) * l ≤ 999000 * 99 := Nat.mul_le_mul (by omega) hl
    simp (disch := omega) only [f_X5_lossOf_L11, rq_t, drs, sp, pcs, cls, ↓reduceIte, not_true_eq_false, not_false_eq_true, and_true, true_and, and_false, false_and, or_true, true_or, or_false, false_or, eq_self, l0, l1, l2, l3, l4, l5, l6, l7, l8, l9, l10, l11, l12, l13, l14, l15, l16, l17, l18, l19, l20, l21, l22, l23, l24, l25, l26, l27, l28, l29, l30, l31, l32, l33, l34, l35, l36, l37, l40, l41, l42, l43, l45, l47, l48, l50, l57, l59, l60, l61, l62, l63, l85, l91, l93, l96, l97, l98, l99, l100, l120, l122, l146, l160, l165, l170, l178, l186, l198, l255, l400, l900, l948, l999, l1000, l2475, l2640, l2970, l3990, l9390, l18780, l19000, l999999, l1000000, l100000000, l2147483639, nI_add, pk_mul, ix_nI, leT, leF, ltT, ltF, eqT, eqF, nI_leI, nI_ltI, nI_eq, ngEq, ngEq', ngLt, ngLt', ngLe, ngLe', ngNg, nI_p, pk_sub, Nat.reduceAdd, Nat.reduceMul, Nat.reduceSub, uI1, uI2, uL1, uL2, uL3, uR1, uR2, uR3, rq_eq (MT0 hT), rq95 hT, rf2 hV, rq96 hT, rf3 hV, rq97 hT, rf4 hV, rq98 hT, rf5 hV, rq99 hT, rf6 hV, rq100 hT, rf7 hV, rq101 hT, rf9 hV, rq102 hT, rf10 hV, rq103 hT, rf12 hV, rq104 hT, rf22 hV, rq105 hT, rf24 hV, rq106 hT, rf25 hV, rq107 hT, rf27 hV, rq108 hT, rf28 hV, rq109 hT, rf31 hV, rq110 hT, rf32 hV, rq111 hT, rf33 hV, rq112 hT, rf35 hV, rq113 hT, rf36 hV, rq114 hT, rf37 hV, rq115 hT, rf41 hV, rq116 hT, rf44 hV, rq117 hT, rf45 hV, rq118 hT, rf51 hV, rq119 hT, rf53 hV, lN_add, lN_mul, lN_i, nI_l, L0, L1, L10, L100, L1000, LM, m_drops hT hV hD, pk_lDiv]
    rfl
  · intro n
    simp (disch := omega) only [f_X5_lossOf_L11, rq_t, drs, sp, pcs, cls, ↓reduceIte, not_true_eq_false, not_false_eq_true, and_true, true_and, and_false, false_and, or_true, true_or, or_false, false_or, eq_self, l0, l1, l2, l3, l4, l5, l6, l7, l8, l9, l10, l11, l12, l13, l14, l15, l16, l17, l18, l19, l20, l21, l22, l23, l24, l25, l26, l27, l28, l29, l30, l31, l32, l33, l34, l35, l36, l37, l40, l41, l42, l43, l45, l47, l48, l50, l57, l59, l60, l61, l62, l63, l85, l91, l93, l96, l97, l98, l99, l100, l120, l122, l146, l160, l165, l170, l178, l186, l198, l255, l400, l900, l948, l999, l1000, l2475, l2640, l2970, l3990, l9390, l18780, l19000, l999999, l1000000, l100000000, l2147483639, nI_add, pk_mul, ix_nI, leT, leF, ltT, ltF, eqT, eqF, nI_leI, nI_ltI, nI_eq, ngEq, ngEq', ngLt, ngLt', ngLe, ngLe', ngNg, nI_p, pk_sub, Nat.reduceAdd, Nat.reduceMul, Nat.reduceSub, uI1, uI2, uL1, uL2, uL3, uR1, uR2, uR3]
theorem okB.wfo {g : Cfg} {t : Tab} (h : okB g t) {f : Option Nat} : okB (g.wfo f) t := ⟨h.D, h.b, h.y⟩
theorem wg_id {a : St} {f : Option Nat} : ((a.wg (a.g.wfo f)).wg ((a.wg (a.g.wfo f)).g.wfo a.g.fo)) = a := rfl
theorem c_compare {T : Tt} {V : Vt} {x : HS} {a : St} (h : CR T V x a) (ok : OK a) {v c : Int32} : cOp (f_X0_compare T V 0 v c) T V (rComp a v c) a := by
  have hC := h.hC
  have hU := h.hU
  have g8 := ok.g.n
  have hf : V.1 2 11 = oI a.g.fo := h.cf.fo
  rw [f_X0_compare, rq hC.k0, pc (c_isLaw hC hU ok.g h.cf), rComp]
  simp only [b1_0]
  cases hv : isLw a.g v with
  | false => exact cOp.k h
  | true =>
    rw [if_neg (by decide), if_pos rfl, pc (c_isCask hC hU ok.g h.cf)]
    simp only [b1_0]
    cases hc : isKa a.g c with
    | false => exact cOp.k h
    | true =>
      obtain ⟨c', rfl, h1⟩ := isKa_of hc
      have h2 := h.wfo (isLw_of ok.g hv).1
      have hB := ok.t.a ok.g h1
      have og := ok.g.wfo hv
      rw [if_neg (by decide), if_pos rfl, dr hU.r0_2, rq hC.k2, sp, dr hU.r0_2, rq hC.k2, sp, pc (c_table hC h2.hU), f_X0_lost, rq hC.k0, hf, ix_nI (by omega)]
      refine cOp.fr (W := uI V 2 11 v) (cF_uI (by omega)) ?_
      generalize uI V 2 11 v = V at h2 ⊢
      have hl := c_loses hC h2.hU h2.P' og h2.cf (ok.t.wfo (f := oN v)) h2.ct h1
      obtain ⟨⟨z, W⟩, e, e1, e2⟩ := hl
      dsimp only at e1 e2
      subst e1
      have h3 := h2.fk e2
      have kk : cFr V W := (cKp.m e2 fun _ _ q => absurd q id).c
      rw [cl e]
      have hL := c_lost_L (k := fun z => some (z, W)) h3.ct.k h3.ct.D (c := c') (l := los (a.g.wfo (oN v)) a.t c') (by omega) los_le hB
      rw [cl (show f_X0_lost_L13 T W 3 (nI c') (nI (los (a.g.wfo (oN v)) a.t c')) (fun z10 => some (z10, W)) fuel 0 0 = _ from hL), dr h3.hU.r0_2, rq hC.k2, sp]
      have h4 := h3.wfo (f := a.g.fo) rfl
      rw [wg_id] at h4
      exact Ret.ok ⟨rfl, ⟨x, h4⟩, kk.tr (cF_uI (by omega))⟩
theorem m_compare {T : Tt} {V : Vt} (hT : MT T) {a : St} (h : MR V a) (ok : OK a) {v c : Int32} : mOp (f_X5_compare T V 94 v c) V (rComp a v c) a := by
  have h := h.s0 ok.g (j := 0) (v := 0) (by omega)
  rw [f_X5_compare, rq hT.1, sp]
  refine mOp.fr (W := uI V 94 0 0) (mF_uI (by omega)) ?_
  generalize uI V 94 0 0 = V at h ⊢
  have hV := h.hV
  have g8 := ok.g.n
  have hf := h.mf.fo
  rw [pc (m_isLaw hT hV ok.g h.mf), rComp]
  simp only [b1_0]
  cases hv : isLw a.g v with
  | false => exact mOp.k h
  | true =>
    rw [if_neg (by decide), if_pos rfl, pc (m_isCask hT hV ok.g h.mf)]
    simp only [b1_0]
    cases hc : isKa a.g c with
    | false => exact mOp.k h
    | true =>
      obtain ⟨c', rfl, h1⟩ := isKa_of hc
      have h2 := h.wfo ok.g (isLw_of ok.g hv).1
      have hB := ok.t.a ok.g h1
      have og := ok.g.wfo hv
      rw [if_neg (by decide), if_pos rfl, ix_nI (by omega)]
      simp (disch := omega) only [rq_t, drs, sp, pcs, cls, ↓reduceIte, not_true_eq_false, not_false_eq_true, and_true, true_and, and_false, false_and, or_true, true_or, or_false, false_or, eq_self, l0, l1, l2, l3, l4, l5, l6, l7, l8, l9, l10, l11, l12, l13, l14, l15, l16, l17, l18, l19, l20, l21, l22, l23, l24, l25, l26, l27, l28, l29, l30, l31, l32, l33, l34, l35, l36, l37, l40, l41, l42, l43, l45, l47, l48, l50, l57, l59, l60, l61, l62, l63, l85, l91, l93, l96, l97, l98, l99, l100, l120, l122, l146, l160, l165, l170, l178, l186, l198, l255, l400, l900, l948, l999, l1000, l2475, l2640, l2970, l3990, l9390, l18780, l19000, l999999, l1000000, l100000000, l2147483639, nI_add, pk_mul, ix_nI, leT, leF, ltT, ltF, eqT, eqF, nI_leI, nI_ltI, nI_eq, ngEq, ngEq', ngLt, ngLt', ngLe, ngLe', ngNg, nI_p, pk_sub, Nat.reduceAdd, Nat.reduceMul, Nat.reduceSub, uI1, uI2, uL1, uL2, uL3, uR1, uR2, uR3, rq_eq (MT0 hT), rq95 hT, rf2 hV, rq96 hT, rf3 hV, rq97 hT, rf4 hV, rq98 hT, rf5 hV, rq99 hT, rf6 hV, rq100 hT, rf7 hV, rq101 hT, rf9 hV, rq102 hT, rf10 hV, rq103 hT, rf12 hV, rq104 hT, rf22 hV, rq105 hT, rf24 hV, rq106 hT, rf25 hV, rq107 hT, rf27 hV, rq108 hT, rf28 hV, rq109 hT, rf31 hV, rq110 hT, rf32 hV, rq111 hT, rf33 hV, rq112 hT, rf35 hV, rq113 hT, rf36 hV, rq114 hT, rf37 hV, rq115 hT, rf41 hV, rq116 hT, rf44 hV, rq117 hT, rf45 hV, rq118 hT, rf51 hV, rq119 hT, rf53 hV, hf]
      refine mOp.fr (W := uI V 96 4 v) (mF_uI (by omega)) ?_
      generalize uI V 96 4 v = V at h2 ⊢
      have ho : isB (V.1 94 20) := by rw [h2.od]; exact Or.inl rfl
      obtain ⟨⟨z, W⟩, e, e1, e2⟩ := m_loses hT h2.hV og h2.mf (ok.t.wfo (f := oN v)) h2.mt ho h1
      dsimp only at e1 e2
      subst e1
      have h3 := h2.fk og e2
      have hL := m_loss_L (k := fun z => some (z, W)) hT h3.hV h3.mt.D (c := c') (l := los (a.g.wfo (oN v)) a.t c') (by omega) los_le hB
      have hV3 := h3.hV
      rw [f_X5_lossOf, rq hT.1, cl e, cl (show f_X5_lossOf_L11 T W 94 (nI c') (nI (los (a.g.wfo (oN v)) a.t c')) (fun z10 => some (z10, W)) fuel 0 0 = _ from hL), dr (rf3 hV3), rq96 hT (by omega)]
      have h4 := h3.wfo og (f := a.g.fo) rfl
      rw [wg_id] at h4
      exact Ret.ok ⟨rfl, h4, (sF_m e2).tr (mF_uI (by omega))⟩
