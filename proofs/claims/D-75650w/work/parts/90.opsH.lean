/-! 90: casks -/
set_option maxRecDepth 100000
theorem pA_s {D : Nat → Nat} {c i k : Nat} {g : Nat → Nat} (h : k ≠ 20 * c + i) : pA D c (i + 1) g k = pA D c i g k := by
  rw [pA, pA]
  by_cases q : 20 * c ≤ k ∧ k < 20 * c + i
  · rw [if_pos q, if_pos (by omega)]
  · rw [if_neg q, if_neg (by omega)]
def puN (f : Nat → Nat) (n v : Nat) : Nat → Nat := fun c => if c = n then v else f c
def gAd (g : Cfg) (ti sz : Nat) : Cfg := g.wad (g.n + 1) (puN g.ti g.n ti) (puN g.sz g.n sz)
def tAd (t : Tab) (n fu : Nat) : Tab := ⟨pA t.D n 20 fun i => if i = 0 then 1000 * fu else 0, t.b, t.y⟩
def addS (a : St) (ti sz fu : Nat) : St := (a.wg (gAd a.g ti sz)).wt (tAd a.t a.g.n fu)
theorem c_adds_L {T : Tt} {V : Vt} (hC : CT T) (hU : CV V) {D : Nat → Nat} (hD : cD V 4 D) {n fu : Nat} (hn : n < 8) {k : Vt → Option (Int32 × Vt)} {R : Int32 × Vt → Prop}
    (hR : ∀ W, frI (fun h _ => h = 4) V W → cD W 4 (pA D n 20 fun i => if i = 0 then 1000 * fu else 0) → Ret (k W) R) : Ret (f_X0_adds_L34 T 0 (nI fu) (nI n) k fuel (nI 0) V) R := by
  refine lq2 (f_X0_adds_L34 T 0 (nI fu) (nI n) k) (fun i a W => a = nI i ∧ frI (fun h _ => h = 4) V W ∧ cD W 4 (pA D n i fun i => if i = 0 then 1000 * fu else 0)) 20 ?_ ?_ fuel _ _ (by decide) ⟨rfl, frI.mk (fun _ _ _ => rfl) rfl, fun k hk => by rw [pA_out (by omega)]; exact hD k hk⟩
  · intro i N a W hi ⟨q1, q2, q3⟩ ih
    subst q1
    have hU := hU.eq3 (W := W) (by rw [q2.2])
    have ht := c_table hC hU
    have fin : ∀ v, v = nI (if i = 0 then 1000 * fu else 0) → Ret (f_X0_adds_L34 T 0 (nI fu) (nI n) k N (nI (i + 1)) (uI W 4 (20 * n + i) v)) R := by
      intro v hv
      refine ih _ _ ⟨rfl, frI.mk (fun h j q => ?_) q2.2, fun k hk => ?_⟩
      · rw [uI1, if_neg (fun w => q w.1)]
        exact q2.1 h j q
      · rw [uI1]
        by_cases e : k = 20 * n + i
        · rw [if_pos ⟨rfl, e⟩, e, pA_in (by omega)]
          exact hv
        · rw [if_neg (fun w => e w.2), q3 k hk, pA_s e]
    by_cases e : i = 0
    · simp (disch := omega) only [f_X0_adds_L34, f_X0_adds_J70, rq_t, drs, sp, pcs, cls, ↓reduceIte, not_true_eq_false, not_false_eq_true, and_true, true_and, and_false, false_and, or_true, true_or, or_false, false_or, eq_self, l0, l1, l2, l3, l4, l5, l6, l7, l8, l9, l10, l11, l12, l13, l14, l15, l16, l17, l18, l19, l20, l21, l22, l23, l24, l25, l26, l27, l28, l29, l30, l31, l32, l33, l34, l35, l36, l37, l40, l41, l42, l43, l45, l47, l48, l50, l57, l59, l60, l61, l62, l63, l85, l91, l93, l96, l97, l98, l99, l100, l120, l122, l146, l160, l165, l170, l178, l186, l198, l255, l400, l900, l948, l999, l1000, l2475, l2640, l2970, l3990, l9390, l18780, l19000, l999999, l1000000, l100000000, l2147483639, nI_add, pk_mul, ix_nI, leT, leF, ltT, ltF, eqT, eqF, nI_leI, nI_ltI, nI_eq, ngEq, ngEq', ngLt, ngLt', ngLe, ngLe', ngNg, nI_p, pk_sub, Nat.reduceAdd, Nat.reduceMul, Nat.reduceSub, uI1, uI2, uL1, uL2, uL3, uR1, uR2, uR3, rq_eq hC.k0, rq_eq hC.k2, rq_eq hC.k3, rq_eq hC.k8, rq_eq hC.k10, rq_eq hC.k17, rq_eq hC.k19, rq_eq hC.k22, rq_eq hC.k23, rq_eq hC.k28, cq1 hC, cq4 hC, cq5 hC, cq6 hC, cq7 hC, cq12 hC, cq13 hC, cq14 hC, cq15 hC, cq16 hC, cq18 hC, cq20 hC, cq21 hC, cq24 hC, cq25 hC, cq26 hC, cq27 hC, cq29 hC, hU.r0_1, hU.r0_2, hU.r0_3, hU.r0_4, hU.r0_5, hU.r0_6, hU.r0_7, hU.r0_8, hU.r0_9, hU.r0_10, hU.r0_16, hU.r0_17, hU.r0_18, hU.r0_22, hU.r0_23, hU.r2_0, hU.r2_1, hU.r2_2, hU.r2_3, hU.r2_4, hU.r2_5, hU.r3_0, hU.r17_0, hU.r19_0, hU.r28_0, hU.r22_0, hU.r22_1, ht, e]
      rw [e] at fin
      exact fin _ rfl
    · simp (disch := omega) only [f_X0_adds_L34, f_X0_adds_J70, rq_t, drs, sp, pcs, cls, ↓reduceIte, not_true_eq_false, not_false_eq_true, and_true, true_and, and_false, false_and, or_true, true_or, or_false, false_or, eq_self, l0, l1, l2, l3, l4, l5, l6, l7, l8, l9, l10, l11, l12, l13, l14, l15, l16, l17, l18, l19, l20, l21, l22, l23, l24, l25, l26, l27, l28, l29, l30, l31, l32, l33, l34, l35, l36, l37, l40, l41, l42, l43, l45, l47, l48, l50, l57, l59, l60, l61, l62, l63, l85, l91, l93, l96, l97, l98, l99, l100, l120, l122, l146, l160, l165, l170, l178, l186, l198, l255, l400, l900, l948, l999, l1000, l2475, l2640, l2970, l3990, l9390, l18780, l19000, l999999, l1000000, l100000000, l2147483639, nI_add, pk_mul, ix_nI, leT, leF, ltT, ltF, eqT, eqF, nI_leI, nI_ltI, nI_eq, ngEq, ngEq', ngLt, ngLt', ngLe, ngLe', ngNg, nI_p, pk_sub, Nat.reduceAdd, Nat.reduceMul, Nat.reduceSub, uI1, uI2, uL1, uL2, uL3, uR1, uR2, uR3, rq_eq hC.k0, rq_eq hC.k2, rq_eq hC.k3, rq_eq hC.k8, rq_eq hC.k10, rq_eq hC.k17, rq_eq hC.k19, rq_eq hC.k22, rq_eq hC.k23, rq_eq hC.k28, cq1 hC, cq4 hC, cq5 hC, cq6 hC, cq7 hC, cq12 hC, cq13 hC, cq14 hC, cq15 hC, cq16 hC, cq18 hC, cq20 hC, cq21 hC, cq24 hC, cq25 hC, cq26 hC, cq27 hC, cq29 hC, hU.r0_1, hU.r0_2, hU.r0_3, hU.r0_4, hU.r0_5, hU.r0_6, hU.r0_7, hU.r0_8, hU.r0_9, hU.r0_10, hU.r0_16, hU.r0_17, hU.r0_18, hU.r0_22, hU.r0_23, hU.r2_0, hU.r2_1, hU.r2_2, hU.r2_3, hU.r2_4, hU.r2_5, hU.r3_0, hU.r17_0, hU.r19_0, hU.r28_0, hU.r22_0, hU.r22_1, ht]
      exact fin _ (by rw [if_neg e])
  · intro N a W ⟨q1, q2, q3⟩
    subst q1
    simp (disch := omega) only [f_X0_adds_L34, rq_t, drs, sp, pcs, cls, ↓reduceIte, not_true_eq_false, not_false_eq_true, and_true, true_and, and_false, false_and, or_true, true_or, or_false, false_or, eq_self, l0, l1, l2, l3, l4, l5, l6, l7, l8, l9, l10, l11, l12, l13, l14, l15, l16, l17, l18, l19, l20, l21, l22, l23, l24, l25, l26, l27, l28, l29, l30, l31, l32, l33, l34, l35, l36, l37, l40, l41, l42, l43, l45, l47, l48, l50, l57, l59, l60, l61, l62, l63, l85, l91, l93, l96, l97, l98, l99, l100, l120, l122, l146, l160, l165, l170, l178, l186, l198, l255, l400, l900, l948, l999, l1000, l2475, l2640, l2970, l3990, l9390, l18780, l19000, l999999, l1000000, l100000000, l2147483639, nI_add, pk_mul, ix_nI, leT, leF, ltT, ltF, eqT, eqF, nI_leI, nI_ltI, nI_eq, ngEq, ngEq', ngLt, ngLt', ngLe, ngLe', ngNg, nI_p, pk_sub, Nat.reduceAdd, Nat.reduceMul, Nat.reduceSub, uI1, uI2, uL1, uL2, uL3, uR1, uR2, uR3]
    exact hR W q2 q3
theorem c_adds {T : Tt} {V : Vt} {x : HS} {a : St} (h : CR T V x a) (g8 : a.g.n < 8) {ti sz fu : Nat} : Ret (f_X0_adds T V 0 (nI ti) (nI sz) (nI fu)) fun p => p.1 = nI a.g.n ∧ CR T p.2 x (addS a ti sz fu) ∧ cFr V p.2 := by
  have hC := h.hC
  have hU := h.hU
  have cf := h.cf
  have hn : V.1 2 6 = nI a.g.n := cf.n
  rw [f_X0_adds, rq hC.k0, dr hU.r0_2, rq hC.k2, sp, hn, dr hU.r0_2, rq hC.k2, dr hU.r2_1, cq5 hC g8, sp]
  simp only [ix_nI (show a.g.n < 2 ^ 31 by omega)]
  have hU1 : CV (uI V 5 a.g.n (nI ti)) := hU.eq3 rfl
  rw [dr hU1.r0_2, rq hC.k2, dr hU1.r2_2, cq6 hC g8, sp]
  have hU2 : CV (uI (uI V 5 a.g.n (nI ti)) 6 a.g.n (nI sz)) := hU.eq3 rfl
  refine c_adds_L (D := a.t.D) hC hU2 (fun k hk => by rw [uI1, if_neg (by omega), uI1, if_neg (by omega)]; exact h.ct.D k hk) g8 fun W f1 D1 => ?_
  have hU3 : CV W := hU2.eq3 (by rw [f1.2])
  have n6 : W.1 2 6 = nI a.g.n := by rw [f1.1 _ _ (by omega), uI1, if_neg (by omega), uI1, if_neg (by omega)]; exact hn
  rw [dr hU3.r0_2, rq hC.k2, sp, n6, l1, nI_add]
  have e : ∀ c j, ¬ (c = 4 ∨ (c = 5 ∧ j = a.g.n) ∨ (c = 6 ∧ j = a.g.n) ∨ (c = 2 ∧ j = 6)) → (uI W 2 6 (nI (a.g.n + 1))).1 c j = V.1 c j := fun c j q => by rw [uI1, if_neg (by omega), f1.1 _ _ (by omega), uI1, if_neg (by omega), uI1, if_neg (by omega)]
  have er : (uI W 2 6 (nI (a.g.n + 1))).2.2 = V.2.2 := by rw [uI2, f1.2, uI2, uI2]
  have er' : ∀ c j, (uI W 2 6 (nI (a.g.n + 1))).2.2 c j = V.2.2 c j := fun c j => by rw [er]
  have hl := cCf.lp (W := uI W 2 6 (nI (a.g.n + 1))) h.P' cf (fun c j q => e _ _ (by omega)) er
  have cf' : cCf x.P T (uI W 2 6 (nI (a.g.n + 1))) (ms x.la x.pa) (gAd a.g ti sz) := by
    refine ⟨?_, (e 2 7 (by omega)).trans cf.nt, (e 2 8 (by omega)).trans cf.co, (e 2 9 (by omega)).trans cf.mo, (e 2 10 (by omega)).trans cf.pa, (e 2 11 (by omega)).trans cf.fo, fun c hc => ?_, fun c hc => ?_, fun k hk => (e 7 k (by omega)).trans (cf.ta k hk), hl.1, hl.2⟩
    · show (uI W 2 6 _).1 2 6 = nI (a.g.n + 1)
      rw [uI1, if_pos ⟨rfl, rfl⟩]
    · have hc : c < a.g.n + 1 := hc
      show (uI W 2 6 (nI (a.g.n + 1))).1 5 c = nI (puN a.g.ti a.g.n ti c)
      rw [puN]
      by_cases q : c = a.g.n
      · rw [if_pos q, q, uI1, if_neg (by omega), f1.1 _ _ (by omega), uI1, if_neg (by omega), uI1, if_pos ⟨rfl, rfl⟩]
      · rw [if_neg q, e _ _ (by omega)]
        exact cf.ti c (by omega)
    · have hc : c < a.g.n + 1 := hc
      show (uI W 2 6 (nI (a.g.n + 1))).1 6 c = nI (puN a.g.sz a.g.n sz c)
      rw [puN]
      by_cases q : c = a.g.n
      · rw [if_pos q, q, uI1, if_neg (by omega), f1.1 _ _ (by omega), uI1, if_pos ⟨rfl, rfl⟩]
      · rw [if_neg q, e _ _ (by omega)]
        exact cf.sz c (by omega)
  have ct' : cTb T (uI W 2 6 (nI (a.g.n + 1))) 3 4 (tAd a.t a.g.n fu) := ⟨⟨h.ct.k.1, by rw [er]; exact h.ct.k.2.1, h.ct.k.2.2⟩, fun k hk => by rw [uI1, if_neg (by omega)]; exact D1 k hk, (e _ _ (by omega)).trans h.ct.b, (e _ _ (by omega)).trans h.ct.y⟩
  refine Ret.ok ⟨rfl, ?_, ⟨fun c j q => e _ _ (by omega), fun c j q => by rw [uI2, f1.2]; rfl, fun c j q => by rw [er]⟩⟩
  exact h.ups (fun c j q => e _ _ (by omega)) er' rfl cf' ct' (h.cu.fr (fun c j q => e _ _ (by omega)) er') ((e _ _ (by omega)).trans h.st) (fun i hi => (e _ _ (by omega)).trans (h.rf i hi)) ((e _ _ (by omega)).trans h.tn) (fun i hi => (e _ _ (by omega)).trans (h.tp i hi)) ((e _ _ (by omega)).trans h.fa) ((e _ _ (by omega)).trans h.le) ((e _ _ (by omega)).trans h.so) ((e _ _ (by omega)).trans h.dm) (fun i hi q => (e _ _ (by omega)).trans (h.dd i hi q))
def isCk (ti sz : Int32) : Bool := iN ti 0 4 && iN sz 1 999
theorem c_canCask {T : Tt} {V : Vt} {ti sz : Int32} : f_X0_canCask T V ti sz = some (b1 (isCk ti sz)) := by
  rw [f_X0_canCask, pc c_in, isCk, show (0 : Int32).toInt = 0 from rfl, show (4 : Int32).toInt = 4 from rfl]
  simp only [b1_0]
  cases hf : iN ti 0 4 with
  | false => rfl
  | true =>
    rw [if_neg (by decide), pc c_in, Bool.true_and, show (1 : Int32).toInt = 1 from rfl, show (999 : Int32).toInt = 999 from rfl]
    simp only [b1_0]
    cases iN sz 1 999 <;> rfl
theorem isCk_of {ti sz : Int32} (h : isCk ti sz = true) : ∃ t s : Nat, ti = nI t ∧ sz = nI s ∧ t < 5 ∧ 1 ≤ s ∧ s ≤ 999 := by
  rw [isCk, Bool.and_eq_true] at h
  obtain ⟨t, e1, -, t2, -⟩ := iN_of h.1 (by omega)
  obtain ⟨s, e2, s1, s2, -⟩ := iN_of h.2 (by omega)
  exact ⟨t, s, e1, e2, by omega, by omega, by omega⟩
def rCask (a : St) (ti sz : Int32) : Int32 := if isCk ti sz then (if a.g.n = 8 then -nI 5 else nI a.g.n) else -nI 1
def oCask (a : St) (ti sz : Int32) : St := if isCk ti sz then (if a.g.n = 8 then a.ref 5 else (addS a (ixN ti) (ixN sz) 0).set) else a.ref 1
theorem c_cask {T : Tt} {V : Vt} {x : HS} {a : St} (h : CR T V x a) (ok : OK a) {ti sz : Int32} : cOp (f_X0_cask T V 0 ti sz) T V (rCask a ti sz) (oCask a ti sz) := by
  have g8 := ok.g.n
  have hn : V.1 2 6 = nI a.g.n := h.cf.n
  rw [f_X0_cask, rq h.hC.k0, pc c_canCask, rCask, oCask]
  simp only [b1_0, cal_id]
  cases hv : isCk ti sz with
  | false => exact c_refuse (w := 1) h (by omega) (by omega)
  | true =>
    obtain ⟨t, s, rfl, rfl, h1, h2, h3⟩ := isCk_of hv
    rw [if_neg (by decide), if_pos rfl, if_pos rfl, dr h.hU.r0_2, rq h.hC.k2, hn, ix_nI (by omega), ix_nI (by omega)]
    by_cases q : a.g.n = 8
    · rw [if_pos (by rw [q]; rfl), if_pos q, if_pos q]
      exact c_refuse (w := 5) h (by omega) (by omega)
    · rw [if_neg (show ¬ nI a.g.n = (8 : Int32) from ne_lit (n := 8) (by omega) (by omega) q), if_neg q, if_neg q]
      refine Ret.c (c_adds (fu := 0) h (by omega)) ?_
      intro z W ⟨e, h4, f⟩
      dsimp only at e h4 f
      subst e
      exact (c_settles h4).fr f
theorem m_comes_L {T : Tt} {V : Vt} (hT : MT T) (hV : MV V) {D : Nat → Nat} (hD : mD V D) {n : Nat} (hn : n < 8) {k : Vt → Option (Int32 × Vt)} {R : Int32 × Vt → Prop}
    (hR : ∀ W, frI sD V W → mD W (pA D n 20 fun i => if i = 0 then 1000 * 0 else 0) → Ret (k W) R) : Ret (f_X5_comes_L67 T 94 (nI n) k fuel (nI 0) V) R := by
  refine lq2 (f_X5_comes_L67 T 94 (nI n) k) (fun i a W => a = nI i ∧ frI sD V W ∧ mD W (pA D n i fun i => if i = 0 then 1000 * 0 else 0)) 20 ?_ ?_ fuel _ _ (by decide) ⟨rfl, frI.mk (fun _ _ _ => rfl) rfl, fun k hk => by rw [pA_out (by omega)]; exact hD k hk⟩
  · intro i N a W hi ⟨q1, q2, q3⟩ ih
    subst q1
    have hV := hV.eq q2.2
    simp (disch := omega) only [f_X5_comes_L67, rq_t, drs, sp, pcs, cls, ↓reduceIte, not_true_eq_false, not_false_eq_true, and_true, true_and, and_false, false_and, or_true, true_or, or_false, false_or, eq_self, l0, l1, l2, l3, l4, l5, l6, l7, l8, l9, l10, l11, l12, l13, l14, l15, l16, l17, l18, l19, l20, l21, l22, l23, l24, l25, l26, l27, l28, l29, l30, l31, l32, l33, l34, l35, l36, l37, l40, l41, l42, l43, l45, l47, l48, l50, l57, l59, l60, l61, l62, l63, l85, l91, l93, l96, l97, l98, l99, l100, l120, l122, l146, l160, l165, l170, l178, l186, l198, l255, l400, l900, l948, l999, l1000, l2475, l2640, l2970, l3990, l9390, l18780, l19000, l999999, l1000000, l100000000, l2147483639, nI_add, pk_mul, ix_nI, leT, leF, ltT, ltF, eqT, eqF, nI_leI, nI_ltI, nI_eq, ngEq, ngEq', ngLt, ngLt', ngLe, ngLe', ngNg, nI_p, pk_sub, Nat.reduceAdd, Nat.reduceMul, Nat.reduceSub, uI1, uI2, uL1, uL2, uL3, uR1, uR2, uR3, rq_eq (MT0 hT), rq95 hT, rf2 hV, rq96 hT, rf3 hV, rq97 hT, rf4 hV, rq98 hT, rf5 hV, rq99 hT, rf6 hV, rq100 hT, rf7 hV, rq101 hT, rf9 hV, rq102 hT, rf10 hV, rq103 hT, rf12 hV, rq104 hT, rf22 hV, rq105 hT, rf24 hV, rq106 hT, rf25 hV, rq107 hT, rf27 hV, rq108 hT, rf28 hV, rq109 hT, rf31 hV, rq110 hT, rf32 hV, rq111 hT, rf33 hV, rq112 hT, rf35 hV, rq113 hT, rf36 hV, rq114 hT, rf37 hV, rq115 hT, rf41 hV, rq116 hT, rf44 hV, rq117 hT, rf45 hV, rq118 hT, rf51 hV, rq119 hT, rf53 hV]
    refine ih _ _ ⟨rfl, frI.mk (fun h j q => ?_) q2.2, fun k hk => ?_⟩
    · rw [uI1, if_neg (by omega)]
      exact q2.1 h j q
    · rw [uI1]
      by_cases e : k = 20 * n + i
      · rw [if_pos ⟨rfl, by omega⟩, e, pA_in (by omega)]
        split <;> rfl
      · rw [if_neg (by omega), q3 k hk, pA_s e]
  · intro N a W ⟨q1, q2, q3⟩
    subst q1
    simp (disch := omega) only [f_X5_comes_L67, rq_t, drs, sp, pcs, cls, ↓reduceIte, not_true_eq_false, not_false_eq_true, and_true, true_and, and_false, false_and, or_true, true_or, or_false, false_or, eq_self, l0, l1, l2, l3, l4, l5, l6, l7, l8, l9, l10, l11, l12, l13, l14, l15, l16, l17, l18, l19, l20, l21, l22, l23, l24, l25, l26, l27, l28, l29, l30, l31, l32, l33, l34, l35, l36, l37, l40, l41, l42, l43, l45, l47, l48, l50, l57, l59, l60, l61, l62, l63, l85, l91, l93, l96, l97, l98, l99, l100, l120, l122, l146, l160, l165, l170, l178, l186, l198, l255, l400, l900, l948, l999, l1000, l2475, l2640, l2970, l3990, l9390, l18780, l19000, l999999, l1000000, l100000000, l2147483639, nI_add, pk_mul, ix_nI, leT, leF, ltT, ltF, eqT, eqF, nI_leI, nI_ltI, nI_eq, ngEq, ngEq', ngLt, ngLt', ngLe, ngLe', ngNg, nI_p, pk_sub, Nat.reduceAdd, Nat.reduceMul, Nat.reduceSub, uI1, uI2, uL1, uL2, uL3, uR1, uR2, uR3]
    exact hR W q2 q3
theorem m_comes {T : Tt} {V : Vt} (hT : MT T) {a : St} (h : MR V a) (og : okG a.g) {ti sz : Int32} :
    Ret (f_X5_comes T V 94 ti sz) fun p => p.1 = rCask a ti sz ∧ MR p.2 (if isCk ti sz then (if a.g.n = 8 then a else addS a (ixN ti) (ixN sz) 0) else a) ∧ mFr V p.2 := by
  have hV := h.hV
  have g8 := og.n
  have mf := h.mf
  have hn := mf.n
  rw [f_X5_comes, rq hT.1, pc m_inI, rCask, isCk, show (0 : Int64).toInt = 0 from rfl, show (4 : Int64).toInt = 4 from rfl]
  cases hf : iN ti 0 4 with
  | false => exact Ret.ok ⟨rfl, h, mFr.rfl'⟩
  | true =>
    rw [if_neg (by decide), pc m_inI, Bool.true_and, show (1 : Int64).toInt = 1 from rfl, show (999 : Int64).toInt = 999 from rfl]
    cases hs : iN sz 1 999 with
    | false => exact Ret.ok ⟨rfl, h, mFr.rfl'⟩
    | true =>
      obtain ⟨t, s, rfl, rfl, h1, h2, h3⟩ := isCk_of (ti := ti) (sz := sz) (by rw [isCk, hf, hs]; rfl)
      rw [if_neg (by decide), if_pos rfl, if_pos rfl, ix_nI (by omega), ix_nI (by omega)]
      by_cases q : a.g.n = 8
      · rw [if_pos q, if_pos q]
        simp (disch := omega) only [rq_t, drs, sp, pcs, cls, ↓reduceIte, not_true_eq_false, not_false_eq_true, and_true, true_and, and_false, false_and, or_true, true_or, or_false, false_or, eq_self, l0, l1, l2, l3, l4, l5, l6, l7, l8, l9, l10, l11, l12, l13, l14, l15, l16, l17, l18, l19, l20, l21, l22, l23, l24, l25, l26, l27, l28, l29, l30, l31, l32, l33, l34, l35, l36, l37, l40, l41, l42, l43, l45, l47, l48, l50, l57, l59, l60, l61, l62, l63, l85, l91, l93, l96, l97, l98, l99, l100, l120, l122, l146, l160, l165, l170, l178, l186, l198, l255, l400, l900, l948, l999, l1000, l2475, l2640, l2970, l3990, l9390, l18780, l19000, l999999, l1000000, l100000000, l2147483639, nI_add, pk_mul, ix_nI, leT, leF, ltT, ltF, eqT, eqF, nI_leI, nI_ltI, nI_eq, ngEq, ngEq', ngLt, ngLt', ngLe, ngLe', ngNg, nI_p, pk_sub, Nat.reduceAdd, Nat.reduceMul, Nat.reduceSub, uI1, uI2, uL1, uL2, uL3, uR1, uR2, uR3, rq_eq (MT0 hT), rq95 hT, rf2 hV, rq96 hT, rf3 hV, rq97 hT, rf4 hV, rq98 hT, rf5 hV, rq99 hT, rf6 hV, rq100 hT, rf7 hV, rq101 hT, rf9 hV, rq102 hT, rf10 hV, rq103 hT, rf12 hV, rq104 hT, rf22 hV, rq105 hT, rf24 hV, rq106 hT, rf25 hV, rq107 hT, rf27 hV, rq108 hT, rf28 hV, rq109 hT, rf31 hV, rq110 hT, rf32 hV, rq111 hT, rf33 hV, rq112 hT, rf35 hV, rq113 hT, rf36 hV, rq114 hT, rf37 hV, rq115 hT, rf41 hV, rq116 hT, rf44 hV, rq117 hT, rf45 hV, rq118 hT, rf51 hV, rq119 hT, rf53 hV, hn, q]
        exact Ret.ok ⟨rfl, h, mFr.rfl'⟩
      · rw [if_neg q, if_neg q]
        simp (disch := omega) only [rq_t, drs, sp, pcs, cls, ↓reduceIte, not_true_eq_false, not_false_eq_true, and_true, true_and, and_false, false_and, or_true, true_or, or_false, false_or, eq_self, l0, l1, l2, l3, l4, l5, l6, l7, l8, l9, l10, l11, l12, l13, l14, l15, l16, l17, l18, l19, l20, l21, l22, l23, l24, l25, l26, l27, l28, l29, l30, l31, l32, l33, l34, l35, l36, l37, l40, l41, l42, l43, l45, l47, l48, l50, l57, l59, l60, l61, l62, l63, l85, l91, l93, l96, l97, l98, l99, l100, l120, l122, l146, l160, l165, l170, l178, l186, l198, l255, l400, l900, l948, l999, l1000, l2475, l2640, l2970, l3990, l9390, l18780, l19000, l999999, l1000000, l100000000, l2147483639, nI_add, pk_mul, ix_nI, leT, leF, ltT, ltF, eqT, eqF, nI_leI, nI_ltI, nI_eq, ngEq, ngEq', ngLt, ngLt', ngLe, ngLe', ngNg, nI_p, pk_sub, Nat.reduceAdd, Nat.reduceMul, Nat.reduceSub, uI1, uI2, uL1, uL2, uL3, uR1, uR2, uR3, rq_eq (MT0 hT), rq95 hT, rf2 hV, rq96 hT, rf3 hV, rq97 hT, rf4 hV, rq98 hT, rf5 hV, rq99 hT, rf6 hV, rq100 hT, rf7 hV, rq101 hT, rf9 hV, rq102 hT, rf10 hV, rq103 hT, rf12 hV, rq104 hT, rf22 hV, rq105 hT, rf24 hV, rq106 hT, rf25 hV, rq107 hT, rf27 hV, rq108 hT, rf28 hV, rq109 hT, rf31 hV, rq110 hT, rf32 hV, rq111 hT, rf33 hV, rq112 hT, rf35 hV, rq113 hT, rf36 hV, rq114 hT, rf37 hV, rq115 hT, rf41 hV, rq116 hT, rf44 hV, rq117 hT, rf45 hV, rq118 hT, rf51 hV, rq119 hT, rf53 hV, hn]
        have hV2 : MV (uI (uI V 96 (170 + a.g.n) (nI t)) 96 (178 + a.g.n) (nI s)) := hV.eq3 rfl
        refine m_comes_L (D := a.t.D) hT hV2 (fun k hk => by rw [uI1, if_neg (by omega), uI1, if_neg (by omega)]; exact h.mt.D k hk) (by omega) fun W f1 D1 => ?_
        have hV3 : MV W := hV2.eq f1.2
        have n0 : W.1 96 0 = nI a.g.n := by rw [f1.1 _ _ (by omega), uI1, if_neg (by omega), uI1, if_neg (by omega)]; exact hn
        simp (disch := omega) only [rf3 hV3, drs, rq96 hT, n0, sp, l0, l1, nI_add, ix_nI]
        have e : ∀ c j, ¬ (sD c j ∨ (c = 96 ∧ (j = 170 + a.g.n ∨ j = 178 + a.g.n ∨ j = 0))) → (uI W 96 0 (nI (a.g.n + 1))).1 c j = V.1 c j := fun c j q => by rw [uI1, if_neg (by omega), f1.1 _ _ (by omega), uI1, if_neg (by omega), uI1, if_neg (by omega)]
        have el : (uI W 96 0 (nI (a.g.n + 1))).2 = V.2 := by rw [uI2, f1.2]; rfl
        have mf' : mCf (uI W 96 0 (nI (a.g.n + 1))) (gAd a.g t s) := by
          have h6 := og.nt
          refine ⟨?_, (e _ _ (by omega)).trans mf.nt, (e _ _ (by omega)).trans mf.nl, (e _ _ (by omega)).trans mf.np, (e _ _ (by omega)).trans mf.fo, (e _ _ (by omega)).trans mf.co, (e _ _ (by omega)).trans mf.mo, (e _ _ (by omega)).trans mf.pa, fun c hc => ?_, fun c hc => ?_, fun k hk => (e _ _ (by omega)).trans (mf.ta k hk), fun i hi => (mf.pl i hi).fr (fun j => e _ _ (by omega)), fun i hi => (mf.lw i hi).fr5 (fun j => e _ _ (by omega))⟩
          · rw [uI1, if_pos ⟨rfl, rfl⟩]
            rfl
          · have hc : c < a.g.n + 1 := hc
            show _ = nI (puN a.g.ti a.g.n t c)
            rw [puN]
            by_cases q : c = a.g.n
            · rw [if_pos q, q, uI1, if_neg (by omega), f1.1 _ _ (by omega), uI1, if_neg (by omega), uI1, if_pos ⟨rfl, rfl⟩]
            · rw [if_neg q, e _ _ (by omega)]
              exact mf.ti c (by omega)
          · have hc : c < a.g.n + 1 := hc
            show _ = nI (puN a.g.sz a.g.n s c)
            rw [puN]
            by_cases q : c = a.g.n
            · rw [if_pos q, q, uI1, if_neg (by omega), f1.1 _ _ (by omega), uI1, if_pos ⟨rfl, rfl⟩]
            · rw [if_neg q, e _ _ (by omega)]
              exact mf.sz c (by omega)
        have mt' : mTb (uI W 96 0 (nI (a.g.n + 1))) (tAd a.t a.g.n 0) := ⟨fun k hk => by rw [uI1, if_neg (by omega)]; exact D1 k hk, (e _ _ (by omega)).trans h.mt.b, (e _ _ (by omega)).trans h.mt.y⟩
        refine Ret.ok ⟨rfl, ?_, ⟨fun c j q => e _ _ (by omega), fun c j q => by rw [el], by rw [el]⟩⟩
        exact h.up (by rw [el]) (fun c j q => e _ _ (by omega)) (fun c j q => by rw [el]) rfl mf' mt' ((h.mu.fr (fun c j q => e _ _ (by omega))).g rfl rfl rfl) ((e _ _ (by omega)).trans h.st) (fun i hi => (e _ _ (by omega)).trans (h.rf i hi)) ((e _ _ (by omega)).trans h.od) ((e _ _ (by omega)).trans h.tn) (fun i hi => (e _ _ (by omega)).trans (h.tp i hi)) ((e _ _ (by omega)).trans h.fa) ((e _ _ (by omega)).trans h.le) ((e _ _ (by omega)).trans h.so) ((e _ _ (by omega)).trans h.dm) (fun i hi q => (e _ _ (by omega)).trans (h.dd i hi q))
theorem okG.ad {g : Cfg} (hg : okG g) (h8 : g.n < 8) {t s : Nat} (h1 : t < 5) (h2 : 1 ≤ s) (h3 : s ≤ 999) : okG (gAd g t s) := by
  refine ⟨?_, fun c hc => ?_, fun c hc => ?_, hg.nt, hg.ta, hg.nl, hg.lw, hg.np, hg.pl, hg.fo, hg.co, hg.mo, hg.pa⟩
  · show g.n + 1 ≤ 8
    omega
  · have hc : c < g.n + 1 := hc
    show puN g.ti g.n t c < 5
    rw [puN]
    split
    · exact h1
    · exact hg.ti c (by omega)
  · have hc : c < g.n + 1 := hc
    show 1 ≤ puN g.sz g.n s c ∧ puN g.sz g.n s c ≤ 999
    rw [puN]
    split
    · exact ⟨h2, h3⟩
    · exact hg.sz c (by omega)
theorem okB.ad {g : Cfg} {b : Tab} (hb : okB g b) {t s fu : Nat} (h4 : fu ≤ s) : okB (gAd g t s) (tAd b g.n fu) := by
  refine ⟨fun c hc => ?_, hb.b, hb.y⟩
  have hc : c < g.n + 1 := hc
  show tAll (pA b.D g.n 20 fun i => if i = 0 then 1000 * fu else 0) c ≤ 1000 * puN g.sz g.n s c
  rw [puN]
  by_cases q : c = g.n
  · rw [if_pos q, q, all_pA]
    have : sg 20 (fun i => if i = 0 then 1000 * fu else 0) = 1000 * fu := by simp [sg]
    omega
  · rw [if_neg q, all_pA' q]
    exact hb.D c (by omega)
theorem OK.ad {a : St} (ok : OK (a.wu (u0 a.u))) (h8 : a.g.n < 8) {t s fu : Nat} (h1 : t < 5) (h2 : 1 ≤ s) (h3 : s ≤ 999) (h4 : fu ≤ s) : OK ((addS a t s fu).wu (u0 (addS a t s fu).u)) :=
  OK.mk ⟨okG.ad ok.g h8 h1 h2 h3, okB.ad ok.t h4, ok.y, fun k hk => absurd hk (Nat.not_lt_zero _), Nat.zero_le _, ok.im, ok.tn, ok.tp, ok.dm⟩
theorem m_cask {T : Tt} {V : Vt} (hT : MT T) {a : St} (h : MR V a) (ok : OK a) {ti sz : Int32} : mOp (f_X5_cask T V 94 ti sz) V (rCask a ti sz) (oCask a ti sz) := by
  have h := h.s0 ok.g (j := 0) (v := 0) (by omega)
  have g8 := ok.g.n
  rw [f_X5_cask, rq hT.1, sp]
  refine mOp.fr (W := uI V 94 0 0) (mF_uI (by omega)) ?_
  generalize uI V 94 0 0 = V at h ⊢
  refine Ret.c (m_comes hT h ok.g) ?_
  intro z W ⟨e, h1, f⟩
  dsimp only at e h1 f
  subst e
  rw [cal_id]
  refine mOp.fr f ?_
  rw [rCask, oCask]
  by_cases hv : isCk ti sz = true
  · rw [if_pos hv] at h1
    rw [if_pos hv, if_pos hv]
    obtain ⟨t, s, rfl, rfl, q1, q2, q3⟩ := isCk_of hv
    rw [ix_nI (by omega), ix_nI (by omega)] at h1 ⊢
    by_cases q : a.g.n = 8
    · rw [if_pos q] at h1
      rw [if_pos q, if_pos q]
      exact m_lastNo (w := 5) hT h1 ok.g (by omega) (by omega)
    · rw [if_neg q] at h1
      rw [if_neg q, if_neg q]
      exact m_lasting hT h1 (okG.ad ok.g (by omega) q1 q2 q3) (nI_0le (by omega))
  · rw [if_neg hv] at h1
    rw [if_neg hv, if_neg hv]
    exact m_lastNo (w := 1) hT h1 ok.g (by omega) (by omega)
