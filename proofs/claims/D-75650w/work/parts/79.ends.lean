/-! 79: a year ends, on both sides -/
set_option maxRecDepth 100000
/-- what a cask loses, by ages -/
def lsA (g : Cfg) (t : Tab) (c a : Nat) : Nat := t.D (20 * c + a) * los g t c / 1000
def gE (g : Cfg) (t : Tab) (c : Nat) : Nat → Nat := agA fun a => t.D (20 * c + a) - lsA g t c a
/-- the drops when the first i casks have ended their year -/
def eD (g : Cfg) (t : Tab) (i : Nat) : Nat → Nat := fun k => if k / 20 < i then gE g t (k / 20) (k % 20) else t.D k
def nE (g : Cfg) (t : Tab) (i : Nat) : Nat := sg i fun c => sg 20 fun a => lsA g t c a
def tEnd (g : Cfg) (t : Tab) : Tab := ⟨eD g t g.n, t.b, t.y + 1⟩
theorem eD_0 {g : Cfg} {t : Tab} : eD g t 0 = t.D := by
  funext k
  rw [eD, if_neg (by omega)]
theorem eD_o {g : Cfg} {t : Tab} {i a : Nat} (ha : a < 20) : eD g t i (20 * i + a) = t.D (20 * i + a) := by
  rw [eD, if_neg (by omega)]
theorem agA_c {f h : Nat → Nat} (e : ∀ a, a < 20 → f a = h a) {a : Nat} (ha : a < 20) : agA f a = agA h a := by
  rw [agA, agA, e 19 (by omega), e 18 (by omega), e (a - 1) (by omega)]
theorem eD_s {g : Cfg} {t : Tab} {i : Nat} : tAge (pA (eD g t i) i 20 fun a => eD g t i (20 * i + a) - eD g t i (20 * i + a) * los g t i / 1000) i = eD g t (i + 1) := by
  funext k
  rw [tAge, eD, pA]
  by_cases q : 20 * i ≤ k ∧ k < 20 * i + 20
  · have e1 : k / 20 = i := by omega
    have e2 : k % 20 = k - 20 * i := by omega
    rw [if_pos q, if_pos (by omega), e1, e2, gE]
    refine agA_c (fun a ha => ?_) (by omega)
    show pA _ i 20 _ (20 * i + a) = _
    rw [pA_in ha, eD_o ha]
    rfl
  · rw [if_neg q, pA_out (by omega), eD]
    by_cases w : k / 20 < i
    · rw [if_pos w, if_pos (by omega)]
    · rw [if_neg w, if_neg (by omega)]
theorem ag_sum {h : Nat → Nat} : sg 20 (agA h) = sg 20 h := by
  simp [sg, agA]
  omega
theorem all_eD {g : Cfg} {t : Tab} {i c : Nat} : tAll (eD g t i) c ≤ tAll t.D c := by
  by_cases q : c < i
  · have h1 : tAll (eD g t i) c = sg 20 (gE g t c) := sg_congr fun a ha => by rw [eD, if_pos (by omega), show (20 * c + a) / 20 = c by omega, show (20 * c + a) % 20 = a by omega]
    rw [h1, gE, ag_sum, tAll]
    exact sg_le fun a _ => Nat.sub_le _ _
  · rw [tAll_o fun a ha => by rw [eD, if_neg (by omega)]]
    exact Nat.le_refl _
theorem ok_eD {g : Cfg} {t : Tab} (h : okB g t) (i : Nat) : okB g (⟨eD g t i, t.b, t.y⟩ : Tab) := ⟨fun c hc => Nat.le_trans all_eD (h.D c hc), h.b, h.y⟩
theorem ok_end {g : Cfg} {t : Tab} (h : okB g t) (hy : t.y < 5000) : okB g (tEnd g t) := ⟨fun c hc => Nat.le_trans all_eD (h.D c hc), h.b, hy⟩
theorem los_c {g : Cfg} {t u : Tab} {c : Nat} (e : ∀ a, a < 20 → u.D (20 * c + a) = t.D (20 * c + a)) (ey : u.y = t.y) : los g u c = los g t c := by
  have e1 : tAll u.D c = tAll t.D c := tAll_o e
  have e2 : (sg 20 fun a => 1000 * a * u.D (20 * c + a)) = sg 20 fun a => 1000 * a * t.D (20 * c + a) := sg_congr fun a ha => by rw [e a ha]
  have e4 : tFull u.D c = tFull t.D c := by rw [tFull, tFull, e1]
  have e5 : tYrs u.D c = tYrs t.D c := by rw [tYrs, tYrs, e1, e2]
  have e3 : vC g u c = vC g t c := by
    funext o
    simp only [vC, vL, e4, e5, ey]
  rw [los, los, sai, sai, e3]
theorem nE_s {g : Cfg} {b : Tab} {i : Nat} : nE g b i + (sg 20 fun a => eD g b i (20 * i + a) * los g b i / 1000) = nE g b (i + 1) := by
  have : (sg 20 fun a => eD g b i (20 * i + a) * los g b i / 1000) = sg 20 fun a => lsA g b i a := sg_congr fun a ha => by rw [eD_o ha, lsA]
  rw [this]
  rfl
theorem c_ends_L49 {T : Tt} {V : Vt} (hC : CT T) (hU : CV V) {t d : Nat} (hH : tH t d) (hk : isTb T V t d) {D : Nat → Nat} (hD : cD V d D) {c l x : Nat} (hc : c < 8) (hl : l ≤ 99) (hB : tAll D c ≤ 999000) (h26 : V.1 26 c = nI l) {kc : Int32 → Int32 → Vt → Option (Int32 × Vt)} {kx k : Int32 → Vt → Option (Int32 × Vt)} {R : Int32 × Vt → Prop}
    (hR : ∀ W, frI (fun h _ => h = d) V W → cD W d (pA D c 20 fun a => D (20 * c + a) - D (20 * c + a) * l / 1000) → Ret (k (nI (x + sg 20 fun a => D (20 * c + a) * l / 1000)) W) R) :
    Ret (f_X0_ends_L49 T 0 t (nI c) kc kx k fuel (nI x) (nI 0) V) R := by
  refine lq3 (f_X0_ends_L49 T 0 t (nI c) kc kx k) (fun i s a W => s = nI (x + sg i fun a => D (20 * c + a) * l / 1000) ∧ a = nI i ∧ frI (fun h _ => h = d) V W ∧ cD W d (pA D c i fun a => D (20 * c + a) - D (20 * c + a) * l / 1000)) 20 ?_ ?_ fuel _ _ _ (by decide) ⟨rfl, rfl, frI.mk (fun _ _ _ => rfl) rfl, fun k hk => by rw [pA_out (by omega)]; exact hD k hk⟩
  · intro i N s a W hi ⟨q1, q2, q3, q5⟩ ih
    subst q1 q2
    have hd : W.1 d (20 * c + i) = nI (D (20 * c + i)) := by rw [q5 _ (by omega), pA_out (by omega)]
    have hw : W.1 26 c = nI l := by rw [q3.1 _ _ (by omega), h26]
    have hg : D (20 * c + i) ≤ tAll D c := sg_one (f := gC D c) hi
    have hm : D (20 * c + i) * l ≤ 999000 * 99 := Nat.mul_le_mul (by omega) hl
    have hle : D (20 * c + i) * l / 1000 ≤ D (20 * c + i) := by
      have : D (20 * c + i) * l ≤ D (20 * c + i) * 1000 := Nat.mul_le_mul_left _ (by omega)
      omega
    simp (disch := omega) only [f_X0_ends_L49, rq_t, drs, sp, pcs, cls, ↓reduceIte, not_true_eq_false, not_false_eq_true, and_true, true_and, and_false, false_and, or_true, true_or, or_false, false_or, eq_self, l0, l1, l2, l3, l4, l5, l6, l7, l8, l9, l10, l11, l12, l13, l14, l15, l16, l17, l18, l19, l20, l21, l22, l23, l24, l25, l26, l27, l28, l29, l30, l31, l32, l33, l34, l35, l36, l37, l40, l41, l42, l43, l45, l47, l48, l50, l57, l59, l60, l61, l62, l63, l85, l91, l93, l96, l97, l98, l99, l100, l120, l122, l146, l160, l165, l170, l178, l186, l198, l255, l400, l900, l948, l999, l1000, l2475, l2640, l2970, l3990, l9390, l18780, l19000, l999999, l1000000, l100000000, l2147483639, nI_add, pk_mul, ix_nI, leT, leF, ltT, ltF, eqT, eqF, nI_leI, nI_ltI, nI_eq, ngEq, ngEq', ngLt, ngLt', ngLe, ngLe', ngNg, nI_p, pk_sub, Nat.reduceAdd, Nat.reduceMul, Nat.reduceSub, uI1, uI2, uL1, uL2, uL3, uR1, uR2, uR3, rq_eq hC.k0, rq_eq hC.k2, rq_eq hC.k3, rq_eq hC.k8, rq_eq hC.k10, rq_eq hC.k17, rq_eq hC.k19, rq_eq hC.k22, rq_eq hC.k23, rq_eq hC.k28, cq1 hC, cq4 hC, cq5 hC, cq6 hC, cq7 hC, cq12 hC, cq13 hC, cq14 hC, cq15 hC, cq16 hC, cq18 hC, cq20 hC, cq21 hC, cq24 hC, cq25 hC, cq26 hC, cq27 hC, cq29 hC, hU.r0_1, hU.r0_2, hU.r0_3, hU.r0_4, hU.r0_5, hU.r0_6, hU.r0_7, hU.r0_8, hU.r0_9, hU.r0_10, hU.r0_16, hU.r0_17, hU.r0_18, hU.r0_22, hU.r0_23, hU.r2_0, hU.r2_1, hU.r2_2, hU.r2_3, hU.r2_4, hU.r2_5, hU.r3_0, hU.r17_0, hU.r19_0, hU.r28_0, hU.r22_0, hU.r22_1, lN_add, lN_mul, lN_i, nI_l, L0, L1, L10, L100, L1000, LM, q3.2, hk.2.1, rq_eq hk.1, rqT hk, hd, hw, pk_lDiv]
    refine ih _ _ _ ⟨?_, rfl, frI.mk ?_ q3.2, ?_⟩
    · rw [sg_s, Nat.add_assoc]
    · intro h j hh
      rw [uI1, if_neg (fun w => hh w.1)]
      exact q3.1 h j hh
    · intro k hk
      simp (disch := omega) only [rq_t, drs, sp, pcs, cls, ↓reduceIte, not_true_eq_false, not_false_eq_true, and_true, true_and, and_false, false_and, or_true, true_or, or_false, false_or, eq_self, l0, l1, l2, l3, l4, l5, l6, l7, l8, l9, l10, l11, l12, l13, l14, l15, l16, l17, l18, l19, l20, l21, l22, l23, l24, l25, l26, l27, l28, l29, l30, l31, l32, l33, l34, l35, l36, l37, l40, l41, l42, l43, l45, l47, l48, l50, l57, l59, l60, l61, l62, l63, l85, l91, l93, l96, l97, l98, l99, l100, l120, l122, l146, l160, l165, l170, l178, l186, l198, l255, l400, l900, l948, l999, l1000, l2475, l2640, l2970, l3990, l9390, l18780, l19000, l999999, l1000000, l100000000, l2147483639, nI_add, pk_mul, ix_nI, leT, leF, ltT, ltF, eqT, eqF, nI_leI, nI_ltI, nI_eq, ngEq, ngEq', ngLt, ngLt', ngLe, ngLe', ngNg, nI_p, pk_sub, Nat.reduceAdd, Nat.reduceMul, Nat.reduceSub, uI1, uI2, uL1, uL2, uL3, uR1, uR2, uR3]
      by_cases e : k = 20 * c + i
      · rw [if_pos e, e, pA_in (by omega)]
      · rw [if_neg e, q5 k hk, pA, pA]
        congr 1
        by_cases q : 20 * c ≤ k ∧ k < 20 * c + i
        · rw [if_pos q, if_pos (by omega)]
        · rw [if_neg q, if_neg (by omega)]
  · intro N s a W ⟨q1, q2, q3, q5⟩
    subst q1 q2
    simp (disch := omega) only [f_X0_ends_L49, rq_t, drs, sp, pcs, cls, ↓reduceIte, not_true_eq_false, not_false_eq_true, and_true, true_and, and_false, false_and, or_true, true_or, or_false, false_or, eq_self, l0, l1, l2, l3, l4, l5, l6, l7, l8, l9, l10, l11, l12, l13, l14, l15, l16, l17, l18, l19, l20, l21, l22, l23, l24, l25, l26, l27, l28, l29, l30, l31, l32, l33, l34, l35, l36, l37, l40, l41, l42, l43, l45, l47, l48, l50, l57, l59, l60, l61, l62, l63, l85, l91, l93, l96, l97, l98, l99, l100, l120, l122, l146, l160, l165, l170, l178, l186, l198, l255, l400, l900, l948, l999, l1000, l2475, l2640, l2970, l3990, l9390, l18780, l19000, l999999, l1000000, l100000000, l2147483639, nI_add, pk_mul, ix_nI, leT, leF, ltT, ltF, eqT, eqF, nI_leI, nI_ltI, nI_eq, ngEq, ngEq', ngLt, ngLt', ngLe, ngLe', ngNg, nI_p, pk_sub, Nat.reduceAdd, Nat.reduceMul, Nat.reduceSub, uI1, uI2, uL1, uL2, uL3, uR1, uR2, uR3]
    exact hR W q3 q5
theorem c_ends_L4 {P : Nat → Prop} {T : Tt} {V : Vt} (hC : CT T) (hU : CV V) {la pa : Nat} (hP : okP' P la pa) {g : Cfg} (hg : okG g) (cf : cCf P T V (ms la pa) g) {t d : Nat} (hH : tH t d) {b : Tab} (hb : okB g b) (ct : cTb T V t d b) {x : Int32} {k : Vt → Option (Int32 × Vt)} {R : Int32 × Vt → Prop}
    (hR : ∀ W, frM (fun h _ => h = 26) lC V W → (∀ c, c < g.n → W.1 26 c = nI (los g b c)) → Ret (k W) R) : Ret (f_X0_ends_L4 T 0 t x k fuel (nI 0) V) R := by
  have h8 := hg.n
  refine lq2 (f_X0_ends_L4 T 0 t x k) (fun i a W => a = nI i ∧ frM (fun h _ => h = 26) lC V W ∧ ∀ c, c < i → W.1 26 c = nI (los g b c)) g.n ?_ ?_ fuel _ _ (Nat.lt_of_le_of_lt h8 (by decide)) ⟨rfl, frM.rfl', fun c hc => absurd hc (by omega)⟩
  · intro i N a W hi ⟨q1, q2, q3⟩ ih
    subst q1
    have hU := hU.eq3 q2.2.2
    have cf := cf.fc hP (W := W) (fun h j w => q2.1 _ _ (by omega)) (fun h j _ => by rw [q2.2.2])
    have ct := ct.fr (W := W) (fun j => q2.1 _ _ (by omega)) (fun j => q2.1 _ _ (by omega)) (fun j => by rw [q2.2.2])
    have hn := cf.n
    dsimp only [ms] at hn
    simp (disch := omega) only [f_X0_ends_L4, rq_t, drs, sp, pcs, cls, ↓reduceIte, not_true_eq_false, not_false_eq_true, and_true, true_and, and_false, false_and, or_true, true_or, or_false, false_or, eq_self, l0, l1, l2, l3, l4, l5, l6, l7, l8, l9, l10, l11, l12, l13, l14, l15, l16, l17, l18, l19, l20, l21, l22, l23, l24, l25, l26, l27, l28, l29, l30, l31, l32, l33, l34, l35, l36, l37, l40, l41, l42, l43, l45, l47, l48, l50, l57, l59, l60, l61, l62, l63, l85, l91, l93, l96, l97, l98, l99, l100, l120, l122, l146, l160, l165, l170, l178, l186, l198, l255, l400, l900, l948, l999, l1000, l2475, l2640, l2970, l3990, l9390, l18780, l19000, l999999, l1000000, l100000000, l2147483639, nI_add, pk_mul, ix_nI, leT, leF, ltT, ltF, eqT, eqF, nI_leI, nI_ltI, nI_eq, ngEq, ngEq', ngLt, ngLt', ngLe, ngLe', ngNg, nI_p, pk_sub, Nat.reduceAdd, Nat.reduceMul, Nat.reduceSub, uI1, uI2, uL1, uL2, uL3, uR1, uR2, uR3, rq_eq hC.k0, rq_eq hC.k2, rq_eq hC.k3, rq_eq hC.k8, rq_eq hC.k10, rq_eq hC.k17, rq_eq hC.k19, rq_eq hC.k22, rq_eq hC.k23, rq_eq hC.k28, cq1 hC, cq4 hC, cq5 hC, cq6 hC, cq7 hC, cq12 hC, cq13 hC, cq14 hC, cq15 hC, cq16 hC, cq18 hC, cq20 hC, cq21 hC, cq24 hC, cq25 hC, cq26 hC, cq27 hC, cq29 hC, hU.r0_1, hU.r0_2, hU.r0_3, hU.r0_4, hU.r0_5, hU.r0_6, hU.r0_7, hU.r0_8, hU.r0_9, hU.r0_10, hU.r0_16, hU.r0_17, hU.r0_18, hU.r0_22, hU.r0_23, hU.r2_0, hU.r2_1, hU.r2_2, hU.r2_3, hU.r2_4, hU.r2_5, hU.r3_0, hU.r17_0, hU.r19_0, hU.r28_0, hU.r22_0, hU.r22_1, hn]
    refine Ret.c (c_loses hC hU hP hg cf hb ct hi) ?_
    intro z U ⟨e, f⟩
    dsimp only at e f
    subst e
    refine ih _ _ ⟨rfl, ⟨fun h j q => ?_, fun h j q => ?_, ?_⟩, fun c hc => ?_⟩
    · rw [uI1, if_neg (fun w => q w.1), f.1 _ _ id]
      exact q2.1 h j q
    · rw [uI2, f.2.1 _ _ q]
      exact q2.2.1 h j q
    · rw [uI2, f.2.2, q2.2.2]
    · rw [uI1]
      by_cases e : c = i
      · rw [if_pos ⟨rfl, e⟩, e]
      · rw [if_neg (fun w => e w.2), f.1 _ _ id]
        exact q3 c (by omega)
  · intro N a W ⟨q1, q2, q3⟩
    subst q1
    have hU := hU.eq3 q2.2.2
    have cf := cf.fc hP (W := W) (fun h j w => q2.1 _ _ (by omega)) (fun h j _ => by rw [q2.2.2])
    have hn := cf.n
    dsimp only [ms] at hn
    simp (disch := omega) only [f_X0_ends_L4, rq_t, drs, sp, pcs, cls, ↓reduceIte, not_true_eq_false, not_false_eq_true, and_true, true_and, and_false, false_and, or_true, true_or, or_false, false_or, eq_self, l0, l1, l2, l3, l4, l5, l6, l7, l8, l9, l10, l11, l12, l13, l14, l15, l16, l17, l18, l19, l20, l21, l22, l23, l24, l25, l26, l27, l28, l29, l30, l31, l32, l33, l34, l35, l36, l37, l40, l41, l42, l43, l45, l47, l48, l50, l57, l59, l60, l61, l62, l63, l85, l91, l93, l96, l97, l98, l99, l100, l120, l122, l146, l160, l165, l170, l178, l186, l198, l255, l400, l900, l948, l999, l1000, l2475, l2640, l2970, l3990, l9390, l18780, l19000, l999999, l1000000, l100000000, l2147483639, nI_add, pk_mul, ix_nI, leT, leF, ltT, ltF, eqT, eqF, nI_leI, nI_ltI, nI_eq, ngEq, ngEq', ngLt, ngLt', ngLe, ngLe', ngNg, nI_p, pk_sub, Nat.reduceAdd, Nat.reduceMul, Nat.reduceSub, uI1, uI2, uL1, uL2, uL3, uR1, uR2, uR3, rq_eq hC.k0, rq_eq hC.k2, rq_eq hC.k3, rq_eq hC.k8, rq_eq hC.k10, rq_eq hC.k17, rq_eq hC.k19, rq_eq hC.k22, rq_eq hC.k23, rq_eq hC.k28, cq1 hC, cq4 hC, cq5 hC, cq6 hC, cq7 hC, cq12 hC, cq13 hC, cq14 hC, cq15 hC, cq16 hC, cq18 hC, cq20 hC, cq21 hC, cq24 hC, cq25 hC, cq26 hC, cq27 hC, cq29 hC, hU.r0_1, hU.r0_2, hU.r0_3, hU.r0_4, hU.r0_5, hU.r0_6, hU.r0_7, hU.r0_8, hU.r0_9, hU.r0_10, hU.r0_16, hU.r0_17, hU.r0_18, hU.r0_22, hU.r0_23, hU.r2_0, hU.r2_1, hU.r2_2, hU.r2_3, hU.r2_4, hU.r2_5, hU.r3_0, hU.r17_0, hU.r19_0, hU.r28_0, hU.r22_0, hU.r22_1, hn]
    exact hR W q2 q3
abbrev sEn (t d h j : Nat) : Prop := h = d ∨ h = 26 ∨ (h = t ∧ j = 2)
theorem c_ends_L35 {P : Nat → Prop} {T : Tt} {W : Vt} (hC : CT T) (hU : CV W) {la pa : Nat} {g : Cfg} (hg : okG g) (cf : cCf P T W (ms la pa) g) {t d : Nat} (hH : tH t d) {b : Tab} (hb : okB g b) (ct : cTb T W t d b) (h26 : ∀ c, c < g.n → W.1 26 c = nI (los g b c)) {k : Int32 → Vt → Option (Int32 × Vt)} {R : Int32 × Vt → Prop}
    (hR : ∀ U, frI (fun h _ => h = d) W U → cD U d (eD g b g.n) → Ret (k (nI (nE g b g.n)) U) R) : Ret (f_X0_ends_L35 T 0 t k fuel (nI 0) (nI 0) W) R := by
  have h8 := hg.n
  refine lq3 (f_X0_ends_L35 T 0 t k) (fun i s a U => s = nI (nE g b i) ∧ a = nI i ∧ frI (fun h _ => h = d) W U ∧ cD U d (eD g b i)) g.n ?_ ?_ fuel _ _ _ (Nat.lt_of_le_of_lt h8 (by decide)) ⟨rfl, rfl, frI.mk (fun _ _ _ => rfl) rfl, by rw [eD_0]; exact ct.D⟩
  · intro i N s a U hi ⟨q1, q2, q3, q5⟩ ih
    subst q1 q2
    have hU := hU.eq3 (W := U) (by rw [q3.2])
    have hn : U.1 2 6 = nI g.n := (q3.1 _ _ (by omega)).trans cf.n
    simp (disch := omega) only [f_X0_ends_L35, rq_t, drs, sp, pcs, cls, ↓reduceIte, not_true_eq_false, not_false_eq_true, and_true, true_and, and_false, false_and, or_true, true_or, or_false, false_or, eq_self, l0, l1, l2, l3, l4, l5, l6, l7, l8, l9, l10, l11, l12, l13, l14, l15, l16, l17, l18, l19, l20, l21, l22, l23, l24, l25, l26, l27, l28, l29, l30, l31, l32, l33, l34, l35, l36, l37, l40, l41, l42, l43, l45, l47, l48, l50, l57, l59, l60, l61, l62, l63, l85, l91, l93, l96, l97, l98, l99, l100, l120, l122, l146, l160, l165, l170, l178, l186, l198, l255, l400, l900, l948, l999, l1000, l2475, l2640, l2970, l3990, l9390, l18780, l19000, l999999, l1000000, l100000000, l2147483639, nI_add, pk_mul, ix_nI, leT, leF, ltT, ltF, eqT, eqF, nI_leI, nI_ltI, nI_eq, ngEq, ngEq', ngLt, ngLt', ngLe, ngLe', ngNg, nI_p, pk_sub, Nat.reduceAdd, Nat.reduceMul, Nat.reduceSub, uI1, uI2, uL1, uL2, uL3, uR1, uR2, uR3, rq_eq hC.k0, rq_eq hC.k2, rq_eq hC.k3, rq_eq hC.k8, rq_eq hC.k10, rq_eq hC.k17, rq_eq hC.k19, rq_eq hC.k22, rq_eq hC.k23, rq_eq hC.k28, cq1 hC, cq4 hC, cq5 hC, cq6 hC, cq7 hC, cq12 hC, cq13 hC, cq14 hC, cq15 hC, cq16 hC, cq18 hC, cq20 hC, cq21 hC, cq24 hC, cq25 hC, cq26 hC, cq27 hC, cq29 hC, hU.r0_1, hU.r0_2, hU.r0_3, hU.r0_4, hU.r0_5, hU.r0_6, hU.r0_7, hU.r0_8, hU.r0_9, hU.r0_10, hU.r0_16, hU.r0_17, hU.r0_18, hU.r0_22, hU.r0_23, hU.r2_0, hU.r2_1, hU.r2_2, hU.r2_3, hU.r2_4, hU.r2_5, hU.r3_0, hU.r17_0, hU.r19_0, hU.r28_0, hU.r22_0, hU.r22_1, hn]
    have hk : isTb T U t d := ⟨ct.k.1, by rw [q3.2]; exact ct.k.2.1, ct.k.2.2⟩
    refine c_ends_L49 hC hU hH hk q5 (by omega) los_le (Nat.le_trans all_eD (hb.a hg hi)) ((q3.1 _ _ (by omega)).trans (h26 i hi)) fun X f2 D2 => ?_
    have hk2 : isTb T X t d := ⟨ct.k.1, by rw [f2.2, q3.2]; exact ct.k.2.1, ct.k.2.2⟩
    refine Ret.p (c_ages hk2 D2 (by omega)) ?_
    intro Y ⟨f3, D3⟩
    refine ih _ _ _ ⟨?_, rfl, frI.mk (fun h j q => ?_) ?_, ?_⟩
    · rw [nE_s]
    · rw [f3.1 _ _ q, f2.1 _ _ q, q3.1 _ _ q]
    · rw [f3.2, f2.2, q3.2]
    · rw [← eD_s]
      exact D3
  · intro N s a U ⟨q1, q2, q3, q5⟩
    subst q1 q2
    have hU := hU.eq3 (W := U) (by rw [q3.2])
    have hn : U.1 2 6 = nI g.n := (q3.1 _ _ (by omega)).trans cf.n
    simp (disch := omega) only [f_X0_ends_L35, rq_t, drs, sp, pcs, cls, ↓reduceIte, not_true_eq_false, not_false_eq_true, and_true, true_and, and_false, false_and, or_true, true_or, or_false, false_or, eq_self, l0, l1, l2, l3, l4, l5, l6, l7, l8, l9, l10, l11, l12, l13, l14, l15, l16, l17, l18, l19, l20, l21, l22, l23, l24, l25, l26, l27, l28, l29, l30, l31, l32, l33, l34, l35, l36, l37, l40, l41, l42, l43, l45, l47, l48, l50, l57, l59, l60, l61, l62, l63, l85, l91, l93, l96, l97, l98, l99, l100, l120, l122, l146, l160, l165, l170, l178, l186, l198, l255, l400, l900, l948, l999, l1000, l2475, l2640, l2970, l3990, l9390, l18780, l19000, l999999, l1000000, l100000000, l2147483639, nI_add, pk_mul, ix_nI, leT, leF, ltT, ltF, eqT, eqF, nI_leI, nI_ltI, nI_eq, ngEq, ngEq', ngLt, ngLt', ngLe, ngLe', ngNg, nI_p, pk_sub, Nat.reduceAdd, Nat.reduceMul, Nat.reduceSub, uI1, uI2, uL1, uL2, uL3, uR1, uR2, uR3, rq_eq hC.k0, rq_eq hC.k2, rq_eq hC.k3, rq_eq hC.k8, rq_eq hC.k10, rq_eq hC.k17, rq_eq hC.k19, rq_eq hC.k22, rq_eq hC.k23, rq_eq hC.k28, cq1 hC, cq4 hC, cq5 hC, cq6 hC, cq7 hC, cq12 hC, cq13 hC, cq14 hC, cq15 hC, cq16 hC, cq18 hC, cq20 hC, cq21 hC, cq24 hC, cq25 hC, cq26 hC, cq27 hC, cq29 hC, hU.r0_1, hU.r0_2, hU.r0_3, hU.r0_4, hU.r0_5, hU.r0_6, hU.r0_7, hU.r0_8, hU.r0_9, hU.r0_10, hU.r0_16, hU.r0_17, hU.r0_18, hU.r0_22, hU.r0_23, hU.r2_0, hU.r2_1, hU.r2_2, hU.r2_3, hU.r2_4, hU.r2_5, hU.r3_0, hU.r17_0, hU.r19_0, hU.r28_0, hU.r22_0, hU.r22_1, hn]
    exact hR U q3 q5
theorem c_ends {P : Nat → Prop} {T : Tt} {V : Vt} (hC : CT T) (hU : CV V) {la pa : Nat} (hP : okP' P la pa) {g : Cfg} (hg : okG g) (cf : cCf P T V (ms la pa) g) {t d : Nat} (hH : tH t d) {b : Tab} (hb : okB g b) (ct : cTb T V t d b) :
    Ret (f_X0_ends T V 0 t) fun p => p.1 = nI (nE g b g.n) ∧ frM (sEn t d) lC V p.2 ∧ cTb T p.2 t d (tEnd g b) := by
  have h8 := hg.n
  rw [f_X0_ends, rq hC.k0]
  refine c_ends_L4 hC hU hP hg cf hH hb ct fun W f1 h26 => ?_
  have hU := hU.eq3 f1.2.2
  have cf := cf.fc hP (W := W) (fun h j w => f1.1 _ _ (by omega)) (fun h j _ => by rw [f1.2.2])
  have ct := ct.fr (W := W) (fun j => f1.1 _ _ (by omega)) (fun j => f1.1 _ _ (by omega)) (fun j => by rw [f1.2.2])
  refine c_ends_L35 hC hU hg cf hH hb ct h26 fun U q3 q5 => ?_
  have hy : U.1 t 2 = nI b.y := (q3.1 _ _ (by omega)).trans ct.y
  simp (disch := omega) only [rq_t, drs, sp, pcs, cls, ↓reduceIte, not_true_eq_false, not_false_eq_true, and_true, true_and, and_false, false_and, or_true, true_or, or_false, false_or, eq_self, l0, l1, l2, l3, l4, l5, l6, l7, l8, l9, l10, l11, l12, l13, l14, l15, l16, l17, l18, l19, l20, l21, l22, l23, l24, l25, l26, l27, l28, l29, l30, l31, l32, l33, l34, l35, l36, l37, l40, l41, l42, l43, l45, l47, l48, l50, l57, l59, l60, l61, l62, l63, l85, l91, l93, l96, l97, l98, l99, l100, l120, l122, l146, l160, l165, l170, l178, l186, l198, l255, l400, l900, l948, l999, l1000, l2475, l2640, l2970, l3990, l9390, l18780, l19000, l999999, l1000000, l100000000, l2147483639, nI_add, pk_mul, ix_nI, leT, leF, ltT, ltF, eqT, eqF, nI_leI, nI_ltI, nI_eq, ngEq, ngEq', ngLt, ngLt', ngLe, ngLe', ngNg, nI_p, pk_sub, Nat.reduceAdd, Nat.reduceMul, Nat.reduceSub, uI1, uI2, uL1, uL2, uL3, uR1, uR2, uR3, rq_eq ct.k.1, hy]
  refine Ret.ok ⟨rfl, ⟨fun h j q => ?_, fun h j q => ?_, ?_⟩, ⟨ct.k.1, ?_, ct.k.2.2⟩, fun k hk => ?_, ?_, ?_⟩
  · rw [uI1, if_neg (by omega), q3.1 _ _ (by omega), f1.1 _ _ (by omega)]
  · rw [uI2, q3.2]
    exact f1.2.1 h j q
  · rw [uI2, q3.2, f1.2.2]
  · rw [uI2, q3.2]
    exact ct.k.2.1
  · rw [uI1, if_neg (by omega)]
    exact q5 k hk
  · rw [uI1, if_neg (by omega), q3.1 _ _ (by omega)]
    exact ct.b
  · rw [uI1, if_pos ⟨rfl, rfl⟩]
    rfl
/-- the model's -/
theorem m_pass_L32 {T : Tt} {V : Vt} (hT : MT T) (hV : MV V) {D : Nat → Nat} (hD : mD V D) {c l x : Nat} {x2 : Int32} (hc : c < 8) (hl : l ≤ 99) (hB : tAll D c ≤ 999000) {kc : Int32 → Int32 → Vt → Option (Int32 × Vt)} {kx k : Int32 → Vt → Option (Int32 × Vt)} {R : Int32 × Vt → Prop}
    (hR : ∀ W, frI sD V W → mD W (pA D c 20 fun a => D (20 * c + a) - D (20 * c + a) * l / 1000) → Ret (k (nI (x + sg 20 fun a => D (20 * c + a) * l / 1000)) W) R) :
    Ret (f_X5_passIt_L32 T 94 x2 (nI l) (nI (10 + 20 * c)) kc kx k fuel (nI x) (nI 0) V) R := by
  refine lq3 (f_X5_passIt_L32 T 94 x2 (nI l) (nI (10 + 20 * c)) kc kx k) (fun i s a W => s = nI (x + sg i fun a => D (20 * c + a) * l / 1000) ∧ a = nI i ∧ frI sD V W ∧ mD W (pA D c i fun a => D (20 * c + a) - D (20 * c + a) * l / 1000)) 20 ?_ ?_ fuel _ _ _ (by decide) ⟨rfl, rfl, frI.mk (fun _ _ _ => rfl) rfl, fun k hk => by rw [pA_out (by omega)]; exact hD k hk⟩
  · intro i N s a W hi ⟨q1, q2, q3, q5⟩ ih
    subst q1 q2
    have hd : W.1 96 (10 + 20 * c + i) = nI (D (20 * c + i)) := by rw [show 10 + 20 * c + i = 10 + (20 * c + i) by omega, q5 _ (by omega), pA_out (by omega)]
    have hg : D (20 * c + i) ≤ tAll D c := sg_one (f := gC D c) hi
    have hm : D (20 * c + i) * l ≤ 999000 * 99 := Nat.mul_le_mul (by omega) hl
    have hle : D (20 * c + i) * l / 1000 ≤ D (20 * c + i) := by
      have : D (20 * c + i) * l ≤ D (20 * c + i) * 1000 := Nat.mul_le_mul_left _ (by omega)
      omega
    have hV := hV.eq q3.2
    simp (disch := omega) only [f_X5_passIt_L32, rq_t, drs, sp, pcs, cls, ↓reduceIte, not_true_eq_false, not_false_eq_true, and_true, true_and, and_false, false_and, or_true, true_or, or_false, false_or, eq_self, l0, l1, l2, l3, l4, l5, l6, l7, l8, l9, l10, l11, l12, l13, l14, l15, l16, l17, l18, l19, l20, l21, l22, l23, l24, l25, l26, l27, l28, l29, l30, l31, l32, l33, l34, l35, l36, l37, l40, l41, l42, l43, l45, l47, l48, l50, l57, l59, l60, l61, l62, l63, l85, l91, l93, l96, l97, l98, l99, l100, l120, l122, l146, l160, l165, l170, l178, l186, l198, l255, l400, l900, l948, l999, l1000, l2475, l2640, l2970, l3990, l9390, l18780, l19000, l999999, l1000000, l100000000, l2147483639, nI_add, pk_mul, ix_nI, leT, leF, ltT, ltF, eqT, eqF, nI_leI, nI_ltI, nI_eq, ngEq, ngEq', ngLt, ngLt', ngLe, ngLe', ngNg, nI_p, pk_sub, Nat.reduceAdd, Nat.reduceMul, Nat.reduceSub, uI1, uI2, uL1, uL2, uL3, uR1, uR2, uR3, rq_eq (MT0 hT), rq95 hT, rf2 hV, rq96 hT, rf3 hV, rq97 hT, rf4 hV, rq98 hT, rf5 hV, rq99 hT, rf6 hV, rq100 hT, rf7 hV, rq101 hT, rf9 hV, rq102 hT, rf10 hV, rq103 hT, rf12 hV, rq104 hT, rf22 hV, rq105 hT, rf24 hV, rq106 hT, rf25 hV, rq107 hT, rf27 hV, rq108 hT, rf28 hV, rq109 hT, rf31 hV, rq110 hT, rf32 hV, rq111 hT, rf33 hV, rq112 hT, rf35 hV, rq113 hT, rf36 hV, rq114 hT, rf37 hV, rq115 hT, rf41 hV, rq116 hT, rf44 hV, rq117 hT, rf45 hV, rq118 hT, rf51 hV, rq119 hT, rf53 hV, lN_add, lN_mul, lN_i, nI_l, L0, L1, L10, L100, L1000, LM, hd, pk_lDiv]
    refine ih _ _ _ ⟨?_, rfl, frI.mk ?_ q3.2, ?_⟩
    · rw [sg_s, Nat.add_assoc]
    · intro h j hh
      rw [uI1, if_neg (by omega)]
      exact q3.1 h j hh
    · intro k hk
      rw [uI1]
      by_cases e : k = 20 * c + i
      · rw [if_pos ⟨rfl, by omega⟩, e, pA_in (by omega)]
      · rw [if_neg (by omega), q5 k hk, pA, pA]
        congr 1
        by_cases q : 20 * c ≤ k ∧ k < 20 * c + i
        · rw [if_pos q, if_pos (by omega)]
        · rw [if_neg q, if_neg (by omega)]
  · intro N s a W ⟨q1, q2, q3, q5⟩
    subst q1 q2
    simp (disch := omega) only [f_X5_passIt_L32, rq_t, drs, sp, pcs, cls, ↓reduceIte, not_true_eq_false, not_false_eq_true, and_true, true_and, and_false, false_and, or_true, true_or, or_false, false_or, eq_self, l0, l1, l2, l3, l4, l5, l6, l7, l8, l9, l10, l11, l12, l13, l14, l15, l16, l17, l18, l19, l20, l21, l22, l23, l24, l25, l26, l27, l28, l29, l30, l31, l32, l33, l34, l35, l36, l37, l40, l41, l42, l43, l45, l47, l48, l50, l57, l59, l60, l61, l62, l63, l85, l91, l93, l96, l97, l98, l99, l100, l120, l122, l146, l160, l165, l170, l178, l186, l198, l255, l400, l900, l948, l999, l1000, l2475, l2640, l2970, l3990, l9390, l18780, l19000, l999999, l1000000, l100000000, l2147483639, nI_add, pk_mul, ix_nI, leT, leF, ltT, ltF, eqT, eqF, nI_leI, nI_ltI, nI_eq, ngEq, ngEq', ngLt, ngLt', ngLe, ngLe', ngNg, nI_p, pk_sub, Nat.reduceAdd, Nat.reduceMul, Nat.reduceSub, uI1, uI2, uL1, uL2, uL3, uR1, uR2, uR3]
    exact hR W q3 q5
/-- the drops of a cask, when the ages from 19 down to 19 - i are a year elder -/
def agI (g : Nat → Nat) (i a : Nat) : Nat := if a = 19 then g 19 + g 18 else if 18 - i < a then g (a - 1) else g a
theorem m_pass_L115 {T : Tt} {V : Vt} (hT : MT T) (hV : MV V) {D : Nat → Nat} {c : Nat} (hD : mD V (pA D c 20 (agI (gC D c) 0))) {x1 x2 : Int32} (hc : c < 8) {kc : Int32 → Int32 → Vt → Option (Int32 × Vt)} {kx : Int32 → Vt → Option (Int32 × Vt)} {k : Vt → Option (Int32 × Vt)} {R : Int32 × Vt → Prop}
    (hR : ∀ W, frI sD V W → mD W (pA D c 20 (agI (gC D c) 18)) → Ret (k W) R) :
    Ret (f_X5_passIt_L115 T 94 x1 x2 (nI (10 + 20 * c)) kc kx k fuel (nI 18) V) R := by
  refine lq2 (f_X5_passIt_L115 T 94 x1 x2 (nI (10 + 20 * c)) kc kx k) (fun i a W => a = nI (18 - i) ∧ frI sD V W ∧ mD W (pA D c 20 (agI (gC D c) i))) 18 ?_ ?_ fuel _ _ (by decide) ⟨rfl, frI.mk (fun _ _ _ => rfl) rfl, hD⟩
  · intro i N a W hi ⟨q2, q3, q5⟩ ih
    subst q2
    have hd : W.1 96 (10 + 20 * c + (18 - i) - 1) = nI (gC D c (18 - i - 1)) := by
      rw [show 10 + 20 * c + (18 - i) - 1 = 10 + (20 * c + (18 - i - 1)) by omega, q5 _ (by omega), pA_in (by omega), agI, if_neg (by omega), if_neg (by omega)]
    have hV := hV.eq q3.2
    simp (disch := omega) only [f_X5_passIt_L115, rq_t, drs, sp, pcs, cls, ↓reduceIte, not_true_eq_false, not_false_eq_true, and_true, true_and, and_false, false_and, or_true, true_or, or_false, false_or, eq_self, l0, l1, l2, l3, l4, l5, l6, l7, l8, l9, l10, l11, l12, l13, l14, l15, l16, l17, l18, l19, l20, l21, l22, l23, l24, l25, l26, l27, l28, l29, l30, l31, l32, l33, l34, l35, l36, l37, l40, l41, l42, l43, l45, l47, l48, l50, l57, l59, l60, l61, l62, l63, l85, l91, l93, l96, l97, l98, l99, l100, l120, l122, l146, l160, l165, l170, l178, l186, l198, l255, l400, l900, l948, l999, l1000, l2475, l2640, l2970, l3990, l9390, l18780, l19000, l999999, l1000000, l100000000, l2147483639, nI_add, pk_mul, ix_nI, leT, leF, ltT, ltF, eqT, eqF, nI_leI, nI_ltI, nI_eq, ngEq, ngEq', ngLt, ngLt', ngLe, ngLe', ngNg, nI_p, pk_sub, Nat.reduceAdd, Nat.reduceMul, Nat.reduceSub, uI1, uI2, uL1, uL2, uL3, uR1, uR2, uR3, rq_eq (MT0 hT), rq95 hT, rf2 hV, rq96 hT, rf3 hV, rq97 hT, rf4 hV, rq98 hT, rf5 hV, rq99 hT, rf6 hV, rq100 hT, rf7 hV, rq101 hT, rf9 hV, rq102 hT, rf10 hV, rq103 hT, rf12 hV, rq104 hT, rf22 hV, rq105 hT, rf24 hV, rq106 hT, rf25 hV, rq107 hT, rf27 hV, rq108 hT, rf28 hV, rq109 hT, rf31 hV, rq110 hT, rf32 hV, rq111 hT, rf33 hV, rq112 hT, rf35 hV, rq113 hT, rf36 hV, rq114 hT, rf37 hV, rq115 hT, rf41 hV, rq116 hT, rf44 hV, rq117 hT, rf45 hV, rq118 hT, rf51 hV, rq119 hT, rf53 hV, hd]
    refine ih _ _ ⟨by congr 1, frI.mk ?_ q3.2, ?_⟩
    · intro h j hh
      rw [uI1, if_neg (by omega)]
      exact q3.1 h j hh
    · intro k hk
      rw [uI1]
      by_cases e : k = 20 * c + (18 - i)
      · rw [if_pos ⟨rfl, by omega⟩, e, pA_in (by omega), agI, if_neg (by omega), if_pos (by omega)]
      · rw [if_neg (by omega), q5 k hk, pA, pA]
        congr 1
        by_cases q : 20 * c ≤ k ∧ k < 20 * c + 20
        · rw [if_pos q, if_pos q, agI, agI]
          by_cases w : k - 20 * c = 19
          · rw [if_pos w, if_pos w]
          · rw [if_neg w, if_neg w]
            by_cases w2 : 18 - i < k - 20 * c
            · rw [if_pos w2, if_pos (by omega)]
            · rw [if_neg w2, if_neg (by omega)]
        · rw [if_neg q, if_neg q]
  · intro N a W ⟨q2, q3, q5⟩
    subst q2
    simp (disch := omega) only [f_X5_passIt_L115, rq_t, drs, sp, pcs, cls, ↓reduceIte, not_true_eq_false, not_false_eq_true, and_true, true_and, and_false, false_and, or_true, true_or, or_false, false_or, eq_self, l0, l1, l2, l3, l4, l5, l6, l7, l8, l9, l10, l11, l12, l13, l14, l15, l16, l17, l18, l19, l20, l21, l22, l23, l24, l25, l26, l27, l28, l29, l30, l31, l32, l33, l34, l35, l36, l37, l40, l41, l42, l43, l45, l47, l48, l50, l57, l59, l60, l61, l62, l63, l85, l91, l93, l96, l97, l98, l99, l100, l120, l122, l146, l160, l165, l170, l178, l186, l198, l255, l400, l900, l948, l999, l1000, l2475, l2640, l2970, l3990, l9390, l18780, l19000, l999999, l1000000, l100000000, l2147483639, nI_add, pk_mul, ix_nI, leT, leF, ltT, ltF, eqT, eqF, nI_leI, nI_ltI, nI_eq, ngEq, ngEq', ngLt, ngLt', ngLe, ngLe', ngNg, nI_p, pk_sub, Nat.reduceAdd, Nat.reduceMul, Nat.reduceSub, uI1, uI2, uL1, uL2, uL3, uR1, uR2, uR3]
    exact hR W q3 q5
abbrev sPa (h j : Nat) : Prop := sD h j ∨ sF h j ∨ (h = 96 ∧ j = 5)
theorem m_pass_L4 {T : Tt} {V : Vt} (hT : MT T) (hV : MV V) {g : Cfg} (hg : okG g) (mf : mCf V g) {b : Tab} (hb : okB g b) (mt : mTb V b) (ho : isB (V.1 94 20)) {k : Int32 → Vt → Option (Int32 × Vt)} {R : Int32 × Vt → Prop}
    (hR : ∀ U, frM (fun h j => sD h j ∨ sF h j) lF V U → mD U (eD g b g.n) → Ret (k (nI (nE g b g.n)) U) R) :
    Ret (f_X5_passIt_L4 T 94 k fuel (nI 0) (nI 0) V) R := by
  have h8 := hg.n
  refine lq3 (f_X5_passIt_L4 T 94 k) (fun i s a U => s = nI (nE g b i) ∧ a = nI i ∧ frM (fun h j => sD h j ∨ sF h j) lF V U ∧ mD U (eD g b i)) g.n ?_ ?_ fuel _ _ _ (Nat.lt_of_le_of_lt h8 (by decide)) ⟨rfl, rfl, frM.rfl', by rw [eD_0]; exact mt.D⟩
  · intro i N s a U hi ⟨q1, q2, q3, q5⟩ ih
    subst q1 q2
    have hV := hV.eq3 q3.2.2
    have mf := mf.fr hg (W := U) (fun j _ _ _ => q3.1 _ _ (by omega))
    have hb' := ok_eD hb i
    have mt' : mTb U (⟨eD g b i, b.b, b.y⟩ : Tab) := ⟨q5, (q3.1 _ _ (by omega)).trans mt.b, (q3.1 _ _ (by omega)).trans mt.y⟩
    have ho' : isB (U.1 94 20) := by rw [q3.1 _ _ (by omega)]; exact ho
    have hlo : los g (⟨eD g b i, b.b, b.y⟩ : Tab) i = los g b i := los_c (fun a ha => eD_o ha) rfl
    simp (disch := omega) only [f_X5_passIt_L4, rq_t, drs, sp, pcs, cls, ↓reduceIte, not_true_eq_false, not_false_eq_true, and_true, true_and, and_false, false_and, or_true, true_or, or_false, false_or, eq_self, l0, l1, l2, l3, l4, l5, l6, l7, l8, l9, l10, l11, l12, l13, l14, l15, l16, l17, l18, l19, l20, l21, l22, l23, l24, l25, l26, l27, l28, l29, l30, l31, l32, l33, l34, l35, l36, l37, l40, l41, l42, l43, l45, l47, l48, l50, l57, l59, l60, l61, l62, l63, l85, l91, l93, l96, l97, l98, l99, l100, l120, l122, l146, l160, l165, l170, l178, l186, l198, l255, l400, l900, l948, l999, l1000, l2475, l2640, l2970, l3990, l9390, l18780, l19000, l999999, l1000000, l100000000, l2147483639, nI_add, pk_mul, ix_nI, leT, leF, ltT, ltF, eqT, eqF, nI_leI, nI_ltI, nI_eq, ngEq, ngEq', ngLt, ngLt', ngLe, ngLe', ngNg, nI_p, pk_sub, Nat.reduceAdd, Nat.reduceMul, Nat.reduceSub, uI1, uI2, uL1, uL2, uL3, uR1, uR2, uR3, rq_eq (MT0 hT), rq95 hT, rf2 hV, rq96 hT, rf3 hV, rq97 hT, rf4 hV, rq98 hT, rf5 hV, rq99 hT, rf6 hV, rq100 hT, rf7 hV, rq101 hT, rf9 hV, rq102 hT, rf10 hV, rq103 hT, rf12 hV, rq104 hT, rf22 hV, rq105 hT, rf24 hV, rq106 hT, rf25 hV, rq107 hT, rf27 hV, rq108 hT, rf28 hV, rq109 hT, rf31 hV, rq110 hT, rf32 hV, rq111 hT, rf33 hV, rq112 hT, rf35 hV, rq113 hT, rf36 hV, rq114 hT, rf37 hV, rq115 hT, rf41 hV, rq116 hT, rf44 hV, rq117 hT, rf45 hV, rq118 hT, rf51 hV, rq119 hT, rf53 hV, mf.n]
    refine Ret.c (m_loses hT hV hg mf hb' mt' ho' hi) ?_
    intro z W ⟨e, f⟩
    dsimp only at e f
    rw [hlo] at e
    subst e
    have hV := hV.eq3 f.2.2
    have D1 : mD W (eD g b i) := fun k hk => (f.1 _ _ (by omega)).trans (q5 k hk)
    refine m_pass_L32 hT hV D1 (by omega) los_le (Nat.le_trans all_eD (hb.a hg hi)) fun X f2 D2 => ?_
    have hV := hV.eq f2.2
    have hes := eD_s (g := g) (t := b) (i := i)
    generalize (pA (eD g b i) i 20 fun a => eD g b i (20 * i + a) - eD g b i (20 * i + a) * los g b i / 1000) = DD at D2 hes
    have e19 := D2 (20 * i + 19) (by omega)
    have e18 := D2 (20 * i + 18) (by omega)
    rw [← Nat.add_assoc] at e19 e18
    simp (disch := omega) only [rq_t, drs, sp, pcs, cls, ↓reduceIte, not_true_eq_false, not_false_eq_true, and_true, true_and, and_false, false_and, or_true, true_or, or_false, false_or, eq_self, l0, l1, l2, l3, l4, l5, l6, l7, l8, l9, l10, l11, l12, l13, l14, l15, l16, l17, l18, l19, l20, l21, l22, l23, l24, l25, l26, l27, l28, l29, l30, l31, l32, l33, l34, l35, l36, l37, l40, l41, l42, l43, l45, l47, l48, l50, l57, l59, l60, l61, l62, l63, l85, l91, l93, l96, l97, l98, l99, l100, l120, l122, l146, l160, l165, l170, l178, l186, l198, l255, l400, l900, l948, l999, l1000, l2475, l2640, l2970, l3990, l9390, l18780, l19000, l999999, l1000000, l100000000, l2147483639, nI_add, pk_mul, ix_nI, leT, leF, ltT, ltF, eqT, eqF, nI_leI, nI_ltI, nI_eq, ngEq, ngEq', ngLt, ngLt', ngLe, ngLe', ngNg, nI_p, pk_sub, Nat.reduceAdd, Nat.reduceMul, Nat.reduceSub, uI1, uI2, uL1, uL2, uL3, uR1, uR2, uR3, rq_eq (MT0 hT), rq95 hT, rf2 hV, rq96 hT, rf3 hV, rq97 hT, rf4 hV, rq98 hT, rf5 hV, rq99 hT, rf6 hV, rq100 hT, rf7 hV, rq101 hT, rf9 hV, rq102 hT, rf10 hV, rq103 hT, rf12 hV, rq104 hT, rf22 hV, rq105 hT, rf24 hV, rq106 hT, rf25 hV, rq107 hT, rf27 hV, rq108 hT, rf28 hV, rq109 hT, rf31 hV, rq110 hT, rf32 hV, rq111 hT, rf33 hV, rq112 hT, rf35 hV, rq113 hT, rf36 hV, rq114 hT, rf37 hV, rq115 hT, rf41 hV, rq116 hT, rf44 hV, rq117 hT, rf45 hV, rq118 hT, rf51 hV, rq119 hT, rf53 hV, show 10 + 20 * i + 19 - 1 = 10 + 20 * i + 18 by omega, e19, e18]
    refine m_pass_L115 (D := DD) (c := i) hT ?_ ?_ (by omega) ?_
    · exact hV.eq3 rfl
    · intro k hk
      rw [uI1]
      by_cases e : k = 20 * i + 19
      · rw [if_pos ⟨rfl, by omega⟩, e, pA_in (by omega)]
        rfl
      · rw [if_neg (by omega), D2 k hk]
        congr 1
        by_cases q : 20 * i ≤ k ∧ k < 20 * i + 20
        · obtain ⟨a, rfl⟩ : ∃ a, k = 20 * i + a := ⟨k - 20 * i, by omega⟩
          rw [pA_in (by omega), agI, if_neg (by omega), if_neg (by omega)]
        · rw [pA_out (by omega)]
    · intro Y f3 D3
      have hV : MV Y := hV.eq3 (by rw [f3.2, uI2])
      simp (disch := omega) only [rq_t, drs, sp, pcs, cls, ↓reduceIte, not_true_eq_false, not_false_eq_true, and_true, true_and, and_false, false_and, or_true, true_or, or_false, false_or, eq_self, l0, l1, l2, l3, l4, l5, l6, l7, l8, l9, l10, l11, l12, l13, l14, l15, l16, l17, l18, l19, l20, l21, l22, l23, l24, l25, l26, l27, l28, l29, l30, l31, l32, l33, l34, l35, l36, l37, l40, l41, l42, l43, l45, l47, l48, l50, l57, l59, l60, l61, l62, l63, l85, l91, l93, l96, l97, l98, l99, l100, l120, l122, l146, l160, l165, l170, l178, l186, l198, l255, l400, l900, l948, l999, l1000, l2475, l2640, l2970, l3990, l9390, l18780, l19000, l999999, l1000000, l100000000, l2147483639, nI_add, pk_mul, ix_nI, leT, leF, ltT, ltF, eqT, eqF, nI_leI, nI_ltI, nI_eq, ngEq, ngEq', ngLt, ngLt', ngLe, ngLe', ngNg, nI_p, pk_sub, Nat.reduceAdd, Nat.reduceMul, Nat.reduceSub, uI1, uI2, uL1, uL2, uL3, uR1, uR2, uR3, rq_eq (MT0 hT), rq95 hT, rf2 hV, rq96 hT, rf3 hV, rq97 hT, rf4 hV, rq98 hT, rf5 hV, rq99 hT, rf6 hV, rq100 hT, rf7 hV, rq101 hT, rf9 hV, rq102 hT, rf10 hV, rq103 hT, rf12 hV, rq104 hT, rf22 hV, rq105 hT, rf24 hV, rq106 hT, rf25 hV, rq107 hT, rf27 hV, rq108 hT, rf28 hV, rq109 hT, rf31 hV, rq110 hT, rf32 hV, rq111 hT, rf33 hV, rq112 hT, rf35 hV, rq113 hT, rf36 hV, rq114 hT, rf37 hV, rq115 hT, rf41 hV, rq116 hT, rf44 hV, rq117 hT, rf45 hV, rq118 hT, rf51 hV, rq119 hT, rf53 hV]
      refine ih _ _ _ ⟨?_, rfl, ⟨fun h j q => ?_, fun h j q => ?_, ?_⟩, ?_⟩
      · rw [nE_s]
      · rw [uI1, if_neg (by omega), f3.1 _ _ (by omega), uI1, if_neg (by omega), f2.1 _ _ (by omega), f.1 _ _ (by omega)]
        exact q3.1 h j q
      · rw [uI2, f3.2, uI2, f2.2, f.2.1 _ _ q]
        exact q3.2.1 h j q
      · rw [uI2, f3.2, uI2, f2.2, f.2.2, q3.2.2]
      · intro k hk
        rw [uI1, ← hes, tAge]
        by_cases e : k = 20 * i
        · rw [if_pos ⟨rfl, by omega⟩, e]
          exact congrArg nI (pA_in (D := DD) (c := i) (i := 20) (g := agA (gC DD i)) (a := 0) (by omega)).symm
        · rw [if_neg (by omega), D3 k hk]
          congr 1
          by_cases q : 20 * i ≤ k ∧ k < 20 * i + 20
          · obtain ⟨a, rfl⟩ : ∃ a, k = 20 * i + a := ⟨k - 20 * i, by omega⟩
            rw [pA_in (by omega), pA_in (by omega), agI, agA, if_neg (show ¬ a = 0 by omega)]
            by_cases w : a = 19
            · rw [if_pos w, if_pos w]
            · rw [if_neg w, if_neg w, if_pos (by omega)]
          · rw [pA_out (by omega), pA_out (by omega)]
  · intro N s a U ⟨q1, q2, q3, q5⟩
    subst q1 q2
    have hV := hV.eq3 q3.2.2
    have hn : U.1 96 0 = nI g.n := (q3.1 _ _ (by omega)).trans mf.n
    simp (disch := omega) only [f_X5_passIt_L4, rq_t, drs, sp, pcs, cls, ↓reduceIte, not_true_eq_false, not_false_eq_true, and_true, true_and, and_false, false_and, or_true, true_or, or_false, false_or, eq_self, l0, l1, l2, l3, l4, l5, l6, l7, l8, l9, l10, l11, l12, l13, l14, l15, l16, l17, l18, l19, l20, l21, l22, l23, l24, l25, l26, l27, l28, l29, l30, l31, l32, l33, l34, l35, l36, l37, l40, l41, l42, l43, l45, l47, l48, l50, l57, l59, l60, l61, l62, l63, l85, l91, l93, l96, l97, l98, l99, l100, l120, l122, l146, l160, l165, l170, l178, l186, l198, l255, l400, l900, l948, l999, l1000, l2475, l2640, l2970, l3990, l9390, l18780, l19000, l999999, l1000000, l100000000, l2147483639, nI_add, pk_mul, ix_nI, leT, leF, ltT, ltF, eqT, eqF, nI_leI, nI_ltI, nI_eq, ngEq, ngEq', ngLt, ngLt', ngLe, ngLe', ngNg, nI_p, pk_sub, Nat.reduceAdd, Nat.reduceMul, Nat.reduceSub, uI1, uI2, uL1, uL2, uL3, uR1, uR2, uR3, rq_eq (MT0 hT), rq95 hT, rf2 hV, rq96 hT, rf3 hV, rq97 hT, rf4 hV, rq98 hT, rf5 hV, rq99 hT, rf6 hV, rq100 hT, rf7 hV, rq101 hT, rf9 hV, rq102 hT, rf10 hV, rq103 hT, rf12 hV, rq104 hT, rf22 hV, rq105 hT, rf24 hV, rq106 hT, rf25 hV, rq107 hT, rf27 hV, rq108 hT, rf28 hV, rq109 hT, rf31 hV, rq110 hT, rf32 hV, rq111 hT, rf33 hV, rq112 hT, rf35 hV, rq113 hT, rf36 hV, rq114 hT, rf37 hV, rq115 hT, rf41 hV, rq116 hT, rf44 hV, rq117 hT, rf45 hV, rq118 hT, rf51 hV, rq119 hT, rf53 hV, hn]
    exact hR U q3 q5
theorem m_passIt {T : Tt} {V : Vt} (hT : MT T) (hV : MV V) {g : Cfg} (hg : okG g) (mf : mCf V g) {b : Tab} (hb : okB g b) (mt : mTb V b) (ho : isB (V.1 94 20)) :
    Ret (f_X5_passIt T V 94) fun p => p.1 = nI (nE g b g.n) ∧ frM sPa lF V p.2 ∧ mTb p.2 (tEnd g b) := by
  rw [f_X5_passIt, rq hT.1]
  refine m_pass_L4 hT hV hg mf hb mt ho fun U q3 q5 => ?_
  have hV := hV.eq3 q3.2.2
  have hy : U.1 96 5 = nI b.y := (q3.1 _ _ (by omega)).trans mt.y
  simp (disch := omega) only [rq_t, drs, sp, pcs, cls, ↓reduceIte, not_true_eq_false, not_false_eq_true, and_true, true_and, and_false, false_and, or_true, true_or, or_false, false_or, eq_self, l0, l1, l2, l3, l4, l5, l6, l7, l8, l9, l10, l11, l12, l13, l14, l15, l16, l17, l18, l19, l20, l21, l22, l23, l24, l25, l26, l27, l28, l29, l30, l31, l32, l33, l34, l35, l36, l37, l40, l41, l42, l43, l45, l47, l48, l50, l57, l59, l60, l61, l62, l63, l85, l91, l93, l96, l97, l98, l99, l100, l120, l122, l146, l160, l165, l170, l178, l186, l198, l255, l400, l900, l948, l999, l1000, l2475, l2640, l2970, l3990, l9390, l18780, l19000, l999999, l1000000, l100000000, l2147483639, nI_add, pk_mul, ix_nI, leT, leF, ltT, ltF, eqT, eqF, nI_leI, nI_ltI, nI_eq, ngEq, ngEq', ngLt, ngLt', ngLe, ngLe', ngNg, nI_p, pk_sub, Nat.reduceAdd, Nat.reduceMul, Nat.reduceSub, uI1, uI2, uL1, uL2, uL3, uR1, uR2, uR3, rq_eq (MT0 hT), rq95 hT, rf2 hV, rq96 hT, rf3 hV, rq97 hT, rf4 hV, rq98 hT, rf5 hV, rq99 hT, rf6 hV, rq100 hT, rf7 hV, rq101 hT, rf9 hV, rq102 hT, rf10 hV, rq103 hT, rf12 hV, rq104 hT, rf22 hV, rq105 hT, rf24 hV, rq106 hT, rf25 hV, rq107 hT, rf27 hV, rq108 hT, rf28 hV, rq109 hT, rf31 hV, rq110 hT, rf32 hV, rq111 hT, rf33 hV, rq112 hT, rf35 hV, rq113 hT, rf36 hV, rq114 hT, rf37 hV, rq115 hT, rf41 hV, rq116 hT, rf44 hV, rq117 hT, rf45 hV, rq118 hT, rf51 hV, rq119 hT, rf53 hV, hy]
  refine Ret.ok ⟨rfl, ⟨fun h j q => ?_, fun h j q => ?_, ?_⟩, fun k hk => ?_, ?_, ?_⟩
  · rw [uI1, if_neg (by omega)]
    exact q3.1 _ _ (by omega)
  · exact q3.2.1 h j q
  · exact q3.2.2
  · rw [uI1, if_neg (by omega)]
    exact q5 k hk
  · rw [uI1, if_neg (by omega)]
    exact (q3.1 _ _ (by omega)).trans mt.b
  · rw [uI1, if_pos ⟨rfl, rfl⟩]
    rfl
