/-! 95: few -/
set_option maxRecDepth 100000
abbrev Pt : Type := Nat → Int64
def st1 (co i : Nat) (p : Pt) : Pt := fun j => if j = i then p i * (nI 10 - nI co).toInt64 / 10 else if j = i + 1 then p (i + 1) + p i * (nI co).toInt64 / 10 else p j
def fwI (co k : Nat) (p : Pt) : Nat → Pt
  | 0 => p
  | m + 1 => st1 co (k - 1 - m) (fwI co k p m)
def fwO (co k : Nat) : Nat → Pt
  | 0 => fun j => if j = 0 then 1000000000000 else 0
  | n + 1 => fwI co k (fwO co k n) k
def smP (p : Pt) : Nat → Int64
  | 0 => 0
  | i + 1 => smP p i + p i
def frL (H : Nat) (V W : Vt) : Prop := W.1 = V.1 ∧ (∀ h j, h ≠ H → W.2.1 h j = V.2.1 h j) ∧ W.2.2 = V.2.2
theorem frL.rfl' {H : Nat} {V : Vt} : frL H V V := ⟨rfl, fun _ _ _ => rfl, rfl⟩
theorem frL.tr {H : Nat} {V W U : Vt} (h : frL H V W) (g : frL H W U) : frL H V U := ⟨g.1.trans h.1, fun a j q => (g.2.1 a j q).trans (h.2.1 a j q), g.2.2.trans h.2.2⟩
theorem frL.u {H : Nat} {V W : Vt} (h : frL H V W) {j : Nat} {v : Int64} : frL H V (uL W H j v) := ⟨h.1, fun a k q => by rw [uL2, if_neg (fun w => q w.1)]; exact h.2.1 a k q, h.2.2⟩
theorem CR.lg {T : Tt} {V W : Vt} {x : HS} {a : St} (h : CR T V x a) (e1 : W.1 = V.1) (e2 : W.2.2 = V.2.2) : CR T W x a := by
  have e : ∀ c j, W.1 c j = V.1 c j := fun c j => by rw [e1]
  have er : ∀ c j, W.2.2 c j = V.2.2 c j := fun c j => by rw [e2]
  exact h.ups (fun c j _ => e _ _) er rfl (h.cf.fc h.P' (fun c j _ => e _ _) (fun c j _ => er _ _)) (h.ct.fr (fun j => e _ _) (fun j => e _ _) (fun j => er _ _)) (h.cu.fr (fun c j _ => e _ _) er) ((e _ _).trans h.st) (fun i hi => (e _ _).trans (h.rf i hi)) ((e _ _).trans h.tn) (fun i hi => (e _ _).trans (h.tp i hi)) ((e _ _).trans h.fa) ((e _ _).trans h.le) ((e _ _).trans h.so) ((e _ _).trans h.dm) (fun i hi q => (e _ _).trans (h.dd i hi q))
theorem MR.lg {V W : Vt} {a : St} (h : MR V a) (og : okG a.g) (f : frL 118 V W) : MR W a := by
  have e : ∀ c j, W.1 c j = V.1 c j := fun c j => by rw [f.1]
  exact h.up f.2.2 (fun c j _ => e _ _) (fun c j q => f.2.1 _ _ (by omega)) rfl (h.mf.fr og fun j _ _ _ => e _ _) (h.mt.fr fun j => e _ _) (h.mu.fr fun c j _ => e _ _) ((e _ _).trans h.st) (fun i hi => (e _ _).trans (h.rf i hi)) ((e _ _).trans h.od) ((e _ _).trans h.tn) (fun i hi => (e _ _).trans (h.tp i hi)) ((e _ _).trans h.fa) ((e _ _).trans h.le) ((e _ _).trans h.so) ((e _ _).trans h.dm) (fun i hi q => (e _ _).trans (h.dd i hi q))
def dk (k m : Nat) : Int32 := if m < k then nI (k - 1 - m) else -nI 1
theorem dk_s {k m : Nat} (h : m < k) : nI (k - 1 - m) + (-1 : Int32) = dk k (m + 1) := by
  rw [dk]
  by_cases q : m + 1 < k
  · rw [if_pos q]
    show nI (k - 1 - m) + -nI 1 = _
    rw [nI_p (by omega), show k - 1 - m - 1 = k - 1 - (m + 1) by omega]
  · rw [if_neg q, show k - 1 - m = 0 by omega]
    rfl
theorem c_few26 {T : Tt} {V : Vt} (hC : CT T) (hU : CV V) {x1 x2 : Int32} {k : Vt → Option (Int64 × Vt)} {R : Int64 × Vt → Prop} (hR : ∀ W, frL 27 V W → (∀ j, j < 21 → W.2.1 27 j = fwO 0 0 0 j) → Ret (k W) R) : Ret (f_X0_few_L26 T 0 x1 x2 k fuel (nI 0) V) R := by
  refine lq2 (f_X0_few_L26 T 0 x1 x2 k) (fun i a W => a = nI i ∧ frL 27 V W ∧ ∀ j, j < i → W.2.1 27 j = fwO 0 0 0 j) 21 ?_ ?_ fuel _ _ (by decide) ⟨rfl, frL.rfl', fun j hj => absurd hj (by omega)⟩
  · intro i N a W hi ⟨q1, q2, q3⟩ ih
    subst q1
    have hU := hU.eq3 q2.2.2
    have fin : ∀ v, v = fwO 0 0 0 i → Ret (f_X0_few_L26 T 0 x1 x2 k N (nI (i + 1)) (uL W 27 i v)) R := fun v hv => ih _ _ ⟨rfl, q2.u, fun j hj => by
      rw [uL2]
      by_cases e : j = i
      · rw [if_pos ⟨rfl, e⟩, e, hv]
      · rw [if_neg (fun w => e w.2)]
        exact q3 j (by omega)⟩
    by_cases e : i = 0
    · simp (disch := omega) only [f_X0_few_L26, f_X0_few_J48, rq_t, drs, sp, pcs, cls, ↓reduceIte, not_true_eq_false, not_false_eq_true, and_true, true_and, and_false, false_and, or_true, true_or, or_false, false_or, eq_self, l0, l1, l2, l3, l4, l5, l6, l7, l8, l9, l10, l11, l12, l13, l14, l15, l16, l17, l18, l19, l20, l21, l22, l23, l24, l25, l26, l27, l28, l29, l30, l31, l32, l33, l34, l35, l36, l37, l40, l41, l42, l43, l45, l47, l48, l50, l57, l59, l60, l61, l62, l63, l85, l91, l93, l96, l97, l98, l99, l100, l120, l122, l146, l160, l165, l170, l178, l186, l198, l255, l400, l900, l948, l999, l1000, l2475, l2640, l2970, l3990, l9390, l18780, l19000, l999999, l1000000, l100000000, l2147483639, nI_add, pk_mul, ix_nI, leT, leF, ltT, ltF, eqT, eqF, nI_leI, nI_ltI, nI_eq, ngEq, ngEq', ngLt, ngLt', ngLe, ngLe', ngNg, nI_p, pk_sub, Nat.reduceAdd, Nat.reduceMul, Nat.reduceSub, uI1, uI2, uL1, uL2, uL3, uR1, uR2, uR3, rq_eq hC.k0, rq_eq hC.k2, rq_eq hC.k3, rq_eq hC.k8, rq_eq hC.k10, rq_eq hC.k17, rq_eq hC.k19, rq_eq hC.k22, rq_eq hC.k23, rq_eq hC.k28, cq1 hC, cq4 hC, cq5 hC, cq6 hC, cq7 hC, cq12 hC, cq13 hC, cq14 hC, cq15 hC, cq16 hC, cq18 hC, cq20 hC, cq21 hC, cq24 hC, cq25 hC, cq26 hC, cq27 hC, cq29 hC, hU.r0_1, hU.r0_2, hU.r0_3, hU.r0_4, hU.r0_5, hU.r0_6, hU.r0_7, hU.r0_8, hU.r0_9, hU.r0_10, hU.r0_16, hU.r0_17, hU.r0_18, hU.r0_22, hU.r0_23, hU.r2_0, hU.r2_1, hU.r2_2, hU.r2_3, hU.r2_4, hU.r2_5, hU.r3_0, hU.r17_0, hU.r19_0, hU.r28_0, hU.r22_0, hU.r22_1, e]
      rw [e] at fin
      exact fin _ rfl
    · simp (disch := omega) only [f_X0_few_L26, f_X0_few_J48, rq_t, drs, sp, pcs, cls, ↓reduceIte, not_true_eq_false, not_false_eq_true, and_true, true_and, and_false, false_and, or_true, true_or, or_false, false_or, eq_self, l0, l1, l2, l3, l4, l5, l6, l7, l8, l9, l10, l11, l12, l13, l14, l15, l16, l17, l18, l19, l20, l21, l22, l23, l24, l25, l26, l27, l28, l29, l30, l31, l32, l33, l34, l35, l36, l37, l40, l41, l42, l43, l45, l47, l48, l50, l57, l59, l60, l61, l62, l63, l85, l91, l93, l96, l97, l98, l99, l100, l120, l122, l146, l160, l165, l170, l178, l186, l198, l255, l400, l900, l948, l999, l1000, l2475, l2640, l2970, l3990, l9390, l18780, l19000, l999999, l1000000, l100000000, l2147483639, nI_add, pk_mul, ix_nI, leT, leF, ltT, ltF, eqT, eqF, nI_leI, nI_ltI, nI_eq, ngEq, ngEq', ngLt, ngLt', ngLe, ngLe', ngNg, nI_p, pk_sub, Nat.reduceAdd, Nat.reduceMul, Nat.reduceSub, uI1, uI2, uL1, uL2, uL3, uR1, uR2, uR3, rq_eq hC.k0, rq_eq hC.k2, rq_eq hC.k3, rq_eq hC.k8, rq_eq hC.k10, rq_eq hC.k17, rq_eq hC.k19, rq_eq hC.k22, rq_eq hC.k23, rq_eq hC.k28, cq1 hC, cq4 hC, cq5 hC, cq6 hC, cq7 hC, cq12 hC, cq13 hC, cq14 hC, cq15 hC, cq16 hC, cq18 hC, cq20 hC, cq21 hC, cq24 hC, cq25 hC, cq26 hC, cq27 hC, cq29 hC, hU.r0_1, hU.r0_2, hU.r0_3, hU.r0_4, hU.r0_5, hU.r0_6, hU.r0_7, hU.r0_8, hU.r0_9, hU.r0_10, hU.r0_16, hU.r0_17, hU.r0_18, hU.r0_22, hU.r0_23, hU.r2_0, hU.r2_1, hU.r2_2, hU.r2_3, hU.r2_4, hU.r2_5, hU.r3_0, hU.r17_0, hU.r19_0, hU.r28_0, hU.r22_0, hU.r22_1]
      exact fin _ (if_neg e).symm
  · intro N a W ⟨q1, q2, q3⟩
    subst q1
    simp (disch := omega) only [f_X0_few_L26, rq_t, drs, sp, pcs, cls, ↓reduceIte, not_true_eq_false, not_false_eq_true, and_true, true_and, and_false, false_and, or_true, true_or, or_false, false_or, eq_self, l0, l1, l2, l3, l4, l5, l6, l7, l8, l9, l10, l11, l12, l13, l14, l15, l16, l17, l18, l19, l20, l21, l22, l23, l24, l25, l26, l27, l28, l29, l30, l31, l32, l33, l34, l35, l36, l37, l40, l41, l42, l43, l45, l47, l48, l50, l57, l59, l60, l61, l62, l63, l85, l91, l93, l96, l97, l98, l99, l100, l120, l122, l146, l160, l165, l170, l178, l186, l198, l255, l400, l900, l948, l999, l1000, l2475, l2640, l2970, l3990, l9390, l18780, l19000, l999999, l1000000, l100000000, l2147483639, nI_add, pk_mul, ix_nI, leT, leF, ltT, ltF, eqT, eqF, nI_leI, nI_ltI, nI_eq, ngEq, ngEq', ngLt, ngLt', ngLe, ngLe', ngNg, nI_p, pk_sub, Nat.reduceAdd, Nat.reduceMul, Nat.reduceSub, uI1, uI2, uL1, uL2, uL3, uR1, uR2, uR3]
    exact hR W q2 q3
theorem c_few67 {T : Tt} {V : Vt} (hC : CT T) (hU : CV V) {co k : Nat} (hk : k ≤ 20) (hco : V.1 2 8 = nI co) {p : Pt} (hp : ∀ j, j < 21 → V.2.1 27 j = p j) {x2 x3 : Int32} {kc : Int32 → Vt → Option (Int64 × Vt)} {kx kk : Vt → Option (Int64 × Vt)} {R : Int64 × Vt → Prop} (h0 : 0 < k)
    (hR : ∀ W, frL 27 V W → (∀ j, j < 21 → W.2.1 27 j = fwI co k p k j) → Ret (kk W) R) : Ret (f_X0_few_L67 T 0 (nI k) x2 x3 kc kx kk fuel (nI (k - 1)) V) R := by
  refine lq2 (f_X0_few_L67 T 0 (nI k) x2 x3 kc kx kk) (fun m a W => a = dk k m ∧ frL 27 V W ∧ ∀ j, j < 21 → W.2.1 27 j = fwI co k p m j) k ?_ ?_ fuel _ _ (Nat.lt_of_le_of_lt hk (by decide)) ⟨by rw [dk, if_pos h0]; rfl, frL.rfl', hp⟩
  · intro m N a W hm ⟨q1, q2, q3⟩ ih
    rw [dk, if_pos hm] at q1
    subst q1
    have hU := hU.eq3 q2.2.2
    have e8 : W.1 2 8 = nI co := by rw [q2.1]; exact hco
    have e1 := q3 (k - 1 - m + 1) (by omega)
    have e0 := q3 (k - 1 - m) (by omega)
    have hd : nI (k - 1 - m) + -nI 1 = dk k (m + 1) := dk_s hm
    rw [f_X0_few_L67, if_neg (nI_pos (by omega)), dr hU.r0_22, l1, nI_add, cq27 hC (by omega), dr hU.r0_22, cq27 hC (by omega), dr hU.r0_2, rq hC.k2, cq27 hC (by omega), sp]
    simp only [ix_nI (show k - 1 - m + 1 < 2 ^ 31 by omega), ix_nI (show k - 1 - m < 2 ^ 31 by omega)]
    rw [e1, e0, e8]
    have hU2 : CV (uL W 27 (k - 1 - m + 1) (fwI co k p m (k - 1 - m + 1) + fwI co k p m (k - 1 - m) * (nI co).toInt64 / 10)) := hU.eq3 rfl
    have f0 : (uL W 27 (k - 1 - m + 1) (fwI co k p m (k - 1 - m + 1) + fwI co k p m (k - 1 - m) * (nI co).toInt64 / 10)).2.1 27 (k - 1 - m) = fwI co k p m (k - 1 - m) := by rw [uL2, if_neg (by omega)]; exact e0
    rw [dr hU2.r0_22, dr hU2.r0_22, cq27 hC (by omega), dr hU2.r0_2, rq hC.k2, cq27 hC (by omega), sp, f0, uL1, e8, sp, hd, l10]
    refine ih _ _ ⟨rfl, q2.u.u, fun j hj => ?_⟩
    rw [uL2, uL2, fwI, st1]
    by_cases c0 : j = k - 1 - m
    · rw [if_pos ⟨rfl, c0⟩, if_pos c0]
    · rw [if_neg (fun w => c0 w.2), if_neg c0]
      by_cases c1 : j = k - 1 - m + 1
      · rw [if_pos ⟨rfl, c1⟩, if_pos c1]
      · rw [if_neg (fun w => c1 w.2), if_neg c1]
        exact q3 j hj
  · intro N a W ⟨q1, q2, q3⟩
    rw [dk, if_neg (Nat.lt_irrefl _)] at q1
    subst q1
    rw [f_X0_few_L67, if_pos (by decide)]
    exact hR W q2 q3
theorem c_few57 {T : Tt} {V : Vt} (hC : CT T) (hU : CV V) {co k n : Nat} (hk : k ≤ 20) (hn : n ≤ 99) (hco : V.1 2 8 = nI co) (hp : ∀ j, j < 21 → V.2.1 27 j = fwO co k 0 j) {kk : Vt → Option (Int64 × Vt)} {R : Int64 × Vt → Prop} (h0 : 0 < k)
    (hR : ∀ W, frL 27 V W → (∀ j, j < 21 → W.2.1 27 j = fwO co k n j) → Ret (kk W) R) : Ret (f_X0_few_L57 T 0 (nI k) (nI n) kk fuel (nI 0) V) R := by
  refine lq2 (f_X0_few_L57 T 0 (nI k) (nI n) kk) (fun m a W => a = nI m ∧ frL 27 V W ∧ ∀ j, j < 21 → W.2.1 27 j = fwO co k m j) n ?_ ?_ fuel _ _ (Nat.lt_of_le_of_lt hn (by decide)) ⟨rfl, frL.rfl', hp⟩
  · intro m N a W hm ⟨q1, q2, q3⟩ ih
    subst q1
    have hU := hU.eq3 q2.2.2
    have e8 : W.1 2 8 = nI co := by rw [q2.1]; exact hco
    rw [f_X0_few_L57, if_neg (nI_ge hm (by omega)), l1, pk_sub (by omega), sp]
    refine c_few67 hC hU hk e8 q3 h0 fun U f1 f2 => ?_
    rw [nI_add, sp]
    exact ih _ _ ⟨rfl, q2.tr f1, f2⟩
  · intro N a W ⟨q1, q2, q3⟩
    subst q1
    rw [f_X0_few_L57, if_pos (nI_le (Nat.le_refl _) (by omega))]
    exact hR W q2 q3
theorem c_few151 {T : Tt} {V : Vt} (hC : CT T) (hU : CV V) {k : Nat} (hk : k ≤ 20) {p : Pt} (hp : ∀ j, j < 21 → V.2.1 27 j = p j) {kk : Int64 → Option (Int64 × Vt)} : f_X0_few_L151 T V 0 (nI k) kk fuel 0 (nI 0) = kk (smP p k) := by
  refine lp (fun n (q : Int64 × Int32) => f_X0_few_L151 T V 0 (nI k) kk n q.1 q.2) (fun i => (smP p i, nI i)) k ?_ ?_ _ (Nat.lt_of_le_of_lt hk (by decide))
  · intro i n hi
    have e := hp i (by omega)
    simp (disch := omega) only [f_X0_few_L151, rq_t, drs, sp, pcs, cls, ↓reduceIte, not_true_eq_false, not_false_eq_true, and_true, true_and, and_false, false_and, or_true, true_or, or_false, false_or, eq_self, l0, l1, l2, l3, l4, l5, l6, l7, l8, l9, l10, l11, l12, l13, l14, l15, l16, l17, l18, l19, l20, l21, l22, l23, l24, l25, l26, l27, l28, l29, l30, l31, l32, l33, l34, l35, l36, l37, l40, l41, l42, l43, l45, l47, l48, l50, l57, l59, l60, l61, l62, l63, l85, l91, l93, l96, l97, l98, l99, l100, l120, l122, l146, l160, l165, l170, l178, l186, l198, l255, l400, l900, l948, l999, l1000, l2475, l2640, l2970, l3990, l9390, l18780, l19000, l999999, l1000000, l100000000, l2147483639, nI_add, pk_mul, ix_nI, leT, leF, ltT, ltF, eqT, eqF, nI_leI, nI_ltI, nI_eq, ngEq, ngEq', ngLt, ngLt', ngLe, ngLe', ngNg, nI_p, pk_sub, Nat.reduceAdd, Nat.reduceMul, Nat.reduceSub, uI1, uI2, uL1, uL2, uL3, uR1, uR2, uR3, rq_eq hC.k0, rq_eq hC.k2, rq_eq hC.k3, rq_eq hC.k8, rq_eq hC.k10, rq_eq hC.k17, rq_eq hC.k19, rq_eq hC.k22, rq_eq hC.k23, rq_eq hC.k28, cq1 hC, cq4 hC, cq5 hC, cq6 hC, cq7 hC, cq12 hC, cq13 hC, cq14 hC, cq15 hC, cq16 hC, cq18 hC, cq20 hC, cq21 hC, cq24 hC, cq25 hC, cq26 hC, cq27 hC, cq29 hC, hU.r0_1, hU.r0_2, hU.r0_3, hU.r0_4, hU.r0_5, hU.r0_6, hU.r0_7, hU.r0_8, hU.r0_9, hU.r0_10, hU.r0_16, hU.r0_17, hU.r0_18, hU.r0_22, hU.r0_23, hU.r2_0, hU.r2_1, hU.r2_2, hU.r2_3, hU.r2_4, hU.r2_5, hU.r3_0, hU.r17_0, hU.r19_0, hU.r28_0, hU.r22_0, hU.r22_1, e]
    rfl
  · intro n
    simp (disch := omega) only [f_X0_few_L151, rq_t, drs, sp, pcs, cls, ↓reduceIte, not_true_eq_false, not_false_eq_true, and_true, true_and, and_false, false_and, or_true, true_or, or_false, false_or, eq_self, l0, l1, l2, l3, l4, l5, l6, l7, l8, l9, l10, l11, l12, l13, l14, l15, l16, l17, l18, l19, l20, l21, l22, l23, l24, l25, l26, l27, l28, l29, l30, l31, l32, l33, l34, l35, l36, l37, l40, l41, l42, l43, l45, l47, l48, l50, l57, l59, l60, l61, l62, l63, l85, l91, l93, l96, l97, l98, l99, l100, l120, l122, l146, l160, l165, l170, l178, l186, l198, l255, l400, l900, l948, l999, l1000, l2475, l2640, l2970, l3990, l9390, l18780, l19000, l999999, l1000000, l100000000, l2147483639, nI_add, pk_mul, ix_nI, leT, leF, ltT, ltF, eqT, eqF, nI_leI, nI_ltI, nI_eq, ngEq, ngEq', ngLt, ngLt', ngLe, ngLe', ngNg, nI_p, pk_sub, Nat.reduceAdd, Nat.reduceMul, Nat.reduceSub, uI1, uI2, uL1, uL2, uL3, uR1, uR2, uR3]
def rFew (a : St) (k n : Int32) : Int64 := if iN k 1 20 then (if iN n 0 99 then smP (fwO a.g.co (ixN k) (ixN n)) (ixN k) else -1) else -1
theorem c_few {T : Tt} {V : Vt} {x : HS} {a : St} (h : CR T V x a) {k n : Int32} : Ret (f_X0_few T V 0 k n) fun p => p.1 = rFew a k n ∧ (∃ x, CR T p.2 x a) ∧ cFr V p.2 := by
  have hC := h.hC
  rw [f_X0_few, rq hC.k0, pc c_in, rFew, show (1 : Int32).toInt = 1 from rfl, show (20 : Int32).toInt = 20 from rfl]
  simp only [f_X0_few_J20]
  cases hk : iN k 1 20 with
  | false => exact Ret.ok ⟨rfl, ⟨x, h⟩, cFr.rfl'⟩
  | true =>
    rw [if_neg (by decide), if_pos rfl, pc c_in, show (0 : Int32).toInt = 0 from rfl, show (99 : Int32).toInt = 99 from rfl]
    cases hn : iN n 0 99 with
    | false => exact Ret.ok ⟨rfl, ⟨x, h⟩, cFr.rfl'⟩
    | true =>
      obtain ⟨k', rfl, k1, k2, k3⟩ := iN_of hk (by omega)
      obtain ⟨n', rfl, n1, n2, n3⟩ := iN_of hn (by omega)
      rw [if_neg (by decide), if_pos rfl, ix_nI k3, ix_nI n3]
      refine c_few26 hC h.hU fun W f1 p1 => ?_
      have h1 := h.lg f1.1 f1.2.2
      refine c_few57 (co := a.g.co) hC h1.hU (by omega) (by omega) h1.cf.co p1 (by omega) fun U f2 p2 => ?_
      have h2 := h1.lg f2.1 f2.2.2
      have e := c_few151 hC h2.hU (k := k') (by omega) p2 (kk := fun z => some (z, U))
      have f3 := f1.tr f2
      exact ⟨_, e, rfl, ⟨x, h2⟩, ⟨fun c j _ => by rw [f3.1], fun c j q => f3.2.1 _ _ (by omega), fun c j _ => by rw [f3.2.2]⟩⟩
theorem m_few35 {T : Tt} {V : Vt} (hT : MT T) (hV : MV V) {x1 x2 : Int32} {k : Vt → Option (Int64 × Vt)} {R : Int64 × Vt → Prop} (hR : ∀ W, frL 118 V W → (∀ j, j < 21 → W.2.1 118 j = fwO 0 0 0 j) → Ret (k W) R) : Ret (f_X5_few_L35 T 94 x1 x2 k fuel (nI 0) V) R := by
  refine lq2 (f_X5_few_L35 T 94 x1 x2 k) (fun i a W => a = nI i ∧ frL 118 V W ∧ ∀ j, j < i → W.2.1 118 j = fwO 0 0 0 j) 21 ?_ ?_ fuel _ _ (by decide) ⟨rfl, frL.rfl', fun j hj => absurd hj (by omega)⟩
  · intro i N a W hi ⟨q1, q2, q3⟩ ih
    subst q1
    have hV := hV.eq3 q2.2.2
    have fin : ∀ v, v = fwO 0 0 0 i → Ret (f_X5_few_L35 T 94 x1 x2 k N (nI (i + 1)) (uL W 118 i v)) R := fun v hv => ih _ _ ⟨rfl, q2.u, fun j hj => by
      rw [uL2]
      by_cases e : j = i
      · rw [if_pos ⟨rfl, e⟩, e, hv]
      · rw [if_neg (fun w => e w.2)]
        exact q3 j (by omega)⟩
    by_cases e : i = 0
    · simp (disch := omega) only [f_X5_few_L35, f_X5_few_J57, rq_t, drs, sp, pcs, cls, ↓reduceIte, not_true_eq_false, not_false_eq_true, and_true, true_and, and_false, false_and, or_true, true_or, or_false, false_or, eq_self, l0, l1, l2, l3, l4, l5, l6, l7, l8, l9, l10, l11, l12, l13, l14, l15, l16, l17, l18, l19, l20, l21, l22, l23, l24, l25, l26, l27, l28, l29, l30, l31, l32, l33, l34, l35, l36, l37, l40, l41, l42, l43, l45, l47, l48, l50, l57, l59, l60, l61, l62, l63, l85, l91, l93, l96, l97, l98, l99, l100, l120, l122, l146, l160, l165, l170, l178, l186, l198, l255, l400, l900, l948, l999, l1000, l2475, l2640, l2970, l3990, l9390, l18780, l19000, l999999, l1000000, l100000000, l2147483639, nI_add, pk_mul, ix_nI, leT, leF, ltT, ltF, eqT, eqF, nI_leI, nI_ltI, nI_eq, ngEq, ngEq', ngLt, ngLt', ngLe, ngLe', ngNg, nI_p, pk_sub, Nat.reduceAdd, Nat.reduceMul, Nat.reduceSub, uI1, uI2, uL1, uL2, uL3, uR1, uR2, uR3, rq_eq (MT0 hT), rq95 hT, rf2 hV, rq96 hT, rf3 hV, rq97 hT, rf4 hV, rq98 hT, rf5 hV, rq99 hT, rf6 hV, rq100 hT, rf7 hV, rq101 hT, rf9 hV, rq102 hT, rf10 hV, rq103 hT, rf12 hV, rq104 hT, rf22 hV, rq105 hT, rf24 hV, rq106 hT, rf25 hV, rq107 hT, rf27 hV, rq108 hT, rf28 hV, rq109 hT, rf31 hV, rq110 hT, rf32 hV, rq111 hT, rf33 hV, rq112 hT, rf35 hV, rq113 hT, rf36 hV, rq114 hT, rf37 hV, rq115 hT, rf41 hV, rq116 hT, rf44 hV, rq117 hT, rf45 hV, rq118 hT, rf51 hV, rq119 hT, rf53 hV, e]
      rw [e] at fin
      exact fin _ rfl
    · simp (disch := omega) only [f_X5_few_L35, f_X5_few_J57, rq_t, drs, sp, pcs, cls, ↓reduceIte, not_true_eq_false, not_false_eq_true, and_true, true_and, and_false, false_and, or_true, true_or, or_false, false_or, eq_self, l0, l1, l2, l3, l4, l5, l6, l7, l8, l9, l10, l11, l12, l13, l14, l15, l16, l17, l18, l19, l20, l21, l22, l23, l24, l25, l26, l27, l28, l29, l30, l31, l32, l33, l34, l35, l36, l37, l40, l41, l42, l43, l45, l47, l48, l50, l57, l59, l60, l61, l62, l63, l85, l91, l93, l96, l97, l98, l99, l100, l120, l122, l146, l160, l165, l170, l178, l186, l198, l255, l400, l900, l948, l999, l1000, l2475, l2640, l2970, l3990, l9390, l18780, l19000, l999999, l1000000, l100000000, l2147483639, nI_add, pk_mul, ix_nI, leT, leF, ltT, ltF, eqT, eqF, nI_leI, nI_ltI, nI_eq, ngEq, ngEq', ngLt, ngLt', ngLe, ngLe', ngNg, nI_p, pk_sub, Nat.reduceAdd, Nat.reduceMul, Nat.reduceSub, uI1, uI2, uL1, uL2, uL3, uR1, uR2, uR3, rq_eq (MT0 hT), rq95 hT, rf2 hV, rq96 hT, rf3 hV, rq97 hT, rf4 hV, rq98 hT, rf5 hV, rq99 hT, rf6 hV, rq100 hT, rf7 hV, rq101 hT, rf9 hV, rq102 hT, rf10 hV, rq103 hT, rf12 hV, rq104 hT, rf22 hV, rq105 hT, rf24 hV, rq106 hT, rf25 hV, rq107 hT, rf27 hV, rq108 hT, rf28 hV, rq109 hT, rf31 hV, rq110 hT, rf32 hV, rq111 hT, rf33 hV, rq112 hT, rf35 hV, rq113 hT, rf36 hV, rq114 hT, rf37 hV, rq115 hT, rf41 hV, rq116 hT, rf44 hV, rq117 hT, rf45 hV, rq118 hT, rf51 hV, rq119 hT, rf53 hV]
      exact fin _ (if_neg e).symm
  · intro N a W ⟨q1, q2, q3⟩
    subst q1
    simp (disch := omega) only [f_X5_few_L35, rq_t, drs, sp, pcs, cls, ↓reduceIte, not_true_eq_false, not_false_eq_true, and_true, true_and, and_false, false_and, or_true, true_or, or_false, false_or, eq_self, l0, l1, l2, l3, l4, l5, l6, l7, l8, l9, l10, l11, l12, l13, l14, l15, l16, l17, l18, l19, l20, l21, l22, l23, l24, l25, l26, l27, l28, l29, l30, l31, l32, l33, l34, l35, l36, l37, l40, l41, l42, l43, l45, l47, l48, l50, l57, l59, l60, l61, l62, l63, l85, l91, l93, l96, l97, l98, l99, l100, l120, l122, l146, l160, l165, l170, l178, l186, l198, l255, l400, l900, l948, l999, l1000, l2475, l2640, l2970, l3990, l9390, l18780, l19000, l999999, l1000000, l100000000, l2147483639, nI_add, pk_mul, ix_nI, leT, leF, ltT, ltF, eqT, eqF, nI_leI, nI_ltI, nI_eq, ngEq, ngEq', ngLt, ngLt', ngLe, ngLe', ngNg, nI_p, pk_sub, Nat.reduceAdd, Nat.reduceMul, Nat.reduceSub, uI1, uI2, uL1, uL2, uL3, uR1, uR2, uR3]
    exact hR W q2 q3
theorem m_few86 {T : Tt} {V : Vt} (hT : MT T) (hV : MV V) {co k : Nat} (hk : k ≤ 20) {p : Pt} (hp : ∀ j, j < 21 → V.2.1 118 j = p j) {x2 x4 : Int32} {kc : Int32 → Vt → Option (Int64 × Vt)} {kx kk : Vt → Option (Int64 × Vt)} {R : Int64 × Vt → Prop} (h0 : 0 < k)
    (hR : ∀ W, frL 118 V W → (∀ j, j < 21 → W.2.1 118 j = fwI co k p k j) → Ret (kk W) R) : Ret (f_X5_few_L86 T 94 (nI k) x2 (nI co) x4 kc kx kk fuel (nI (k - 1)) V) R := by
  refine lq2 (f_X5_few_L86 T 94 (nI k) x2 (nI co) x4 kc kx kk) (fun m a W => a = dk k m ∧ frL 118 V W ∧ ∀ j, j < 21 → W.2.1 118 j = fwI co k p m j) k ?_ ?_ fuel _ _ (Nat.lt_of_le_of_lt hk (by decide)) ⟨by rw [dk, if_pos h0]; rfl, frL.rfl', hp⟩
  · intro m N a W hm ⟨q1, q2, q3⟩ ih
    rw [dk, if_pos hm] at q1
    subst q1
    have hV := hV.eq3 q2.2.2
    have e1 := q3 (k - 1 - m + 1) (by omega)
    have e0 := q3 (k - 1 - m) (by omega)
    have hd : nI (k - 1 - m) + -nI 1 = dk k (m + 1) := dk_s hm
    rw [f_X5_few_L86, if_neg (nI_pos (by omega)), dr (rf51 hV), rq118 hT (by omega), sp, dr (rf51 hV), rq118 hT (by omega), sp]
    simp only [ix_nI (show k - 1 - m < 2 ^ 31 by omega)]
    rw [e0]
    have hV2 : MV (uL W 118 (k - 1 - m) (fwI co k p m (k - 1 - m) * (10 - nI co).toInt64 / 10)) := hV.eq3 rfl
    have f0 : (uL W 118 (k - 1 - m) (fwI co k p m (k - 1 - m) * (10 - nI co).toInt64 / 10)).2.1 118 (k - 1 - m + 1) = fwI co k p m (k - 1 - m + 1) := by rw [uL2, if_neg (by omega)]; exact e1
    rw [dr (rf51 hV2), l1, nI_add, rq118 hT (by omega), rq118 hT (by omega), sp, ix_nI (by omega), f0, sp, hd]
    refine ih _ _ ⟨rfl, q2.u.u, fun j hj => ?_⟩
    rw [uL2, uL2, fwI, st1]
    by_cases c0 : j = k - 1 - m
    · rw [if_neg (by omega), if_pos ⟨rfl, c0⟩, if_pos c0]
      rfl
    · by_cases c1 : j = k - 1 - m + 1
      · rw [if_pos ⟨rfl, c1⟩, if_neg c0, if_pos c1]
      · rw [if_neg (fun w => c1 w.2), if_neg (fun w => c0 w.2), if_neg c0, if_neg c1]
        exact q3 j hj
  · intro N a W ⟨q1, q2, q3⟩
    rw [dk, if_neg (Nat.lt_irrefl _)] at q1
    subst q1
    rw [f_X5_few_L86, if_pos (by decide)]
    exact hR W q2 q3
theorem m_few75 {T : Tt} {V : Vt} (hT : MT T) (hV : MV V) {co k n : Nat} (hk : k ≤ 20) (hn : n ≤ 99) (hp : ∀ j, j < 21 → V.2.1 118 j = fwO co k 0 j) {kk : Vt → Option (Int64 × Vt)} {R : Int64 × Vt → Prop} (h0 : 0 < k)
    (hR : ∀ W, frL 118 V W → (∀ j, j < 21 → W.2.1 118 j = fwO co k n j) → Ret (kk W) R) : Ret (f_X5_few_L75 T 94 (nI k) (nI n) (nI co) kk fuel (nI 0) V) R := by
  refine lq2 (f_X5_few_L75 T 94 (nI k) (nI n) (nI co) kk) (fun m a W => a = nI m ∧ frL 118 V W ∧ ∀ j, j < 21 → W.2.1 118 j = fwO co k m j) n ?_ ?_ fuel _ _ (Nat.lt_of_le_of_lt hn (by decide)) ⟨rfl, frL.rfl', hp⟩
  · intro m N a W hm ⟨q1, q2, q3⟩ ih
    subst q1
    have hV := hV.eq3 q2.2.2
    rw [f_X5_few_L75, if_neg (nI_ge hm (by omega)), l1, pk_sub (by omega), sp]
    refine m_few86 hT hV hk q3 h0 fun U f1 f2 => ?_
    rw [nI_add, sp]
    exact ih _ _ ⟨rfl, q2.tr f1, f2⟩
  · intro N a W ⟨q1, q2, q3⟩
    subst q1
    rw [f_X5_few_L75, if_pos (nI_le (Nat.le_refl _) (by omega))]
    exact hR W q2 q3
theorem m_few158 {T : Tt} {V : Vt} (hT : MT T) (hV : MV V) {k : Nat} (hk : k ≤ 20) {p : Pt} (hp : ∀ j, j < 21 → V.2.1 118 j = p j) {kk : Int64 → Option (Int64 × Vt)} : f_X5_few_L158 T V 94 (nI k) kk fuel 0 (nI 0) = kk (smP p k) := by
  refine lp (fun n (q : Int64 × Int32) => f_X5_few_L158 T V 94 (nI k) kk n q.1 q.2) (fun i => (smP p i, nI i)) k ?_ ?_ _ (Nat.lt_of_le_of_lt hk (by decide))
  · intro i n hi
    have e := hp i (by omega)
    simp (disch := omega) only [f_X5_few_L158, rq_t, drs, sp, pcs, cls, ↓reduceIte, not_true_eq_false, not_false_eq_true, and_true, true_and, and_false, false_and, or_true, true_or, or_false, false_or, eq_self, l0, l1, l2, l3, l4, l5, l6, l7, l8, l9, l10, l11, l12, l13, l14, l15, l16, l17, l18, l19, l20, l21, l22, l23, l24, l25, l26, l27, l28, l29, l30, l31, l32, l33, l34, l35, l36, l37, l40, l41, l42, l43, l45, l47, l48, l50, l57, l59, l60, l61, l62, l63, l85, l91, l93, l96, l97, l98, l99, l100, l120, l122, l146, l160, l165, l170, l178, l186, l198, l255, l400, l900, l948, l999, l1000, l2475, l2640, l2970, l3990, l9390, l18780, l19000, l999999, l1000000, l100000000, l2147483639, nI_add, pk_mul, ix_nI, leT, leF, ltT, ltF, eqT, eqF, nI_leI, nI_ltI, nI_eq, ngEq, ngEq', ngLt, ngLt', ngLe, ngLe', ngNg, nI_p, pk_sub, Nat.reduceAdd, Nat.reduceMul, Nat.reduceSub, uI1, uI2, uL1, uL2, uL3, uR1, uR2, uR3, rq_eq (MT0 hT), rq95 hT, rf2 hV, rq96 hT, rf3 hV, rq97 hT, rf4 hV, rq98 hT, rf5 hV, rq99 hT, rf6 hV, rq100 hT, rf7 hV, rq101 hT, rf9 hV, rq102 hT, rf10 hV, rq103 hT, rf12 hV, rq104 hT, rf22 hV, rq105 hT, rf24 hV, rq106 hT, rf25 hV, rq107 hT, rf27 hV, rq108 hT, rf28 hV, rq109 hT, rf31 hV, rq110 hT, rf32 hV, rq111 hT, rf33 hV, rq112 hT, rf35 hV, rq113 hT, rf36 hV, rq114 hT, rf37 hV, rq115 hT, rf41 hV, rq116 hT, rf44 hV, rq117 hT, rf45 hV, rq118 hT, rf51 hV, rq119 hT, rf53 hV, e]
    rfl
  · intro n
    simp (disch := omega) only [f_X5_few_L158, rq_t, drs, sp, pcs, cls, ↓reduceIte, not_true_eq_false, not_false_eq_true, and_true, true_and, and_false, false_and, or_true, true_or, or_false, false_or, eq_self, l0, l1, l2, l3, l4, l5, l6, l7, l8, l9, l10, l11, l12, l13, l14, l15, l16, l17, l18, l19, l20, l21, l22, l23, l24, l25, l26, l27, l28, l29, l30, l31, l32, l33, l34, l35, l36, l37, l40, l41, l42, l43, l45, l47, l48, l50, l57, l59, l60, l61, l62, l63, l85, l91, l93, l96, l97, l98, l99, l100, l120, l122, l146, l160, l165, l170, l178, l186, l198, l255, l400, l900, l948, l999, l1000, l2475, l2640, l2970, l3990, l9390, l18780, l19000, l999999, l1000000, l100000000, l2147483639, nI_add, pk_mul, ix_nI, leT, leF, ltT, ltF, eqT, eqF, nI_leI, nI_ltI, nI_eq, ngEq, ngEq', ngLt, ngLt', ngLe, ngLe', ngNg, nI_p, pk_sub, Nat.reduceAdd, Nat.reduceMul, Nat.reduceSub, uI1, uI2, uL1, uL2, uL3, uR1, uR2, uR3]
theorem m_few {T : Tt} {V : Vt} (hT : MT T) {a : St} (h : MR V a) (ok : OK a) {k n : Int32} : Ret (f_X5_few T V 94 k n) fun p => p.1 = rFew a k n ∧ MR p.2 a ∧ mFr V p.2 := by
  have h := h.s0 ok.g (j := 0) (v := 0) (by omega)
  rw [f_X5_few, rq hT.1, sp]
  have f0 : mFr V (uI V 94 0 0) := mF_uI (by omega)
  generalize uI V 94 0 0 = X at h f0 ⊢
  rw [pc m_inI, rFew, show (1 : Int64).toInt = 1 from rfl, show (20 : Int64).toInt = 20 from rfl]
  simp only [f_X5_few_J29]
  cases hk : iN k 1 20 with
  | false => exact Ret.ok ⟨rfl, h, f0⟩
  | true =>
    rw [if_neg (by decide), if_pos rfl, pc m_inI, show (0 : Int64).toInt = 0 from rfl, show (99 : Int64).toInt = 99 from rfl]
    cases hn : iN n 0 99 with
    | false => exact Ret.ok ⟨rfl, h, f0⟩
    | true =>
      obtain ⟨k', rfl, k1, k2, k3⟩ := iN_of hk (by omega)
      obtain ⟨n', rfl, n1, n2, n3⟩ := iN_of hn (by omega)
      rw [if_neg (by decide), if_pos rfl, ix_nI k3, ix_nI n3]
      refine m_few35 hT h.hV fun W f1 p1 => ?_
      have h1 := h.lg ok.g f1
      have hV := h1.hV
      have e6 := h1.mf.co
      rw [dr (rf3 hV), show (6 : Int32) = nI 6 from rfl, rq96 hT (by omega), ix_nI (by omega), e6, sp]
      refine m_few75 (co := a.g.co) hT h1.hV (by omega) (by omega) p1 (by omega) fun U f2 p2 => ?_
      have h2 := h1.lg ok.g f2
      have e := m_few158 hT h2.hV (k := k') (by omega) p2 (kk := fun z => some (z, U))
      have f3 := f1.tr f2
      exact ⟨_, e, rfl, h2, f0.tr ⟨fun c j _ => by rw [f3.1], fun c j q => f3.2.1 _ _ (by omega), f3.2.2⟩⟩
