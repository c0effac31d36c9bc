/-! 80: what can be undone, on both sides -/
set_option maxRecDepth 100000
abbrev Un : Type := (Nat) × (Nat → Tab) × (Nat → Nat)
abbrev Un.n (x__ : Un) : Nat := x__.1
abbrev Un.s (x__ : Un) : Nat → Tab := x__.2.1
abbrev Un.w (x__ : Un) : Nat → Nat := x__.2.2
/-- the eldest goes, if there is no room -/
def shU (u : Un) : Un := if u.n = 16 then ⟨15, fun k => u.s (k + 1), fun k => u.w (k + 1)⟩ else u
def puU (u : Un) (t : Tab) (w : Nat) : Un := ⟨u.n + 1, fun k => if k = u.n then t else u.s k, fun k => if k = u.n then w else u.w k⟩
def keepU (u : Un) (t : Tab) (w : Nat) : Un := puU (shU u) t w
theorem shU_n {u : Un} (h : u.n ≤ 16) : (shU u).n ≤ 15 := by
  rw [shU]
  split
  · exact Nat.le_refl _
  · omega
theorem keepU_n {u : Un} {t : Tab} {w : Nat} (h : u.n ≤ 16) : (keepU u t w).n ≤ 16 := by
  have := shU_n h
  show (shU u).n + 1 ≤ 16
  omega
theorem cp_u {V : Vt} {a b : Nat} {h j n : Nat} : (cpI V a 0 b 0 n).1 h j = if h = b ∧ j < n then V.1 a j else V.1 h j := by
  unfold cpI up
  show (if h = b then va_cpy (V.1 a) (V.1 b) 0 0 n else V.1 h) j = _
  by_cases e : h = b
  · subst e
    rw [if_pos rfl]
    by_cases q : j < n
    · rw [pk_cpy_in (by omega) (by omega), if_pos ⟨rfl, q⟩, Nat.zero_add, Nat.sub_zero]
    · rw [pk_cpy_out (by omega), if_neg (fun w => q w.2)]
  · rw [if_neg e, if_neg (fun w => e w.1)]
theorem cp_2 {V : Vt} {a b s d n : Nat} : (cpI V a s b d n).2 = V.2 := rfl
abbrev sTk (t d h j : Nat) : Prop := h = d ∨ (h = t ∧ (j = 1 ∨ j = 2))
theorem c_takes {T : Tt} {V : Vt} {t d s e : Nat} {b : Tab} (h1 : isTb T V t d) (h2 : cTb T V s e b) (n1 : t ≠ d) (n2 : t ≠ s) (n3 : s ≠ d) :
    Ret (f_X2_takes T V t s) fun W => frI (sTk t d) V W ∧ cTb T W t d b := by
  have hl : nI (T.2.1 d) = nI 160 := by rw [h1.2.2.2]
  have hc : cpIn T 0 e d (nI 0) (nI 0) (nI 160) := ⟨h2.k.2.2.1, h1.2.2.1, by decide, by decide, by decide, by rw [h2.k.2.2.2]; decide, by rw [h1.2.2.2]; decide⟩
  rw [f_X2_takes, rq h1.1, rq h2.k.1, dr h2.k.2.1, dr h1.2.1, dr h1.2.1, rq h1.2.2.1, hl]
  simp (disch := omega) only [l0, l1, l2, l3, l4, l5, l6, l7, l8, l9, l10, l11, l12, l13, l14, l15, l16, l17, l18, l19, l20, l21, l22, l23, l24, l25, l26, l27, l28, l29, l30, l31, l32, l33, l34, l35, l36, l37, l40, l41, l42, l43, l45, l47, l48, l50, l57, l59, l60, l61, l62, l63, l85, l91, l93, l96, l97, l98, l99, l100, l120, l122, l146, l160, l165, l170, l178, l186, l198, l255, l400, l900, l948, l999, l1000, l2475, l2640, l2970, l3990, l9390, l18780, l19000, l999999, l1000000, l100000000, l2147483639, ix_nI, rq hc, sp]
  refine Ret.ok ⟨frI.mk (fun h j q => ?_) ?_, ⟨h1.1, ?_, h1.2.2⟩, fun k hk => ?_, ?_, ?_⟩
  · rw [uI1, if_neg (by omega), uI1, if_neg (by omega), cp_u, if_neg (by omega)]
  · rw [uI2, uI2, cp_2]
  · rw [uI2, uI2, cp_2]
    exact h1.2.1
  · rw [uI1, if_neg (by omega), uI1, if_neg (by omega), cp_u, if_pos ⟨rfl, hk⟩]
    exact h2.D k hk
  · rw [uI1, if_neg (by omega), uI1, if_pos ⟨rfl, rfl⟩, cp_u, if_neg (by omega)]
    exact h2.b
  · rw [uI1, if_pos ⟨rfl, rfl⟩, uI1, if_neg (by omega), cp_u, if_neg (by omega)]
    exact h2.y
/-- the component's undone tables: they lie in some order -/
abbrev cUn (T : Tt) (V : Vt) (p : Nat → Nat) (u : Un) : Prop := (V.1 0 15 = nI u.n) ∧ (u.n ≤ 16) ∧ (∀ k, k < 16 → p k < 16) ∧ (∀ i j, i < 16 → j < 16 → p i = p j → i = j) ∧ (∀ k, k < 16 → V.2.2 13 k = some (30 + 4 * p k)) ∧ (∀ k, k < u.n → cTb T V (30 + 4 * p k) (31 + 4 * p k) (u.s k)) ∧ (∀ k, k < u.n → V.1 15 k = nI (u.w k))
theorem cUn.n {T : Tt} {V : Vt} {p : Nat → Nat} {u : Un} (h__ : cUn T V p u) : V.1 0 15 = nI u.n := h__.1
theorem cUn.l {T : Tt} {V : Vt} {p : Nat → Nat} {u : Un} (h__ : cUn T V p u) : u.n ≤ 16 := h__.2.1
theorem cUn.b {T : Tt} {V : Vt} {p : Nat → Nat} {u : Un} (h__ : cUn T V p u) : ∀ k, k < 16 → p k < 16 := h__.2.2.1
theorem cUn.i {T : Tt} {V : Vt} {p : Nat → Nat} {u : Un} (h__ : cUn T V p u) : ∀ i j, i < 16 → j < 16 → p i = p j → i = j := h__.2.2.2.1
theorem cUn.r {T : Tt} {V : Vt} {p : Nat → Nat} {u : Un} (h__ : cUn T V p u) : ∀ k, k < 16 → V.2.2 13 k = some (30 + 4 * p k) := h__.2.2.2.2.1
theorem cUn.t {T : Tt} {V : Vt} {p : Nat → Nat} {u : Un} (h__ : cUn T V p u) : ∀ k, k < u.n → cTb T V (30 + 4 * p k) (31 + 4 * p k) (u.s k) := h__.2.2.2.2.2.1
theorem cUn.w {T : Tt} {V : Vt} {p : Nat → Nat} {u : Un} (h__ : cUn T V p u) : ∀ k, k < u.n → V.1 15 k = nI (u.w k) := h__.2.2.2.2.2.2
abbrev uH (h : Nat) : Prop := 30 ≤ h ∧ h < 94 ∧ (h % 4 = 2 ∨ h % 4 = 3)
/-- what keeping touches -/
def kpF (V W : Vt) : Prop := (∀ h j, ¬ (h = 15 ∨ (h = 0 ∧ j = 15) ∨ uH h) → W.1 h j = V.1 h j) ∧ W.2.1 = V.2.1 ∧ ∀ h j, h ≠ 13 → W.2.2 h j = V.2.2 h j
theorem kpF.tr {V W U : Vt} (h : kpF V W) (g : kpF W U) : kpF V U := ⟨fun a j q => (g.1 a j q).trans (h.1 a j q), g.2.1.trans h.2.1, fun a j q => (g.2.2 a j q).trans (h.2.2 a j q)⟩
theorem c_table {T : Tt} {V : Vt} (hC : CT T) (hU : CV V) : f_X0_table T V 0 = some 3 := by rw [f_X0_table, rq hC.k0, dr hU.r0_2, rq hC.k2, dr hU.r2_0]
theorem uTb {T : Tt} {V : Vt} (hC : CT T) (hU : CV V) {k : Nat} (hk : k < 16) : isTb T V (30 + 4 * k) (31 + 4 * k) := ⟨(hC.ku k hk).1, hU.ru k hk, (hC.ku k hk).2⟩
theorem oTb {T : Tt} {V : Vt} (hC : CT T) (hU : CV V) {k : Nat} (hk : k < 16) : isTb T V (32 + 4 * k) (33 + 4 * k) := ⟨(hC.ko k hk).1, (hU.ro k hk).1, (hC.ko k hk).2⟩
theorem c_keepsJ {T : Tt} {V : Vt} (hC : CT T) (hU : CV V) {p : Nat → Nat} {u : Un} (cu : cUn T V p u) (hn : u.n ≤ 15) {b : Tab} (ct : cTb T V 3 4 b) {w : Nat} :
    Ret (f_X0_keeps_J76 T V 0 (nI w)) fun W => cUn T W p (puU u b w) ∧ kpF V W := by
  have hp := cu.b u.n (by omega)
  have h1 := cu.n
  have h2 := cu.r u.n (by omega)
  rw [f_X0_keeps_J76, h1]
  simp (disch := omega) only [rq_t, drs, sp, pcs, cls, ↓reduceIte, not_true_eq_false, not_false_eq_true, and_true, true_and, and_false, false_and, or_true, true_or, or_false, false_or, eq_self, l0, l1, l2, l3, l4, l5, l6, l7, l8, l9, l10, l11, l12, l13, l14, l15, l16, l17, l18, l19, l20, l21, l22, l23, l24, l25, l26, l27, l28, l29, l30, l31, l32, l33, l34, l35, l36, l37, l40, l41, l42, l43, l45, l47, l48, l50, l57, l59, l60, l61, l62, l63, l85, l91, l93, l96, l97, l98, l99, l100, l120, l122, l146, l160, l165, l170, l178, l186, l198, l255, l400, l900, l948, l999, l1000, l2475, l2640, l2970, l3990, l9390, l18780, l19000, l999999, l1000000, l100000000, l2147483639, nI_add, pk_mul, ix_nI, leT, leF, ltT, ltF, eqT, eqF, nI_leI, nI_ltI, nI_eq, ngEq, ngEq', ngLt, ngLt', ngLe, ngLe', ngNg, nI_p, pk_sub, Nat.reduceAdd, Nat.reduceMul, Nat.reduceSub, uI1, uI2, uL1, uL2, uL3, uR1, uR2, uR3, rq_eq hC.k0, rq_eq hC.k2, rq_eq hC.k3, rq_eq hC.k8, rq_eq hC.k10, rq_eq hC.k17, rq_eq hC.k19, rq_eq hC.k22, rq_eq hC.k23, rq_eq hC.k28, cq1 hC, cq4 hC, cq5 hC, cq6 hC, cq7 hC, cq12 hC, cq13 hC, cq14 hC, cq15 hC, cq16 hC, cq18 hC, cq20 hC, cq21 hC, cq24 hC, cq25 hC, cq26 hC, cq27 hC, cq29 hC, hU.r0_1, hU.r0_2, hU.r0_3, hU.r0_4, hU.r0_5, hU.r0_6, hU.r0_7, hU.r0_8, hU.r0_9, hU.r0_10, hU.r0_16, hU.r0_17, hU.r0_18, hU.r0_22, hU.r0_23, hU.r2_0, hU.r2_1, hU.r2_2, hU.r2_3, hU.r2_4, hU.r2_5, hU.r3_0, hU.r17_0, hU.r19_0, hU.r28_0, hU.r22_0, hU.r22_1, h2]
  rw [pc (c_table hC hU)]
  refine Ret.p (c_takes (uTb hC hU hp) ct (by omega) (by omega) (by omega)) ?_
  intro W ⟨f, tb⟩
  have hU := hU.eq3 (W := W) (by rw [f.2])
  have e15 : W.1 0 15 = nI u.n := (f.1 _ _ (by omega)).trans h1
  rw [dr hU.r0_6, e15]
  simp (disch := omega) only [rq_t, drs, sp, pcs, cls, ↓reduceIte, not_true_eq_false, not_false_eq_true, and_true, true_and, and_false, false_and, or_true, true_or, or_false, false_or, eq_self, l0, l1, l2, l3, l4, l5, l6, l7, l8, l9, l10, l11, l12, l13, l14, l15, l16, l17, l18, l19, l20, l21, l22, l23, l24, l25, l26, l27, l28, l29, l30, l31, l32, l33, l34, l35, l36, l37, l40, l41, l42, l43, l45, l47, l48, l50, l57, l59, l60, l61, l62, l63, l85, l91, l93, l96, l97, l98, l99, l100, l120, l122, l146, l160, l165, l170, l178, l186, l198, l255, l400, l900, l948, l999, l1000, l2475, l2640, l2970, l3990, l9390, l18780, l19000, l999999, l1000000, l100000000, l2147483639, nI_add, pk_mul, ix_nI, leT, leF, ltT, ltF, eqT, eqF, nI_leI, nI_ltI, nI_eq, ngEq, ngEq', ngLt, ngLt', ngLe, ngLe', ngNg, nI_p, pk_sub, Nat.reduceAdd, Nat.reduceMul, Nat.reduceSub, uI1, uI2, uL1, uL2, uL3, uR1, uR2, uR3, rq_eq hC.k0, rq_eq hC.k2, rq_eq hC.k3, rq_eq hC.k8, rq_eq hC.k10, rq_eq hC.k17, rq_eq hC.k19, rq_eq hC.k22, rq_eq hC.k23, rq_eq hC.k28, cq1 hC, cq4 hC, cq5 hC, cq6 hC, cq7 hC, cq12 hC, cq13 hC, cq14 hC, cq15 hC, cq16 hC, cq18 hC, cq20 hC, cq21 hC, cq24 hC, cq25 hC, cq26 hC, cq27 hC, cq29 hC, hU.r0_1, hU.r0_2, hU.r0_3, hU.r0_4, hU.r0_5, hU.r0_6, hU.r0_7, hU.r0_8, hU.r0_9, hU.r0_10, hU.r0_16, hU.r0_17, hU.r0_18, hU.r0_22, hU.r0_23, hU.r2_0, hU.r2_1, hU.r2_2, hU.r2_3, hU.r2_4, hU.r2_5, hU.r3_0, hU.r17_0, hU.r19_0, hU.r28_0, hU.r22_0, hU.r22_1, e15]
  refine Ret.ok ⟨⟨?_, ?_, cu.b, cu.i, ?_, ?_, ?_⟩, ⟨fun h j q => ?_, ?_, ?_⟩⟩
  · simp (disch := omega) only [rq_t, drs, sp, pcs, cls, ↓reduceIte, not_true_eq_false, not_false_eq_true, and_true, true_and, and_false, false_and, or_true, true_or, or_false, false_or, eq_self, l0, l1, l2, l3, l4, l5, l6, l7, l8, l9, l10, l11, l12, l13, l14, l15, l16, l17, l18, l19, l20, l21, l22, l23, l24, l25, l26, l27, l28, l29, l30, l31, l32, l33, l34, l35, l36, l37, l40, l41, l42, l43, l45, l47, l48, l50, l57, l59, l60, l61, l62, l63, l85, l91, l93, l96, l97, l98, l99, l100, l120, l122, l146, l160, l165, l170, l178, l186, l198, l255, l400, l900, l948, l999, l1000, l2475, l2640, l2970, l3990, l9390, l18780, l19000, l999999, l1000000, l100000000, l2147483639, nI_add, pk_mul, ix_nI, leT, leF, ltT, ltF, eqT, eqF, nI_leI, nI_ltI, nI_eq, ngEq, ngEq', ngLt, ngLt', ngLe, ngLe', ngNg, nI_p, pk_sub, Nat.reduceAdd, Nat.reduceMul, Nat.reduceSub, uI1, uI2, uL1, uL2, uL3, uR1, uR2, uR3]
    rfl
  · show u.n + 1 ≤ 16
    omega
  · intro k hk
    simp only [uI2, f.2]
    exact cu.r k hk
  · intro k hk
    have hk : k < u.n + 1 := hk
    show cTb T _ (30 + 4 * p k) (31 + 4 * p k) (if k = u.n then b else u.s k)
    by_cases e : k = u.n
    · rw [if_pos e, e]
      exact tb.fr (fun j => by simp (disch := omega) only [rq_t, drs, sp, pcs, cls, ↓reduceIte, not_true_eq_false, not_false_eq_true, and_true, true_and, and_false, false_and, or_true, true_or, or_false, false_or, eq_self, l0, l1, l2, l3, l4, l5, l6, l7, l8, l9, l10, l11, l12, l13, l14, l15, l16, l17, l18, l19, l20, l21, l22, l23, l24, l25, l26, l27, l28, l29, l30, l31, l32, l33, l34, l35, l36, l37, l40, l41, l42, l43, l45, l47, l48, l50, l57, l59, l60, l61, l62, l63, l85, l91, l93, l96, l97, l98, l99, l100, l120, l122, l146, l160, l165, l170, l178, l186, l198, l255, l400, l900, l948, l999, l1000, l2475, l2640, l2970, l3990, l9390, l18780, l19000, l999999, l1000000, l100000000, l2147483639, nI_add, pk_mul, ix_nI, leT, leF, ltT, ltF, eqT, eqF, nI_leI, nI_ltI, nI_eq, ngEq, ngEq', ngLt, ngLt', ngLe, ngLe', ngNg, nI_p, pk_sub, Nat.reduceAdd, Nat.reduceMul, Nat.reduceSub, uI1, uI2, uL1, uL2, uL3, uR1, uR2, uR3]) (fun j => by simp (disch := omega) only [rq_t, drs, sp, pcs, cls, ↓reduceIte, not_true_eq_false, not_false_eq_true, and_true, true_and, and_false, false_and, or_true, true_or, or_false, false_or, eq_self, l0, l1, l2, l3, l4, l5, l6, l7, l8, l9, l10, l11, l12, l13, l14, l15, l16, l17, l18, l19, l20, l21, l22, l23, l24, l25, l26, l27, l28, l29, l30, l31, l32, l33, l34, l35, l36, l37, l40, l41, l42, l43, l45, l47, l48, l50, l57, l59, l60, l61, l62, l63, l85, l91, l93, l96, l97, l98, l99, l100, l120, l122, l146, l160, l165, l170, l178, l186, l198, l255, l400, l900, l948, l999, l1000, l2475, l2640, l2970, l3990, l9390, l18780, l19000, l999999, l1000000, l100000000, l2147483639, nI_add, pk_mul, ix_nI, leT, leF, ltT, ltF, eqT, eqF, nI_leI, nI_ltI, nI_eq, ngEq, ngEq', ngLt, ngLt', ngLe, ngLe', ngNg, nI_p, pk_sub, Nat.reduceAdd, Nat.reduceMul, Nat.reduceSub, uI1, uI2, uL1, uL2, uL3, uR1, uR2, uR3]) (fun j => rfl)
    · rw [if_neg e]
      have hpk : p k ≠ p u.n := fun q => e (cu.i _ _ (by omega) (by omega) q)
      refine (cu.t k (by omega)).fr (fun j => ?_) (fun j => ?_) (fun j => ?_)
      · simp (disch := omega) only [rq_t, drs, sp, pcs, cls, ↓reduceIte, not_true_eq_false, not_false_eq_true, and_true, true_and, and_false, false_and, or_true, true_or, or_false, false_or, eq_self, l0, l1, l2, l3, l4, l5, l6, l7, l8, l9, l10, l11, l12, l13, l14, l15, l16, l17, l18, l19, l20, l21, l22, l23, l24, l25, l26, l27, l28, l29, l30, l31, l32, l33, l34, l35, l36, l37, l40, l41, l42, l43, l45, l47, l48, l50, l57, l59, l60, l61, l62, l63, l85, l91, l93, l96, l97, l98, l99, l100, l120, l122, l146, l160, l165, l170, l178, l186, l198, l255, l400, l900, l948, l999, l1000, l2475, l2640, l2970, l3990, l9390, l18780, l19000, l999999, l1000000, l100000000, l2147483639, nI_add, pk_mul, ix_nI, leT, leF, ltT, ltF, eqT, eqF, nI_leI, nI_ltI, nI_eq, ngEq, ngEq', ngLt, ngLt', ngLe, ngLe', ngNg, nI_p, pk_sub, Nat.reduceAdd, Nat.reduceMul, Nat.reduceSub, uI1, uI2, uL1, uL2, uL3, uR1, uR2, uR3]
        exact f.1 _ _ (by omega)
      · simp (disch := omega) only [rq_t, drs, sp, pcs, cls, ↓reduceIte, not_true_eq_false, not_false_eq_true, and_true, true_and, and_false, false_and, or_true, true_or, or_false, false_or, eq_self, l0, l1, l2, l3, l4, l5, l6, l7, l8, l9, l10, l11, l12, l13, l14, l15, l16, l17, l18, l19, l20, l21, l22, l23, l24, l25, l26, l27, l28, l29, l30, l31, l32, l33, l34, l35, l36, l37, l40, l41, l42, l43, l45, l47, l48, l50, l57, l59, l60, l61, l62, l63, l85, l91, l93, l96, l97, l98, l99, l100, l120, l122, l146, l160, l165, l170, l178, l186, l198, l255, l400, l900, l948, l999, l1000, l2475, l2640, l2970, l3990, l9390, l18780, l19000, l999999, l1000000, l100000000, l2147483639, nI_add, pk_mul, ix_nI, leT, leF, ltT, ltF, eqT, eqF, nI_leI, nI_ltI, nI_eq, ngEq, ngEq', ngLt, ngLt', ngLe, ngLe', ngNg, nI_p, pk_sub, Nat.reduceAdd, Nat.reduceMul, Nat.reduceSub, uI1, uI2, uL1, uL2, uL3, uR1, uR2, uR3]
        exact f.1 _ _ (by omega)
      · simp only [uI2, f.2]
  · intro k hk
    have hk : k < u.n + 1 := hk
    show _ = nI (if k = u.n then w else u.w k)
    by_cases e : k = u.n
    · simp (disch := omega) only [rq_t, drs, sp, pcs, cls, ↓reduceIte, not_true_eq_false, not_false_eq_true, and_true, true_and, and_false, false_and, or_true, true_or, or_false, false_or, eq_self, l0, l1, l2, l3, l4, l5, l6, l7, l8, l9, l10, l11, l12, l13, l14, l15, l16, l17, l18, l19, l20, l21, l22, l23, l24, l25, l26, l27, l28, l29, l30, l31, l32, l33, l34, l35, l36, l37, l40, l41, l42, l43, l45, l47, l48, l50, l57, l59, l60, l61, l62, l63, l85, l91, l93, l96, l97, l98, l99, l100, l120, l122, l146, l160, l165, l170, l178, l186, l198, l255, l400, l900, l948, l999, l1000, l2475, l2640, l2970, l3990, l9390, l18780, l19000, l999999, l1000000, l100000000, l2147483639, nI_add, pk_mul, ix_nI, leT, leF, ltT, ltF, eqT, eqF, nI_leI, nI_ltI, nI_eq, ngEq, ngEq', ngLt, ngLt', ngLe, ngLe', ngNg, nI_p, pk_sub, Nat.reduceAdd, Nat.reduceMul, Nat.reduceSub, uI1, uI2, uL1, uL2, uL3, uR1, uR2, uR3, e]
    · simp (disch := omega) only [rq_t, drs, sp, pcs, cls, ↓reduceIte, not_true_eq_false, not_false_eq_true, and_true, true_and, and_false, false_and, or_true, true_or, or_false, false_or, eq_self, l0, l1, l2, l3, l4, l5, l6, l7, l8, l9, l10, l11, l12, l13, l14, l15, l16, l17, l18, l19, l20, l21, l22, l23, l24, l25, l26, l27, l28, l29, l30, l31, l32, l33, l34, l35, l36, l37, l40, l41, l42, l43, l45, l47, l48, l50, l57, l59, l60, l61, l62, l63, l85, l91, l93, l96, l97, l98, l99, l100, l120, l122, l146, l160, l165, l170, l178, l186, l198, l255, l400, l900, l948, l999, l1000, l2475, l2640, l2970, l3990, l9390, l18780, l19000, l999999, l1000000, l100000000, l2147483639, nI_add, pk_mul, ix_nI, leT, leF, ltT, ltF, eqT, eqF, nI_leI, nI_ltI, nI_eq, ngEq, ngEq', ngLt, ngLt', ngLe, ngLe', ngNg, nI_p, pk_sub, Nat.reduceAdd, Nat.reduceMul, Nat.reduceSub, uI1, uI2, uL1, uL2, uL3, uR1, uR2, uR3]
      exact (f.1 _ _ (by omega)).trans (cu.w k (by omega))
  · have : 30 + 4 * p u.n < 94 := by omega
    simp only [uI1]
    rw [if_neg (by omega), if_neg (by omega)]
    exact f.1 _ _ (by omega)
  · simp only [uI2, f.2]
  · intro h j q
    simp only [uI2, f.2]
theorem c_keepsL {T : Tt} {V : Vt} (hC : CT T) (hU : CV V) {p : Nat → Nat} {u : Un} (cu : cUn T V p u) (hn : u.n = 16) {x1 : Int32} {x2 : Nat} {k : Vt → Option Vt} {R : Vt → Prop}
    (hR : ∀ W, (∀ h j, h ≠ 15 → W.1 h j = V.1 h j) → (∀ k, k < 15 → W.1 15 k = nI (u.w (k + 1))) → W.2.1 = V.2.1 → (∀ h j, h ≠ 13 → W.2.2 h j = V.2.2 h j) → (∀ k, k < 15 → W.2.2 13 k = some (30 + 4 * p (k + 1))) → Ret (k W) R) :
    Ret (f_X0_keeps_L18 T 0 x1 x2 k fuel (nI 1) V) R := by
  refine lq2 (f_X0_keeps_L18 T 0 x1 x2 k) (fun i a W => a = nI (i + 1) ∧ (∀ h j, h ≠ 15 → W.1 h j = V.1 h j) ∧ (∀ k, k < i → W.1 15 k = nI (u.w (k + 1))) ∧ (∀ k, i ≤ k → W.1 15 k = V.1 15 k) ∧ W.2.1 = V.2.1 ∧ (∀ h j, h ≠ 13 → W.2.2 h j = V.2.2 h j) ∧ (∀ k, k < i → W.2.2 13 k = some (30 + 4 * p (k + 1))) ∧ ∀ k, i ≤ k → W.2.2 13 k = V.2.2 13 k) 15 ?_ ?_ fuel _ _ (by decide) ⟨rfl, fun _ _ _ => rfl, fun k hk => absurd hk (by omega), fun _ _ => rfl, rfl, fun _ _ _ => rfl, fun k hk => absurd hk (by omega), fun _ _ => rfl⟩
  · intro i N a W hi ⟨q1, q2, q3, q4, q5, q6, q7, q8⟩ ih
    subst q1
    have hU := hU.e13 q6
    have e1 : W.2.2 13 (i + 1) = some (30 + 4 * p (i + 1)) := (q8 _ (by omega)).trans (cu.r _ (by omega))
    have e2 : W.1 15 (i + 1) = nI (u.w (i + 1)) := (q4 _ (by omega)).trans (cu.w _ (by omega))
    have hp := cu.b (i + 1) (by omega)
    have hk : ∀ {β : Type} {k : Option β}, req (stK5 T (30 + 4 * p (i + 1))) k = k := fun {β k} => rq (hC.ku _ hp).1
    simp (disch := omega) only [f_X0_keeps_L18, rq_t, drs, sp, pcs, cls, ↓reduceIte, not_true_eq_false, not_false_eq_true, and_true, true_and, and_false, false_and, or_true, true_or, or_false, false_or, eq_self, l0, l1, l2, l3, l4, l5, l6, l7, l8, l9, l10, l11, l12, l13, l14, l15, l16, l17, l18, l19, l20, l21, l22, l23, l24, l25, l26, l27, l28, l29, l30, l31, l32, l33, l34, l35, l36, l37, l40, l41, l42, l43, l45, l47, l48, l50, l57, l59, l60, l61, l62, l63, l85, l91, l93, l96, l97, l98, l99, l100, l120, l122, l146, l160, l165, l170, l178, l186, l198, l255, l400, l900, l948, l999, l1000, l2475, l2640, l2970, l3990, l9390, l18780, l19000, l999999, l1000000, l100000000, l2147483639, nI_add, pk_mul, ix_nI, leT, leF, ltT, ltF, eqT, eqF, nI_leI, nI_ltI, nI_eq, ngEq, ngEq', ngLt, ngLt', ngLe, ngLe', ngNg, nI_p, pk_sub, Nat.reduceAdd, Nat.reduceMul, Nat.reduceSub, uI1, uI2, uL1, uL2, uL3, uR1, uR2, uR3, rq_eq hC.k0, rq_eq hC.k2, rq_eq hC.k3, rq_eq hC.k8, rq_eq hC.k10, rq_eq hC.k17, rq_eq hC.k19, rq_eq hC.k22, rq_eq hC.k23, rq_eq hC.k28, cq1 hC, cq4 hC, cq5 hC, cq6 hC, cq7 hC, cq12 hC, cq13 hC, cq14 hC, cq15 hC, cq16 hC, cq18 hC, cq20 hC, cq21 hC, cq24 hC, cq25 hC, cq26 hC, cq27 hC, cq29 hC, hU.r0_1, hU.r0_2, hU.r0_3, hU.r0_4, hU.r0_5, hU.r0_6, hU.r0_7, hU.r0_8, hU.r0_9, hU.r0_10, hU.r0_16, hU.r0_17, hU.r0_18, hU.r0_22, hU.r0_23, hU.r2_0, hU.r2_1, hU.r2_2, hU.r2_3, hU.r2_4, hU.r2_5, hU.r3_0, hU.r17_0, hU.r19_0, hU.r28_0, hU.r22_0, hU.r22_1, e1, hk, e2, show i + 1 - 1 = i by omega]
    refine ih _ _ ⟨rfl, fun h j q => ?_, fun k hk => ?_, fun k hk => ?_, ?_, fun h j q => ?_, fun k hk => ?_, fun k hk => ?_⟩
    · rw [uI1, if_neg (fun w => q w.1), uR1]
      exact q2 h j q
    · rw [uI1, uR1]
      by_cases e : k = i
      · rw [if_pos ⟨rfl, e⟩, e]
      · rw [if_neg (fun w => e w.2)]
        exact q3 k (by omega)
    · rw [uI1, uR1, if_neg (by omega)]
      exact q4 k (by omega)
    · rw [uI2, uR2]
      exact q5
    · rw [uI2, uR3, if_neg (fun w => q w.1)]
      exact q6 h j q
    · rw [uI2, uR3]
      by_cases e : k = i
      · rw [if_pos ⟨rfl, e⟩, e]
      · rw [if_neg (fun w => e w.2)]
        exact q7 k (by omega)
    · rw [uI2, uR3, if_neg (by omega)]
      exact q8 k (by omega)
  · intro N a W ⟨q1, q2, q3, q4, q5, q6, q7, q8⟩
    subst q1
    simp (disch := omega) only [f_X0_keeps_L18, rq_t, drs, sp, pcs, cls, ↓reduceIte, not_true_eq_false, not_false_eq_true, and_true, true_and, and_false, false_and, or_true, true_or, or_false, false_or, eq_self, l0, l1, l2, l3, l4, l5, l6, l7, l8, l9, l10, l11, l12, l13, l14, l15, l16, l17, l18, l19, l20, l21, l22, l23, l24, l25, l26, l27, l28, l29, l30, l31, l32, l33, l34, l35, l36, l37, l40, l41, l42, l43, l45, l47, l48, l50, l57, l59, l60, l61, l62, l63, l85, l91, l93, l96, l97, l98, l99, l100, l120, l122, l146, l160, l165, l170, l178, l186, l198, l255, l400, l900, l948, l999, l1000, l2475, l2640, l2970, l3990, l9390, l18780, l19000, l999999, l1000000, l100000000, l2147483639, nI_add, pk_mul, ix_nI, leT, leF, ltT, ltF, eqT, eqF, nI_leI, nI_ltI, nI_eq, ngEq, ngEq', ngLt, ngLt', ngLe, ngLe', ngNg, nI_p, pk_sub, Nat.reduceAdd, Nat.reduceMul, Nat.reduceSub, uI1, uI2, uL1, uL2, uL3, uR1, uR2, uR3]
    exact hR W q2 q3 q5 q6 q7
theorem c_keeps {T : Tt} {V : Vt} (hC : CT T) (hU : CV V) {p : Nat → Nat} {u : Un} (cu : cUn T V p u) {b : Tab} (ct : cTb T V 3 4 b) {w : Nat} :
    Ret (f_X0_keeps T V 0 (nI w)) fun W => (∃ q, cUn T W q (keepU u b w)) ∧ kpF V W := by
  have h1 := cu.n
  have hl := cu.l
  rw [f_X0_keeps, rq hC.k0, h1, keepU, shU]
  by_cases e : u.n = 16
  · have e0 := cu.r 0 (by omega)
    have hp0 := cu.b 0 (by omega)
    rw [if_pos (by rw [e]; rfl), if_pos e]
    simp (disch := omega) only [rq_t, drs, sp, pcs, cls, ↓reduceIte, not_true_eq_false, not_false_eq_true, and_true, true_and, and_false, false_and, or_true, true_or, or_false, false_or, eq_self, l0, l1, l2, l3, l4, l5, l6, l7, l8, l9, l10, l11, l12, l13, l14, l15, l16, l17, l18, l19, l20, l21, l22, l23, l24, l25, l26, l27, l28, l29, l30, l31, l32, l33, l34, l35, l36, l37, l40, l41, l42, l43, l45, l47, l48, l50, l57, l59, l60, l61, l62, l63, l85, l91, l93, l96, l97, l98, l99, l100, l120, l122, l146, l160, l165, l170, l178, l186, l198, l255, l400, l900, l948, l999, l1000, l2475, l2640, l2970, l3990, l9390, l18780, l19000, l999999, l1000000, l100000000, l2147483639, nI_add, pk_mul, ix_nI, leT, leF, ltT, ltF, eqT, eqF, nI_leI, nI_ltI, nI_eq, ngEq, ngEq', ngLt, ngLt', ngLe, ngLe', ngNg, nI_p, pk_sub, Nat.reduceAdd, Nat.reduceMul, Nat.reduceSub, uI1, uI2, uL1, uL2, uL3, uR1, uR2, uR3, rq_eq hC.k0, rq_eq hC.k2, rq_eq hC.k3, rq_eq hC.k8, rq_eq hC.k10, rq_eq hC.k17, rq_eq hC.k19, rq_eq hC.k22, rq_eq hC.k23, rq_eq hC.k28, cq1 hC, cq4 hC, cq5 hC, cq6 hC, cq7 hC, cq12 hC, cq13 hC, cq14 hC, cq15 hC, cq16 hC, cq18 hC, cq20 hC, cq21 hC, cq24 hC, cq25 hC, cq26 hC, cq27 hC, cq29 hC, hU.r0_1, hU.r0_2, hU.r0_3, hU.r0_4, hU.r0_5, hU.r0_6, hU.r0_7, hU.r0_8, hU.r0_9, hU.r0_10, hU.r0_16, hU.r0_17, hU.r0_18, hU.r0_22, hU.r0_23, hU.r2_0, hU.r2_1, hU.r2_2, hU.r2_3, hU.r2_4, hU.r2_5, hU.r3_0, hU.r17_0, hU.r19_0, hU.r28_0, hU.r22_0, hU.r22_1, e0]
    refine c_keepsL hC hU cu e fun W f1 f2 f3 f4 f5 => ?_
    have hU := hU.e13 f4
    have hk : ∀ {β : Type} {k : Option β}, req (stK5 T (30 + 4 * p 0)) k = k := fun {β k} => rq (hC.ku _ hp0).1
    have e15 : W.1 0 15 = nI 16 := by rw [f1 _ _ (by omega), h1, e]
    simp (disch := omega) only [rq_t, drs, sp, pcs, cls, ↓reduceIte, not_true_eq_false, not_false_eq_true, and_true, true_and, and_false, false_and, or_true, true_or, or_false, false_or, eq_self, l0, l1, l2, l3, l4, l5, l6, l7, l8, l9, l10, l11, l12, l13, l14, l15, l16, l17, l18, l19, l20, l21, l22, l23, l24, l25, l26, l27, l28, l29, l30, l31, l32, l33, l34, l35, l36, l37, l40, l41, l42, l43, l45, l47, l48, l50, l57, l59, l60, l61, l62, l63, l85, l91, l93, l96, l97, l98, l99, l100, l120, l122, l146, l160, l165, l170, l178, l186, l198, l255, l400, l900, l948, l999, l1000, l2475, l2640, l2970, l3990, l9390, l18780, l19000, l999999, l1000000, l100000000, l2147483639, nI_add, pk_mul, ix_nI, leT, leF, ltT, ltF, eqT, eqF, nI_leI, nI_ltI, nI_eq, ngEq, ngEq', ngLt, ngLt', ngLe, ngLe', ngNg, nI_p, pk_sub, Nat.reduceAdd, Nat.reduceMul, Nat.reduceSub, uI1, uI2, uL1, uL2, uL3, uR1, uR2, uR3, rq_eq hC.k0, rq_eq hC.k2, rq_eq hC.k3, rq_eq hC.k8, rq_eq hC.k10, rq_eq hC.k17, rq_eq hC.k19, rq_eq hC.k22, rq_eq hC.k23, rq_eq hC.k28, cq1 hC, cq4 hC, cq5 hC, cq6 hC, cq7 hC, cq12 hC, cq13 hC, cq14 hC, cq15 hC, cq16 hC, cq18 hC, cq20 hC, cq21 hC, cq24 hC, cq25 hC, cq26 hC, cq27 hC, cq29 hC, hU.r0_1, hU.r0_2, hU.r0_3, hU.r0_4, hU.r0_5, hU.r0_6, hU.r0_7, hU.r0_8, hU.r0_9, hU.r0_10, hU.r0_16, hU.r0_17, hU.r0_18, hU.r0_22, hU.r0_23, hU.r2_0, hU.r2_1, hU.r2_2, hU.r2_3, hU.r2_4, hU.r2_5, hU.r3_0, hU.r17_0, hU.r19_0, hU.r28_0, hU.r22_0, hU.r22_1, hk, e15]
    have hU2 : CV (uI (uR W 13 15 (some (30 + 4 * p 0))) 0 15 (nI 15)) := hU.e13 fun a j q => by rw [uI2, uR3, if_neg (fun w => q w.1)]
    have fr : kpF V (uI (uR W 13 15 (some (30 + 4 * p 0))) 0 15 (nI 15)) := ⟨fun h j q => by rw [uI1, if_neg (by omega), uR1, f1 _ _ (by omega)], by rw [uI2, uR2, f3], fun h j q => by rw [uI2, uR3, if_neg (fun w => q w.1), f4 _ _ q]⟩
    have tb : ∀ t d, t ≠ 13 → t ≠ 0 → t ≠ 15 → d ≠ 15 → d ≠ 0 → ∀ b, cTb T V t d b → cTb T (uI (uR W 13 15 (some (30 + 4 * p 0))) 0 15 (nI 15)) t d b := fun t d n1 n2 n3 n4 n5 b c => c.fr (fun j => by rw [uI1, if_neg (fun w => n2 w.1), uR1, f1 _ _ n3]) (fun j => by rw [uI1, if_neg (fun w => n5 w.1), uR1, f1 _ _ n4]) (fun j => by rw [uI2, uR3, if_neg (fun w => n1 w.1), f4 _ _ n1])
    have cu2 : cUn T (uI (uR W 13 15 (some (30 + 4 * p 0))) 0 15 (nI 15)) (fun k => if k < 15 then p (k + 1) else p 0) ⟨15, fun k => u.s (k + 1), fun k => u.w (k + 1)⟩ := by
      refine ⟨?_, (by decide : 15 ≤ 16), fun k hk => ?_, fun i j hi hj q => ?_, fun k hk => ?_, fun k hk => ?_, fun k hk => ?_⟩
      · rw [uI1, if_pos ⟨rfl, rfl⟩]
      · dsimp only
        split
        · exact cu.b _ (by omega)
        · exact hp0
      · dsimp only at q
        by_cases c1 : i < 15 <;> by_cases c2 : j < 15
        · rw [if_pos c1, if_pos c2] at q
          have := cu.i _ _ (by omega) (by omega) q
          omega
        · rw [if_pos c1, if_neg c2] at q
          have := cu.i _ _ (by omega) (by omega) q
          omega
        · rw [if_neg c1, if_pos c2] at q
          have := cu.i _ _ (by omega) (by omega) q
          omega
        · omega
      · rw [uI2, uR3]
        dsimp only
        by_cases c1 : k < 15
        · rw [if_neg (by omega), if_pos c1]
          exact f5 k c1
        · rw [if_pos ⟨rfl, by omega⟩, if_neg c1]
      · have hk : k < 15 := hk
        dsimp only
        rw [if_pos hk]
        have := cu.b (k + 1) (by omega)
        exact tb _ _ (by omega) (by omega) (by omega) (by omega) (by omega) _ (cu.t (k + 1) (by omega))
      · have hk : k < 15 := hk
        rw [uI1, if_neg (by omega), uR1]
        exact f2 k hk
    exact (c_keepsJ hC hU2 cu2 (Nat.le_refl 15) (tb 3 4 (by omega) (by omega) (by omega) (by omega) (by omega) _ ct)).im fun X ⟨g1, g2⟩ => ⟨⟨_, g1⟩, fr.tr g2⟩
  · rw [if_neg (by rw [l16, nI_eq (by omega) (by omega)]; exact e), if_neg e]
    exact (c_keepsJ hC hU cu (by omega) ct).im fun X ⟨g1, g2⟩ => ⟨⟨_, g1⟩, g2⟩
/-- what the model keeps of what years move -/
def snap (g : Cfg) (t : Tab) (i : Nat) : Int32 := if i = 0 then nI t.y else if i = 1 then nI g.co else if i = 2 then nI g.mo else if i = 3 then nI g.pa else if i = 4 then nI t.b else nI (t.D (i - 5))
theorem snap_row {V : Vt} {g : Cfg} {t : Tab} (mf : mCf V g) (mt : mTb V t) {i : Nat} (hi : i < 165) : V.1 96 (5 + i) = snap g t i := by
  rw [snap]
  by_cases h0 : i = 0
  · rw [if_pos h0, h0]
    exact mt.y
  by_cases h1 : i = 1
  · rw [if_neg h0, if_pos h1, h1]
    exact mf.co
  by_cases h2 : i = 2
  · rw [if_neg h0, if_neg h1, if_pos h2, h2]
    exact mf.mo
  by_cases h3 : i = 3
  · rw [if_neg h0, if_neg h1, if_neg h2, if_pos h3, h3]
    exact mf.pa
  by_cases h4 : i = 4
  · rw [if_neg h0, if_neg h1, if_neg h2, if_neg h3, if_pos h4, h4]
    exact mt.b
  rw [if_neg h0, if_neg h1, if_neg h2, if_neg h3, if_neg h4, show 5 + i = 10 + (i - 5) by omega]
  exact mt.D _ (by omega)
theorem snap_tb {W : Vt} {g : Cfg} {t : Tab} (h : ∀ i, i < 165 → W.1 96 (5 + i) = snap g t i) : mTb W t ∧ W.1 96 6 = nI g.co ∧ W.1 96 7 = nI g.mo ∧ W.1 96 8 = nI g.pa :=
  ⟨⟨fun k hk => by rw [show 10 + k = 5 + (k + 5) by omega, h (k + 5) (by omega), snap, if_neg (by omega), if_neg (by omega), if_neg (by omega), if_neg (by omega), if_neg (by omega), Nat.add_sub_cancel], h 4 (by omega), h 0 (by omega)⟩, h 1 (by omega), h 2 (by omega), h 3 (by omega)⟩
theorem m_keepAll {T : Tt} {V : Vt} (hT : MT T) (hV : MV V) {k : Nat} (hk : k < 18) : Ret (f_X5_keepAll T V 94 (nI k)) fun W => frI (fun h j => h = 99 ∧ 165 * k ≤ j ∧ j < 165 * k + 165) V W ∧ ∀ i, i < 165 → W.1 99 (165 * k + i) = V.1 96 (5 + i) := by
  rw [f_X5_keepAll, rq hT.1]
  refine lq2 (f_X5_keepAll_L2 T 94 (nI k) _) (fun i a W => a = nI i ∧ frI (fun h j => h = 99 ∧ 165 * k ≤ j ∧ j < 165 * k + 165) V W ∧ ∀ e, e < i → W.1 99 (165 * k + e) = V.1 96 (5 + e)) 165 ?_ ?_ fuel _ _ (by decide) ⟨rfl, frI.mk (fun _ _ _ => rfl) rfl, fun e he => absurd he (by omega)⟩
  · intro i N a W hi ⟨q1, q2, q3⟩ ih
    subst q1
    have hV := hV.eq q2.2
    have e1 : W.1 96 (5 + i) = V.1 96 (5 + i) := q2.1 _ _ (by omega)
    simp (disch := omega) only [f_X5_keepAll_L2, rq_t, drs, sp, pcs, cls, ↓reduceIte, not_true_eq_false, not_false_eq_true, and_true, true_and, and_false, false_and, or_true, true_or, or_false, false_or, eq_self, l0, l1, l2, l3, l4, l5, l6, l7, l8, l9, l10, l11, l12, l13, l14, l15, l16, l17, l18, l19, l20, l21, l22, l23, l24, l25, l26, l27, l28, l29, l30, l31, l32, l33, l34, l35, l36, l37, l40, l41, l42, l43, l45, l47, l48, l50, l57, l59, l60, l61, l62, l63, l85, l91, l93, l96, l97, l98, l99, l100, l120, l122, l146, l160, l165, l170, l178, l186, l198, l255, l400, l900, l948, l999, l1000, l2475, l2640, l2970, l3990, l9390, l18780, l19000, l999999, l1000000, l100000000, l2147483639, nI_add, pk_mul, ix_nI, leT, leF, ltT, ltF, eqT, eqF, nI_leI, nI_ltI, nI_eq, ngEq, ngEq', ngLt, ngLt', ngLe, ngLe', ngNg, nI_p, pk_sub, Nat.reduceAdd, Nat.reduceMul, Nat.reduceSub, uI1, uI2, uL1, uL2, uL3, uR1, uR2, uR3, rq_eq (MT0 hT), rq95 hT, rf2 hV, rq96 hT, rf3 hV, rq97 hT, rf4 hV, rq98 hT, rf5 hV, rq99 hT, rf6 hV, rq100 hT, rf7 hV, rq101 hT, rf9 hV, rq102 hT, rf10 hV, rq103 hT, rf12 hV, rq104 hT, rf22 hV, rq105 hT, rf24 hV, rq106 hT, rf25 hV, rq107 hT, rf27 hV, rq108 hT, rf28 hV, rq109 hT, rf31 hV, rq110 hT, rf32 hV, rq111 hT, rf33 hV, rq112 hT, rf35 hV, rq113 hT, rf36 hV, rq114 hT, rf37 hV, rq115 hT, rf41 hV, rq116 hT, rf44 hV, rq117 hT, rf45 hV, rq118 hT, rf51 hV, rq119 hT, rf53 hV, e1]
    refine ih _ _ ⟨rfl, frI.mk (fun h j q => ?_) q2.2, fun e he => ?_⟩
    · rw [uI1, if_neg (by omega)]
      exact q2.1 h j q
    · rw [uI1]
      by_cases c : e = i
      · rw [if_pos ⟨rfl, by omega⟩, c]
      · rw [if_neg (by omega)]
        exact q3 e (by omega)
  · intro N a W ⟨q1, q2, q3⟩
    subst q1
    simp (disch := omega) only [f_X5_keepAll_L2, rq_t, drs, sp, pcs, cls, ↓reduceIte, not_true_eq_false, not_false_eq_true, and_true, true_and, and_false, false_and, or_true, true_or, or_false, false_or, eq_self, l0, l1, l2, l3, l4, l5, l6, l7, l8, l9, l10, l11, l12, l13, l14, l15, l16, l17, l18, l19, l20, l21, l22, l23, l24, l25, l26, l27, l28, l29, l30, l31, l32, l33, l34, l35, l36, l37, l40, l41, l42, l43, l45, l47, l48, l50, l57, l59, l60, l61, l62, l63, l85, l91, l93, l96, l97, l98, l99, l100, l120, l122, l146, l160, l165, l170, l178, l186, l198, l255, l400, l900, l948, l999, l1000, l2475, l2640, l2970, l3990, l9390, l18780, l19000, l999999, l1000000, l100000000, l2147483639, nI_add, pk_mul, ix_nI, leT, leF, ltT, ltF, eqT, eqF, nI_leI, nI_ltI, nI_eq, ngEq, ngEq', ngLt, ngLt', ngLe, ngLe', ngNg, nI_p, pk_sub, Nat.reduceAdd, Nat.reduceMul, Nat.reduceSub, uI1, uI2, uL1, uL2, uL3, uR1, uR2, uR3]
    exact Ret.ok ⟨q2, q3⟩
theorem m_putBack {T : Tt} {V : Vt} (hT : MT T) (hV : MV V) {k : Nat} (hk : k < 18) : Ret (f_X5_putBack T V 94 (nI k)) fun W => frI (fun h j => h = 96 ∧ 5 ≤ j ∧ j < 170) V W ∧ ∀ i, i < 165 → W.1 96 (5 + i) = V.1 99 (165 * k + i) := by
  rw [f_X5_putBack, rq hT.1]
  refine lq2 (f_X5_putBack_L2 T 94 (nI k) _) (fun i a W => a = nI i ∧ frI (fun h j => h = 96 ∧ 5 ≤ j ∧ j < 170) V W ∧ ∀ e, e < i → W.1 96 (5 + e) = V.1 99 (165 * k + e)) 165 ?_ ?_ fuel _ _ (by decide) ⟨rfl, frI.mk (fun _ _ _ => rfl) rfl, fun e he => absurd he (by omega)⟩
  · intro i N a W hi ⟨q1, q2, q3⟩ ih
    subst q1
    have hV := hV.eq q2.2
    have e1 : W.1 99 (165 * k + i) = V.1 99 (165 * k + i) := q2.1 _ _ (by omega)
    simp (disch := omega) only [f_X5_putBack_L2, rq_t, drs, sp, pcs, cls, ↓reduceIte, not_true_eq_false, not_false_eq_true, and_true, true_and, and_false, false_and, or_true, true_or, or_false, false_or, eq_self, l0, l1, l2, l3, l4, l5, l6, l7, l8, l9, l10, l11, l12, l13, l14, l15, l16, l17, l18, l19, l20, l21, l22, l23, l24, l25, l26, l27, l28, l29, l30, l31, l32, l33, l34, l35, l36, l37, l40, l41, l42, l43, l45, l47, l48, l50, l57, l59, l60, l61, l62, l63, l85, l91, l93, l96, l97, l98, l99, l100, l120, l122, l146, l160, l165, l170, l178, l186, l198, l255, l400, l900, l948, l999, l1000, l2475, l2640, l2970, l3990, l9390, l18780, l19000, l999999, l1000000, l100000000, l2147483639, nI_add, pk_mul, ix_nI, leT, leF, ltT, ltF, eqT, eqF, nI_leI, nI_ltI, nI_eq, ngEq, ngEq', ngLt, ngLt', ngLe, ngLe', ngNg, nI_p, pk_sub, Nat.reduceAdd, Nat.reduceMul, Nat.reduceSub, uI1, uI2, uL1, uL2, uL3, uR1, uR2, uR3, rq_eq (MT0 hT), rq95 hT, rf2 hV, rq96 hT, rf3 hV, rq97 hT, rf4 hV, rq98 hT, rf5 hV, rq99 hT, rf6 hV, rq100 hT, rf7 hV, rq101 hT, rf9 hV, rq102 hT, rf10 hV, rq103 hT, rf12 hV, rq104 hT, rf22 hV, rq105 hT, rf24 hV, rq106 hT, rf25 hV, rq107 hT, rf27 hV, rq108 hT, rf28 hV, rq109 hT, rf31 hV, rq110 hT, rf32 hV, rq111 hT, rf33 hV, rq112 hT, rf35 hV, rq113 hT, rf36 hV, rq114 hT, rf37 hV, rq115 hT, rf41 hV, rq116 hT, rf44 hV, rq117 hT, rf45 hV, rq118 hT, rf51 hV, rq119 hT, rf53 hV, e1]
    refine ih _ _ ⟨rfl, frI.mk (fun h j q => ?_) q2.2, fun e he => ?_⟩
    · rw [uI1, if_neg (by omega)]
      exact q2.1 h j q
    · rw [uI1]
      by_cases c : e = i
      · rw [if_pos ⟨rfl, by omega⟩, c]
      · rw [if_neg (by omega)]
        exact q3 e (by omega)
  · intro N a W ⟨q1, q2, q3⟩
    subst q1
    simp (disch := omega) only [f_X5_putBack_L2, rq_t, drs, sp, pcs, cls, ↓reduceIte, not_true_eq_false, not_false_eq_true, and_true, true_and, and_false, false_and, or_true, true_or, or_false, false_or, eq_self, l0, l1, l2, l3, l4, l5, l6, l7, l8, l9, l10, l11, l12, l13, l14, l15, l16, l17, l18, l19, l20, l21, l22, l23, l24, l25, l26, l27, l28, l29, l30, l31, l32, l33, l34, l35, l36, l37, l40, l41, l42, l43, l45, l47, l48, l50, l57, l59, l60, l61, l62, l63, l85, l91, l93, l96, l97, l98, l99, l100, l120, l122, l146, l160, l165, l170, l178, l186, l198, l255, l400, l900, l948, l999, l1000, l2475, l2640, l2970, l3990, l9390, l18780, l19000, l999999, l1000000, l100000000, l2147483639, nI_add, pk_mul, ix_nI, leT, leF, ltT, ltF, eqT, eqF, nI_leI, nI_ltI, nI_eq, ngEq, ngEq', ngLt, ngLt', ngLe, ngLe', ngNg, nI_p, pk_sub, Nat.reduceAdd, Nat.reduceMul, Nat.reduceSub, uI1, uI2, uL1, uL2, uL3, uR1, uR2, uR3]
    exact Ret.ok ⟨q2, q3⟩
abbrev mUn (V : Vt) (g : Cfg) (u : Un) : Prop := (V.1 94 8 = nI u.n) ∧ (u.n ≤ 16) ∧ (∀ k, k < u.n → ∀ i, i < 165 → V.1 99 (165 * k + i) = snap g (u.s k) i) ∧ (∀ k, k < u.n → V.1 100 k = nI (u.w k))
theorem mUn.n {V : Vt} {g : Cfg} {u : Un} (h__ : mUn V g u) : V.1 94 8 = nI u.n := h__.1
theorem mUn.l {V : Vt} {g : Cfg} {u : Un} (h__ : mUn V g u) : u.n ≤ 16 := h__.2.1
theorem mUn.s {V : Vt} {g : Cfg} {u : Un} (h__ : mUn V g u) : ∀ k, k < u.n → ∀ i, i < 165 → V.1 99 (165 * k + i) = snap g (u.s k) i := h__.2.2.1
theorem mUn.w {V : Vt} {g : Cfg} {u : Un} (h__ : mUn V g u) : ∀ k, k < u.n → V.1 100 k = nI (u.w k) := h__.2.2.2
abbrev sRm (h j : Nat) : Prop := (h = 99 ∧ j < 2640) ∨ h = 100 ∨ (h = 94 ∧ j = 8)
theorem m_remJ {T : Tt} {V : Vt} (hT : MT T) (hV : MV V) {g : Cfg} (mf : mCf V g) {b : Tab} (mt : mTb V b) {u : Un} (mu : mUn V g u) (hn : u.n ≤ 15) {w : Nat} :
    Ret (f_X5_remember_J78 T V 94 (nI w)) fun W => mUn W g (puU u b w) ∧ frI sRm V W := by
  have h1 := mu.n
  rw [f_X5_remember_J78, h1]
  refine Ret.p (m_keepAll hT hV (by omega)) ?_
  intro W ⟨f, ks⟩
  have hV := hV.eq f.2
  have e8 : W.1 94 8 = nI u.n := (f.1 _ _ (by omega)).trans h1
  rw [dr (rf7 hV), e8]
  simp (disch := omega) only [rq_t, drs, sp, pcs, cls, ↓reduceIte, not_true_eq_false, not_false_eq_true, and_true, true_and, and_false, false_and, or_true, true_or, or_false, false_or, eq_self, l0, l1, l2, l3, l4, l5, l6, l7, l8, l9, l10, l11, l12, l13, l14, l15, l16, l17, l18, l19, l20, l21, l22, l23, l24, l25, l26, l27, l28, l29, l30, l31, l32, l33, l34, l35, l36, l37, l40, l41, l42, l43, l45, l47, l48, l50, l57, l59, l60, l61, l62, l63, l85, l91, l93, l96, l97, l98, l99, l100, l120, l122, l146, l160, l165, l170, l178, l186, l198, l255, l400, l900, l948, l999, l1000, l2475, l2640, l2970, l3990, l9390, l18780, l19000, l999999, l1000000, l100000000, l2147483639, nI_add, pk_mul, ix_nI, leT, leF, ltT, ltF, eqT, eqF, nI_leI, nI_ltI, nI_eq, ngEq, ngEq', ngLt, ngLt', ngLe, ngLe', ngNg, nI_p, pk_sub, Nat.reduceAdd, Nat.reduceMul, Nat.reduceSub, uI1, uI2, uL1, uL2, uL3, uR1, uR2, uR3, rq_eq (MT0 hT), rq95 hT, rf2 hV, rq96 hT, rf3 hV, rq97 hT, rf4 hV, rq98 hT, rf5 hV, rq99 hT, rf6 hV, rq100 hT, rf7 hV, rq101 hT, rf9 hV, rq102 hT, rf10 hV, rq103 hT, rf12 hV, rq104 hT, rf22 hV, rq105 hT, rf24 hV, rq106 hT, rf25 hV, rq107 hT, rf27 hV, rq108 hT, rf28 hV, rq109 hT, rf31 hV, rq110 hT, rf32 hV, rq111 hT, rf33 hV, rq112 hT, rf35 hV, rq113 hT, rf36 hV, rq114 hT, rf37 hV, rq115 hT, rf41 hV, rq116 hT, rf44 hV, rq117 hT, rf45 hV, rq118 hT, rf51 hV, rq119 hT, rf53 hV, e8]
  refine Ret.ok ⟨⟨?_, ?_, fun k hk i hi => ?_, fun k hk => ?_⟩, frI.mk (fun h j q => ?_) ?_⟩
  · simp (disch := omega) only [rq_t, drs, sp, pcs, cls, ↓reduceIte, not_true_eq_false, not_false_eq_true, and_true, true_and, and_false, false_and, or_true, true_or, or_false, false_or, eq_self, l0, l1, l2, l3, l4, l5, l6, l7, l8, l9, l10, l11, l12, l13, l14, l15, l16, l17, l18, l19, l20, l21, l22, l23, l24, l25, l26, l27, l28, l29, l30, l31, l32, l33, l34, l35, l36, l37, l40, l41, l42, l43, l45, l47, l48, l50, l57, l59, l60, l61, l62, l63, l85, l91, l93, l96, l97, l98, l99, l100, l120, l122, l146, l160, l165, l170, l178, l186, l198, l255, l400, l900, l948, l999, l1000, l2475, l2640, l2970, l3990, l9390, l18780, l19000, l999999, l1000000, l100000000, l2147483639, nI_add, pk_mul, ix_nI, leT, leF, ltT, ltF, eqT, eqF, nI_leI, nI_ltI, nI_eq, ngEq, ngEq', ngLt, ngLt', ngLe, ngLe', ngNg, nI_p, pk_sub, Nat.reduceAdd, Nat.reduceMul, Nat.reduceSub, uI1, uI2, uL1, uL2, uL3, uR1, uR2, uR3]
    rfl
  · show u.n + 1 ≤ 16
    omega
  · have hk : k < u.n + 1 := hk
    show _ = snap g (if k = u.n then b else u.s k) i
    simp only [uI1]
    rw [if_neg (by omega), if_neg (by omega)]
    by_cases e : k = u.n
    · rw [if_pos e, e, ks i hi]
      exact snap_row mf mt hi
    · rw [if_neg e, f.1 _ _ (by omega)]
      exact mu.s k (by omega) i hi
  · have hk : k < u.n + 1 := hk
    show _ = nI (if k = u.n then w else u.w k)
    simp only [uI1]
    rw [if_neg (by omega)]
    by_cases e : k = u.n
    · rw [if_pos ⟨trivial, e⟩, if_pos e]
    · rw [if_neg (fun q => e q.2), if_neg e, f.1 _ _ (by omega)]
      exact mu.w k (by omega)
  · simp only [uI1]
    rw [if_neg (by omega), if_neg (by omega)]
    exact f.1 _ _ (by omega)
  · simp only [uI2, f.2]
theorem m_rem11 {T : Tt} {V : Vt} (hT : MT T) (hV : MV V) {x : Int32} {k : Vt → Option Vt} {R : Vt → Prop}
    (hR : ∀ W, frI (fun h j => h = 99 ∧ j < 2640) V W → (∀ j, j < 2475 → W.1 99 j = V.1 99 (j + 165)) → Ret (k W) R) : Ret (f_X5_remember_L11 T 94 x k fuel (nI 0) V) R := by
  refine lq2 (f_X5_remember_L11 T 94 x k) (fun i a W => a = nI i ∧ frI (fun h j => h = 99 ∧ j < 2640) V W ∧ (∀ j, j < i → W.1 99 j = V.1 99 (j + 165)) ∧ ∀ j, i ≤ j → W.1 99 j = V.1 99 j) 2475 ?_ ?_ fuel _ _ (by decide) ⟨rfl, frI.mk (fun _ _ _ => rfl) rfl, fun e he => absurd he (by omega), fun _ _ => rfl⟩
  · intro i N a W hi ⟨q1, q2, q3, q4⟩ ih
    subst q1
    have hV := hV.eq q2.2
    have e1 : W.1 99 (i + 165) = V.1 99 (i + 165) := q4 _ (by omega)
    simp (disch := omega) only [f_X5_remember_L11, rq_t, drs, sp, pcs, cls, ↓reduceIte, not_true_eq_false, not_false_eq_true, and_true, true_and, and_false, false_and, or_true, true_or, or_false, false_or, eq_self, l0, l1, l2, l3, l4, l5, l6, l7, l8, l9, l10, l11, l12, l13, l14, l15, l16, l17, l18, l19, l20, l21, l22, l23, l24, l25, l26, l27, l28, l29, l30, l31, l32, l33, l34, l35, l36, l37, l40, l41, l42, l43, l45, l47, l48, l50, l57, l59, l60, l61, l62, l63, l85, l91, l93, l96, l97, l98, l99, l100, l120, l122, l146, l160, l165, l170, l178, l186, l198, l255, l400, l900, l948, l999, l1000, l2475, l2640, l2970, l3990, l9390, l18780, l19000, l999999, l1000000, l100000000, l2147483639, nI_add, pk_mul, ix_nI, leT, leF, ltT, ltF, eqT, eqF, nI_leI, nI_ltI, nI_eq, ngEq, ngEq', ngLt, ngLt', ngLe, ngLe', ngNg, nI_p, pk_sub, Nat.reduceAdd, Nat.reduceMul, Nat.reduceSub, uI1, uI2, uL1, uL2, uL3, uR1, uR2, uR3, rq_eq (MT0 hT), rq95 hT, rf2 hV, rq96 hT, rf3 hV, rq97 hT, rf4 hV, rq98 hT, rf5 hV, rq99 hT, rf6 hV, rq100 hT, rf7 hV, rq101 hT, rf9 hV, rq102 hT, rf10 hV, rq103 hT, rf12 hV, rq104 hT, rf22 hV, rq105 hT, rf24 hV, rq106 hT, rf25 hV, rq107 hT, rf27 hV, rq108 hT, rf28 hV, rq109 hT, rf31 hV, rq110 hT, rf32 hV, rq111 hT, rf33 hV, rq112 hT, rf35 hV, rq113 hT, rf36 hV, rq114 hT, rf37 hV, rq115 hT, rf41 hV, rq116 hT, rf44 hV, rq117 hT, rf45 hV, rq118 hT, rf51 hV, rq119 hT, rf53 hV, e1]
    refine ih _ _ ⟨rfl, frI.mk (fun h j q => ?_) q2.2, fun e he => ?_, fun e he => ?_⟩
    · rw [uI1, if_neg (by omega)]
      exact q2.1 h j q
    · rw [uI1]
      by_cases c : e = i
      · rw [if_pos ⟨rfl, c⟩, c]
      · rw [if_neg (by omega)]
        exact q3 e (by omega)
    · rw [uI1, if_neg (by omega)]
      exact q4 e (by omega)
  · intro N a W ⟨q1, q2, q3, q4⟩
    subst q1
    simp (disch := omega) only [f_X5_remember_L11, rq_t, drs, sp, pcs, cls, ↓reduceIte, not_true_eq_false, not_false_eq_true, and_true, true_and, and_false, false_and, or_true, true_or, or_false, false_or, eq_self, l0, l1, l2, l3, l4, l5, l6, l7, l8, l9, l10, l11, l12, l13, l14, l15, l16, l17, l18, l19, l20, l21, l22, l23, l24, l25, l26, l27, l28, l29, l30, l31, l32, l33, l34, l35, l36, l37, l40, l41, l42, l43, l45, l47, l48, l50, l57, l59, l60, l61, l62, l63, l85, l91, l93, l96, l97, l98, l99, l100, l120, l122, l146, l160, l165, l170, l178, l186, l198, l255, l400, l900, l948, l999, l1000, l2475, l2640, l2970, l3990, l9390, l18780, l19000, l999999, l1000000, l100000000, l2147483639, nI_add, pk_mul, ix_nI, leT, leF, ltT, ltF, eqT, eqF, nI_leI, nI_ltI, nI_eq, ngEq, ngEq', ngLt, ngLt', ngLe, ngLe', ngNg, nI_p, pk_sub, Nat.reduceAdd, Nat.reduceMul, Nat.reduceSub, uI1, uI2, uL1, uL2, uL3, uR1, uR2, uR3]
    exact hR W q2 q3
theorem m_rem42 {T : Tt} {V : Vt} (hT : MT T) (hV : MV V) {x : Int32} {k : Vt → Option Vt} {R : Vt → Prop}
    (hR : ∀ W, frI (fun h _ => h = 100) V W → (∀ j, j < 15 → W.1 100 j = V.1 100 (j + 1)) → Ret (k W) R) : Ret (f_X5_remember_L42 T 94 x k fuel (nI 0) V) R := by
  refine lq2 (f_X5_remember_L42 T 94 x k) (fun i a W => a = nI i ∧ frI (fun h _ => h = 100) V W ∧ (∀ j, j < i → W.1 100 j = V.1 100 (j + 1)) ∧ ∀ j, i ≤ j → W.1 100 j = V.1 100 j) 15 ?_ ?_ fuel _ _ (by decide) ⟨rfl, frI.mk (fun _ _ _ => rfl) rfl, fun e he => absurd he (by omega), fun _ _ => rfl⟩
  · intro i N a W hi ⟨q1, q2, q3, q4⟩ ih
    subst q1
    have hV := hV.eq q2.2
    have e1 : W.1 100 (i + 1) = V.1 100 (i + 1) := q4 _ (by omega)
    simp (disch := omega) only [f_X5_remember_L42, rq_t, drs, sp, pcs, cls, ↓reduceIte, not_true_eq_false, not_false_eq_true, and_true, true_and, and_false, false_and, or_true, true_or, or_false, false_or, eq_self, l0, l1, l2, l3, l4, l5, l6, l7, l8, l9, l10, l11, l12, l13, l14, l15, l16, l17, l18, l19, l20, l21, l22, l23, l24, l25, l26, l27, l28, l29, l30, l31, l32, l33, l34, l35, l36, l37, l40, l41, l42, l43, l45, l47, l48, l50, l57, l59, l60, l61, l62, l63, l85, l91, l93, l96, l97, l98, l99, l100, l120, l122, l146, l160, l165, l170, l178, l186, l198, l255, l400, l900, l948, l999, l1000, l2475, l2640, l2970, l3990, l9390, l18780, l19000, l999999, l1000000, l100000000, l2147483639, nI_add, pk_mul, ix_nI, leT, leF, ltT, ltF, eqT, eqF, nI_leI, nI_ltI, nI_eq, ngEq, ngEq', ngLt, ngLt', ngLe, ngLe', ngNg, nI_p, pk_sub, Nat.reduceAdd, Nat.reduceMul, Nat.reduceSub, uI1, uI2, uL1, uL2, uL3, uR1, uR2, uR3, rq_eq (MT0 hT), rq95 hT, rf2 hV, rq96 hT, rf3 hV, rq97 hT, rf4 hV, rq98 hT, rf5 hV, rq99 hT, rf6 hV, rq100 hT, rf7 hV, rq101 hT, rf9 hV, rq102 hT, rf10 hV, rq103 hT, rf12 hV, rq104 hT, rf22 hV, rq105 hT, rf24 hV, rq106 hT, rf25 hV, rq107 hT, rf27 hV, rq108 hT, rf28 hV, rq109 hT, rf31 hV, rq110 hT, rf32 hV, rq111 hT, rf33 hV, rq112 hT, rf35 hV, rq113 hT, rf36 hV, rq114 hT, rf37 hV, rq115 hT, rf41 hV, rq116 hT, rf44 hV, rq117 hT, rf45 hV, rq118 hT, rf51 hV, rq119 hT, rf53 hV, e1]
    refine ih _ _ ⟨rfl, frI.mk (fun h j q => ?_) q2.2, fun e he => ?_, fun e he => ?_⟩
    · rw [uI1, if_neg (by omega)]
      exact q2.1 h j q
    · rw [uI1]
      by_cases c : e = i
      · rw [if_pos ⟨rfl, c⟩, c]
      · rw [if_neg (by omega)]
        exact q3 e (by omega)
    · rw [uI1, if_neg (by omega)]
      exact q4 e (by omega)
  · intro N a W ⟨q1, q2, q3, q4⟩
    subst q1
    simp (disch := omega) only [f_X5_remember_L42, rq_t, drs, sp, pcs, cls, ↓reduceIte, not_true_eq_false, not_false_eq_true, and_true, true_and, and_false, false_and, or_true, true_or, or_false, false_or, eq_self, l0, l1, l2, l3, l4, l5, l6, l7, l8, l9, l10, l11, l12, l13, l14, l15, l16, l17, l18, l19, l20, l21, l22, l23, l24, l25, l26, l27, l28, l29, l30, l31, l32, l33, l34, l35, l36, l37, l40, l41, l42, l43, l45, l47, l48, l50, l57, l59, l60, l61, l62, l63, l85, l91, l93, l96, l97, l98, l99, l100, l120, l122, l146, l160, l165, l170, l178, l186, l198, l255, l400, l900, l948, l999, l1000, l2475, l2640, l2970, l3990, l9390, l18780, l19000, l999999, l1000000, l100000000, l2147483639, nI_add, pk_mul, ix_nI, leT, leF, ltT, ltF, eqT, eqF, nI_leI, nI_ltI, nI_eq, ngEq, ngEq', ngLt, ngLt', ngLe, ngLe', ngNg, nI_p, pk_sub, Nat.reduceAdd, Nat.reduceMul, Nat.reduceSub, uI1, uI2, uL1, uL2, uL3, uR1, uR2, uR3]
    exact hR W q2 q3
theorem m_remember {T : Tt} {V : Vt} (hT : MT T) (hV : MV V) {g : Cfg} (hg : okG g) (mf : mCf V g) {b : Tab} (mt : mTb V b) {u : Un} (mu : mUn V g u) {w : Nat} :
    Ret (f_X5_remember T V 94 (nI w)) fun W => mUn W g (keepU u b w) ∧ frI sRm V W := by
  have h1 := mu.n
  have hl := mu.l
  rw [f_X5_remember, rq hT.1, h1, keepU, shU]
  by_cases e : u.n = 16
  · rw [if_pos (by rw [e]; rfl), if_pos e]
    refine m_rem11 hT hV fun W f1 e1 => ?_
    refine m_rem42 hT (hV.eq f1.2) fun U f2 e2 => ?_
    have e8 : U.1 94 8 = nI 16 := by rw [f2.1 _ _ (by omega), f1.1 _ _ (by omega), h1, e]
    rw [e8]
    simp (disch := omega) only [rq_t, drs, sp, pcs, cls, ↓reduceIte, not_true_eq_false, not_false_eq_true, and_true, true_and, and_false, false_and, or_true, true_or, or_false, false_or, eq_self, l0, l1, l2, l3, l4, l5, l6, l7, l8, l9, l10, l11, l12, l13, l14, l15, l16, l17, l18, l19, l20, l21, l22, l23, l24, l25, l26, l27, l28, l29, l30, l31, l32, l33, l34, l35, l36, l37, l40, l41, l42, l43, l45, l47, l48, l50, l57, l59, l60, l61, l62, l63, l85, l91, l93, l96, l97, l98, l99, l100, l120, l122, l146, l160, l165, l170, l178, l186, l198, l255, l400, l900, l948, l999, l1000, l2475, l2640, l2970, l3990, l9390, l18780, l19000, l999999, l1000000, l100000000, l2147483639, nI_add, pk_mul, ix_nI, leT, leF, ltT, ltF, eqT, eqF, nI_leI, nI_ltI, nI_eq, ngEq, ngEq', ngLt, ngLt', ngLe, ngLe', ngNg, nI_p, pk_sub, Nat.reduceAdd, Nat.reduceMul, Nat.reduceSub, uI1, uI2, uL1, uL2, uL3, uR1, uR2, uR3]
    have fr : frI sRm V (uI U 94 8 (nI 15)) := frI.mk (fun h j q => by rw [uI1, if_neg (by omega), f2.1 _ _ (by omega), f1.1 _ _ (by omega)]) (by rw [uI2, f2.2, f1.2])
    have mu2 : mUn (uI U 94 8 (nI 15)) g ⟨15, fun k => u.s (k + 1), fun k => u.w (k + 1)⟩ := by
      refine ⟨?_, (by decide : 15 ≤ 16), fun k hk i hi => ?_, fun k hk => ?_⟩
      · rw [uI1, if_pos ⟨rfl, rfl⟩]
      · have hk : k < 15 := hk
        rw [uI1, if_neg (by omega), f2.1 _ _ (by omega), e1 _ (by omega), show 165 * k + i + 165 = 165 * (k + 1) + i by omega]
        exact mu.s (k + 1) (by omega) i hi
      · have hk : k < 15 := hk
        rw [uI1, if_neg (by omega), e2 _ hk, f1.1 _ _ (by omega)]
        exact mu.w (k + 1) (by omega)
    exact (m_remJ hT (hV.eq fr.2) (mf.fr hg (fun j _ _ _ => fr.1 _ _ (by omega))) (mt.fr (fun j => fr.1 _ _ (by omega))) mu2 (Nat.le_refl 15)).im fun X ⟨g1, g2⟩ => ⟨g1, frI.mk (fun h j q => (g2.1 h j q).trans (fr.1 h j q)) (g2.2.trans fr.2)⟩
  · rw [if_neg (by rw [l16, nI_eq (by omega) (by omega)]; exact e), if_neg e]
    exact m_remJ hT hV mf mt mu (by omega)
