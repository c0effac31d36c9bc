/-! 98: orders that are run, the model, whole -/
set_option maxRecDepth 100000
theorem m_ordIn {T : Tt} {V : Vt} {a : St} {p : Pl} {C : Nat → Nat × Nat} {nc : Nat} {s : Os} {d : Nat} (h : mOr T V p C nc s) (hq : okE a s d) (hd : d ≤ 1000) {i : Nat} (hi : i < p.1) (oko : okO (p.2 i)) {x1 : Int32} {kc55 : Int32 → Vt → Option (Int32 × Vt)} {kx1 : Int32 → Vt → Option (Int32 × Vt)} {kx2 kx3 kx4 : Vt → Option (Int32 × Vt)} {R : Int32 × Vt → Prop}
    (hx : oIt (p.2 i) s (p.2 i).2.2.1 = none → ∀ W b, MR W b → alik a b → frM sOm lMp V W → Ret (kx3 W) R)
    (hr : ∀ s', oIt (p.2 i) s (p.2 i).2.2.1 = some s' → ∀ W, mOr T W p C nc s' → frM sOm lMp V W → Ret (kx4 W) R) :
    Ret (f_X5_orders_L65 T 94 x1 (nI i) kc55 kx1 kx2 kx3 kx4 fuel (nI 0) V) R := by
  have hT := h.T
  have hb12 := h.ld.b
  have h20 := oko.2.2.2.2.1
  have e9 : ∀ W, mLd W p C nc → W.1 117 (ixN (nI (10 * i + 9))) = nI (p.2 i).2.2.1 := fun W q => by
    rw [ix_nI (by omega)]
    exact (q.o i hi).2.1
  refine lq2 (f_X5_orders_L65 T 94 x1 (nI i) kc55 kx1 kx2 kx3 kx4) (fun t z W => ∃ s', oIt (p.2 i) s t = some s' ∧ z = nI t ∧ mOr T W p C nc s' ∧ frM sOm lMp V W) (p.2 i).2.2.1 ?_ ?_ fuel _ _ (Nat.lt_of_le_of_lt h20 (by decide)) ⟨s, rfl, rfl, h, frM.rfl'⟩
  · intro t N z W ht ⟨s', e1, q1, hW, fW⟩ ih
    subst q1
    have okW := hq.it t s' e1
    have e2 : nI t + (1 : Int32) = nI (t + 1) := nI_add _ _
    have eI : oIt (p.2 i) s (t + 1) = oOnce s' (p.2 i) := by rw [oIt, e1]; rfl
    rw [f_X5_orders_L65, dr (rf45 hW.m.hV), l10, pk_mul, l9, nI_add, rq117 hT (by omega), e9 W hW.ld, if_neg (nI_ge ht (by omega))]
    refine Ret.c (m_isAsked (hW.m.mp hT okW.ok) hW.dn hW.lt hW.m.od hW.ld hi) ?_
    intro r U ⟨c1, f, w49, w20, wn⟩
    dsimp only at c1 f w49 w20 wn
    subst c1
    have fU : frM sOm lMp W U := f.mono (fun c j w => by omega) (fun c j w => by omega)
    have hU : mOr T U p C nc s' := ⟨hT, hW.m.fo okW.ok.g f (fun c j w => by omega) (fun c j w => by omega) w20, hW.ld.fr fun c j w => f.1 _ _ (by omega), (f.1 _ _ (by omega)).trans hW.dn, (f.1 _ _ (by omega)).trans hW.lt⟩
    rw [show vO s'.a.g s'.a.t (nI s'.dn) s'.lt = vS s' from rfl]
    by_cases w : nowO (p.2 i) (vS s') = true
    · rw [w, if_neg (by decide)]
      refine Ret.c (m_runOnce hU okW (by omega) wn w49 hi oko) ?_
      intro r X ⟨fX, c1⟩
      dsimp only at c1 fX
      have fX' := (fW.t fU).t fX
      by_cases w2 : actW s'.a (p.2 i) (vS s') = 0
      · rw [if_pos w2] at c1
        obtain ⟨c1, hX⟩ := c1
        subst c1
        rw [if_pos (by decide), f_X5_orders_J120, show nI t + (1 : Int32) = nI (t + 1) from e2, sp]
        exact ih _ _ ⟨_, eI.trans (by rw [oOnce, if_pos w, if_pos w2]), rfl, hX, fX'⟩
      · rw [if_neg w2] at c1
        obtain ⟨c1, hX⟩ := c1
        subst c1
        have eo : oOnce s' (p.2 i) = none := by rw [oOnce, if_pos w, if_neg w2]
        rw [if_neg (by decide)]
        refine hx ?_ X _ hX okW.al fX'
        have := oIt_no (eI.trans eo) ((p.2 i).2.2.1 - (t + 1))
        rw [show t + 1 + ((p.2 i).2.2.1 - (t + 1)) = (p.2 i).2.2.1 by omega] at this
        exact this
    · have w' : nowO (p.2 i) (vS s') = false := by cases hn : nowO (p.2 i) (vS s') <;> simp_all
      rw [w', if_pos (by decide), f_X5_orders_J120, show nI t + (1 : Int32) = nI (t + 1) from e2, sp]
      exact ih _ _ ⟨s', eI.trans (by rw [oOnce, if_neg w]), rfl, hU, fW.t fU⟩
  · intro N z W ⟨s', e1, q1, hW, fW⟩
    subst q1
    rw [f_X5_orders_L65, dr (rf45 hW.m.hV), l10, pk_mul, l9, nI_add, rq117 hT (by omega), e9 W hW.ld, if_pos (nI_le (Nat.le_refl _) (by omega))]
    exact hr s' e1 W hW fW
theorem m_ordOut {T : Tt} {V : Vt} {a : St} {p : Pl} {C : Nat → Nat × Nat} {nc : Nat} {s : Os} (h : mOr T V p C nc s) (hq : okE a s 0) (okp : okP p) {x1 : Int32} {kx1 : Int32 → Vt → Option (Int32 × Vt)} {kx2 : Vt → Option (Int32 × Vt)} {R : Int32 × Vt → Prop}
    (hx : ∀ k, oSeq p s p.1 = .inl k → ∀ W b, MR W b → alik a b → frM sOm lMp V W → Ret (kx1 (nI k) W) R)
    (hr : ∀ s', oSeq p s p.1 = .inr s' → ∀ W, mOr T W p C nc s' → frM sOm lMp V W → Ret (kx2 W) R) :
    Ret (f_X5_orders_L55 T 94 x1 kx1 kx2 fuel (nI 0) V) R := by
  have h12 := okp.1
  refine lq2 (f_X5_orders_L55 T 94 x1 kx1 kx2) (fun i z W => ∃ s', oSeq p s i = .inr s' ∧ z = nI i ∧ mOr T W p C nc s' ∧ frM sOm lMp V W) p.1 ?_ ?_ fuel _ _ (Nat.lt_of_le_of_lt h12 (by decide)) ⟨s, rfl, rfl, h, frM.rfl'⟩
  · intro i N z W hi ⟨s', e1, q1, hW, fW⟩ ih
    subst q1
    have okW := hq.seq okp i s' (by omega) e1
    rw [f_X5_orders_L55, hW.ld.n, if_neg (nI_ge hi (by omega)), l0]
    refine m_ordIn hW okW (by omega) hi (okp.2 i hi) ?_ ?_
    · intro w X b hX ab fX
      refine hx i ?_ X b hX ab (fW.t fX)
      have e3 : oSeq p s (i + 1) = .inl i := by rw [oSeq, e1]; dsimp only; rw [w]
      have := oSeq_no e3 (p.1 - (i + 1))
      rw [show i + 1 + (p.1 - (i + 1)) = p.1 by omega] at this
      exact this
    · intro s2 w X hX fX
      rw [l1, nI_add, sp]
      exact ih _ _ ⟨s2, by rw [oSeq, e1]; dsimp only; rw [w], rfl, hX, fW.t fX⟩
  · intro N z W ⟨s', e1, q1, hW, fW⟩
    subst q1
    rw [f_X5_orders_L55, hW.ld.n, if_pos (nI_le (Nat.le_refl _) (by omega))]
    exact hr s' e1 W hW fW
theorem m_kuL2 {T : Tt} {V : Vt} (hT : MT T) (hV : MV V) {k : Vt → Option Vt} {R : Vt → Prop}
    (hR : ∀ W, frI (fun c _ => c = 101) V W → (∀ j, j < 2640 → W.1 101 j = V.1 99 j) → Ret (k W) R) : Ret (f_X5_keepUndos_L2 T 94 k fuel (nI 0) V) R := by
  refine lq2 (f_X5_keepUndos_L2 T 94 k) (fun i z W => z = nI i ∧ frI (fun c _ => c = 101) V W ∧ ∀ j, j < i → W.1 101 j = V.1 99 j) 2640 ?_ ?_ fuel _ _ (by decide) ⟨rfl, frI.mk (fun _ _ _ => rfl) rfl, fun j hj => absurd hj (by omega)⟩
  · intro i N z W hi ⟨q1, q2, q3⟩ ih
    subst q1
    have hV := hV.eq q2.2
    have e1 : W.1 99 i = V.1 99 i := q2.1 _ _ (by omega)
    simp (disch := omega) only [f_X5_keepUndos_L2, rq_t, drs, sp, pcs, cls, ↓reduceIte, not_true_eq_false, not_false_eq_true, and_true, true_and, and_false, false_and, or_true, true_or, or_false, false_or, eq_self, l0, l1, l2, l3, l4, l5, l6, l7, l8, l9, l10, l11, l12, l13, l14, l15, l16, l17, l18, l19, l20, l21, l22, l23, l24, l25, l26, l27, l28, l29, l30, l31, l32, l33, l34, l35, l36, l37, l40, l41, l42, l43, l45, l47, l48, l50, l57, l59, l60, l61, l62, l63, l85, l91, l93, l96, l97, l98, l99, l100, l120, l122, l146, l160, l165, l170, l178, l186, l198, l255, l400, l900, l948, l999, l1000, l2475, l2640, l2970, l3990, l9390, l18780, l19000, l999999, l1000000, l100000000, l2147483639, nI_add, pk_mul, ix_nI, leT, leF, ltT, ltF, eqT, eqF, nI_leI, nI_ltI, nI_eq, ngEq, ngEq', ngLt, ngLt', ngLe, ngLe', ngNg, nI_p, pk_sub, Nat.reduceAdd, Nat.reduceMul, Nat.reduceSub, uI1, uI2, uL1, uL2, uL3, uR1, uR2, uR3, rq_eq (MT0 hT), rq95 hT, rf2 hV, rq96 hT, rf3 hV, rq97 hT, rf4 hV, rq98 hT, rf5 hV, rq99 hT, rf6 hV, rq100 hT, rf7 hV, rq101 hT, rf9 hV, rq102 hT, rf10 hV, rq103 hT, rf12 hV, rq104 hT, rf22 hV, rq105 hT, rf24 hV, rq106 hT, rf25 hV, rq107 hT, rf27 hV, rq108 hT, rf28 hV, rq109 hT, rf31 hV, rq110 hT, rf32 hV, rq111 hT, rf33 hV, rq112 hT, rf35 hV, rq113 hT, rf36 hV, rq114 hT, rf37 hV, rq115 hT, rf41 hV, rq116 hT, rf44 hV, rq117 hT, rf45 hV, rq118 hT, rf51 hV, rq119 hT, rf53 hV, e1]
    refine ih _ _ ⟨rfl, frI.mk (fun h j q => ?_) q2.2, fun j hj => ?_⟩
    · rw [uI1, if_neg (fun w => q w.1)]
      exact q2.1 h j q
    · rw [uI1]
      by_cases e : j = i
      · rw [if_pos ⟨rfl, e⟩, e]
      · rw [if_neg (fun w => e w.2)]
        exact q3 j (by omega)
  · intro N z W ⟨q1, q2, q3⟩
    subst q1
    simp (disch := omega) only [f_X5_keepUndos_L2, rq_t, drs, sp, pcs, cls, ↓reduceIte, not_true_eq_false, not_false_eq_true, and_true, true_and, and_false, false_and, or_true, true_or, or_false, false_or, eq_self, l0, l1, l2, l3, l4, l5, l6, l7, l8, l9, l10, l11, l12, l13, l14, l15, l16, l17, l18, l19, l20, l21, l22, l23, l24, l25, l26, l27, l28, l29, l30, l31, l32, l33, l34, l35, l36, l37, l40, l41, l42, l43, l45, l47, l48, l50, l57, l59, l60, l61, l62, l63, l85, l91, l93, l96, l97, l98, l99, l100, l120, l122, l146, l160, l165, l170, l178, l186, l198, l255, l400, l900, l948, l999, l1000, l2475, l2640, l2970, l3990, l9390, l18780, l19000, l999999, l1000000, l100000000, l2147483639, nI_add, pk_mul, ix_nI, leT, leF, ltT, ltF, eqT, eqF, nI_leI, nI_ltI, nI_eq, ngEq, ngEq', ngLt, ngLt', ngLe, ngLe', ngNg, nI_p, pk_sub, Nat.reduceAdd, Nat.reduceMul, Nat.reduceSub, uI1, uI2, uL1, uL2, uL3, uR1, uR2, uR3]
    exact hR W q2 q3
theorem m_kuL29 {T : Tt} {V : Vt} (hT : MT T) (hV : MV V) {k : Vt → Option Vt} {R : Vt → Prop}
    (hR : ∀ W, frI (fun c _ => c = 102) V W → (∀ j, j < 16 → W.1 102 j = V.1 100 j) → Ret (k W) R) : Ret (f_X5_keepUndos_L29 T 94 k fuel (nI 0) V) R := by
  refine lq2 (f_X5_keepUndos_L29 T 94 k) (fun i z W => z = nI i ∧ frI (fun c _ => c = 102) V W ∧ ∀ j, j < i → W.1 102 j = V.1 100 j) 16 ?_ ?_ fuel _ _ (by decide) ⟨rfl, frI.mk (fun _ _ _ => rfl) rfl, fun j hj => absurd hj (by omega)⟩
  · intro i N z W hi ⟨q1, q2, q3⟩ ih
    subst q1
    have hV := hV.eq q2.2
    have e1 : W.1 100 i = V.1 100 i := q2.1 _ _ (by omega)
    simp (disch := omega) only [f_X5_keepUndos_L29, rq_t, drs, sp, pcs, cls, ↓reduceIte, not_true_eq_false, not_false_eq_true, and_true, true_and, and_false, false_and, or_true, true_or, or_false, false_or, eq_self, l0, l1, l2, l3, l4, l5, l6, l7, l8, l9, l10, l11, l12, l13, l14, l15, l16, l17, l18, l19, l20, l21, l22, l23, l24, l25, l26, l27, l28, l29, l30, l31, l32, l33, l34, l35, l36, l37, l40, l41, l42, l43, l45, l47, l48, l50, l57, l59, l60, l61, l62, l63, l85, l91, l93, l96, l97, l98, l99, l100, l120, l122, l146, l160, l165, l170, l178, l186, l198, l255, l400, l900, l948, l999, l1000, l2475, l2640, l2970, l3990, l9390, l18780, l19000, l999999, l1000000, l100000000, l2147483639, nI_add, pk_mul, ix_nI, leT, leF, ltT, ltF, eqT, eqF, nI_leI, nI_ltI, nI_eq, ngEq, ngEq', ngLt, ngLt', ngLe, ngLe', ngNg, nI_p, pk_sub, Nat.reduceAdd, Nat.reduceMul, Nat.reduceSub, uI1, uI2, uL1, uL2, uL3, uR1, uR2, uR3, rq_eq (MT0 hT), rq95 hT, rf2 hV, rq96 hT, rf3 hV, rq97 hT, rf4 hV, rq98 hT, rf5 hV, rq99 hT, rf6 hV, rq100 hT, rf7 hV, rq101 hT, rf9 hV, rq102 hT, rf10 hV, rq103 hT, rf12 hV, rq104 hT, rf22 hV, rq105 hT, rf24 hV, rq106 hT, rf25 hV, rq107 hT, rf27 hV, rq108 hT, rf28 hV, rq109 hT, rf31 hV, rq110 hT, rf32 hV, rq111 hT, rf33 hV, rq112 hT, rf35 hV, rq113 hT, rf36 hV, rq114 hT, rf37 hV, rq115 hT, rf41 hV, rq116 hT, rf44 hV, rq117 hT, rf45 hV, rq118 hT, rf51 hV, rq119 hT, rf53 hV, e1]
    refine ih _ _ ⟨rfl, frI.mk (fun h j q => ?_) q2.2, fun j hj => ?_⟩
    · rw [uI1, if_neg (fun w => q w.1)]
      exact q2.1 h j q
    · rw [uI1]
      by_cases e : j = i
      · rw [if_pos ⟨rfl, e⟩, e]
      · rw [if_neg (fun w => e w.2)]
        exact q3 j (by omega)
  · intro N z W ⟨q1, q2, q3⟩
    subst q1
    simp (disch := omega) only [f_X5_keepUndos_L29, rq_t, drs, sp, pcs, cls, ↓reduceIte, not_true_eq_false, not_false_eq_true, and_true, true_and, and_false, false_and, or_true, true_or, or_false, false_or, eq_self, l0, l1, l2, l3, l4, l5, l6, l7, l8, l9, l10, l11, l12, l13, l14, l15, l16, l17, l18, l19, l20, l21, l22, l23, l24, l25, l26, l27, l28, l29, l30, l31, l32, l33, l34, l35, l36, l37, l40, l41, l42, l43, l45, l47, l48, l50, l57, l59, l60, l61, l62, l63, l85, l91, l93, l96, l97, l98, l99, l100, l120, l122, l146, l160, l165, l170, l178, l186, l198, l255, l400, l900, l948, l999, l1000, l2475, l2640, l2970, l3990, l9390, l18780, l19000, l999999, l1000000, l100000000, l2147483639, nI_add, pk_mul, ix_nI, leT, leF, ltT, ltF, eqT, eqF, nI_leI, nI_ltI, nI_eq, ngEq, ngEq', ngLt, ngLt', ngLe, ngLe', ngNg, nI_p, pk_sub, Nat.reduceAdd, Nat.reduceMul, Nat.reduceSub, uI1, uI2, uL1, uL2, uL3, uR1, uR2, uR3]
    exact hR W q2 q3
theorem m_keepUndos {T : Tt} {V : Vt} (hT : MT T) (hV : MV V) : Ret (f_X5_keepUndos T V 94) fun W => frI (fun c _ => c = 101 ∨ c = 102) V W ∧ (∀ j, j < 2640 → W.1 101 j = V.1 99 j) ∧ ∀ j, j < 16 → W.1 102 j = V.1 100 j := by
  rw [f_X5_keepUndos, rq hT.1, l0]
  refine m_kuL2 hT hV fun W f q => ?_
  refine m_kuL29 hT (hV.eq f.2) fun X f2 q2 => ?_
  exact Ret.ok ⟨frI.mk (fun c j w => by rw [f2.1 _ _ (by omega), f.1 _ _ (by omega)]) (f2.2.trans f.2), fun j hj => by rw [f2.1 _ _ (by omega)]; exact q j hj, fun j hj => by rw [q2 j hj, f.1 _ _ (by omega)]⟩
theorem m_gbL8 {T : Tt} {V : Vt} (hT : MT T) (hV : MV V) {x : Int32} {k : Vt → Option Vt} {R : Vt → Prop}
    (hR : ∀ W, frI (fun c j => c = 99 ∧ j < 2640) V W → (∀ j, j < 2640 → W.1 99 j = V.1 101 j) → Ret (k W) R) : Ret (f_X5_giveBack_L8 T 94 x k fuel (nI 0) V) R := by
  refine lq2 (f_X5_giveBack_L8 T 94 x k) (fun i z W => z = nI i ∧ frI (fun c j => c = 99 ∧ j < 2640) V W ∧ ∀ j, j < i → W.1 99 j = V.1 101 j) 2640 ?_ ?_ fuel _ _ (by decide) ⟨rfl, frI.mk (fun _ _ _ => rfl) rfl, fun j hj => absurd hj (by omega)⟩
  · intro i N z W hi ⟨q1, q2, q3⟩ ih
    subst q1
    have hV := hV.eq q2.2
    have e1 : W.1 101 i = V.1 101 i := q2.1 _ _ (by omega)
    simp (disch := omega) only [f_X5_giveBack_L8, rq_t, drs, sp, pcs, cls, ↓reduceIte, not_true_eq_false, not_false_eq_true, and_true, true_and, and_false, false_and, or_true, true_or, or_false, false_or, eq_self, l0, l1, l2, l3, l4, l5, l6, l7, l8, l9, l10, l11, l12, l13, l14, l15, l16, l17, l18, l19, l20, l21, l22, l23, l24, l25, l26, l27, l28, l29, l30, l31, l32, l33, l34, l35, l36, l37, l40, l41, l42, l43, l45, l47, l48, l50, l57, l59, l60, l61, l62, l63, l85, l91, l93, l96, l97, l98, l99, l100, l120, l122, l146, l160, l165, l170, l178, l186, l198, l255, l400, l900, l948, l999, l1000, l2475, l2640, l2970, l3990, l9390, l18780, l19000, l999999, l1000000, l100000000, l2147483639, nI_add, pk_mul, ix_nI, leT, leF, ltT, ltF, eqT, eqF, nI_leI, nI_ltI, nI_eq, ngEq, ngEq', ngLt, ngLt', ngLe, ngLe', ngNg, nI_p, pk_sub, Nat.reduceAdd, Nat.reduceMul, Nat.reduceSub, uI1, uI2, uL1, uL2, uL3, uR1, uR2, uR3, rq_eq (MT0 hT), rq95 hT, rf2 hV, rq96 hT, rf3 hV, rq97 hT, rf4 hV, rq98 hT, rf5 hV, rq99 hT, rf6 hV, rq100 hT, rf7 hV, rq101 hT, rf9 hV, rq102 hT, rf10 hV, rq103 hT, rf12 hV, rq104 hT, rf22 hV, rq105 hT, rf24 hV, rq106 hT, rf25 hV, rq107 hT, rf27 hV, rq108 hT, rf28 hV, rq109 hT, rf31 hV, rq110 hT, rf32 hV, rq111 hT, rf33 hV, rq112 hT, rf35 hV, rq113 hT, rf36 hV, rq114 hT, rf37 hV, rq115 hT, rf41 hV, rq116 hT, rf44 hV, rq117 hT, rf45 hV, rq118 hT, rf51 hV, rq119 hT, rf53 hV, e1]
    refine ih _ _ ⟨rfl, frI.mk (fun h j q => ?_) q2.2, fun j hj => ?_⟩
    · rw [uI1, if_neg (fun w => q ⟨w.1, by omega⟩)]
      exact q2.1 h j q
    · rw [uI1]
      by_cases e : j = i
      · rw [if_pos ⟨rfl, e⟩, e]
      · rw [if_neg (fun w => e w.2)]
        exact q3 j (by omega)
  · intro N z W ⟨q1, q2, q3⟩
    subst q1
    simp (disch := omega) only [f_X5_giveBack_L8, rq_t, drs, sp, pcs, cls, ↓reduceIte, not_true_eq_false, not_false_eq_true, and_true, true_and, and_false, false_and, or_true, true_or, or_false, false_or, eq_self, l0, l1, l2, l3, l4, l5, l6, l7, l8, l9, l10, l11, l12, l13, l14, l15, l16, l17, l18, l19, l20, l21, l22, l23, l24, l25, l26, l27, l28, l29, l30, l31, l32, l33, l34, l35, l36, l37, l40, l41, l42, l43, l45, l47, l48, l50, l57, l59, l60, l61, l62, l63, l85, l91, l93, l96, l97, l98, l99, l100, l120, l122, l146, l160, l165, l170, l178, l186, l198, l255, l400, l900, l948, l999, l1000, l2475, l2640, l2970, l3990, l9390, l18780, l19000, l999999, l1000000, l100000000, l2147483639, nI_add, pk_mul, ix_nI, leT, leF, ltT, ltF, eqT, eqF, nI_leI, nI_ltI, nI_eq, ngEq, ngEq', ngLt, ngLt', ngLe, ngLe', ngNg, nI_p, pk_sub, Nat.reduceAdd, Nat.reduceMul, Nat.reduceSub, uI1, uI2, uL1, uL2, uL3, uR1, uR2, uR3]
    exact hR W q2 q3
theorem m_gbL35 {T : Tt} {V : Vt} (hT : MT T) (hV : MV V) {x : Int32} {k : Vt → Option Vt} {R : Vt → Prop}
    (hR : ∀ W, frI (fun c _ => c = 100) V W → (∀ j, j < 16 → W.1 100 j = V.1 102 j) → Ret (k W) R) : Ret (f_X5_giveBack_L35 T 94 x k fuel (nI 0) V) R := by
  refine lq2 (f_X5_giveBack_L35 T 94 x k) (fun i z W => z = nI i ∧ frI (fun c _ => c = 100) V W ∧ ∀ j, j < i → W.1 100 j = V.1 102 j) 16 ?_ ?_ fuel _ _ (by decide) ⟨rfl, frI.mk (fun _ _ _ => rfl) rfl, fun j hj => absurd hj (by omega)⟩
  · intro i N z W hi ⟨q1, q2, q3⟩ ih
    subst q1
    have hV := hV.eq q2.2
    have e1 : W.1 102 i = V.1 102 i := q2.1 _ _ (by omega)
    simp (disch := omega) only [f_X5_giveBack_L35, rq_t, drs, sp, pcs, cls, ↓reduceIte, not_true_eq_false, not_false_eq_true, and_true, true_and, and_false, false_and, or_true, true_or, or_false, false_or, eq_self, l0, l1, l2, l3, l4, l5, l6, l7, l8, l9, l10, l11, l12, l13, l14, l15, l16, l17, l18, l19, l20, l21, l22, l23, l24, l25, l26, l27, l28, l29, l30, l31, l32, l33, l34, l35, l36, l37, l40, l41, l42, l43, l45, l47, l48, l50, l57, l59, l60, l61, l62, l63, l85, l91, l93, l96, l97, l98, l99, l100, l120, l122, l146, l160, l165, l170, l178, l186, l198, l255, l400, l900, l948, l999, l1000, l2475, l2640, l2970, l3990, l9390, l18780, l19000, l999999, l1000000, l100000000, l2147483639, nI_add, pk_mul, ix_nI, leT, leF, ltT, ltF, eqT, eqF, nI_leI, nI_ltI, nI_eq, ngEq, ngEq', ngLt, ngLt', ngLe, ngLe', ngNg, nI_p, pk_sub, Nat.reduceAdd, Nat.reduceMul, Nat.reduceSub, uI1, uI2, uL1, uL2, uL3, uR1, uR2, uR3, rq_eq (MT0 hT), rq95 hT, rf2 hV, rq96 hT, rf3 hV, rq97 hT, rf4 hV, rq98 hT, rf5 hV, rq99 hT, rf6 hV, rq100 hT, rf7 hV, rq101 hT, rf9 hV, rq102 hT, rf10 hV, rq103 hT, rf12 hV, rq104 hT, rf22 hV, rq105 hT, rf24 hV, rq106 hT, rf25 hV, rq107 hT, rf27 hV, rq108 hT, rf28 hV, rq109 hT, rf31 hV, rq110 hT, rf32 hV, rq111 hT, rf33 hV, rq112 hT, rf35 hV, rq113 hT, rf36 hV, rq114 hT, rf37 hV, rq115 hT, rf41 hV, rq116 hT, rf44 hV, rq117 hT, rf45 hV, rq118 hT, rf51 hV, rq119 hT, rf53 hV, e1]
    refine ih _ _ ⟨rfl, frI.mk (fun h j q => ?_) q2.2, fun j hj => ?_⟩
    · rw [uI1, if_neg (fun w => q w.1)]
      exact q2.1 h j q
    · rw [uI1]
      by_cases e : j = i
      · rw [if_pos ⟨rfl, e⟩, e]
      · rw [if_neg (fun w => e w.2)]
        exact q3 j (by omega)
  · intro N z W ⟨q1, q2, q3⟩
    subst q1
    simp (disch := omega) only [f_X5_giveBack_L35, rq_t, drs, sp, pcs, cls, ↓reduceIte, not_true_eq_false, not_false_eq_true, and_true, true_and, and_false, false_and, or_true, true_or, or_false, false_or, eq_self, l0, l1, l2, l3, l4, l5, l6, l7, l8, l9, l10, l11, l12, l13, l14, l15, l16, l17, l18, l19, l20, l21, l22, l23, l24, l25, l26, l27, l28, l29, l30, l31, l32, l33, l34, l35, l36, l37, l40, l41, l42, l43, l45, l47, l48, l50, l57, l59, l60, l61, l62, l63, l85, l91, l93, l96, l97, l98, l99, l100, l120, l122, l146, l160, l165, l170, l178, l186, l198, l255, l400, l900, l948, l999, l1000, l2475, l2640, l2970, l3990, l9390, l18780, l19000, l999999, l1000000, l100000000, l2147483639, nI_add, pk_mul, ix_nI, leT, leF, ltT, ltF, eqT, eqF, nI_leI, nI_ltI, nI_eq, ngEq, ngEq', ngLt, ngLt', ngLe, ngLe', ngNg, nI_p, pk_sub, Nat.reduceAdd, Nat.reduceMul, Nat.reduceSub, uI1, uI2, uL1, uL2, uL3, uR1, uR2, uR3]
    exact hR W q2 q3
theorem MR.wuW {V W : Vt} {b : St} (h : MR V b) (og : okG b.g) (e : ∀ c j, ¬ ((c = 99 ∧ j < 2640) ∨ c = 100 ∨ (c = 94 ∧ j = 8)) → W.1 c j = V.1 c j) (el : W.2 = V.2) {u : Un} (mu : mUn W b.g u) : MR W (b.wu u) :=
  h.up (b := b.wu u) (by rw [el]) (fun c j q => e _ _ (by omega)) (fun c j q => by rw [el]) rfl (h.mf.fr og (fun j _ _ _ => e _ _ (by omega))) (h.mt.fr (fun j => e _ _ (by omega))) mu ((e _ _ (by omega)).trans h.st) (fun i hi => (e _ _ (by omega)).trans (h.rf i hi)) ((e _ _ (by omega)).trans h.od) ((e _ _ (by omega)).trans h.tn) (fun i hi => (e _ _ (by omega)).trans (h.tp i hi)) ((e _ _ (by omega)).trans h.fa) ((e _ _ (by omega)).trans h.le) ((e _ _ (by omega)).trans h.so) ((e _ _ (by omega)).trans h.dm) (fun i hi q => (e _ _ (by omega)).trans (h.dd i hi q))
/-- what was kept before orders ran, the model -/
abbrev mBf (V : Vt) (a : St) : Prop := (∀ i, i < 165 → V.1 99 (2805 + i) = snap a.g a.t i) ∧ (∀ k, k < a.u.n → ∀ i, i < 165 → V.1 101 (165 * k + i) = snap a.g (a.u.s k) i) ∧ (∀ k, k < a.u.n → V.1 102 k = nI (a.u.w k))
theorem mBf.t {V : Vt} {a : St} (h__ : mBf V a) : ∀ i, i < 165 → V.1 99 (2805 + i) = snap a.g a.t i := h__.1
theorem mBf.u {V : Vt} {a : St} (h__ : mBf V a) : ∀ k, k < a.u.n → ∀ i, i < 165 → V.1 101 (165 * k + i) = snap a.g (a.u.s k) i := h__.2.1
theorem mBf.w {V : Vt} {a : St} (h__ : mBf V a) : ∀ k, k < a.u.n → V.1 102 k = nI (a.u.w k) := h__.2.2
theorem m_giveBack {T : Tt} {V : Vt} (hT : MT T) {a b : St} (h : MR V b) (og : okG a.g) (ab : alik a b) (hn : a.u.n ≤ 16) (bf : mBf V a) : Ret (f_X5_giveBack T V 94 (nI a.u.n)) fun W => MR W a ∧ mFr V W := by
  rw [f_X5_giveBack, rq hT.1, l0]
  refine Ret.p (m_putBack (k := 17) hT h.hV (by omega)) ?_
  intro W ⟨f, ks⟩
  obtain ⟨u, t, rfl⟩ := ab
  have h1 : MR W ((a.wu u).wt a.t) := MR.put (a := a.wu u) (t := a.t) (t' := t) h og f fun i hi => (ks i hi).trans (bf.t i hi)
  refine m_gbL8 hT (h.hV.eq f.2) fun X f2 q2 => ?_
  refine m_gbL35 hT ((h.hV.eq f.2).eq f2.2) fun Y f3 q3 => ?_
  rw [sp]
  have e : ∀ c j, ¬ ((c = 99 ∧ j < 2640) ∨ c = 100 ∨ (c = 94 ∧ j = 8)) → (uI Y 94 8 (nI a.u.n)).1 c j = W.1 c j := fun c j w => by rw [uI1, if_neg (by omega), f3.1 _ _ (by omega), f2.1 _ _ (by omega)]
  have el : (uI Y 94 8 (nI a.u.n)).2 = W.2 := by rw [uI2, f3.2, f2.2]
  refine Ret.ok ⟨h1.wuW og e el (u := a.u) ⟨by rw [uI1, if_pos ⟨rfl, rfl⟩], hn, fun k hk i hi => ?_, fun k hk => ?_⟩, fun c j w => by rw [e _ _ (by omega), f.1 _ _ (by omega)], fun c j w => by rw [el, f.2], by rw [el, f.2]⟩
  · rw [uI1, if_neg (by omega), f3.1 _ _ (by omega), q2 _ (by omega), f.1 _ _ (by omega)]
    exact bf.u k hk i hi
  · rw [uI1, if_neg (by omega), q3 _ (by omega), f2.1 _ _ (by omega), f.1 _ _ (by omega)]
    exact bf.w k hk
set_option maxHeartbeats 1000000 in
theorem m_ordRun {T : Tt} {V : Vt} (hT : MT T) {a : St} (h : MR V a) (ok : OK a) {p : Pl} {C : Nat → Nat × Nat} {nc : Nat} (ld : mLd V p C nc) (okp : okP p) :
    mOp (pcl (f_X5_keepAll T V 94 (17 : Int32)) (fun U9 => stp (U9.1 94 8) (fun z10 => pcl (f_X5_keepUndos T U9 94) (fun U13 => stp (uI U13 94 46 (0 : Int32)) (fun U14 => stp (uI U14 94 47 ((-1) : Int32)) (fun U15 => f_X5_orders_L55 T 94 z10 (fun z32 U33 => pcl (f_X5_giveBack T U33 94 z10) (fun U36 => stp (uI U36 94 48 z32) (fun U37 => cal (f_X5_tell T U37 94 ((-3) : Int32)) (fun z39 U40 => some (z39, U40))))) (fun U41 => cal (f_X5_tell T U41 94 (U41.1 94 46)) (fun z43 U44 => some (z43, U44))) fuel (0 : Int32) U15)))))) V (oRun p a).1 (oRun p a).2 := by
  have og := ok.g
  have hn := ok.ul
  refine Ret.p (m_keepAll (k := 17) hT h.hV (by omega)) ?_
  intro W ⟨f, ks⟩
  have e8 : W.1 94 8 = nI a.u.n := (f.1 _ _ (by omega)).trans h.mu.n
  rw [sp, e8]
  refine Ret.p (m_keepUndos hT (h.hV.eq f.2)) ?_
  intro X ⟨f2, k1, k2⟩
  rw [sp, sp]
  have eX : ∀ c j, ¬ ((c = 99 ∧ 2640 ≤ j) ∨ c = 101 ∨ c = 102 ∨ (c = 94 ∧ (j = 46 ∨ j = 47))) → (uI (uI X 94 46 (0 : Int32)) 94 47 ((-1) : Int32)).1 c j = V.1 c j := fun c j w => by rw [uI1, if_neg (by omega), uI1, if_neg (by omega), f2.1 _ _ (by omega), f.1 _ _ (by omega)]
  have elX : (uI (uI X 94 46 (0 : Int32)) 94 47 ((-1) : Int32)).2 = V.2 := by rw [uI2, uI2, f2.2, f.2]
  have e46 : (uI (uI X 94 46 (0 : Int32)) 94 47 ((-1) : Int32)).1 94 46 = nI 0 := by rw [uI1, if_neg (by omega), uI1, if_pos ⟨rfl, rfl⟩]; rfl
  have e47 : (uI (uI X 94 46 (0 : Int32)) 94 47 ((-1) : Int32)).1 94 47 = -nI 1 := by rw [uI1, if_pos ⟨rfl, rfl⟩]; rfl
  have bf : mBf (uI (uI X 94 46 (0 : Int32)) 94 47 ((-1) : Int32)) a := by
    refine ⟨fun i hi => ?_, fun k hk i hi => ?_, fun k hk => ?_⟩
    · rw [uI1, if_neg (by omega), uI1, if_neg (by omega), f2.1 _ _ (by omega)]
      exact (ks i hi).trans (snap_row h.mf h.mt hi)
    · rw [uI1, if_neg (by omega), uI1, if_neg (by omega), k1 _ (by omega), f.1 _ _ (by omega)]
      exact h.mu.s k hk i hi
    · rw [uI1, if_neg (by omega), uI1, if_neg (by omega), k2 _ (by omega), f.1 _ _ (by omega)]
      exact h.mu.w k hk
  generalize uI (uI X 94 46 (0 : Int32)) 94 47 ((-1) : Int32) = Y at eX elX e46 e47 bf ⊢
  have hY : MR Y a := by
    have e := eX
    exact h.up (by rw [elX]) (fun c j w => e _ _ (by omega)) (fun c j w => by rw [elX]) rfl (h.mf.fr og (fun j _ _ _ => e _ _ (by omega))) (h.mt.fr (fun j => e _ _ (by omega))) (h.mu.fr (fun c j q => e _ _ (by omega))) ((e _ _ (by omega)).trans h.st) (fun i hi => (e _ _ (by omega)).trans (h.rf i hi)) ((e _ _ (by omega)).trans h.od) ((e _ _ (by omega)).trans h.tn) (fun i hi => (e _ _ (by omega)).trans (h.tp i hi)) ((e _ _ (by omega)).trans h.fa) ((e _ _ (by omega)).trans h.le) ((e _ _ (by omega)).trans h.so) ((e _ _ (by omega)).trans h.dm) (fun i hi q => (e _ _ (by omega)).trans (h.dd i hi q))
  have fY : mFr V Y := ⟨fun c j w => eX _ _ (by omega), fun c j w => by rw [elX], by rw [elX]⟩
  have ldY : mLd Y p C nc := ld.fr fun c j w => eX _ _ (by omega)
  refine mOp.fr fY ?_
  rw [l0]
  refine m_ordOut (s := ⟨a, 0, -nI 1⟩) ⟨hT, hY, ldY, e46, e47⟩ (okE0 ok) okp ?_ ?_
  · intro k e Z b hZ ab fZ
    have bfZ : mBf Z a := ⟨fun i hi => (fZ.1 _ _ (by omega)).trans (bf.t i hi), fun k hk i hi => (fZ.1 _ _ (by omega)).trans (bf.u k hk i hi), fun k hk => (fZ.1 _ _ (by omega)).trans (bf.w k hk)⟩
    refine Ret.p (m_giveBack hT hZ og ab hn bfZ) ?_
    intro Q ⟨hQ, fQ⟩
    rw [sp, oRun, e, cal_id]
    dsimp only
    exact mOp.fr (((sOm_m fZ).tr fQ).tr (mF_uI (by omega))) (m_tellNo (w := 3) hT (hQ.s48 og (v := nI k)) og (by omega) (by omega))
  · intro s' e Z hZ fZ
    have okZ := (okE0 ok).seq okp _ _ (Nat.le_refl _) e
    have hd := okZ.dn
    have h12 := okp.1
    rw [oRun, e, cal_id, hZ.dn]
    dsimp only
    exact mOp.fr (sOm_m fZ) (m_tell hT hZ.m okZ.ok.g (nI_0le (by omega)))
