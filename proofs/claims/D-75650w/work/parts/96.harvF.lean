/-! 96: harvests of the model, the step itself -/
set_option maxRecDepth 100000
theorem m_harv_L {T : Tt} {V : Vt} (hT : MT T) {a : St} (ok : OK a) {n s : Nat} (hn : n ≤ 60) (hs : s ≤ 1000003) (h0 : 0 < a.g.n) (h : MR V a) (h52 : V.2.1 94 52 = lN s) (h42 : V.1 94 42 = nI 0) {k : Vt → Option (Int32 × Vt)} {R : Int32 × Vt → Prop}
    (hR : ∀ W, MR W (a.wt (hvN a.g a.t s n).1) → W.1 94 42 = nI (hvN a.g a.t s n).2.2 → (∀ c j, ¬ sPm c j → W.1 c j = V.1 c j) → mFr V W → Ret (k W) R) : Ret (f_X5_harvests_L77 T 94 (nI n) k fuel (nI 0) V) R := by
  refine lq2 (f_X5_harvests_L77 T 94 (nI n) k) (fun i z W => z = nI i ∧ MR W (a.wt (hvN a.g a.t s i).1) ∧ W.2.1 94 52 = lN (hvN a.g a.t s i).2.1 ∧ W.1 94 42 = nI (hvN a.g a.t s i).2.2 ∧ (∀ c j, ¬ sPm c j → W.1 c j = V.1 c j) ∧ mFr V W) n ?_ ?_ fuel _ _ (Nat.lt_of_le_of_lt hn (by decide)) ⟨rfl, h, h52, h42, fun _ _ _ => rfl, mFr.rfl'⟩
  · intro i N z W hi ⟨q1, q2, q3, q4, q5, q6⟩ ih
    subst q1
    have o := hvN_ok ok.g ok.t ok.y hs h0 i
    have hst := fun (y : 999 ≤ (hvN a.g a.t s i).1.y) => hvN_st y (n - i)
    have hsu : hvN a.g a.t s (i + 1) = if 999 ≤ (hvN a.g a.t s i).1.y then hvN a.g a.t s i else (tEnd a.g (hvS a.g (hvN a.g a.t s i).1 (hvN a.g a.t s i).2.1).1, dw (dw (dw (dw (hvN a.g a.t s i).2.1))), (hvN a.g a.t s i).2.2 + (hvS a.g (hvN a.g a.t s i).1 (hvN a.g a.t s i).2.1).2) := by rw [hvN]
    have hy : W.1 96 (ixN (5 : Int32)) = nI (hvN a.g a.t s i).1.y := q2.mt.y
    rw [f_X5_harvests_L77, if_neg (nI_ge hi (by omega)), dr (rf3 q2.hV), show (5 : Int32) = nI 5 from rfl, rq96 hT (by omega), show ixN (nI 5) = ixN (5 : Int32) from rfl, hy]
    by_cases y : 999 ≤ (hvN a.g a.t s i).1.y
    · rw [if_pos (by rw [l999]; exact nI_le y (by omega))]
      have e := hst y
      rw [show i + (n - i) = n by omega] at e
      rw [e] at hR
      exact hR W q2 q4 q5 q6
    · rw [if_neg (by rw [l999]; exact nI_ge (by omega) (by omega))]
      rw [if_neg y] at hsu
      refine m_harv1 hT ok.g o.1 q2 q3 o.2.2.1 h0 (kk := fun U46 => stp (nI i + (1 : Int32)) (fun z47 => (f_X5_harvests_L77 T 94 (nI n) k N) z47 U46)) fun U u1 u2 u3 u4 u5 => ?_
      rw [sp, show nI i + (1 : Int32) = nI (i + 1) from nI_add _ _]
      refine ih _ _ ⟨rfl, ?_, ?_, ?_, fun c j q => (u4 c j q).trans (q5 c j q), q6.tr u5⟩
      · rw [hsu]
        exact u1
      · rw [hsu]
        exact u2
      · rw [hsu, u3, q4, nI_add]
  · intro N z W ⟨q1, q2, q3, q4, q5, q6⟩
    subst q1
    rw [f_X5_harvests_L77, if_pos (nI_le (Nat.le_refl _) (by omega))]
    exact hR W q2 q4 q5 q6
theorem m_harv160 {T : Tt} {V : Vt} (hT : MT T) (hV : MV V) {D : Nat → Nat} (hD : mD V D) {k : Vt → Option (Int32 × Vt)} {R : Int32 × Vt → Prop}
    (hR : ∀ W, frI (fun h _ => h = 119) V W → (∀ i, i < 160 → W.1 119 i = nI (D i)) → Ret (k W) R) : Ret (f_X5_harvests_L160 T 94 k fuel (nI 0) V) R := by
  refine lq2 (f_X5_harvests_L160 T 94 k) (fun i z W => z = nI i ∧ frI (fun h _ => h = 119) V W ∧ ∀ j, j < i → W.1 119 j = nI (D j)) 160 ?_ ?_ fuel _ _ (by decide) ⟨rfl, frI.mk (fun _ _ _ => rfl) rfl, fun j hj => absurd hj (by omega)⟩
  · intro i N z W hi ⟨q1, q2, q3⟩ ih
    subst q1
    have hV := hV.eq q2.2
    have e1 : W.1 96 (10 + i) = nI (D i) := (q2.1 _ _ (by omega)).trans (hD i hi)
    simp (disch := omega) only [f_X5_harvests_L160, rq_t, drs, sp, pcs, cls, ↓reduceIte, not_true_eq_false, not_false_eq_true, and_true, true_and, and_false, false_and, or_true, true_or, or_false, false_or, eq_self, l0, l1, l2, l3, l4, l5, l6, l7, l8, l9, l10, l11, l12, l13, l14, l15, l16, l17, l18, l19, l20, l21, l22, l23, l24, l25, l26, l27, l28, l29, l30, l31, l32, l33, l34, l35, l36, l37, l40, l41, l42, l43, l45, l47, l48, l50, l57, l59, l60, l61, l62, l63, l85, l91, l93, l96, l97, l98, l99, l100, l120, l122, l146, l160, l165, l170, l178, l186, l198, l255, l400, l900, l948, l999, l1000, l2475, l2640, l2970, l3990, l9390, l18780, l19000, l999999, l1000000, l100000000, l2147483639, nI_add, pk_mul, ix_nI, leT, leF, ltT, ltF, eqT, eqF, nI_leI, nI_ltI, nI_eq, ngEq, ngEq', ngLt, ngLt', ngLe, ngLe', ngNg, nI_p, pk_sub, Nat.reduceAdd, Nat.reduceMul, Nat.reduceSub, uI1, uI2, uL1, uL2, uL3, uR1, uR2, uR3, rq_eq (MT0 hT), rq95 hT, rf2 hV, rq96 hT, rf3 hV, rq97 hT, rf4 hV, rq98 hT, rf5 hV, rq99 hT, rf6 hV, rq100 hT, rf7 hV, rq101 hT, rf9 hV, rq102 hT, rf10 hV, rq103 hT, rf12 hV, rq104 hT, rf22 hV, rq105 hT, rf24 hV, rq106 hT, rf25 hV, rq107 hT, rf27 hV, rq108 hT, rf28 hV, rq109 hT, rf31 hV, rq110 hT, rf32 hV, rq111 hT, rf33 hV, rq112 hT, rf35 hV, rq113 hT, rf36 hV, rq114 hT, rf37 hV, rq115 hT, rf41 hV, rq116 hT, rf44 hV, rq117 hT, rf45 hV, rq118 hT, rf51 hV, rq119 hT, rf53 hV, e1]
    refine ih _ _ ⟨rfl, frI.mk (fun h j q => ?_) q2.2, fun j hj => ?_⟩
    · rw [uI1, if_neg (fun w => q w.1)]
      exact q2.1 h j q
    · rw [uI1]
      by_cases e : j = i
      · rw [if_pos ⟨rfl, e⟩, e]
      · rw [if_neg (fun w => e w.2)]
        exact q3 j (by omega)
  · intro N z W ⟨q1, q2, q3⟩
    subst q1
    simp (disch := omega) only [f_X5_harvests_L160, rq_t, drs, sp, pcs, cls, ↓reduceIte, not_true_eq_false, not_false_eq_true, and_true, true_and, and_false, false_and, or_true, true_or, or_false, false_or, eq_self, l0, l1, l2, l3, l4, l5, l6, l7, l8, l9, l10, l11, l12, l13, l14, l15, l16, l17, l18, l19, l20, l21, l22, l23, l24, l25, l26, l27, l28, l29, l30, l31, l32, l33, l34, l35, l36, l37, l40, l41, l42, l43, l45, l47, l48, l50, l57, l59, l60, l61, l62, l63, l85, l91, l93, l96, l97, l98, l99, l100, l120, l122, l146, l160, l165, l170, l178, l186, l198, l255, l400, l900, l948, l999, l1000, l2475, l2640, l2970, l3990, l9390, l18780, l19000, l999999, l1000000, l100000000, l2147483639, nI_add, pk_mul, ix_nI, leT, leF, ltT, ltF, eqT, eqF, nI_leI, nI_ltI, nI_eq, ngEq, ngEq', ngLt, ngLt', ngLe, ngLe', ngNg, nI_p, pk_sub, Nat.reduceAdd, Nat.reduceMul, Nat.reduceSub, uI1, uI2, uL1, uL2, uL3, uR1, uR2, uR3]
    exact hR W q2 q3
