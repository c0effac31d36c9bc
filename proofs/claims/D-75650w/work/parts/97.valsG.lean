/-! 97: orders that the model has before it; whether one is asked; its sums -/
set_option maxRecDepth 100000
abbrev mLd (V : Vt) (p : Pl) (C : Nat → Nat × Nat) (nc : Nat) : Prop := (V.1 94 21 = nI p.1) ∧ (p.1 ≤ 12) ∧ (nc ≤ 400) ∧ (∀ k, k < nc → V.1 105 k = nI (C k).1 ∧ V.1 106 k = nI (C k).2) ∧ (∀ i, i < p.1 → mOs nc (fun j => V.1 117 (10 * i + j)) C (p.2 i))
theorem mLd.n {V : Vt} {p : Pl} {C : Nat → Nat × Nat} {nc : Nat} (h__ : mLd V p C nc) : V.1 94 21 = nI p.1 := h__.1
theorem mLd.b {V : Vt} {p : Pl} {C : Nat → Nat × Nat} {nc : Nat} (h__ : mLd V p C nc) : p.1 ≤ 12 := h__.2.1
theorem mLd.l {V : Vt} {p : Pl} {C : Nat → Nat × Nat} {nc : Nat} (h__ : mLd V p C nc) : nc ≤ 400 := h__.2.2.1
theorem mLd.c {V : Vt} {p : Pl} {C : Nat → Nat × Nat} {nc : Nat} (h__ : mLd V p C nc) : ∀ k, k < nc → V.1 105 k = nI (C k).1 ∧ V.1 106 k = nI (C k).2 := h__.2.2.2.1
theorem mLd.o {V : Vt} {p : Pl} {C : Nat → Nat × Nat} {nc : Nat} (h__ : mLd V p C nc) : ∀ i, i < p.1 → mOs nc (fun j => V.1 117 (10 * i + j)) C (p.2 i) := h__.2.2.2.2
theorem mLd.fr {V W : Vt} {p : Pl} {C : Nat → Nat × Nat} {nc : Nat} (h : mLd V p C nc) (e : ∀ c j, (c = 94 ∧ j = 21) ∨ c = 105 ∨ c = 106 ∨ c = 117 → W.1 c j = V.1 c j) : mLd W p C nc := by
  refine ⟨(e _ _ (by omega)).trans h.n, h.b, h.l, fun k hk => ⟨(e _ _ (by omega)).trans (h.c k hk).1, (e _ _ (by omega)).trans (h.c k hk).2⟩, fun i hi => ?_⟩
  rw [show (fun j => W.1 117 (10 * i + j)) = fun j => V.1 117 (10 * i + j) from funext fun j => e _ _ (by omega)]
  exact h.o i hi
theorem mPp.f0 {T : Tt} {V W : Vt} {g : Cfg} {b : Tab} (h : mPp T V g b) (e : ∀ j, W.1 96 j = V.1 96 j) (er : W.2.2 = V.2.2) (o : isB (W.1 94 20)) : mPp T W g b := ⟨h.T, h.V.eq3 er, h.g, h.mf.fr h.g (fun j _ _ _ => e j), h.b, h.mt.fr e, o⟩
abbrev sAs (c j : Nat) : Prop := c = 94 ∧ (j = 20 ∨ j = 38 ∨ j = 49)
abbrev lAs (c j : Nat) : Prop := c = 113 ∨ c = 114 ∨ (c = 94 ∧ j = 39)
theorem b0B : isB (nI 0) := Or.inl rfl
theorem m_isAsked {T : Tt} {V : Vt} {g : Cfg} {b : Tab} (h : mPp T V g b) {dn lt : Int32} (hd : V.1 94 46 = dn) (hl : V.1 94 47 = lt) (h20 : V.1 94 20 = nI 0) {p : Pl} {C : Nat → Nat × Nat} {nc : Nat} (ld : mLd V p C nc) {i : Nat} (hi : i < p.1) :
    Ret (f_X5_isAsked T V 94 (nI (10 * i))) fun q => q.1 = b1 (nowO (p.2 i) (vO g b dn lt)) ∧ frM sAs lAs V q.2 ∧ q.2.1 94 49 = nI 0 ∧ q.2.1 94 20 = nI 0 ∧ ∀ o, 1 ≤ o → o < 5 → q.2.2.1 113 o = vO g b dn lt (o - 1) := by
  have hT := h.T
  have hb12 := ld.b
  have hnc := ld.l
  rw [f_X5_isAsked, rq hT.1]
  refine Ret.p (m_setNow h hd hl) ?_
  intro W ⟨f, w49, wn⟩
  have w20 : W.1 94 20 = nI 0 := (f.1 _ _ (by omega)).trans h20
  have mp : mPp T W g b := h.f0 (fun j => f.1 _ _ (by omega)) f.2.2 (by rw [w20]; exact b0B)
  have hV := mp.V
  have ld' := ld.fr (W := W) (fun c j q => f.1 _ _ (by omega))
  have fW : frM sAs lAs V W := f.mono (fun c j q => by omega) (fun c j q => Or.inl q)
  obtain ⟨o1, o2, o3, a, e, o4, o5, o6, o7, o8⟩ := ld'.o i hi
  have e4 : W.1 117 (10 * i + 7) = nI a := o4
  have e5 : W.1 117 (10 * i + 8) = nI e := o5
  cases hw : (p.2 i).2.2.2 with
  | none =>
    rw [hw] at o8
    dsimp only at o8
    subst o8
    simp (disch := omega) only [rq_t, drs, sp, pcs, cls, ↓reduceIte, not_true_eq_false, not_false_eq_true, and_true, true_and, and_false, false_and, or_true, true_or, or_false, false_or, eq_self, l0, l1, l2, l3, l4, l5, l6, l7, l8, l9, l10, l11, l12, l13, l14, l15, l16, l17, l18, l19, l20, l21, l22, l23, l24, l25, l26, l27, l28, l29, l30, l31, l32, l33, l34, l35, l36, l37, l40, l41, l42, l43, l45, l47, l48, l50, l57, l59, l60, l61, l62, l63, l85, l91, l93, l96, l97, l98, l99, l100, l120, l122, l146, l160, l165, l170, l178, l186, l198, l255, l400, l900, l948, l999, l1000, l2475, l2640, l2970, l3990, l9390, l18780, l19000, l999999, l1000000, l100000000, l2147483639, nI_add, pk_mul, ix_nI, leT, leF, ltT, ltF, eqT, eqF, nI_leI, nI_ltI, nI_eq, ngEq, ngEq', ngLt, ngLt', ngLe, ngLe', ngNg, nI_p, pk_sub, Nat.reduceAdd, Nat.reduceMul, Nat.reduceSub, uI1, uI2, uL1, uL2, uL3, uR1, uR2, uR3, rq_eq (MT0 hT), rq95 hT, rf2 hV, rq96 hT, rf3 hV, rq97 hT, rf4 hV, rq98 hT, rf5 hV, rq99 hT, rf6 hV, rq100 hT, rf7 hV, rq101 hT, rf9 hV, rq102 hT, rf10 hV, rq103 hT, rf12 hV, rq104 hT, rf22 hV, rq105 hT, rf24 hV, rq106 hT, rf25 hV, rq107 hT, rf27 hV, rq108 hT, rf28 hV, rq109 hT, rf31 hV, rq110 hT, rf32 hV, rq111 hT, rf33 hV, rq112 hT, rf35 hV, rq113 hT, rf36 hV, rq114 hT, rf37 hV, rq115 hT, rf41 hV, rq116 hT, rf44 hV, rq117 hT, rf45 hV, rq118 hT, rf51 hV, rq119 hT, rf53 hV, e4, e5]
    exact Ret.ok ⟨by rw [nowO, hw]; rfl, fW, w49, w20, wn⟩
  | some t =>
    rw [hw] at o8
    dsimp only at o8
    have hlt := o8.1.1
    simp (disch := omega) only [rq_t, drs, sp, pcs, cls, ↓reduceIte, not_true_eq_false, not_false_eq_true, and_true, true_and, and_false, false_and, or_true, true_or, or_false, false_or, eq_self, l0, l1, l2, l3, l4, l5, l6, l7, l8, l9, l10, l11, l12, l13, l14, l15, l16, l17, l18, l19, l20, l21, l22, l23, l24, l25, l26, l27, l28, l29, l30, l31, l32, l33, l34, l35, l36, l37, l40, l41, l42, l43, l45, l47, l48, l50, l57, l59, l60, l61, l62, l63, l85, l91, l93, l96, l97, l98, l99, l100, l120, l122, l146, l160, l165, l170, l178, l186, l198, l255, l400, l900, l948, l999, l1000, l2475, l2640, l2970, l3990, l9390, l18780, l19000, l999999, l1000000, l100000000, l2147483639, nI_add, pk_mul, ix_nI, leT, leF, ltT, ltF, eqT, eqF, nI_leI, nI_ltI, nI_eq, ngEq, ngEq', ngLt, ngLt', ngLe, ngLe', ngNg, nI_p, pk_sub, Nat.reduceAdd, Nat.reduceMul, Nat.reduceSub, uI1, uI2, uL1, uL2, uL3, uR1, uR2, uR3, rq_eq (MT0 hT), rq95 hT, rf2 hV, rq96 hT, rf3 hV, rq97 hT, rf4 hV, rq98 hT, rf5 hV, rq99 hT, rf6 hV, rq100 hT, rf7 hV, rq101 hT, rf9 hV, rq102 hT, rf10 hV, rq103 hT, rf12 hV, rq104 hT, rf22 hV, rq105 hT, rf24 hV, rq106 hT, rf25 hV, rq107 hT, rf27 hV, rq108 hT, rf28 hV, rq109 hT, rf31 hV, rq110 hT, rf32 hV, rq111 hT, rf33 hV, rq112 hT, rf35 hV, rq113 hT, rf36 hV, rq114 hT, rf37 hV, rq115 hT, rf41 hV, rq116 hT, rf44 hV, rq117 hT, rf45 hV, rq118 hT, rf51 hV, rq119 hT, rf53 hV, e4, e5]
    refine Ret.c (m_sumOf (dn := dn) (lt := lt) mp wn ld'.l ld'.c (p := 10 * i + 7) (by omega) e4 e5 w49 o8 o7) ?_
    intro x U ⟨f2, u20, q⟩
    dsimp only at f2 u20 q
    have fU : frM sAs lAs V U := fW.t (f2.mono (fun _ _ w => w) (fun c j w => by omega))
    have fX : frM sAs lAs V (uI U 94 49 (nI 0)) := ⟨fun c j w => by rw [uI1, if_neg (by omega)]; exact fU.1 c j w, fU.2.1, fU.2.2⟩
    have un : ∀ o, 1 ≤ o → o < 5 → U.2.1 113 o = vO g b dn lt (o - 1) := fun o w1 w2 => (f2.2.1 _ _ (by omega)).trans (wn o w1 w2)
    have b1' : isB (nI 1) := Or.inr rfl
    have b0' : isB (nI 0) := b0B
    have x49 : (uI U 94 49 (nI 0)).1 94 49 = nI 0 := by rw [uI1, if_pos ⟨rfl, rfl⟩]
    have x20 : (uI U 94 49 (nI 0)).1 94 20 = nI 0 := by rw [uI1, if_neg (by omega)]; exact u20
    rw [tS] at q
    rw [nowO, hw]
    cases hm : t (vO g b dn lt) with
    | none =>
      rw [hm] at q
      have q : U.1 94 49 = nI 1 := q
      simp (disch := omega) only [rq_t, drs, sp, pcs, cls, ↓reduceIte, not_true_eq_false, not_false_eq_true, and_true, true_and, and_false, false_and, or_true, true_or, or_false, false_or, eq_self, l0, l1, l2, l3, l4, l5, l6, l7, l8, l9, l10, l11, l12, l13, l14, l15, l16, l17, l18, l19, l20, l21, l22, l23, l24, l25, l26, l27, l28, l29, l30, l31, l32, l33, l34, l35, l36, l37, l40, l41, l42, l43, l45, l47, l48, l50, l57, l59, l60, l61, l62, l63, l85, l91, l93, l96, l97, l98, l99, l100, l120, l122, l146, l160, l165, l170, l178, l186, l198, l255, l400, l900, l948, l999, l1000, l2475, l2640, l2970, l3990, l9390, l18780, l19000, l999999, l1000000, l100000000, l2147483639, nI_add, pk_mul, ix_nI, leT, leF, ltT, ltF, eqT, eqF, nI_leI, nI_ltI, nI_eq, ngEq, ngEq', ngLt, ngLt', ngLe, ngLe', ngNg, nI_p, pk_sub, Nat.reduceAdd, Nat.reduceMul, Nat.reduceSub, uI1, uI2, uL1, uL2, uL3, uR1, uR2, uR3, q, f_X5_isAsked_J51, f_X5_isAsked_J52, rq b0']
      exact Ret.ok ⟨by rw [hm]; rfl, fX, x49, x20, un⟩
    | some y =>
      rw [hm] at q
      obtain ⟨q, q2⟩ : U.1 94 49 = nI 0 ∧ x = (bI y).toInt32 := q
      cases y with
      | false =>
        have q2 : x = nI 0 := q2
        subst q2
        simp (disch := omega) only [rq_t, drs, sp, pcs, cls, ↓reduceIte, not_true_eq_false, not_false_eq_true, and_true, true_and, and_false, false_and, or_true, true_or, or_false, false_or, eq_self, l0, l1, l2, l3, l4, l5, l6, l7, l8, l9, l10, l11, l12, l13, l14, l15, l16, l17, l18, l19, l20, l21, l22, l23, l24, l25, l26, l27, l28, l29, l30, l31, l32, l33, l34, l35, l36, l37, l40, l41, l42, l43, l45, l47, l48, l50, l57, l59, l60, l61, l62, l63, l85, l91, l93, l96, l97, l98, l99, l100, l120, l122, l146, l160, l165, l170, l178, l186, l198, l255, l400, l900, l948, l999, l1000, l2475, l2640, l2970, l3990, l9390, l18780, l19000, l999999, l1000000, l100000000, l2147483639, nI_add, pk_mul, ix_nI, leT, leF, ltT, ltF, eqT, eqF, nI_leI, nI_ltI, nI_eq, ngEq, ngEq', ngLt, ngLt', ngLe, ngLe', ngNg, nI_p, pk_sub, Nat.reduceAdd, Nat.reduceMul, Nat.reduceSub, uI1, uI2, uL1, uL2, uL3, uR1, uR2, uR3, q, f_X5_isAsked_J51, f_X5_isAsked_J52, rq b0']
        exact Ret.ok ⟨by rw [hm]; rfl, fX, x49, x20, un⟩
      | true =>
        have q2 : x = nI 1 := q2
        subst q2
        simp (disch := omega) only [rq_t, drs, sp, pcs, cls, ↓reduceIte, not_true_eq_false, not_false_eq_true, and_true, true_and, and_false, false_and, or_true, true_or, or_false, false_or, eq_self, l0, l1, l2, l3, l4, l5, l6, l7, l8, l9, l10, l11, l12, l13, l14, l15, l16, l17, l18, l19, l20, l21, l22, l23, l24, l25, l26, l27, l28, l29, l30, l31, l32, l33, l34, l35, l36, l37, l40, l41, l42, l43, l45, l47, l48, l50, l57, l59, l60, l61, l62, l63, l85, l91, l93, l96, l97, l98, l99, l100, l120, l122, l146, l160, l165, l170, l178, l186, l198, l255, l400, l900, l948, l999, l1000, l2475, l2640, l2970, l3990, l9390, l18780, l19000, l999999, l1000000, l100000000, l2147483639, nI_add, pk_mul, ix_nI, leT, leF, ltT, ltF, eqT, eqF, nI_leI, nI_ltI, nI_eq, ngEq, ngEq', ngLt, ngLt', ngLe, ngLe', ngNg, nI_p, pk_sub, Nat.reduceAdd, Nat.reduceMul, Nat.reduceSub, uI1, uI2, uL1, uL2, uL3, uR1, uR2, uR3, q, f_X5_isAsked_J51, f_X5_isAsked_J52, rq b1']
        exact Ret.ok ⟨by rw [hm]; rfl, fX, x49, x20, un⟩
/-- what the model's k-th sum of an order tells: broken, or its value -/
def sM (o : Od) (v : Vals) (k : Nat) : Option Int32 := match slM o k with
  | none => some (-nI 1)
  | some m => (m v).map Int64.toInt32
theorem m_sum0 {T : Tt} {V : Vt} (hT : MT T) (h : V.1 94 49 = nI 1) {x : Int32} : f_X5_sumOf T V 94 x = some (-nI 1, V) := by
  rw [f_X5_sumOf, rq hT.1, if_neg (by rw [h]; decide)]
  rfl
theorem m_sum1 {T : Tt} {V : Vt} {g : Cfg} {b : Tab} (h : mPp T V g b) {dn lt : Int32} (hn : ∀ o, 1 ≤ o → o < 5 → V.2.1 113 o = vO g b dn lt (o - 1)) (h20 : V.1 94 20 = nI 0) {p : Pl} {C : Nat → Nat × Nat} {nc : Nat} (ld : mLd V p C nc) {i : Nat} (hi : i < p.1) (h49 : V.1 94 49 = nI 0) {k : Nat} (hk : k < 3) :
    Ret (f_X5_sumOf T V 94 (nI (10 * i + (1 + 2 * k)))) fun q => frM sSo lSo V q.2 ∧ q.2.1 94 20 = nI 0 ∧ match sM (p.2 i) (vO g b dn lt) k with
      | none => q.2.1 94 49 = nI 1
      | some x => q.2.1 94 49 = nI 0 ∧ q.1 = x := by
  have hT := h.T
  have hV := h.V
  have hb12 := ld.b
  have hnc := ld.l
  obtain ⟨o1, o2, o3, -⟩ := ld.o i hi
  obtain ⟨a, e, o4, o5, o6, o7, o8⟩ := o3 k hk
  have e4 : V.1 117 (10 * i + (1 + 2 * k)) = nI a := o4
  have e5 : V.1 117 (10 * i + (1 + 2 * k) + 1) = nI e := by
    have o5 : V.1 117 (10 * i + (2 + 2 * k)) = nI e := o5
    rw [show 10 * i + (1 + 2 * k) + 1 = 10 * i + (2 + 2 * k) by omega]
    exact o5
  rw [sM]
  cases hs : slM (p.2 i) k with
  | none =>
    rw [hs] at o8
    dsimp only at o8
    subst o8
    simp (disch := omega) only [f_X5_sumOf, rq_t, drs, sp, pcs, cls, ↓reduceIte, not_true_eq_false, not_false_eq_true, and_true, true_and, and_false, false_and, or_true, true_or, or_false, false_or, eq_self, l0, l1, l2, l3, l4, l5, l6, l7, l8, l9, l10, l11, l12, l13, l14, l15, l16, l17, l18, l19, l20, l21, l22, l23, l24, l25, l26, l27, l28, l29, l30, l31, l32, l33, l34, l35, l36, l37, l40, l41, l42, l43, l45, l47, l48, l50, l57, l59, l60, l61, l62, l63, l85, l91, l93, l96, l97, l98, l99, l100, l120, l122, l146, l160, l165, l170, l178, l186, l198, l255, l400, l900, l948, l999, l1000, l2475, l2640, l2970, l3990, l9390, l18780, l19000, l999999, l1000000, l100000000, l2147483639, nI_add, pk_mul, ix_nI, leT, leF, ltT, ltF, eqT, eqF, nI_leI, nI_ltI, nI_eq, ngEq, ngEq', ngLt, ngLt', ngLe, ngLe', ngNg, nI_p, pk_sub, Nat.reduceAdd, Nat.reduceMul, Nat.reduceSub, uI1, uI2, uL1, uL2, uL3, uR1, uR2, uR3, rq_eq (MT0 hT), rq95 hT, rf2 hV, rq96 hT, rf3 hV, rq97 hT, rf4 hV, rq98 hT, rf5 hV, rq99 hT, rf6 hV, rq100 hT, rf7 hV, rq101 hT, rf9 hV, rq102 hT, rf10 hV, rq103 hT, rf12 hV, rq104 hT, rf22 hV, rq105 hT, rf24 hV, rq106 hT, rf25 hV, rq107 hT, rf27 hV, rq108 hT, rf28 hV, rq109 hT, rf31 hV, rq110 hT, rf32 hV, rq111 hT, rf33 hV, rq112 hT, rf35 hV, rq113 hT, rf36 hV, rq114 hT, rf37 hV, rq115 hT, rf41 hV, rq116 hT, rf44 hV, rq117 hT, rf45 hV, rq118 hT, rf51 hV, rq119 hT, rf53 hV, h49, e4, e5]
    exact Ret.ok ⟨frM.rfl', h20, h49, rfl⟩
  | some m =>
    rw [hs] at o8
    dsimp only at o8
    refine (m_sumOf h hn ld.l ld.c (p := 10 * i + (1 + 2 * k)) (by omega) e4 e5 h49 o8 o7).im fun q ⟨q1, q2, q3⟩ => ⟨q1, q2, ?_⟩
    dsimp only
    cases hm : m (vO g b dn lt) with
    | none => rw [hm] at q3; exact q3
    | some x => rw [hm] at q3; exact q3
theorem m_sums {T : Tt} {V : Vt} {g : Cfg} {b : Tab} (h : mPp T V g b) {dn lt : Int32} (hn : ∀ o, 1 ≤ o → o < 5 → V.2.1 113 o = vO g b dn lt (o - 1)) (h20 : V.1 94 20 = nI 0) {p : Pl} {C : Nat → Nat × Nat} {nc : Nat} (ld : mLd V p C nc) {i : Nat} (hi : i < p.1) (h49 : V.1 94 49 = nI 0) {kk : Int32 → Int32 → Int32 → Vt → Option (Int32 × Vt)} {R : Int32 × Vt → Prop}
    (hR1 : ∀ x y z W, sM (p.2 i) (vO g b dn lt) 0 = some x → sM (p.2 i) (vO g b dn lt) 1 = some y → sM (p.2 i) (vO g b dn lt) 2 = some z → frM sSo lSo V W → W.1 94 20 = nI 0 → W.1 94 49 = nI 0 → Ret (kk x y z W) R)
    (hR2 : (sM (p.2 i) (vO g b dn lt) 0 = none ∨ sM (p.2 i) (vO g b dn lt) 1 = none ∨ sM (p.2 i) (vO g b dn lt) 2 = none) → ∀ x y z W, frM sSo lSo V W → W.1 94 20 = nI 0 → W.1 94 49 = nI 1 → Ret (kk x y z W) R) :
    Ret (cal (f_X5_sumOf T V 94 (nI (10 * i) + (1 : Int32))) (fun z2 U3 => cal (f_X5_sumOf T U3 94 (nI (10 * i) + (3 : Int32))) (fun z5 U6 => cal (f_X5_sumOf T U6 94 (nI (10 * i) + (5 : Int32))) (fun z8 U9 => kk z2 z5 z8 U9)))) R := by
  have hT := h.T
  have st : ∀ W, frM sSo lSo V W → W.1 94 20 = nI 0 → mPp T W g b ∧ (∀ o, 1 ≤ o → o < 5 → W.2.1 113 o = vO g b dn lt (o - 1)) ∧ mLd W p C nc := fun W f w => ⟨h.f0 (fun j => f.1 _ _ (by omega)) f.2.2 (by rw [w]; exact b0B), fun o w1 w2 => (f.2.1 _ _ (by omega)).trans (hn o w1 w2), ld.fr fun c j q => f.1 _ _ (by omega)⟩
  rw [show nI (10 * i) + (1 : Int32) = nI (10 * i + (1 + 2 * 0)) from nI_add _ _, show nI (10 * i) + (3 : Int32) = nI (10 * i + (1 + 2 * 1)) from nI_add _ _, show nI (10 * i) + (5 : Int32) = nI (10 * i + (1 + 2 * 2)) from nI_add _ _]
  refine Ret.c (m_sum1 h hn h20 ld hi h49 (k := 0) (by omega)) ?_
  intro x W ⟨f1, a1, c1⟩
  dsimp only at f1 a1 c1
  cases e1 : sM (p.2 i) (vO g b dn lt) 0 with
  | none =>
    rw [e1] at c1
    dsimp only at c1
    rw [cl (m_sum0 hT c1), cl (m_sum0 hT c1)]
    exact hR2 (Or.inl e1) _ _ _ _ f1 a1 c1
  | some x' =>
    rw [e1] at c1
    obtain ⟨c1, rfl⟩ := c1
    obtain ⟨p1, n1, l1'⟩ := st W f1 a1
    refine Ret.c (m_sum1 p1 n1 a1 l1' hi c1 (k := 1) (by omega)) ?_
    intro y U ⟨f2, a2, c2⟩
    dsimp only at f2 a2 c2
    have f2 := f1.t f2
    cases e2 : sM (p.2 i) (vO g b dn lt) 1 with
    | none =>
      rw [e2] at c2
      dsimp only at c2
      rw [cl (m_sum0 hT c2)]
      exact hR2 (Or.inr (Or.inl e2)) _ _ _ _ f2 a2 c2
    | some y' =>
      rw [e2] at c2
      obtain ⟨c2, rfl⟩ := c2
      obtain ⟨p2, n2, l2'⟩ := st U f2 a2
      refine Ret.c (m_sum1 p2 n2 a2 l2' hi c2 (k := 2) (by omega)) ?_
      intro z X ⟨f3, a3, c3⟩
      dsimp only at f3 a3 c3
      have f3 := f2.t f3
      cases e3 : sM (p.2 i) (vO g b dn lt) 2 with
      | none =>
        rw [e3] at c3
        dsimp only at c3
        exact hR2 (Or.inr (Or.inr e3)) _ _ _ _ f3 a3 c3
      | some z' =>
        rw [e3] at c3
        obtain ⟨c3, rfl⟩ := c3
        exact hR1 _ _ _ _ e1 e2 e3 f3 a3 c3
