/-! 67: the model's loop over its code -/
set_option maxRecDepth 100000
theorem frM.mono {S L S' L' : Nat → Nat → Prop} {V W : Vt} (h : frM S L V W) (hS : ∀ h j, S h j → S' h j) (hL : ∀ h j, L h j → L' h j) : frM S' L' V W :=
  ⟨fun a j q => h.1 a j fun w => q (hS a j w), fun a j q => h.2.1 a j fun w => q (hL a j w), h.2.2⟩
theorem frM.t {S L : Nat → Nat → Prop} {V W U : Vt} (h : frM S L V W) (g : frM S L W U) : frM S L V U := h.tr g (fun _ _ q => q) (fun _ _ q => q)
theorem frM_uL {W : Vt} {n : Nat} {x : Int64} : frM sE lE W (uL W 114 n x) := ⟨fun _ _ _ => rfl, fun h j q => by rw [uL2, if_neg (fun w => q w.1)], rfl⟩
set_option maxHeartbeats 1000000 in
theorem rk_run {T : Tt} {V : Vt} (hT : MT T) (hV : MV V) {ord : Bool} {C : Nat → Nat × Nat} {v : Vals} {last : Nat} (hl : last ≤ 400) (hr : rdC T V ord C v last) (hj : ∀ k, k < last → 29 ≤ (C k).1 → k < (C k).2 ∧ (C k).2 ≤ last) {kx : Int32 → Vt → Option Vt} {R : Vt → Prop} :
    ∀ N k st W res, rn ord C v last N k st = some res → k ≤ last → st.length ≤ k → frM sE lE V W → W.1 94 38 = nI 0 → stk W st →
      (match res with
        | none => ∀ n' W', frM sE lE V W' → W'.1 94 38 = nI 1 → Ret (kx n' W') R
        | some st' => ∀ W', frM sE lE V W' → W'.1 94 38 = nI 0 → stk W' st' → Ret (kx (nI st'.length) W') R) →
      Ret (f_X5_reckonAll_L10 T 94 (nI last) kx (N + 1) (nI st.length) (nI k) W) R := by
  intro N
  induction N with
  | zero => intro k st W res h; cases h
  | succ N ih =>
    intro k st W res h hk hs hf hb hst hc
    have hV' := hV.eq3 hf.2.2
    by_cases e : last ≤ k
    · rw [rn_end e] at h
      cases h
      simp (disch := omega) only [f_X5_reckonAll_L10, rq_t, drs, sp, pcs, cls, ↓reduceIte, not_true_eq_false, not_false_eq_true, and_true, true_and, and_false, false_and, or_true, true_or, or_false, false_or, eq_self, l0, l1, l2, l3, l4, l5, l6, l7, l8, l9, l10, l11, l12, l13, l14, l15, l16, l17, l18, l19, l20, l21, l22, l23, l24, l25, l26, l27, l28, l29, l30, l31, l32, l33, l34, l35, l36, l37, l40, l41, l42, l43, l45, l47, l48, l50, l57, l59, l60, l61, l62, l63, l85, l91, l93, l96, l97, l98, l99, l100, l120, l122, l146, l160, l165, l170, l178, l186, l198, l255, l400, l900, l948, l999, l1000, l2475, l2640, l2970, l3990, l9390, l18780, l19000, l999999, l1000000, l100000000, l2147483639, nI_add, pk_mul, ix_nI, leT, leF, ltT, ltF, eqT, eqF, nI_leI, nI_ltI, nI_eq, ngEq, ngEq', ngLt, ngLt', ngLe, ngLe', ngNg, nI_p, pk_sub, Nat.reduceAdd, Nat.reduceMul, Nat.reduceSub, uI1, uI2, uL1, uL2, uL3, uR1, uR2, uR3]
      exact hc W hf hb hst
    · have e' : k < last := by omega
      rw [rk_fetch hT hV' hl hr hf e' hb]
      obtain ⟨c1, c2, c3⟩ := hr.1 k e'
      by_cases o1 : (C k).1 < 20
      · rw [rn_go e' (st_leaf o1)] at h
        rw [rk_leaf hT hV' hl hr hf e' (by omega) o1]
        refine ih (k + 1) (_ :: st) _ res h (by omega) (by simp; omega) (hf.t frM_uL) hb ⟨?_, hst.kept ?_⟩ hc
        · rw [uL2, if_pos ⟨rfl, rfl⟩]
        · intro i hi
          rw [uL2, if_neg (by omega)]
      · cases st with
        | nil =>
          rw [rn, if_neg e, stM.eq_def, if_neg o1] at h
          cases h
        | cons a r =>
          by_cases o2 : (C k).1 < 28
          · cases r with
            | nil =>
              have : stM ord C v k [a] = none := by
                rw [stM.eq_def, if_neg o1]
                exact if_pos o2
              rw [rn, if_neg e, this] at h
              cases h
            | cons b r =>
              have q := st_two (ord := ord) (v := v) (a := b) (b := a) (r := r) (by omega : 20 ≤ (C k).1) o2
              simp only [List.length_cons] at hs ⊢
              refine rk_two hT hV' (by omega) o2 (by omega) (by omega) hb hst.2.1 hst.1 ?_
              intro W' f1 f2 f3
              cases hx : (op2 (C k).1 b a).bind bnd with
              | none =>
                rw [hx] at q f3
                rw [rn_br e' q] at h
                cases h
                dsimp only at f3
                have h38 : ¬ nI 1 = nI 0 := by decide
                by_cases w : last ≤ k + 1
                · simp (disch := omega) only [f_X5_reckonAll_L10, rq_t, drs, sp, pcs, cls, ↓reduceIte, not_true_eq_false, not_false_eq_true, and_true, true_and, and_false, false_and, or_true, true_or, or_false, false_or, eq_self, l0, l1, l2, l3, l4, l5, l6, l7, l8, l9, l10, l11, l12, l13, l14, l15, l16, l17, l18, l19, l20, l21, l22, l23, l24, l25, l26, l27, l28, l29, l30, l31, l32, l33, l34, l35, l36, l37, l40, l41, l42, l43, l45, l47, l48, l50, l57, l59, l60, l61, l62, l63, l85, l91, l93, l96, l97, l98, l99, l100, l120, l122, l146, l160, l165, l170, l178, l186, l198, l255, l400, l900, l948, l999, l1000, l2475, l2640, l2970, l3990, l9390, l18780, l19000, l999999, l1000000, l100000000, l2147483639, nI_add, pk_mul, ix_nI, leT, leF, ltT, ltF, eqT, eqF, nI_leI, nI_ltI, nI_eq, ngEq, ngEq', ngLt, ngLt', ngLe, ngLe', ngNg, nI_p, pk_sub, Nat.reduceAdd, Nat.reduceMul, Nat.reduceSub, uI1, uI2, uL1, uL2, uL3, uR1, uR2, uR3]
                  exact hc _ W' (hf.t f1) f3
                · simp (disch := omega) only [f_X5_reckonAll_L10, rq_t, drs, sp, pcs, cls, ↓reduceIte, not_true_eq_false, not_false_eq_true, and_true, true_and, and_false, false_and, or_true, true_or, or_false, false_or, eq_self, l0, l1, l2, l3, l4, l5, l6, l7, l8, l9, l10, l11, l12, l13, l14, l15, l16, l17, l18, l19, l20, l21, l22, l23, l24, l25, l26, l27, l28, l29, l30, l31, l32, l33, l34, l35, l36, l37, l40, l41, l42, l43, l45, l47, l48, l50, l57, l59, l60, l61, l62, l63, l85, l91, l93, l96, l97, l98, l99, l100, l120, l122, l146, l160, l165, l170, l178, l186, l198, l255, l400, l900, l948, l999, l1000, l2475, l2640, l2970, l3990, l9390, l18780, l19000, l999999, l1000000, l100000000, l2147483639, nI_add, pk_mul, ix_nI, leT, leF, ltT, ltF, eqT, eqF, nI_leI, nI_ltI, nI_eq, ngEq, ngEq', ngLt, ngLt', ngLe, ngLe', ngNg, nI_p, pk_sub, Nat.reduceAdd, Nat.reduceMul, Nat.reduceSub, uI1, uI2, uL1, uL2, uL3, uR1, uR2, uR3, f3]
                  exact hc _ W' (hf.t f1) f3
              | some x =>
                rw [hx] at q f3
                rw [rn_go e' q] at h
                exact ih (k + 1) (x :: r) W' res h (by omega) (by simp; omega) (hf.t f1) f3.1 ⟨f3.2, hst.2.2.kept f2⟩ hc
          · simp only [List.length_cons] at hs ⊢
            by_cases o3 : (C k).1 = 28
            · rw [rn_go e' (st_not o3)] at h
              rw [o3, rk_not hT hV' (by omega) (by omega)]
              refine ih (k + 1) (_ :: r) _ res h (by omega) (by simp; omega) (hf.t frM_uL) hb ⟨?_, hst.2.kept ?_⟩ hc
              · rw [uL2, if_pos ⟨rfl, rfl⟩, hst.1]
              · intro i hi
                rw [uL2, if_neg (by omega)]
            · have o4 : 29 ≤ (C k).1 := by omega
              obtain ⟨j1, j2⟩ := hj k e' o4
              have q := st_jmp (ord := ord) (C := C) (v := v) (k := k) (a := a) (r := r) o4
              rw [rk_jmp hT hV' o4 c1 (by omega) (by omega), hst.1]
              by_cases w : a = (if (C k).1 = 29 then 0 else 1)
              · rw [if_pos w] at q
                rw [rn_go e' q] at h
                rw [if_pos w]
                exact ih (C k).2 (a :: r) W res h j2 (by simp; omega) hf hb hst hc
              · rw [if_neg w] at q
                rw [rn_go e' q] at h
                rw [if_neg w]
                exact ih (k + 1) r W res h (by omega) (by omega) hf hb hst.2 hc
/-- what a piece of code tells: broken, or its value -/
theorem rk_all {T : Tt} {V : Vt} (hT : MT T) (hV : MV V) {ord : Bool} {C : Nat → Nat × Nat} {v : Vals} {i j : Nat} (hl : j ≤ 400) (hr : rdC T V ord C v j) (hj : ∀ k, k < j → 29 ≤ (C k).1 → k < (C k).2 ∧ (C k).2 ≤ j) {m : Sm} (hm : Seg ord C i j m) :
    Ret (f_X5_reckonAll T V 94 (nI i) (nI j)) fun W => frM sE (fun h k => h = 114 ∨ (h = 94 ∧ k = 39)) V W ∧ match m v with
      | none => W.1 94 38 = nI 1
      | some x => W.1 94 38 = nI 0 ∧ W.2.1 94 39 = x := by
  rw [f_X5_reckonAll, rq hT.1, sp]
  have hf0 : frM sE lE V (uI V 94 38 (nI 0)) := ⟨fun h j q => by rw [uI1, if_neg q], fun _ _ _ => rfl, rfl⟩
  have fin : ∀ (W : Vt) (n' : Int32), frM sE lE V W → Ret (f_X5_reckonAll_J313 T W 94 n') fun W' => frM sE (fun h k => h = 114 ∨ (h = 94 ∧ k = 39)) V W' ∧ W'.1 = W.1 ∧ (n' = nI 1 → W'.2.1 94 39 = W.2.1 114 0) := by
    intro W n' hf
    have hV := hV.eq3 hf.2.2
    have ff : ∀ x, frM sE (fun h k => h = 114 ∨ (h = 94 ∧ k = 39)) V (uL W 94 39 x) := fun x => ⟨hf.1, fun h j q => by rw [uL2, if_neg (fun w => q (Or.inr w))]; exact hf.2.1 h j fun w => q (Or.inl w), hf.2.2⟩
    rw [f_X5_reckonAll_J313]
    by_cases w : n' ≤ 0
    · rw [if_pos w]
      simp (disch := omega) only [f_X5_reckonAll_J328, rq_t, drs, sp, pcs, cls, ↓reduceIte, not_true_eq_false, not_false_eq_true, and_true, true_and, and_false, false_and, or_true, true_or, or_false, false_or, eq_self, l0, l1, l2, l3, l4, l5, l6, l7, l8, l9, l10, l11, l12, l13, l14, l15, l16, l17, l18, l19, l20, l21, l22, l23, l24, l25, l26, l27, l28, l29, l30, l31, l32, l33, l34, l35, l36, l37, l40, l41, l42, l43, l45, l47, l48, l50, l57, l59, l60, l61, l62, l63, l85, l91, l93, l96, l97, l98, l99, l100, l120, l122, l146, l160, l165, l170, l178, l186, l198, l255, l400, l900, l948, l999, l1000, l2475, l2640, l2970, l3990, l9390, l18780, l19000, l999999, l1000000, l100000000, l2147483639, nI_add, pk_mul, ix_nI, leT, leF, ltT, ltF, eqT, eqF, nI_leI, nI_ltI, nI_eq, ngEq, ngEq', ngLt, ngLt', ngLe, ngLe', ngNg, nI_p, pk_sub, Nat.reduceAdd, Nat.reduceMul, Nat.reduceSub, uI1, uI2, uL1, uL2, uL3, uR1, uR2, uR3, rq_eq (MT0 hT), rq95 hT, rf2 hV, rq96 hT, rf3 hV, rq97 hT, rf4 hV, rq98 hT, rf5 hV, rq99 hT, rf6 hV, rq100 hT, rf7 hV, rq101 hT, rf9 hV, rq102 hT, rf10 hV, rq103 hT, rf12 hV, rq104 hT, rf22 hV, rq105 hT, rf24 hV, rq106 hT, rf25 hV, rq107 hT, rf27 hV, rq108 hT, rf28 hV, rq109 hT, rf31 hV, rq110 hT, rf32 hV, rq111 hT, rf33 hV, rq112 hT, rf35 hV, rq113 hT, rf36 hV, rq114 hT, rf37 hV, rq115 hT, rf41 hV, rq116 hT, rf44 hV, rq117 hT, rf45 hV, rq118 hT, rf51 hV, rq119 hT, rf53 hV]
      exact Ret.ok ⟨ff _, rfl, fun q => absurd w (by rw [q]; decide)⟩
    · rw [if_neg w]
      simp (disch := omega) only [f_X5_reckonAll_J328, rq_t, drs, sp, pcs, cls, ↓reduceIte, not_true_eq_false, not_false_eq_true, and_true, true_and, and_false, false_and, or_true, true_or, or_false, false_or, eq_self, l0, l1, l2, l3, l4, l5, l6, l7, l8, l9, l10, l11, l12, l13, l14, l15, l16, l17, l18, l19, l20, l21, l22, l23, l24, l25, l26, l27, l28, l29, l30, l31, l32, l33, l34, l35, l36, l37, l40, l41, l42, l43, l45, l47, l48, l50, l57, l59, l60, l61, l62, l63, l85, l91, l93, l96, l97, l98, l99, l100, l120, l122, l146, l160, l165, l170, l178, l186, l198, l255, l400, l900, l948, l999, l1000, l2475, l2640, l2970, l3990, l9390, l18780, l19000, l999999, l1000000, l100000000, l2147483639, nI_add, pk_mul, ix_nI, leT, leF, ltT, ltF, eqT, eqF, nI_leI, nI_ltI, nI_eq, ngEq, ngEq', ngLt, ngLt', ngLe, ngLe', ngNg, nI_p, pk_sub, Nat.reduceAdd, Nat.reduceMul, Nat.reduceSub, uI1, uI2, uL1, uL2, uL3, uR1, uR2, uR3, rq_eq (MT0 hT), rq95 hT, rf2 hV, rq96 hT, rf3 hV, rq97 hT, rf4 hV, rq98 hT, rf5 hV, rq99 hT, rf6 hV, rq100 hT, rf7 hV, rq101 hT, rf9 hV, rq102 hT, rf10 hV, rq103 hT, rf12 hV, rq104 hT, rf22 hV, rq105 hT, rf24 hV, rq106 hT, rf25 hV, rq107 hT, rf27 hV, rq108 hT, rf28 hV, rq109 hT, rf31 hV, rq110 hT, rf32 hV, rq111 hT, rf33 hV, rq112 hT, rf35 hV, rq113 hT, rf36 hV, rq114 hT, rf37 hV, rq115 hT, rf41 hV, rq116 hT, rf44 hV, rq117 hT, rf45 hV, rq118 hT, rf51 hV, rq119 hT, rf53 hV]
      exact Ret.ok ⟨ff _, rfl, fun _ => by rw [uL2, if_pos ⟨rfl, rfl⟩]⟩
  cases hmv : m v with
  | none =>
    refine rk_run hT hV hl hr hj 99999 i [] (uI V 94 38 (nI 0)) none ?_ (by have := hm.1; omega) (by simp) hf0 (by rw [uI1, if_pos ⟨rfl, rfl⟩]) trivial ?_
    · obtain ⟨N2, e3, e4⟩ := hm.2 v j 99999 [] (Nat.le_refl _) (by omega)
      rw [hmv] at e4
      exact e4
    · intro n' W' f1 f2
      exact (fin W' n' f1).im fun U ⟨g1, g2, g3⟩ => ⟨g1, by rw [g2]; exact f2⟩
  | some x =>
    refine rk_run hT hV hl hr hj 99999 i [] (uI V 94 38 (nI 0)) (some [x]) ?_ (by have := hm.1; omega) (by simp) hf0 (by rw [uI1, if_pos ⟨rfl, rfl⟩]) trivial ?_
    · obtain ⟨N2, e3, e4⟩ := hm.2 v j 99999 [] (Nat.le_refl _) (by omega)
      rw [hmv] at e4
      obtain ⟨N2, rfl⟩ : ∃ n, N2 = n + 1 := ⟨N2 - 1, by omega⟩
      exact e4.trans (rn_end (Nat.le_refl _))
    · intro W' f1 f2 f3
      exact (fin W' _ f1).im fun U ⟨g1, g2, g3⟩ => ⟨g1, by rw [g2]; exact f2, by rw [g3 rfl]; exact f3.1⟩
