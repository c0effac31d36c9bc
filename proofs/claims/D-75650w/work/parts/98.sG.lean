/-! 98: images, the model -/
set_option maxRecDepth 100000
theorem m_backL {T : Tt} {V : Vt} (hT : MT T) (hV : MV V) {k : Nat} (hk : k < 2) {kx : Vt → Option (Int32 × Vt)} {R : Int32 × Vt → Prop}
    (hR : ∀ W, frI (fun c _ => c = 96) V W → (∀ j, j < 9390 → W.1 96 j = V.1 97 (9390 * k + j)) → Ret (kx W) R) : Ret (f_X5_back_L39 T 94 (nI k) kx fuel (nI 0) V) R := by
  refine lq2 (f_X5_back_L39 T 94 (nI k) kx) (fun i z W => z = nI i ∧ frI (fun c _ => c = 96) V W ∧ ∀ j, j < i → W.1 96 j = V.1 97 (9390 * k + j)) 9390 ?_ ?_ fuel _ _ (by decide) ⟨rfl, frI.mk (fun _ _ _ => rfl) rfl, fun j hj => absurd hj (by omega)⟩
  · intro i N z W hi ⟨q1, q2, q3⟩ ih
    subst q1
    have hV := hV.eq q2.2
    have e1 : W.1 97 (9390 * k + i) = V.1 97 (9390 * k + i) := q2.1 _ _ (by omega)
    simp (disch := omega) only [f_X5_back_L39, rq_t, drs, sp, pcs, cls, ↓reduceIte, not_true_eq_false, not_false_eq_true, and_true, true_and, and_false, false_and, or_true, true_or, or_false, false_or, eq_self, l0, l1, l2, l3, l4, l5, l6, l7, l8, l9, l10, l11, l12, l13, l14, l15, l16, l17, l18, l19, l20, l21, l22, l23, l24, l25, l26, l27, l28, l29, l30, l31, l32, l33, l34, l35, l36, l37, l40, l41, l42, l43, l45, l47, l48, l50, l57, l59, l60, l61, l62, l63, l85, l91, l93, l96, l97, l98, l99, l100, l120, l122, l146, l160, l165, l170, l178, l186, l198, l255, l400, l900, l948, l999, l1000, l2475, l2640, l2970, l3990, l9390, l18780, l19000, l999999, l1000000, l100000000, l2147483639, nI_add, pk_mul, ix_nI, leT, leF, ltT, ltF, eqT, eqF, nI_leI, nI_ltI, nI_eq, ngEq, ngEq', ngLt, ngLt', ngLe, ngLe', ngNg, nI_p, pk_sub, Nat.reduceAdd, Nat.reduceMul, Nat.reduceSub, uI1, uI2, uL1, uL2, uL3, uR1, uR2, uR3, rq_eq (MT0 hT), rq95 hT, rf2 hV, rq96 hT, rf3 hV, rq97 hT, rf4 hV, rq98 hT, rf5 hV, rq99 hT, rf6 hV, rq100 hT, rf7 hV, rq101 hT, rf9 hV, rq102 hT, rf10 hV, rq103 hT, rf12 hV, rq104 hT, rf22 hV, rq105 hT, rf24 hV, rq106 hT, rf25 hV, rq107 hT, rf27 hV, rq108 hT, rf28 hV, rq109 hT, rf31 hV, rq110 hT, rf32 hV, rq111 hT, rf33 hV, rq112 hT, rf35 hV, rq113 hT, rf36 hV, rq114 hT, rf37 hV, rq115 hT, rf41 hV, rq116 hT, rf44 hV, rq117 hT, rf45 hV, rq118 hT, rf51 hV, rq119 hT, rf53 hV, e1]
    refine ih _ _ ⟨rfl, frI.mk (fun h j q => ?_) q2.2, fun j hj => ?_⟩
    · rw [uI1, if_neg (fun w => q w.1)]
      exact q2.1 h j q
    · rw [uI1]
      by_cases e : j = i
      · rw [if_pos ⟨rfl, e⟩, e]
      · rw [if_neg (fun w => e w.2)]
        exact q3 j (by omega)
  · intro N z W ⟨q1, q2, q3⟩
    subst q1
    simp (disch := omega) only [f_X5_back_L39, rq_t, drs, sp, pcs, cls, ↓reduceIte, not_true_eq_false, not_false_eq_true, and_true, true_and, and_false, false_and, or_true, true_or, or_false, false_or, eq_self, l0, l1, l2, l3, l4, l5, l6, l7, l8, l9, l10, l11, l12, l13, l14, l15, l16, l17, l18, l19, l20, l21, l22, l23, l24, l25, l26, l27, l28, l29, l30, l31, l32, l33, l34, l35, l36, l37, l40, l41, l42, l43, l45, l47, l48, l50, l57, l59, l60, l61, l62, l63, l85, l91, l93, l96, l97, l98, l99, l100, l120, l122, l146, l160, l165, l170, l178, l186, l198, l255, l400, l900, l948, l999, l1000, l2475, l2640, l2970, l3990, l9390, l18780, l19000, l999999, l1000000, l100000000, l2147483639, nI_add, pk_mul, ix_nI, leT, leF, ltT, ltF, eqT, eqF, nI_leI, nI_ltI, nI_eq, ngEq, ngEq', ngLt, ngLt', ngLe, ngLe', ngNg, nI_p, pk_sub, Nat.reduceAdd, Nat.reduceMul, Nat.reduceSub, uI1, uI2, uL1, uL2, uL3, uR1, uR2, uR3]
    exact hR W q2 q3
theorem m_imageL {T : Tt} {V : Vt} (hT : MT T) (hV : MV V) {k : Nat} (hk : k < 2) {kx : Vt → Option (Int32 × Vt)} {R : Int32 × Vt → Prop}
    (hR : ∀ W, frI (fun c j => c = 97 ∧ 9390 * k ≤ j ∧ j < 9390 * k + 9390) V W → (∀ j, j < 9390 → W.1 97 (9390 * k + j) = V.1 96 j) → Ret (kx W) R) : Ret (f_X5_image_L23 T 94 (nI k) kx fuel (nI 0) V) R := by
  refine lq2 (f_X5_image_L23 T 94 (nI k) kx) (fun i z W => z = nI i ∧ frI (fun c j => c = 97 ∧ 9390 * k ≤ j ∧ j < 9390 * k + 9390) V W ∧ ∀ j, j < i → W.1 97 (9390 * k + j) = V.1 96 j) 9390 ?_ ?_ fuel _ _ (by decide) ⟨rfl, frI.mk (fun _ _ _ => rfl) rfl, fun j hj => absurd hj (by omega)⟩
  · intro i N z W hi ⟨q1, q2, q3⟩ ih
    subst q1
    have hV := hV.eq q2.2
    have e1 : W.1 96 i = V.1 96 i := q2.1 _ _ (by omega)
    simp (disch := omega) only [f_X5_image_L23, rq_t, drs, sp, pcs, cls, ↓reduceIte, not_true_eq_false, not_false_eq_true, and_true, true_and, and_false, false_and, or_true, true_or, or_false, false_or, eq_self, l0, l1, l2, l3, l4, l5, l6, l7, l8, l9, l10, l11, l12, l13, l14, l15, l16, l17, l18, l19, l20, l21, l22, l23, l24, l25, l26, l27, l28, l29, l30, l31, l32, l33, l34, l35, l36, l37, l40, l41, l42, l43, l45, l47, l48, l50, l57, l59, l60, l61, l62, l63, l85, l91, l93, l96, l97, l98, l99, l100, l120, l122, l146, l160, l165, l170, l178, l186, l198, l255, l400, l900, l948, l999, l1000, l2475, l2640, l2970, l3990, l9390, l18780, l19000, l999999, l1000000, l100000000, l2147483639, nI_add, pk_mul, ix_nI, leT, leF, ltT, ltF, eqT, eqF, nI_leI, nI_ltI, nI_eq, ngEq, ngEq', ngLt, ngLt', ngLe, ngLe', ngNg, nI_p, pk_sub, Nat.reduceAdd, Nat.reduceMul, Nat.reduceSub, uI1, uI2, uL1, uL2, uL3, uR1, uR2, uR3, rq_eq (MT0 hT), rq95 hT, rf2 hV, rq96 hT, rf3 hV, rq97 hT, rf4 hV, rq98 hT, rf5 hV, rq99 hT, rf6 hV, rq100 hT, rf7 hV, rq101 hT, rf9 hV, rq102 hT, rf10 hV, rq103 hT, rf12 hV, rq104 hT, rf22 hV, rq105 hT, rf24 hV, rq106 hT, rf25 hV, rq107 hT, rf27 hV, rq108 hT, rf28 hV, rq109 hT, rf31 hV, rq110 hT, rf32 hV, rq111 hT, rf33 hV, rq112 hT, rf35 hV, rq113 hT, rf36 hV, rq114 hT, rf37 hV, rq115 hT, rf41 hV, rq116 hT, rf44 hV, rq117 hT, rf45 hV, rq118 hT, rf51 hV, rq119 hT, rf53 hV, e1]
    refine ih _ _ ⟨rfl, frI.mk (fun h j q => ?_) q2.2, fun j hj => ?_⟩
    · rw [uI1, if_neg (fun w => q ⟨w.1, by omega⟩)]
      exact q2.1 h j q
    · rw [uI1]
      by_cases e : j = i
      · rw [if_pos ⟨rfl, by omega⟩, e]
      · rw [if_neg (fun w => e (by omega))]
        exact q3 j (by omega)
  · intro N z W ⟨q1, q2, q3⟩
    subst q1
    simp (disch := omega) only [f_X5_image_L23, rq_t, drs, sp, pcs, cls, ↓reduceIte, not_true_eq_false, not_false_eq_true, and_true, true_and, and_false, false_and, or_true, true_or, or_false, false_or, eq_self, l0, l1, l2, l3, l4, l5, l6, l7, l8, l9, l10, l11, l12, l13, l14, l15, l16, l17, l18, l19, l20, l21, l22, l23, l24, l25, l26, l27, l28, l29, l30, l31, l32, l33, l34, l35, l36, l37, l40, l41, l42, l43, l45, l47, l48, l50, l57, l59, l60, l61, l62, l63, l85, l91, l93, l96, l97, l98, l99, l100, l120, l122, l146, l160, l165, l170, l178, l186, l198, l255, l400, l900, l948, l999, l1000, l2475, l2640, l2970, l3990, l9390, l18780, l19000, l999999, l1000000, l100000000, l2147483639, nI_add, pk_mul, ix_nI, leT, leF, ltT, ltF, eqT, eqF, nI_leI, nI_ltI, nI_eq, ngEq, ngEq', ngLt, ngLt', ngLe, ngLe', ngNg, nI_p, pk_sub, Nat.reduceAdd, Nat.reduceMul, Nat.reduceSub, uI1, uI2, uL1, uL2, uL3, uR1, uR2, uR3]
    exact hR W q2 q3
theorem mCf.row {W : Vt} {f : Nat → Int32} {g : Cfg} (q : mCf (rowV f) g) (hg : okG g) (e : ∀ j, j < 9390 → W.1 96 j = f j) : mCf W g := q.fr9 hg fun j h _ _ _ => e j h
theorem mTb.row {W : Vt} {f : Nat → Int32} {t : Tab} (q : mTb (rowV f) t) (e : ∀ j, j < 9390 → W.1 96 j = f j) : mTb W t := ⟨fun k hk => (e _ (by omega)).trans (q.D k hk), (e _ (by omega)).trans q.b, (e _ (by omega)).trans q.y⟩
theorem mCf.to {V : Vt} {f : Nat → Int32} {g : Cfg} (q : mCf V g) (hg : okG g) (e : ∀ j, j < 9390 → f j = V.1 96 j) : mCf (rowV f) g := q.fr9 hg fun j h _ _ _ => e j h
theorem mTb.to {V : Vt} {f : Nat → Int32} {t : Tab} (q : mTb V t) (e : ∀ j, j < 9390 → f j = V.1 96 j) : mTb (rowV f) t := ⟨fun k hk => (e _ (by omega)).trans (q.D k hk), (e _ (by omega)).trans q.b, (e _ (by omega)).trans q.y⟩
theorem m_back {T : Tt} {V : Vt} (hT : MT T) {a : St} (h : MR V a) (ok : OK a) {k : Int32} : mOp (f_X5_back T V 94 k) V (rBack a k) (oBack a k) := by
  have h := h.s0 ok.g (j := 0) (v := 0) (by omega)
  rw [f_X5_back, rq hT.1, sp]
  refine mOp.fr (W := uI V 94 0 0) (mF_uI (by omega)) ?_
  generalize uI V 94 0 0 = V at h ⊢
  rw [pc m_inI, rBack, oBack, show (0 : Int64).toInt = 0 from rfl, show (1 : Int64).toInt = 1 from rfl]
  simp only [b1_0, cal_id]
  cases h1 : iN k 0 1 with
  | false => exact m_tellNo (w := 1) hT h ok.g (by omega) (by omega)
  | true =>
    obtain ⟨i, rfl, w1, w2, w3⟩ := iN_of h1 (by omega)
    have hi2 : i < 2 := by omega
    have hi := h.im i hi2
    rw [if_neg (by decide), if_pos rfl, if_pos rfl, dr (rf5 h.hV), rq98 hT hi2]
    simp only [ix_nI w3]
    cases hm : a.im i with
    | none =>
      rw [hm] at hi
      have hi : V.1 98 i = nI 0 := hi
      rw [if_pos (show V.1 98 i = (0 : Int32) from hi)]
      exact m_tellNo (w := 2) hT h ok.g (by omega) (by omega)
    | some gt =>
      rw [hm] at hi
      obtain ⟨r98, im1, im2⟩ := hi
      have okm := ok.im i gt.1 gt.2 hi2 hm
      rw [if_neg (by rw [r98]; decide)]
      refine m_backL hT h.hV hi2 fun W f q => ?_
      rw [f_X5_lasting, rq hT.1, if_pos (by decide), f_X5_lasting_J13, rq hT.1, sp, cal_id]
      have e : ∀ c j, ¬ (c = 96 ∨ (c = 94 ∧ j = 8)) → (uI W 94 8 (0 : Int32)).1 c j = V.1 c j := fun c j z => by rw [uI1, if_neg (by omega), f.1 _ _ (by omega)]
      have eq96 : ∀ j, j < 9390 → (uI W 94 8 (0 : Int32)).1 96 j = V.1 97 (9390 * i + j) := fun j hj => by rw [uI1, if_neg (by omega)]; exact q j hj
      have el : (uI W 94 8 (0 : Int32)).2 = V.2 := by rw [uI2, f.2]
      have h2 : MR (uI W 94 8 (0 : Int32)) (((a.wg gt.1).wt gt.2).wu (u0 a.u)) := h.up (b := ((a.wg gt.1).wt gt.2).wu (u0 a.u)) (by rw [el]) (fun c j z => e _ _ (by omega)) (fun c j z => by rw [el]) rfl (im1.row okm.1 eq96) (im2.row eq96) ⟨by rw [uI1, if_pos ⟨rfl, rfl⟩]; rfl, Nat.zero_le _, fun k hk => absurd hk (Nat.not_lt_zero _), fun k hk => absurd hk (Nat.not_lt_zero _)⟩ ((e _ _ (by omega)).trans h.st) (fun i hi => (e _ _ (by omega)).trans (h.rf i hi)) ((e _ _ (by omega)).trans h.od) ((e _ _ (by omega)).trans h.tn) (fun i hi => (e _ _ (by omega)).trans (h.tp i hi)) ((e _ _ (by omega)).trans h.fa) ((e _ _ (by omega)).trans h.le) ((e _ _ (by omega)).trans h.so) ((e _ _ (by omega)).trans h.dm) (fun i hi q => (e _ _ (by omega)).trans (h.dd i hi q))
      have fV : mFr V (uI W 94 8 (0 : Int32)) := ⟨fun c j z => e _ _ (by omega), fun c j z => by rw [el], by rw [el]⟩
      exact mOp.fr fV (m_tell hT h2 okm.1 (v := 0) (by decide))
def rImg (k : Int32) : Int32 := if iN k 0 1 = true then nI 0 else -nI 1
def imN (a : St) (i : Nat) : Nat → Option (Cfg × Tab) := fun j => if j = i then some (a.g, a.t) else a.im j
def oImg (a : St) (k : Int32) : St := if iN k 0 1 = true then (a.wim (imN a (ixN k))).wst (nI 0) else a.ref 1
theorem OK.img {a : St} (ok : OK a) {k : Int32} : OK (oImg a k) := by
  rw [oImg]
  split
  · refine OK.mk ⟨ok.g, ok.t, ok.y, ok.u, ok.ul, fun j h b hj e => ?_, ok.tn, ok.tp, ok.dm⟩
    have e : (if j = ixN k then some (a.g, a.t) else a.im j) = some (h, b) := e
    split at e
    · cases e
      exact ⟨ok.g, ok.t, ok.y⟩
    · exact ok.im j h b hj e
  · exact ok.ref
theorem MR.imW {V W : Vt} {a : St} (h : MR V a) (og : okG a.g) (e : ∀ c j, ¬ (c = 97 ∨ c = 98) → W.1 c j = V.1 c j) (el : W.2 = V.2) {im' : Nat → Option (Cfg × Tab)} (hi : ∀ k, k < 2 → match im' k with | none => W.1 98 k = nI 0 | some gt => W.1 98 k = nI 1 ∧ mCf (rowV fun j => W.1 97 (9390 * k + j)) gt.1 ∧ mTb (rowV fun j => W.1 97 (9390 * k + j)) gt.2) : MR W (a.wim im') := by
  refine MR.mk ⟨h.hV.eq3 (by rw [el]), (h.mf.fr og (fun j _ _ _ => e _ _ (by omega))), (h.mt.fr (fun j => e _ _ (by omega))), (h.mu.fr (fun c j q => e _ _ (by omega))), ((e _ _ (by omega)).trans h.st), (fun i hi => (e _ _ (by omega)).trans (h.rf i hi)), ((e _ _ (by omega)).trans h.od), ((e _ _ (by omega)).trans h.tn), (fun i hi => (e _ _ (by omega)).trans (h.tp i hi)), ((e _ _ (by omega)).trans h.fa), ((e _ _ (by omega)).trans h.le), ((e _ _ (by omega)).trans h.so), ((e _ _ (by omega)).trans h.dm), (fun i hi q => (e _ _ (by omega)).trans (h.dd i hi q)), hi, ?_⟩
  have hk := h.kw
  unfold mK at *
  rw [el]
  exact hk
theorem m_image {T : Tt} {V : Vt} (hT : MT T) {a : St} (h : MR V a) (ok : OK a) {k : Int32} : mOp (f_X5_image T V 94 k) V (rImg k) (oImg a k) := by
  have h := h.s0 ok.g (j := 0) (v := 0) (by omega)
  rw [f_X5_image, rq hT.1, sp]
  refine mOp.fr (W := uI V 94 0 0) (mF_uI (by omega)) ?_
  generalize uI V 94 0 0 = V at h ⊢
  rw [pc m_inI, rImg, oImg, show (0 : Int64).toInt = 0 from rfl, show (1 : Int64).toInt = 1 from rfl]
  simp only [b1_0, cal_id]
  cases h1 : iN k 0 1 with
  | false => exact m_tellNo (w := 1) hT h ok.g (by omega) (by omega)
  | true =>
    obtain ⟨i, rfl, w1, w2, w3⟩ := iN_of h1 (by omega)
    have hi2 : i < 2 := by omega
    rw [if_neg (by decide), if_pos rfl, if_pos rfl]
    refine m_imageL hT h.hV hi2 fun W f q => ?_
    have hV' := h.hV.eq f.2
    rw [dr (rf5 hV'), rq98 hT hi2, rq (by decide), sp]
    simp only [ix_nI w3]
    have e : ∀ c j, ¬ (c = 97 ∨ c = 98) → (uI W 98 i (1 : Int32)).1 c j = V.1 c j := fun c j z => by rw [uI1, if_neg (by omega), f.1 _ _ (by omega)]
    have el : (uI W 98 i (1 : Int32)).2 = V.2 := by rw [uI2, f.2]
    have h2 : MR (uI W 98 i (1 : Int32)) (a.wim (imN a i)) := by
      refine h.imW ok.g e el fun k hk => ?_
      by_cases w : k = i
      · subst w
        have en : imN a k k = some (a.g, a.t) := if_pos rfl
        rw [en]
        refine ⟨by rw [uI1, if_pos ⟨rfl, rfl⟩]; rfl, h.mf.to ok.g fun j hj => ?_, h.mt.to fun j hj => ?_⟩
        · rw [uI1, if_neg (by omega)]
          exact q j hj
        · rw [uI1, if_neg (by omega)]
          exact q j hj
      · have en : imN a i k = a.im k := if_neg w
        have hk' := h.im k hk
        have e98 : (uI W 98 i (1 : Int32)).1 98 k = V.1 98 k := by rw [uI1, if_neg (fun z => w z.2), f.1 _ _ (by omega)]
        rw [en]
        cases hm : a.im k with
        | none =>
          rw [hm] at hk'
          exact e98.trans hk'
        | some gt =>
          rw [hm] at hk'
          have okm := ok.im k gt.1 gt.2 hk hm
          have er : ∀ j, j < 9390 → (uI W 98 i (1 : Int32)).1 97 (9390 * k + j) = V.1 97 (9390 * k + j) := fun j hj => by rw [uI1, if_neg (by omega), f.1 _ _ (by omega)]
          exact ⟨e98.trans hk'.1, hk'.2.1.fr9 okm.1 fun j hj _ _ _ => er j hj, ⟨fun k hk => (er _ (by omega)).trans (hk'.2.2.D k hk), (er _ (by omega)).trans hk'.2.2.b, (er _ (by omega)).trans hk'.2.2.y⟩⟩
    have fV : mFr V (uI W 98 i (1 : Int32)) := ⟨fun c j z => e _ _ (by omega), fun c j z => by rw [el], by rw [el]⟩
    exact mOp.fr fV (m_tell hT h2 ok.g (v := 0) (by decide))
