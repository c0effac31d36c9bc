/-! 98: a year by the plan that is loaded, the model -/
set_option maxRecDepth 100000
theorem m_onceL {T : Tt} {V : Vt} {g : Cfg} {p : Pl} {C : Nat → Nat × Nat} {nc : Nat} {s : Pp} {d e : Nat} (h : mPr T V g p C nc s) (hq : okQ g s d e) (hd : d ≤ 1000000) {i : Nat} (hi : i < p.1) (ok : okO (p.2 i)) (h3 : (p.2 i).1 < 3) {t : Nat} {x1 : Int32} {kc17 : Int32 → Vt → Option (Vt)} {kx17 : Vt → Option (Vt)} {kc32 : Int32 → Vt → Option (Vt)} {kx32 : Vt → Option (Vt)} {R : Vt → Prop}
    (hR : ∀ W, frM sMp lMp V W → mPr T W g p C nc (pOnce g s (p.2 i)) → Ret (kc32 (nI (t + 1)) W) R) :
    Ret (cal (f_X5_isAsked T V 94 (nI (10 * i))) (fun z13 U14 => if z13 = 0 then (f_X5_planYear_J76 T U14 94 x1 (nI (10 * i)) (nI t) kc17 kx17 kc32 kx32) else (cal (f_X5_planOnce T U14 94 (nI (10 * i))) (fun z18 U19 => if 0 ≤ z18 then (f_X5_planYear_J76 T U19 94 x1 (nI (10 * i)) (nI t) kc17 kx17 kc32 kx32) else (stp (uI U19 94 50 (1 : Int32)) (fun U21 => f_X5_planYear_J76 T U21 94 x1 (nI (10 * i)) (nI t) kc17 kx17 kc32 kx32)))))) R := by
  have j76 : ∀ X, f_X5_planYear_J76 T X 94 x1 (nI (10 * i)) (nI t) kc17 kx17 kc32 kx32 = kc32 (nI (t + 1)) X := fun X => by rw [f_X5_planYear_J76, show nI t + (1 : Int32) = nI (t + 1) from nI_add _ _, sp]
  refine Ret.c (m_isAsked h.h h.dn h.lt h.od h.ld hi) ?_
  intro z W ⟨c1, f, w49, w20, wn⟩
  dsimp only at c1 f w49 w20 wn
  subst c1
  have fW : frM sMp lMp V W := f.mono (fun c j w => by omega) (fun c j w => by omega)
  have hW : mPr T W g p C nc s := h.aft fW (fun _ _ w => w) hq.b (h.h.mt.fr fun j => f.1 _ _ (by omega)) ((f.1 _ _ (by omega)).trans h.dn) ((f.1 _ _ (by omega)).trans h.lt) ((f.1 _ _ (by omega)).trans h.sk) ((f.1 _ _ (by omega)).trans h.yl) ((f.1 _ _ (by omega)).trans h.lm) w20
  rw [show vO g s.b (nI s.dn) s.lt = vP g s from rfl]
  by_cases w : nowO (p.2 i) (vP g s) = true
  · have ep : pOnce g s (p.2 i) = pAct g s (p.2 i) (vP g s) := by rw [pOnce, if_pos w]
    rw [ep] at hR
    rw [w, if_neg (by decide)]
    refine Ret.c (m_planOnce hW hq hd wn w49 hi ok h3) ?_
    intro z X ⟨c1, f2, hX⟩
    dsimp only at c1 f2 hX
    subst c1
    have okA := hq.act h.h.g h3 (v := vP g s) (o := p.2 i)
    by_cases w2 : whyO g s.b (p.2 i) (vP g s) = 0
    · rw [if_pos w2, if_pos (by decide), j76]
      have esk : (pAct g s (p.2 i) (vP g s)).sk = s.sk := by rw [pAct_sk, if_pos w2]
      rw [← esk] at hX
      exact hR X (fW.t f2) hX
    · have esk : (pAct g s (p.2 i) (vP g s)).sk = true := by rw [pAct_sk, if_neg w2]
      rw [if_neg w2, if_neg (by decide), sp, j76]
      have fX : frM sMp lMp X (uI X 94 50 (1 : Int32)) := ⟨fun c j z => by rw [uI1, if_neg (by omega)], fun _ _ _ => rfl, rfl⟩
      have u : ∀ c j, ¬ (c = 94 ∧ j = 50) → (uI X 94 50 (1 : Int32)).1 c j = X.1 c j := fun c j z => by rw [uI1, if_neg z]
      refine hR _ ((fW.t f2).t fX) (hX.aft fX (fun _ _ z => z) okA.b (hX.h.mt.fr fun j => u _ _ (by omega)) ((u _ _ (by omega)).trans hX.dn) ((u _ _ (by omega)).trans hX.lt) ?_ ((u _ _ (by omega)).trans hX.yl) ((u _ _ (by omega)).trans hX.lm) ((u _ _ (by omega)).trans hX.od))
      rw [esk, uI1, if_pos ⟨rfl, rfl⟩]
      rfl
  · have w' : nowO (p.2 i) (vP g s) = false := by cases hn : nowO (p.2 i) (vP g s) <;> simp_all
    have ep : pOnce g s (p.2 i) = s := by rw [pOnce, if_neg w]
    rw [ep] at hR
    rw [w', if_pos (by decide), j76]
    exact hR W fW hW
theorem m_ordL {T : Tt} {V : Vt} {g : Cfg} {p : Pl} {C : Nat → Nat × Nat} {nc : Nat} {s : Pp} {d e : Nat} (h : mPr T V g p C nc s) (hq : okQ g s d e) (hd : d ≤ 1000) {i : Nat} (hi : i < p.1) (ok : okO (p.2 i)) {x1 : Int32} {kc17 : Int32 → Vt → Option (Vt)} {kx17 : Vt → Option (Vt)} {kx32 : Vt → Option (Vt)} {R : Vt → Prop}
    (hR : ∀ W, frM sMp lMp V W → mPr T W g p C nc (pOd g s (p.2 i)) → Ret (kx32 W) R) :
    Ret (f_X5_planYear_L32 T 94 x1 (nI (10 * i)) kc17 kx17 kx32 fuel (nI 0) V) R := by
  have hT := h.h.T
  have o4 := ok.1
  have hb12 := h.ld.b
  have h20 := ok.2.2.2.2.1
  have h01 := ok.2.2.2.1
  have e9 : ∀ W, mLd W p C nc → W.1 117 (ixN (nI (10 * i + 9))) = nI (p.2 i).2.2.1 := fun W q => by
    rw [ix_nI (by omega)]
    exact (q.o i hi).2.1
  have e0 : ∀ W, mLd W p C nc → W.1 117 (ixN (nI (10 * i))) = nI (p.2 i).1 := fun W q => by
    rw [ix_nI (by omega)]
    exact (q.o i hi).1
  rw [pOd] at hR
  by_cases q3 : (p.2 i).1 = 3
  · rw [if_pos q3] at hR
    show Ret (f_X5_planYear_L32 T 94 x1 (nI (10 * i)) kc17 kx17 kx32 (99999 + 1) (nI 0) V) R
    rw [f_X5_planYear_L32, dr (rf45 h.h.V), l9, nI_add, rq117 hT (by omega), e9 V h.ld, if_neg (nI_ge (by omega) (by omega)), dr (rf45 h.h.V), rq117 hT (by omega), e0 V h.ld, q3, if_pos (by decide)]
    exact hR V frM.rfl' h
  · rw [if_neg q3] at hR
    refine lq2 (f_X5_planYear_L32 T 94 x1 (nI (10 * i)) kc17 kx17 kx32) (fun t c W => c = nI t ∧ frM sMp lMp V W ∧ mPr T W g p C nc (pIt g (p.2 i) s t)) (p.2 i).2.2.1 ?_ ?_ fuel _ _ (Nat.lt_of_le_of_lt h20 (by decide)) ⟨rfl, frM.rfl', h⟩
    · intro t N c W ht ⟨q1, q2, q4⟩ ih
      subst q1
      rw [f_X5_planYear_L32, dr (rf45 q4.h.V), l9, nI_add, rq117 hT (by omega), e9 W q4.ld, if_neg (nI_ge ht (by omega)), dr (rf45 q4.h.V), rq117 hT (by omega), e0 W q4.ld, if_neg (by rw [l3, nI_eq (by omega) (by omega)]; exact q3)]
      refine m_onceL q4 (hq.it h.h.g (by omega) t) (by omega) hi ok (by omega) fun X fX hX => ?_
      exact ih _ _ ⟨rfl, q2.t fX, hX⟩
    · intro N c W ⟨q1, q2, q4⟩
      subst q1
      rw [f_X5_planYear_L32, dr (rf45 q4.h.V), l9, nI_add, rq117 hT (by omega), e9 W q4.ld, if_pos (nI_le (Nat.le_refl _) (by omega))]
      exact hR W q2 q4
theorem m_yearL {T : Tt} {V : Vt} {g : Cfg} {p : Pl} {C : Nat → Nat × Nat} {nc : Nat} {s : Pp} {e : Nat} (h : mPr T V g p C nc s) (hq : okQ g s 0 e) (ok : okP p) {kx : Vt → Option (Vt)} {R : Vt → Prop}
    (hR : ∀ W, frM sMp lMp V W → mPr T W g p C nc (pYrI g p s p.1) → Ret (kx W) R) :
    Ret (f_X5_planYear_L17 T 94 kx fuel (nI 0) V) R := by
  have h12 := ok.1
  refine lq2 (f_X5_planYear_L17 T 94 kx) (fun i c W => c = nI i ∧ frM sMp lMp V W ∧ mPr T W g p C nc (pYrI g p s i)) p.1 ?_ ?_ fuel _ _ (Nat.lt_of_le_of_lt h12 (by decide)) ⟨rfl, frM.rfl', h⟩
  · intro i N c W hi ⟨q1, q2, q4⟩ ih
    subst q1
    rw [f_X5_planYear_L17, q4.ld.n, if_neg (nI_ge hi (by omega)), l10, pk_mul, sp, l0]
    refine m_ordL q4 (hq.yrI h.h.g ok i (by omega)) (by omega) hi (ok.2 i hi) fun X fX hX => ?_
    rw [f_X5_planYear_J82, l1, nI_add, sp]
    exact ih _ _ ⟨rfl, q2.t fX, hX⟩
  · intro N c W ⟨q1, q2, q4⟩
    subst q1
    rw [f_X5_planYear_L17, q4.ld.n, if_pos (nI_le (Nat.le_refl _) (by omega))]
    exact hR W q2 q4
theorem m_year {T : Tt} {V : Vt} {g : Cfg} {p : Pl} {C : Nat → Nat × Nat} {nc : Nat} {s : Pp} {d e : Nat} (h : mPs T V g p C nc s) (hq : okQ g s d e) (he : e < 5000) (ok : okP p) :
    Ret (f_X5_planYear T V 94) fun W => frM sMp lMp V W ∧ mPr T W g p C nc (pYear g p s) := by
  have hT := h.h.T
  rw [f_X5_planYear, rq hT.1, sp, sp, sp]
  have f0 : frM sMp lMp V (uI (uI (uI V 94 46 (0 : Int32)) 94 47 ((-1) : Int32)) 94 50 (0 : Int32)) := ⟨fun c j z => by rw [uI1, if_neg (by omega), uI1, if_neg (by omega), uI1, if_neg (by omega)], fun _ _ _ => rfl, rfl⟩
  have u : ∀ c j, ¬ (c = 94 ∧ (j = 46 ∨ j = 47 ∨ j = 50)) → (uI (uI (uI V 94 46 (0 : Int32)) 94 47 ((-1) : Int32)) 94 50 (0 : Int32)).1 c j = V.1 c j := fun c j z => by rw [uI1, if_neg (by omega), uI1, if_neg (by omega), uI1, if_neg (by omega)]
  have u46 : (uI (uI (uI V 94 46 (0 : Int32)) 94 47 ((-1) : Int32)) 94 50 (0 : Int32)).1 94 46 = nI 0 := by rw [uI1, if_neg (by omega), uI1, if_neg (by omega), uI1, if_pos ⟨rfl, rfl⟩]; rfl
  have u47 : (uI (uI (uI V 94 46 (0 : Int32)) 94 47 ((-1) : Int32)) 94 50 (0 : Int32)).1 94 47 = -nI 1 := by rw [uI1, if_neg (by omega), uI1, if_pos ⟨rfl, rfl⟩]; rfl
  have u50 : (uI (uI (uI V 94 46 (0 : Int32)) 94 47 ((-1) : Int32)) 94 50 (0 : Int32)).1 94 50 = b1 false := by rw [uI1, if_pos ⟨rfl, rfl⟩]; rfl
  generalize uI (uI (uI V 94 46 (0 : Int32)) 94 47 ((-1) : Int32)) 94 50 (0 : Int32) = U at f0 u u46 u47 u50 ⊢
  have h1 : mPr T U g p C nc (pNew s) := h.aft f0 (fun _ _ z => z) hq.b (h.h.mt.fr fun j => u _ _ (by omega)) u46 u47 u50 ((u _ _ (by omega)).trans h.yl) ((u _ _ (by omega)).trans h.lm) ((u _ _ (by omega)).trans h.od)
  refine m_yearL h1 hq.new ok fun W f hW => ?_
  have okW := hq.new.yrI h.h.g ok p.1 (Nat.le_refl _)
  have hy := okW.y
  refine Ret.c (m_passIt hT hW.h.V hW.h.g hW.h.mf hW.h.b hW.h.mt hW.h.o) ?_
  intro z X ⟨_, fX, mt⟩
  dsimp only at fX mt
  have fX' : frM sMp lMp W X := fX.mono (fun c j z => by omega) (fun _ _ z => Or.inl z)
  exact Ret.ok ⟨(f0.t f).t fX', hW.aft (s' := pYear g p s) fX' (fun _ _ z => z) (ok_end okW.b (by omega)) mt ((fX.1 _ _ (by omega)).trans hW.dn) ((fX.1 _ _ (by omega)).trans hW.lt) ((fX.1 _ _ (by omega)).trans hW.sk) ((fX.1 _ _ (by omega)).trans hW.yl) ((fX.1 _ _ (by omega)).trans hW.lm) ((fX.1 _ _ (by omega)).trans hW.od)⟩
/-- a plan is loaded -/
theorem m_ld34 {T : Tt} {V : Vt} (hT : MT T) (hV : MV V) {B n : Nat} (hB : B + 948 ≤ 9390) (e21 : V.1 94 21 = nI n) (hn : n ≤ 12) {k : Vt → Option Vt} {R : Vt → Prop}
    (hR : ∀ W, frI (fun c _ => c = 117) V W → (∀ j, j < 10 * n → W.1 117 j = V.1 96 (B + 2 + j)) → Ret (k W) R) : Ret (f_X5_loadPlan_L34 T 94 (nI B) k fuel (nI 0) V) R := by
  refine lq2 (f_X5_loadPlan_L34 T 94 (nI B) k) (fun i z W => z = nI i ∧ frI (fun c _ => c = 117) V W ∧ ∀ j, j < i → W.1 117 j = V.1 96 (B + 2 + j)) (10 * n) ?_ ?_ fuel _ _ (Nat.lt_of_le_of_lt (Nat.mul_le_mul_left 10 hn) (by decide)) ⟨rfl, frI.mk (fun _ _ _ => rfl) rfl, fun j hj => absurd hj (by omega)⟩
  · intro i N z W hi ⟨q1, q2, q3⟩ ih
    subst q1
    have hV := hV.eq q2.2
    have e1 : W.1 96 (B + 2 + i) = V.1 96 (B + 2 + i) := q2.1 _ _ (by omega)
    have e2 : W.1 94 21 = nI n := (q2.1 _ _ (by omega)).trans e21
    simp (disch := omega) only [f_X5_loadPlan_L34, rq_t, drs, sp, pcs, cls, ↓reduceIte, not_true_eq_false, not_false_eq_true, and_true, true_and, and_false, false_and, or_true, true_or, or_false, false_or, eq_self, l0, l1, l2, l3, l4, l5, l6, l7, l8, l9, l10, l11, l12, l13, l14, l15, l16, l17, l18, l19, l20, l21, l22, l23, l24, l25, l26, l27, l28, l29, l30, l31, l32, l33, l34, l35, l36, l37, l40, l41, l42, l43, l45, l47, l48, l50, l57, l59, l60, l61, l62, l63, l85, l91, l93, l96, l97, l98, l99, l100, l120, l122, l146, l160, l165, l170, l178, l186, l198, l255, l400, l900, l948, l999, l1000, l2475, l2640, l2970, l3990, l9390, l18780, l19000, l999999, l1000000, l100000000, l2147483639, nI_add, pk_mul, ix_nI, leT, leF, ltT, ltF, eqT, eqF, nI_leI, nI_ltI, nI_eq, ngEq, ngEq', ngLt, ngLt', ngLe, ngLe', ngNg, nI_p, pk_sub, Nat.reduceAdd, Nat.reduceMul, Nat.reduceSub, uI1, uI2, uL1, uL2, uL3, uR1, uR2, uR3, rq_eq (MT0 hT), rq95 hT, rf2 hV, rq96 hT, rf3 hV, rq97 hT, rf4 hV, rq98 hT, rf5 hV, rq99 hT, rf6 hV, rq100 hT, rf7 hV, rq101 hT, rf9 hV, rq102 hT, rf10 hV, rq103 hT, rf12 hV, rq104 hT, rf22 hV, rq105 hT, rf24 hV, rq106 hT, rf25 hV, rq107 hT, rf27 hV, rq108 hT, rf28 hV, rq109 hT, rf31 hV, rq110 hT, rf32 hV, rq111 hT, rf33 hV, rq112 hT, rf35 hV, rq113 hT, rf36 hV, rq114 hT, rf37 hV, rq115 hT, rf41 hV, rq116 hT, rf44 hV, rq117 hT, rf45 hV, rq118 hT, rf51 hV, rq119 hT, rf53 hV, e1, e2]
    refine ih _ _ ⟨rfl, frI.mk (fun h j q => ?_) q2.2, fun j hj => ?_⟩
    · rw [uI1, if_neg (fun w => q w.1)]
      exact q2.1 h j q
    · rw [uI1]
      by_cases e : j = i
      · rw [if_pos ⟨rfl, e⟩, e]
      · rw [if_neg (fun w => e w.2)]
        exact q3 j (by omega)
  · intro N z W ⟨q1, q2, q3⟩
    subst q1
    have e2 : W.1 94 21 = nI n := (q2.1 _ _ (by omega)).trans e21
    simp (disch := omega) only [f_X5_loadPlan_L34, rq_t, drs, sp, pcs, cls, ↓reduceIte, not_true_eq_false, not_false_eq_true, and_true, true_and, and_false, false_and, or_true, true_or, or_false, false_or, eq_self, l0, l1, l2, l3, l4, l5, l6, l7, l8, l9, l10, l11, l12, l13, l14, l15, l16, l17, l18, l19, l20, l21, l22, l23, l24, l25, l26, l27, l28, l29, l30, l31, l32, l33, l34, l35, l36, l37, l40, l41, l42, l43, l45, l47, l48, l50, l57, l59, l60, l61, l62, l63, l85, l91, l93, l96, l97, l98, l99, l100, l120, l122, l146, l160, l165, l170, l178, l186, l198, l255, l400, l900, l948, l999, l1000, l2475, l2640, l2970, l3990, l9390, l18780, l19000, l999999, l1000000, l100000000, l2147483639, nI_add, pk_mul, ix_nI, leT, leF, ltT, ltF, eqT, eqF, nI_leI, nI_ltI, nI_eq, ngEq, ngEq', ngLt, ngLt', ngLe, ngLe', ngNg, nI_p, pk_sub, Nat.reduceAdd, Nat.reduceMul, Nat.reduceSub, uI1, uI2, uL1, uL2, uL3, uR1, uR2, uR3, e2]
    exact hR W q2 q3
theorem m_ld69 {T : Tt} {V : Vt} (hT : MT T) (hV : MV V) {B n : Nat} (hB : B + 948 ≤ 9390) (e23 : V.1 94 23 = nI n) (hn : n ≤ 400) {k : Vt → Option Vt} {R : Vt → Prop}
    (hR : ∀ W, frI (fun c _ => c = 105 ∨ c = 106) V W → (∀ j, j < n → W.1 105 j = V.1 96 (B + 146 + 2 * j) ∧ W.1 106 j = V.1 96 (B + 146 + 2 * j + 1)) → Ret (k W) R) : Ret (f_X5_loadPlan_L69 T 94 (nI B) k fuel (nI 0) V) R := by
  refine lq2 (f_X5_loadPlan_L69 T 94 (nI B) k) (fun i z W => z = nI i ∧ frI (fun c _ => c = 105 ∨ c = 106) V W ∧ ∀ j, j < i → W.1 105 j = V.1 96 (B + 146 + 2 * j) ∧ W.1 106 j = V.1 96 (B + 146 + 2 * j + 1)) n ?_ ?_ fuel _ _ (Nat.lt_of_le_of_lt hn (by decide)) ⟨rfl, frI.mk (fun _ _ _ => rfl) rfl, fun j hj => absurd hj (by omega)⟩
  · intro i N z W hi ⟨q1, q2, q3⟩ ih
    subst q1
    have hV := hV.eq q2.2
    have e1 : W.1 96 (B + 146 + 2 * i) = V.1 96 (B + 146 + 2 * i) := q2.1 _ _ (by omega)
    have e3 : W.1 96 (B + 146 + 2 * i + 1) = V.1 96 (B + 146 + 2 * i + 1) := q2.1 _ _ (by omega)
    have e2 : W.1 94 23 = nI n := (q2.1 _ _ (by omega)).trans e23
    simp (disch := omega) only [f_X5_loadPlan_L69, rq_t, drs, sp, pcs, cls, ↓reduceIte, not_true_eq_false, not_false_eq_true, and_true, true_and, and_false, false_and, or_true, true_or, or_false, false_or, eq_self, l0, l1, l2, l3, l4, l5, l6, l7, l8, l9, l10, l11, l12, l13, l14, l15, l16, l17, l18, l19, l20, l21, l22, l23, l24, l25, l26, l27, l28, l29, l30, l31, l32, l33, l34, l35, l36, l37, l40, l41, l42, l43, l45, l47, l48, l50, l57, l59, l60, l61, l62, l63, l85, l91, l93, l96, l97, l98, l99, l100, l120, l122, l146, l160, l165, l170, l178, l186, l198, l255, l400, l900, l948, l999, l1000, l2475, l2640, l2970, l3990, l9390, l18780, l19000, l999999, l1000000, l100000000, l2147483639, nI_add, pk_mul, ix_nI, leT, leF, ltT, ltF, eqT, eqF, nI_leI, nI_ltI, nI_eq, ngEq, ngEq', ngLt, ngLt', ngLe, ngLe', ngNg, nI_p, pk_sub, Nat.reduceAdd, Nat.reduceMul, Nat.reduceSub, uI1, uI2, uL1, uL2, uL3, uR1, uR2, uR3, rq_eq (MT0 hT), rq95 hT, rf2 hV, rq96 hT, rf3 hV, rq97 hT, rf4 hV, rq98 hT, rf5 hV, rq99 hT, rf6 hV, rq100 hT, rf7 hV, rq101 hT, rf9 hV, rq102 hT, rf10 hV, rq103 hT, rf12 hV, rq104 hT, rf22 hV, rq105 hT, rf24 hV, rq106 hT, rf25 hV, rq107 hT, rf27 hV, rq108 hT, rf28 hV, rq109 hT, rf31 hV, rq110 hT, rf32 hV, rq111 hT, rf33 hV, rq112 hT, rf35 hV, rq113 hT, rf36 hV, rq114 hT, rf37 hV, rq115 hT, rf41 hV, rq116 hT, rf44 hV, rq117 hT, rf45 hV, rq118 hT, rf51 hV, rq119 hT, rf53 hV, e1, e2, e3]
    refine ih _ _ ⟨rfl, frI.mk (fun h j q => ?_) q2.2, fun j hj => ?_⟩
    · rw [uI1, if_neg (fun w => q (Or.inr w.1)), uI1, if_neg (fun w => q (Or.inl w.1))]
      exact q2.1 h j q
    · rw [uI1, if_neg (by omega), uI1, uI1]
      by_cases e : j = i
      · rw [if_pos ⟨rfl, e⟩, if_pos ⟨rfl, e⟩, e]
        exact ⟨rfl, rfl⟩
      · rw [if_neg (fun w => e w.2), if_neg (fun w => e w.2), uI1, if_neg (by omega)]
        exact q3 j (by omega)
  · intro N z W ⟨q1, q2, q3⟩
    subst q1
    have e2 : W.1 94 23 = nI n := (q2.1 _ _ (by omega)).trans e23
    simp (disch := omega) only [f_X5_loadPlan_L69, rq_t, drs, sp, pcs, cls, ↓reduceIte, not_true_eq_false, not_false_eq_true, and_true, true_and, and_false, false_and, or_true, true_or, or_false, false_or, eq_self, l0, l1, l2, l3, l4, l5, l6, l7, l8, l9, l10, l11, l12, l13, l14, l15, l16, l17, l18, l19, l20, l21, l22, l23, l24, l25, l26, l27, l28, l29, l30, l31, l32, l33, l34, l35, l36, l37, l40, l41, l42, l43, l45, l47, l48, l50, l57, l59, l60, l61, l62, l63, l85, l91, l93, l96, l97, l98, l99, l100, l120, l122, l146, l160, l165, l170, l178, l186, l198, l255, l400, l900, l948, l999, l1000, l2475, l2640, l2970, l3990, l9390, l18780, l19000, l999999, l1000000, l100000000, l2147483639, nI_add, pk_mul, ix_nI, leT, leF, ltT, ltF, eqT, eqF, nI_leI, nI_ltI, nI_eq, ngEq, ngEq', ngLt, ngLt', ngLe, ngLe', ngNg, nI_p, pk_sub, Nat.reduceAdd, Nat.reduceMul, Nat.reduceSub, uI1, uI2, uL1, uL2, uL3, uR1, uR2, uR3, e2]
    exact hR W q2 q3
theorem m_loadPlan {T : Tt} {V : Vt} (hT : MT T) (hV : MV V) {i : Nat} (hi : i < 4) {p : Pl} (hp : mPl V (198 + 948 * i) p) (h12 : p.1 ≤ 12) :
    Ret (f_X5_loadPlan T V 94 (nI i)) fun W => (∃ C nc, mLd W p C nc) ∧ frM (fun c j => c = 105 ∨ c = 106 ∨ c = 117 ∨ (c = 94 ∧ (j = 21 ∨ j = 23))) nF V W := by
  obtain ⟨nc, C, h1, h2, h3, h4, h5⟩ := hp
  rw [f_X5_loadPlan, rq hT.1, show (198 : Int32) + (948 : Int32) * nI i = nI (198 + 948 * i) by rw [l198, l948, pk_mul, nI_add], sp]
  have hB : 198 + 948 * i + 948 ≤ 9390 := by omega
  generalize 198 + 948 * i = B at hB h2 h3 h4 h5 ⊢
  simp (disch := omega) only [rq_t, drs, sp, pcs, cls, ↓reduceIte, not_true_eq_false, not_false_eq_true, and_true, true_and, and_false, false_and, or_true, true_or, or_false, false_or, eq_self, l0, l1, l2, l3, l4, l5, l6, l7, l8, l9, l10, l11, l12, l13, l14, l15, l16, l17, l18, l19, l20, l21, l22, l23, l24, l25, l26, l27, l28, l29, l30, l31, l32, l33, l34, l35, l36, l37, l40, l41, l42, l43, l45, l47, l48, l50, l57, l59, l60, l61, l62, l63, l85, l91, l93, l96, l97, l98, l99, l100, l120, l122, l146, l160, l165, l170, l178, l186, l198, l255, l400, l900, l948, l999, l1000, l2475, l2640, l2970, l3990, l9390, l18780, l19000, l999999, l1000000, l100000000, l2147483639, nI_add, pk_mul, ix_nI, leT, leF, ltT, ltF, eqT, eqF, nI_leI, nI_ltI, nI_eq, ngEq, ngEq', ngLt, ngLt', ngLe, ngLe', ngNg, nI_p, pk_sub, Nat.reduceAdd, Nat.reduceMul, Nat.reduceSub, uI1, uI2, uL1, uL2, uL3, uR1, uR2, uR3, rq_eq (MT0 hT), rq95 hT, rf2 hV, rq96 hT, rf3 hV, rq97 hT, rf4 hV, rq98 hT, rf5 hV, rq99 hT, rf6 hV, rq100 hT, rf7 hV, rq101 hT, rf9 hV, rq102 hT, rf10 hV, rq103 hT, rf12 hV, rq104 hT, rf22 hV, rq105 hT, rf24 hV, rq106 hT, rf25 hV, rq107 hT, rf27 hV, rq108 hT, rf28 hV, rq109 hT, rf31 hV, rq110 hT, rf32 hV, rq111 hT, rf33 hV, rq112 hT, rf35 hV, rq113 hT, rf36 hV, rq114 hT, rf37 hV, rq115 hT, rf41 hV, rq116 hT, rf44 hV, rq117 hT, rf45 hV, rq118 hT, rf51 hV, rq119 hT, rf53 hV, h2, h3]
  have hX : ∀ c j, ¬ (c = 94 ∧ (j = 21 ∨ j = 23)) → (uI (uI V 94 21 (nI p.1)) 94 23 (nI nc)).1 c j = V.1 c j := fun c j z => by rw [uI1, if_neg (by omega), uI1, if_neg (by omega)]
  have x21 : (uI (uI V 94 21 (nI p.1)) 94 23 (nI nc)).1 94 21 = nI p.1 := by rw [uI1, if_neg (by omega), uI1, if_pos ⟨rfl, rfl⟩]
  have x23 : (uI (uI V 94 21 (nI p.1)) 94 23 (nI nc)).1 94 23 = nI nc := by rw [uI1, if_pos ⟨rfl, rfl⟩]
  have x2 : (uI (uI V 94 21 (nI p.1)) 94 23 (nI nc)).2 = V.2 := rfl
  generalize uI (uI V 94 21 (nI p.1)) 94 23 (nI nc) = X at hX x21 x23 x2 ⊢
  have hVX : MV X := hV.eq x2
  refine m_ld34 hT hVX hB x21 h12 fun W f q => ?_
  refine m_ld69 hT (hVX.eq f.2) hB ((f.1 _ _ (by omega)).trans x23) h1 fun Y f2 q2 => ?_
  have eY : ∀ c j, ¬ (c = 105 ∨ c = 106 ∨ c = 117 ∨ (c = 94 ∧ (j = 21 ∨ j = 23))) → Y.1 c j = V.1 c j := fun c j z => by rw [f2.1 _ _ (by omega), f.1 _ _ (by omega), hX _ _ (by omega)]
  refine Ret.ok ⟨⟨C, nc, (f2.1 _ _ (by omega)).trans ((f.1 _ _ (by omega)).trans x21), h12, h1, fun k hk => ?_, fun k hk => ?_⟩, eY, fun _ _ _ => by rw [f2.2, f.2, x2], by rw [f2.2, f.2, x2]⟩
  · rw [(q2 k hk).1, (q2 k hk).2, f.1 _ _ (by omega), f.1 _ _ (by omega), hX _ _ (by omega), hX _ _ (by omega)]
    exact h4 k hk
  · have e : ∀ j, j < 10 → Y.1 117 (10 * k + j) = V.1 96 (B + 2 + 10 * k + j) := fun j hj => by
      rw [f2.1 _ _ (by omega), q _ (by omega), hX _ _ (by omega), show B + 2 + (10 * k + j) = B + 2 + 10 * k + j by omega]
    obtain ⟨a1, a2, a3, a, b, a4, a5, a6⟩ := h5 k hk
    refine ⟨(e 0 (by omega)).trans a1, (e 9 (by omega)).trans a2, fun k' hk' => ?_, a, b, (e 7 (by omega)).trans a4, (e 8 (by omega)).trans a5, a6⟩
    obtain ⟨a, b, c1, c2, c3⟩ := a3 k' hk'
    exact ⟨a, b, (e _ (by omega)).trans c1, (e _ (by omega)).trans c2, c3⟩
