/-! 98: what is asked of plans, the model -/
set_option maxRecDepth 100000
theorem m_isPlan {T : Tt} {V : Vt} (hT : MT T) (hV : MV V) {g : Cfg} (hg : okG g) (mf : mCf V g) {x : Int32} : f_X5_isPlan T V 94 x = some (b1 (isPa g x)) := by
  have hn := mf.np
  have h8 := hg.np
  simp (disch := omega) only [f_X5_isPlan, rq_t, drs, sp, pcs, cls, ↓reduceIte, not_true_eq_false, not_false_eq_true, and_true, true_and, and_false, false_and, or_true, true_or, or_false, false_or, eq_self, l0, l1, l2, l3, l4, l5, l6, l7, l8, l9, l10, l11, l12, l13, l14, l15, l16, l17, l18, l19, l20, l21, l22, l23, l24, l25, l26, l27, l28, l29, l30, l31, l32, l33, l34, l35, l36, l37, l40, l41, l42, l43, l45, l47, l48, l50, l57, l59, l60, l61, l62, l63, l85, l91, l93, l96, l97, l98, l99, l100, l120, l122, l146, l160, l165, l170, l178, l186, l198, l255, l400, l900, l948, l999, l1000, l2475, l2640, l2970, l3990, l9390, l18780, l19000, l999999, l1000000, l100000000, l2147483639, nI_add, pk_mul, ix_nI, leT, leF, ltT, ltF, eqT, eqF, nI_leI, nI_ltI, nI_eq, ngEq, ngEq', ngLt, ngLt', ngLe, ngLe', ngNg, nI_p, pk_sub, Nat.reduceAdd, Nat.reduceMul, Nat.reduceSub, uI1, uI2, uL1, uL2, uL3, uR1, uR2, uR3, rq_eq (MT0 hT), rq95 hT, rf2 hV, rq96 hT, rf3 hV, rq97 hT, rf4 hV, rq98 hT, rf5 hV, rq99 hT, rf6 hV, rq100 hT, rf7 hV, rq101 hT, rf9 hV, rq102 hT, rf10 hV, rq103 hT, rf12 hV, rq104 hT, rf22 hV, rq105 hT, rf24 hV, rq106 hT, rf25 hV, rq107 hT, rf27 hV, rq108 hT, rf28 hV, rq109 hT, rf31 hV, rq110 hT, rf32 hV, rq111 hT, rf33 hV, rq112 hT, rf35 hV, rq113 hT, rf36 hV, rq114 hT, rf37 hV, rq115 hT, rf41 hV, rq116 hT, rf44 hV, rq117 hT, rf45 hV, rq118 hT, rf51 hV, rq119 hT, rf53 hV, hn, nI_l]
  rw [pc m_inI, sub1L (by omega), rq (b1_B _)]
  rfl
theorem MR.pm {V W : Vt} {a : St} {b b' : Tab} (h : MR V (a.wt b)) (og : okG a.g) (f : frM sMp lMp V W) (mt : mTb W b') (od : W.1 94 20 = nI 0) : MR W (a.wt b') := by
  have e := f.1
  exact h.up (b := a.wt b') f.2.2 (fun c j q => e _ _ (by omega)) (fun c j q => f.2.1 _ _ (by omega)) rfl (h.mf.fr og fun j h1 h2 h3 => e _ _ (by omega)) mt (h.mu.fr (fun c j q => e _ _ (by omega))) ((e _ _ (by omega)).trans h.st) (fun i hi => (e _ _ (by omega)).trans (h.rf i hi)) od ((e _ _ (by omega)).trans h.tn) (fun i hi => (e _ _ (by omega)).trans (h.tp i hi)) ((e _ _ (by omega)).trans h.fa) ((e _ _ (by omega)).trans h.le) ((e _ _ (by omega)).trans h.so) ((e _ _ (by omega)).trans h.dm) (fun i hi q => (e _ _ (by omega)).trans (h.dd i hi q))
theorem sMp_m {V W : Vt} (f : frM sMp lMp V W) : mFr V W := ⟨fun c j q => f.1 _ _ (by omega), fun c j q => f.2.1 _ _ (by omega), f.2.2⟩
/-- on paper: years that are run, what lies there to be put back -/
abbrev mYr (T : Tt) (V : Vt) (a : St) (i : Nat) (s : Pp) : Prop := (MR V (a.wt s.b)) ∧ (∃ C nc, mPs T V a.g (a.g.pl i) C nc s) ∧ (∀ k, k < 165 → V.1 99 (2640 + k) = snap a.g a.t k)
theorem mYr.m {T : Tt} {V : Vt} {a : St} {i : Nat} {s : Pp} (h__ : mYr T V a i s) : MR V (a.wt s.b) := h__.1
theorem mYr.p {T : Tt} {V : Vt} {a : St} {i : Nat} {s : Pp} (h__ : mYr T V a i s) : ∃ C nc, mPs T V a.g (a.g.pl i) C nc s := h__.2.1
theorem mYr.n {T : Tt} {V : Vt} {a : St} {i : Nat} {s : Pp} (h__ : mYr T V a i s) : ∀ k, k < 165 → V.1 99 (2640 + k) = snap a.g a.t k := h__.2.2
theorem m_beginPlan {T : Tt} {V : Vt} (hT : MT T) {a : St} (h : MR V a) (ok : OK a) {i : Nat} (hi : i < a.g.np) : Ret (f_X5_beginPlan T V 94 (nI i)) fun W => mYr T W a i (pBeg a.t) ∧ mFr V W := by
  have np4 := ok.g.np
  have og := ok.g
  rw [f_X5_beginPlan, rq hT.1]
  refine Ret.p (m_loadPlan hT h.hV (by omega) (h.mf.pl i hi) (ok.g.pl i hi).1) ?_
  intro W ⟨⟨C, nc, ld⟩, f⟩
  have hW : MR W a := by
    have e := f.1
    exact h.up f.2.2 (fun c j w => e _ _ (by omega)) (fun c j w => f.2.1 _ _ id) rfl (h.mf.fr og (fun j _ _ _ => e _ _ (by omega))) (h.mt.fr (fun j => e _ _ (by omega))) (h.mu.fr (fun c j q => e _ _ (by omega))) ((e _ _ (by omega)).trans h.st) (fun i hi => (e _ _ (by omega)).trans (h.rf i hi)) ((e _ _ (by omega)).trans h.od) ((e _ _ (by omega)).trans h.tn) (fun i hi => (e _ _ (by omega)).trans (h.tp i hi)) ((e _ _ (by omega)).trans h.fa) ((e _ _ (by omega)).trans h.le) ((e _ _ (by omega)).trans h.so) ((e _ _ (by omega)).trans h.dm) (fun i hi q => (e _ _ (by omega)).trans (h.dd i hi q))
  refine Ret.p (m_keepAll (k := 16) hT hW.hV (by omega)) ?_
  intro X ⟨f2, ks⟩
  have hX : MR X a := by
    have e := f2.1
    have h := hW
    exact h.up (by rw [f2.2]) (fun c j w => e _ _ (by omega)) (fun c j w => by rw [f2.2]) rfl (h.mf.fr og (fun j _ _ _ => e _ _ (by omega))) (h.mt.fr (fun j => e _ _ (by omega))) (h.mu.fr (fun c j q => e _ _ (by omega))) ((e _ _ (by omega)).trans h.st) (fun i hi => (e _ _ (by omega)).trans (h.rf i hi)) ((e _ _ (by omega)).trans h.od) ((e _ _ (by omega)).trans h.tn) (fun i hi => (e _ _ (by omega)).trans (h.tp i hi)) ((e _ _ (by omega)).trans h.fa) ((e _ _ (by omega)).trans h.le) ((e _ _ (by omega)).trans h.so) ((e _ _ (by omega)).trans h.dm) (fun i hi q => (e _ _ (by omega)).trans (h.dd i hi q))
  have sn : ∀ k, k < 165 → X.1 99 (2640 + k) = snap a.g a.t k := fun k hk => (ks k hk).trans (snap_row hW.mf hW.mt hk)
  rw [sp, sp]
  have h2 := (hX.s0 og (j := 42) (v := 0) (by omega)).s0 og (j := 43) (v := 100000000) (by omega)
  have u : ∀ c j, ¬ (c = 94 ∧ (j = 42 ∨ j = 43)) → (uI (uI X 94 42 (0 : Int32)) 94 43 (100000000 : Int32)).1 c j = X.1 c j := fun c j z => by rw [uI1, if_neg (by omega), uI1, if_neg (by omega)]
  refine Ret.ok ⟨⟨h2, ⟨C, nc, ⟨hT, h2.hV, og, h2.mf, ok.t, h2.mt, by rw [h2.od]; exact b0B⟩, ld.fr fun c j w => by rw [u _ _ (by omega), f2.1 _ _ (by omega)], ?_, ?_, h2.od⟩, fun k hk => (u _ _ (by omega)).trans (sn k hk)⟩, ⟨fun c j w => by rw [u _ _ (by omega), f2.1 _ _ (by omega), f.1 _ _ (by omega)], fun c j w => by rw [uI2, uI2, f2.2, f.2.1 _ _ id], by rw [uI2, uI2, f2.2, f.2.2]⟩⟩
  · rw [uI1, if_neg (by omega), uI1, if_pos ⟨rfl, rfl⟩]
    rfl
  · rw [uI1, if_pos ⟨rfl, rfl⟩]
    rfl
theorem m_yrS {T : Tt} {V : Vt} (hT : MT T) {a : St} (ok : OK a) {i : Nat} (hi : i < a.g.np) {n : Nat} (hn : n < 100) (h : mYr T V a i (pRun a i n)) : Ret (f_X5_planYear T V 94) fun W => mYr T W a i (pRun a i (n + 1)) ∧ mFr V W ∧ W.1 94 50 = b1 (pRun a i (n + 1)).sk := by
  obtain ⟨hM, ⟨C, nc, hp⟩, hs⟩ := h
  refine (m_year hp (pRun_ok ok hi (n := n) (by omega)) (by omega) (ok.g.pl i hi)).im fun W ⟨f, hW⟩ => ?_
  exact ⟨⟨hM.pm ok.g f hW.h.mt hW.od, ⟨C, nc, hW.s⟩, fun k hk => (f.1 _ _ (by omega)).trans (hs k hk)⟩, sMp_m f, hW.sk⟩
theorem m_yrP {T : Tt} {V : Vt} (hT : MT T) {a : St} (ok : OK a) {i : Nat} {s : Pp} (h : mYr T V a i s) : Ret (f_X5_putBack T V 94 (nI 16)) fun W => MR W a ∧ mFr V W ∧ (∀ j, W.1 94 j = V.1 94 j) := by
  refine (m_putBack (k := 16) hT h.m.hV (by omega)).im fun W ⟨f, kp⟩ => ?_
  exact ⟨MR.put (t := a.t) h.m ok.g f (fun k hk => (kp k hk).trans (h.n k hk)), ⟨fun c j w => f.1 _ _ (by omega), fun c j w => by rw [f.2], by rw [f.2]⟩, fun j => f.1 _ _ (by omega)⟩
theorem m_byPlan {T : Tt} {V : Vt} (hT : MT T) {a : St} (h : MR V a) (ok : OK a) {p n c w : Int32} : mOp (f_X5_byPlan T V 94 p n c w) V (rByPlan a p n c w) a := by
  have h := h.s0 ok.g (j := 0) (v := 0) (by omega)
  rw [f_X5_byPlan, rq hT.1, sp]
  refine mOp.fr (W := uI V 94 0 0) (mF_uI (by omega)) ?_
  generalize uI V 94 0 0 = V at h ⊢
  have g8 := ok.g.n
  have np4 := ok.g.np
  have hno : Ret (some (((-1) : Int32), V)) fun q : Int32 × Vt => q.1 = -nI 1 ∧ MR q.2 a ∧ mFr V q.2 := Ret.ok ⟨rfl, h, mFr.rfl'⟩
  rw [pc (m_isPlan hT h.hV ok.g h.mf), rByPlan]
  simp only [b1_0]
  cases h1 : isPa a.g p with
  | false => exact hno
  | true =>
    rw [if_neg (by decide), pc m_inI, show (0 : Int64).toInt = 0 from rfl, show (60 : Int64).toInt = 60 from rfl]
    simp only [b1_0]
    cases h2 : iN n 0 60 with
    | false => exact hno
    | true =>
      rw [if_neg (by decide), pc (m_isCask hT h.hV ok.g h.mf)]
      simp only [b1_0]
      cases h3 : isKa a.g c with
      | false => exact hno
      | true =>
        rw [if_neg (by decide), pc m_inI, show (0 : Int64).toInt = 0 from rfl, show (2 : Int64).toInt = 2 from rfl]
        simp only [b1_0]
        cases h4 : iN w 0 2 with
        | false => exact hno
        | true =>
          obtain ⟨i, rfl, hi⟩ := isPa_of h1
          obtain ⟨n', rfl, n1, n2, n3⟩ := iN_of h2 (by omega)
          obtain ⟨c', rfl, hc⟩ := isKa_of h3
          obtain ⟨w', rfl, w1, w2, w3⟩ := iN_of h4 (by omega)
          rw [if_neg (by decide), if_pos (show (true && true && true && true) = true from rfl), ix_nI (by omega), ix_nI (by omega), ix_nI (by omega), ix_nI (by omega)]
          refine Ret.p (m_beginPlan hT h ok hi) ?_
          intro W ⟨hW, fW⟩
          refine lq2 (f_X5_byPlan_L56 T 94 (nI n') (nI c') (nI w') _) (fun k z X => z = nI k ∧ mYr T X a i (pRun a i k) ∧ mFr V X) n' ?_ ?_ fuel _ _ (Nat.lt_of_le_of_lt (show n' ≤ 60 by omega) (by decide)) ⟨rfl, hW, fW⟩
          · intro k N z X hk ⟨q1, q2, q3⟩ ih
            subst q1
            rw [f_X5_byPlan_L56, if_neg (nI_ge hk (by omega))]
            refine Ret.p (m_yrS hT ok hi (by omega) q2) ?_
            intro Y ⟨hY, fY, _⟩
            rw [show nI k + (1 : Int32) = nI (k + 1) from nI_add _ _, sp]
            exact ih _ _ ⟨rfl, hY, q3.tr fY⟩
          · intro N z X ⟨q1, q2, q3⟩
            subst q1
            rw [f_X5_byPlan_L56, if_pos (nI_le (Nat.le_refl _) (by omega))]
            have okR := pRun_ok ok hi (n := n') (by omega)
            have hB := okR.b.a ok.g hc
            have hpa : X.1 96 8 = nI a.g.pa := q2.m.mf.pa
            have hpb := ok.g.pa
            have fin : ∀ r, Ret (f_X5_byPlan_J104 T X 94 r) fun q : Int32 × Vt => q.1 = r ∧ MR q.2 a ∧ mFr V q.2 := fun r => by
              rw [f_X5_byPlan_J104]
              refine Ret.p (m_yrP hT ok q2) ?_
              intro Y ⟨hY, fY, _⟩
              exact Ret.ok ⟨rfl, hY, q3.tr fY⟩
            have hD : mD X (pRun a i n').b.D := q2.m.mt.D
            generalize pRun a i n' = s at okR hB hD ⊢
            have : w' = 0 ∨ w' = 1 ∨ w' = 2 := by omega
            rcases this with e | e | e <;> subst e
            · rw [if_pos (by decide), if_pos rfl, pc (m_all hT q2.m.hV hD (by omega))]
              exact fin _
            · rw [if_neg (by decide), if_pos (by decide), if_neg (by decide), if_pos rfl, pc (m_mean hT q2.m.hV hD (by omega) (by omega))]
              exact fin _
            · rw [if_neg (by decide), if_neg (by decide), if_neg (by decide), if_neg (by decide), pc (m_label hT q2.m.hV hD (by omega) hB hpb.2 hpa)]
              exact fin _
theorem m_yieldOf {T : Tt} {V : Vt} (hT : MT T) {a : St} (h : MR V a) (ok : OK a) {i n : Nat} (hi : i < a.g.np) (hn : n ≤ 60) : Ret (f_X5_yieldOf T V 94 (nI i) (nI n)) fun q => q.1 = (pRun a i n).yl ∧ MR q.2 a ∧ mFr V q.2 ∧ q.2.1 94 43 = nI ((pRun a i n).lm.getD 100000000) := by
  rw [f_X5_yieldOf, rq hT.1]
  refine Ret.p (m_beginPlan hT h ok hi) ?_
  intro W ⟨hW, fW⟩
  refine lq2 (f_X5_yieldOf_L7 T 94 (nI n) _) (fun k z X => z = nI k ∧ mYr T X a i (pRun a i k) ∧ mFr V X) n ?_ ?_ fuel _ _ (Nat.lt_of_le_of_lt hn (by decide)) ⟨rfl, hW, fW⟩
  · intro k N z X hk ⟨q1, q2, q3⟩ ih
    subst q1
    rw [f_X5_yieldOf_L7, if_neg (nI_ge hk (by omega))]
    refine Ret.p (m_yrS hT ok hi (by omega) q2) ?_
    intro Y ⟨hY, fY, _⟩
    rw [show nI k + (1 : Int32) = nI (k + 1) from nI_add _ _, sp]
    exact ih _ _ ⟨rfl, hY, q3.tr fY⟩
  · intro N z X ⟨q1, q2, q3⟩
    subst q1
    rw [f_X5_yieldOf_L7, if_pos (nI_le (Nat.le_refl _) (by omega))]
    refine Ret.p (m_yrP hT ok q2) ?_
    intro Y ⟨hY, fY, eY⟩
    obtain ⟨C, nc, hp⟩ := q2.p
    exact Ret.ok ⟨(eY 42).trans hp.yl, hY, q3.tr fY, (eY 43).trans hp.lm⟩
theorem m_yieldsP {T : Tt} {V : Vt} (hT : MT T) {a : St} (h : MR V a) (ok : OK a) {p n : Int32} : mOp (f_X5_yields T V 94 p n) V (rYields a p n) a := by
  have h := h.s0 ok.g (j := 0) (v := 0) (by omega)
  rw [f_X5_yields, rq hT.1, sp]
  refine mOp.fr (W := uI V 94 0 0) (mF_uI (by omega)) ?_
  generalize uI V 94 0 0 = V at h ⊢
  have np4 := ok.g.np
  have hno : Ret (some (((-1) : Int32), V)) fun q : Int32 × Vt => q.1 = -nI 1 ∧ MR q.2 a ∧ mFr V q.2 := Ret.ok ⟨rfl, h, mFr.rfl'⟩
  rw [pc (m_isPlan hT h.hV ok.g h.mf), rYields]
  simp only [b1_0]
  cases h1 : isPa a.g p with
  | false => exact hno
  | true =>
    rw [if_neg (by decide), pc m_inI, show (0 : Int64).toInt = 0 from rfl, show (60 : Int64).toInt = 60 from rfl]
    simp only [b1_0]
    cases h2 : iN n 0 60 with
    | false => exact hno
    | true =>
      obtain ⟨i, rfl, hi⟩ := isPa_of h1
      obtain ⟨n', rfl, n1, n2, n3⟩ := iN_of h2 (by omega)
      rw [if_neg (by decide), if_pos (show (true && true) = true from rfl), ix_nI (by omega), ix_nI (by omega), cal_id]
      exact (m_yieldOf hT h ok hi (by omega)).im fun q ⟨q1, q2, q3, _⟩ => ⟨q1, q2, q3⟩
theorem m_oldL {T : Tt} {V : Vt} (hT : MT T) {a : St} (ok : OK a) {i c m : Nat} (hi : i < a.g.np) (hc : c < a.g.n) : ∀ k n N W, n + k = 61 → k < N → mYr T W a i (pRun a i n) → mFr V W →
    Ret (f_X5_oldEnough_L43 T 94 (nI c) (nI m) (fun z22 U23 => f_X5_oldEnough_J69 T U23 94 z22) N (nI n) W) fun q => q.1 = fstY (bOld a i c m) k n ∧ MR q.2 a ∧ mFr V q.2 := by
  have g8 := ok.g.n
  intro k
  induction k with
  | zero =>
    intro n N W h1 h2 h3 h4
    obtain ⟨N, rfl⟩ : ∃ n, N = n + 1 := ⟨N - 1, by omega⟩
    rw [f_X5_oldEnough_L43, if_pos (by rw [show (60 : Int32) = nI 60 from rfl, nI_ltI (by omega) (by omega)]; omega), f_X5_oldEnough_J69]
    refine Ret.p (m_yrP hT ok h3) ?_
    intro Y ⟨hY, fY, _⟩
    rw [if_neg (by rw [show (60 : Int32) = nI 60 from rfl, nI_leI (by omega) (by omega)]; omega)]
    exact Ret.ok ⟨rfl, hY, h4.tr fY⟩
  | succ k ih =>
    intro n N W h1 h2 h3 h4
    obtain ⟨N, rfl⟩ : ∃ n, N = n + 1 := ⟨N - 1, by omega⟩
    have okR := pRun_ok ok hi (n := n) (by omega)
    have hB := okR.b.a ok.g hc
    have hD : mD W (pRun a i n).b.D := h3.m.mt.D
    rw [f_X5_oldEnough_L43, if_neg (by rw [show (60 : Int32) = nI 60 from rfl, nI_ltI (by omega) (by omega)]; omega), pc (m_mean hT h3.m.hV hD (by omega) (by omega)), fstY]
    by_cases q : nI m ≤ tMean (pRun a i n).b.D c
    · rw [if_pos q, if_pos (decide_eq_true q), f_X5_oldEnough_J69]
      refine Ret.p (m_yrP hT ok h3) ?_
      intro Y ⟨hY, fY, _⟩
      rw [if_pos (by rw [show (60 : Int32) = nI 60 from rfl, nI_leI (by omega) (by omega)]; omega)]
      exact Ret.ok ⟨rfl, hY, h4.tr fY⟩
    · rw [if_neg q, if_neg (fun z => q (of_decide_eq_true z))]
      refine Ret.p (m_yrS hT ok hi (by omega) h3) ?_
      intro Y ⟨hY, fY, _⟩
      rw [show nI n + (1 : Int32) = nI (n + 1) from nI_add _ _, sp]
      exact ih (n + 1) N Y (by omega) (by omega) hY (h4.tr fY)
theorem m_oldEnough {T : Tt} {V : Vt} (hT : MT T) {a : St} (h : MR V a) (ok : OK a) {p c m : Int32} : mOp (f_X5_oldEnough T V 94 p c m) V (rOldE a p c m) a := by
  have h := h.s0 ok.g (j := 0) (v := 0) (by omega)
  rw [f_X5_oldEnough, rq hT.1, sp]
  refine mOp.fr (W := uI V 94 0 0) (mF_uI (by omega)) ?_
  generalize uI V 94 0 0 = V at h ⊢
  have g8 := ok.g.n
  have np4 := ok.g.np
  have hno : Ret (some (((-1) : Int32), V)) fun q : Int32 × Vt => q.1 = -nI 1 ∧ MR q.2 a ∧ mFr V q.2 := Ret.ok ⟨rfl, h, mFr.rfl'⟩
  rw [pc (m_isPlan hT h.hV ok.g h.mf), rOldE]
  simp only [b1_0]
  cases h1 : isPa a.g p with
  | false => exact hno
  | true =>
    rw [if_neg (by decide), pc (m_isCask hT h.hV ok.g h.mf)]
    simp only [b1_0]
    cases h3 : isKa a.g c with
    | false => exact hno
    | true =>
      rw [if_neg (by decide), pc m_inI, show (0 : Int64).toInt = 0 from rfl, show (19000 : Int64).toInt = 19000 from rfl]
      simp only [b1_0]
      cases h4 : iN m 0 19000 with
      | false => exact hno
      | true =>
        obtain ⟨i, rfl, hi⟩ := isPa_of h1
        obtain ⟨c', rfl, hc⟩ := isKa_of h3
        obtain ⟨m', rfl, w1, w2, w3⟩ := iN_of h4 (by omega)
        rw [if_neg (by decide), if_pos (show (true && true && true) = true from rfl), ix_nI (by omega), ix_nI (by omega), ix_nI (by omega)]
        refine Ret.p (m_beginPlan hT h ok hi) ?_
        intro W ⟨hW, fW⟩
        exact m_oldL hT ok hi hc 61 0 fuel W (by omega) (by decide) hW fW
theorem nI_nm {n : Nat} (h : n < 1000) : ¬ nI n = ((-1) : Int32) := by
  rw [show ((-1) : Int32) = -nI 1 from rfl, ngEq (by omega) (by omega) (by omega)]
  exact id
theorem m_setX {T : Tt} {V W : Vt} (hT : MT T) {a : St} (ok : OK a) {i c n N : Nat} (hn : n < 1000) {s : Pp} (h : mYr T W a i s) (f : mFr V W) {x4 : Int32} : Ret (f_X5_settled_L33 T 94 (nI c) (fun z23 U24 => f_X5_settled_J85 T U24 94 z23) (N + 1) (nI n) x4 W) fun q => q.1 = nI n ∧ MR q.2 a ∧ mFr V q.2 := by
  have fin : Ret (f_X5_settled_J85 T W 94 (nI n)) fun q => q.1 = nI n ∧ MR q.2 a ∧ mFr V q.2 := by
    rw [f_X5_settled_J85]
    refine Ret.p (m_yrP hT ok h) ?_
    intro Y ⟨hY, fY, _⟩
    exact Ret.ok ⟨rfl, hY, f.tr fY⟩
  rw [f_X5_settled_L33, if_neg (nI_nm hn)]
  split <;> exact fin
theorem m_setL {T : Tt} {V : Vt} (hT : MT T) {a : St} (ok : OK a) {i c : Nat} (hi : i < a.g.np) (hc : c < a.g.n) : ∀ k n N W, n + k = 60 → k + 1 < N → mYr T W a i (pRun a i n) → mFr V W →
    Ret (f_X5_settled_L33 T 94 (nI c) (fun z23 U24 => f_X5_settled_J85 T U24 94 z23) N ((-1) : Int32) (nI n) W) fun q => q.1 = fstY (bSet a i c) k n ∧ MR q.2 a ∧ mFr V q.2 := by
  have g8 := ok.g.n
  intro k
  induction k with
  | zero =>
    intro n N W h1 h2 h3 h4
    obtain ⟨N, rfl⟩ : ∃ n, N = n + 1 := ⟨N - 1, by omega⟩
    rw [f_X5_settled_L33, if_pos (by rw [show (60 : Int32) = nI 60 from rfl]; exact nI_le (by omega) (by omega)), f_X5_settled_J85]
    refine Ret.p (m_yrP hT ok h3) ?_
    intro Y ⟨hY, fY, _⟩
    exact Ret.ok ⟨rfl, hY, h4.tr fY⟩
  | succ k ih =>
    intro n N W h1 h2 h3 h4
    obtain ⟨N, rfl⟩ : ∃ n, N = n + 2 := ⟨N - 2, by omega⟩
    have okR := pRun_ok ok hi (n := n) (by omega)
    have okR1 := pRun_ok ok hi (n := n + 1) (by omega)
    have hB := okR.b.a ok.g hc
    have hB1 := okR1.b.a ok.g hc
    have hD : mD W (pRun a i n).b.D := h3.m.mt.D
    rw [f_X5_settled_L33, if_neg (by rw [show (60 : Int32) = nI 60 from rfl]; exact nI_ge (by omega) (by omega)), if_pos rfl, pc (m_mean hT h3.m.hV hD (by omega) (by omega)), fstY]
    refine Ret.p (m_yrS hT ok hi (by omega) h3) ?_
    intro Y ⟨hY, fY, _⟩
    have hD1 : mD Y (pRun a i (n + 1)).b.D := hY.m.mt.D
    have hn : Ret (f_X5_settled_J77 T Y 94 (nI c) ((-1) : Int32) (nI n) (f_X5_settled_L33 T 94 (nI c) (fun z23 U24 => f_X5_settled_J85 T U24 94 z23) (N + 1)) (fun z23 U24 => f_X5_settled_J85 T U24 94 z23)) fun q => q.1 = fstY (bSet a i c) k (n + 1) ∧ MR q.2 a ∧ mFr V q.2 := by
      rw [f_X5_settled_J77, f_X5_settled_J78, show nI n + (1 : Int32) = nI (n + 1) from nI_add _ _, sp]
      exact ih (n + 1) (N + 1) Y (by omega) (by omega) hY (h4.tr fY)
    by_cases q : tMean (pRun a i n).b.D c = ((-1) : Int32)
    · rw [if_pos q, if_neg (fun z => (of_decide_eq_true z).1 q)]
      exact hn
    · rw [if_neg q, pc (m_mean hT hY.m.hV hD1 (by omega) (by omega))]
      by_cases q2 : tMean (pRun a i (n + 1)).b.D c = tMean (pRun a i n).b.D c
      · rw [if_pos q2, if_pos (decide_eq_true ⟨q, q2⟩), f_X5_settled_J78, sp]
        exact m_setX hT ok (by omega) hY (h4.tr fY)
      · rw [if_neg q2, if_neg (fun z => q2 (of_decide_eq_true z).2)]
        exact hn
theorem m_settled {T : Tt} {V : Vt} (hT : MT T) {a : St} (h : MR V a) (ok : OK a) {p c : Int32} : mOp (f_X5_settled T V 94 p c) V (rSett a p c) a := by
  have h := h.s0 ok.g (j := 0) (v := 0) (by omega)
  rw [f_X5_settled, rq hT.1, sp]
  refine mOp.fr (W := uI V 94 0 0) (mF_uI (by omega)) ?_
  generalize uI V 94 0 0 = V at h ⊢
  have g8 := ok.g.n
  have np4 := ok.g.np
  have hno : Ret (some (((-1) : Int32), V)) fun q : Int32 × Vt => q.1 = -nI 1 ∧ MR q.2 a ∧ mFr V q.2 := Ret.ok ⟨rfl, h, mFr.rfl'⟩
  rw [pc (m_isPlan hT h.hV ok.g h.mf), rSett]
  simp only [b1_0]
  cases h1 : isPa a.g p with
  | false => exact hno
  | true =>
    rw [if_neg (by decide), pc (m_isCask hT h.hV ok.g h.mf)]
    simp only [b1_0]
    cases h3 : isKa a.g c with
    | false => exact hno
    | true =>
      obtain ⟨i, rfl, hi⟩ := isPa_of h1
      obtain ⟨c', rfl, hc⟩ := isKa_of h3
      rw [if_neg (by decide), if_pos (show (true && true) = true from rfl), ix_nI (by omega), ix_nI (by omega)]
      refine Ret.p (m_beginPlan hT h ok hi) ?_
      intro W ⟨hW, fW⟩
      exact m_setL hT ok hi hc 60 0 fuel W (by omega) (by decide) hW fW
theorem m_staX {T : Tt} {V W : Vt} (hT : MT T) {a : St} (ok : OK a) {i n N : Nat} (hn : n < 1000) {s : Pp} (h : mYr T W a i s) (f : mFr V W) {x4 : Int32} : Ret (f_X5_starves_L24 T 94 (fun z23 U24 => f_X5_starves_J58 T U24 94 z23) (N + 1) (nI n) x4 W) fun q => q.1 = nI n ∧ MR q.2 a ∧ mFr V q.2 := by
  have fin : Ret (f_X5_starves_J58 T W 94 (nI n)) fun q => q.1 = nI n ∧ MR q.2 a ∧ mFr V q.2 := by
    rw [f_X5_starves_J58]
    refine Ret.p (m_yrP hT ok h) ?_
    intro Y ⟨hY, fY, _⟩
    exact Ret.ok ⟨rfl, hY, f.tr fY⟩
  rw [f_X5_starves_L24, if_neg (nI_nm hn)]
  split <;> exact fin
theorem m_staL {T : Tt} {V : Vt} (hT : MT T) {a : St} (ok : OK a) {i : Nat} (hi : i < a.g.np) : ∀ k n N W, n + k = 60 → k + 1 < N → mYr T W a i (pRun a i n) → mFr V W →
    Ret (f_X5_starves_L24 T 94 (fun z23 U24 => f_X5_starves_J58 T U24 94 z23) N ((-1) : Int32) (nI n) W) fun q => q.1 = fstY (bSta a i) k n ∧ MR q.2 a ∧ mFr V q.2 := by
  intro k
  induction k with
  | zero =>
    intro n N W h1 h2 h3 h4
    obtain ⟨N, rfl⟩ : ∃ n, N = n + 1 := ⟨N - 1, by omega⟩
    rw [f_X5_starves_L24, if_pos (by rw [show (60 : Int32) = nI 60 from rfl]; exact nI_le (by omega) (by omega)), f_X5_starves_J58]
    refine Ret.p (m_yrP hT ok h3) ?_
    intro Y ⟨hY, fY, _⟩
    exact Ret.ok ⟨rfl, hY, h4.tr fY⟩
  | succ k ih =>
    intro n N W h1 h2 h3 h4
    obtain ⟨N, rfl⟩ : ∃ n, N = n + 2 := ⟨N - 2, by omega⟩
    rw [f_X5_starves_L24, if_neg (by rw [show (60 : Int32) = nI 60 from rfl]; exact nI_ge (by omega) (by omega)), if_pos rfl, fstY]
    refine Ret.p (m_yrS hT ok hi (by omega) h3) ?_
    intro Y ⟨hY, fY, hsk⟩
    have hsk : Y.1 94 50 = b1 (bSta a i n) := hsk
    rw [hsk]
    simp only [b1_0]
    cases q : bSta a i n with
    | false =>
      rw [if_pos rfl, if_neg (by decide), f_X5_starves_J51, show nI n + (1 : Int32) = nI (n + 1) from nI_add _ _, sp]
      exact ih (n + 1) (N + 1) Y (by omega) (by omega) hY (h4.tr fY)
    | true =>
      rw [if_neg (by decide), if_pos rfl, f_X5_starves_J51, sp]
      exact m_staX hT ok (by omega) hY (h4.tr fY)
theorem m_starves {T : Tt} {V : Vt} (hT : MT T) {a : St} (h : MR V a) (ok : OK a) {p : Int32} : mOp (f_X5_starves T V 94 p) V (rStar a p) a := by
  have h := h.s0 ok.g (j := 0) (v := 0) (by omega)
  rw [f_X5_starves, rq hT.1, sp]
  refine mOp.fr (W := uI V 94 0 0) (mF_uI (by omega)) ?_
  generalize uI V 94 0 0 = V at h ⊢
  have np4 := ok.g.np
  rw [pc (m_isPlan hT h.hV ok.g h.mf), rStar]
  simp only [b1_0]
  cases h1 : isPa a.g p with
  | false => exact Ret.ok ⟨rfl, h, mFr.rfl'⟩
  | true =>
    obtain ⟨i, rfl, hi⟩ := isPa_of h1
    rw [if_neg (by decide), if_pos rfl, ix_nI (by omega)]
    refine Ret.p (m_beginPlan hT h ok hi) ?_
    intro W ⟨hW, fW⟩
    exact m_staL hT ok hi 60 0 fuel W (by omega) (by decide) hW fW
theorem lmB_m {l : Option Nat} {m : Nat} (h : ∀ k, l = some k → k ≤ 19000) (hm : m ≤ 19000) : (nI (l.getD 100000000) < nI m) = (lmB l m = false) := by
  cases l with
  | none =>
    rw [Option.getD_none, nI_ltI (by omega) (by omega)]
    exact propext ⟨fun w => absurd w (by omega), fun w => by cases w⟩
  | some k =>
    have := h k rfl
    rw [Option.getD_some, nI_ltI (by omega) (by omega), lmB]
    exact propext ⟨fun w => decide_eq_false (by omega), fun w => by have := of_decide_eq_false w; omega⟩
theorem m_best {T : Tt} {V : Vt} (hT : MT T) {a : St} (h : MR V a) (ok : OK a) {n m : Int32} : mOp (f_X5_best T V 94 n m) V (rBest a n m) a := by
  have h := h.s0 ok.g (j := 0) (v := 0) (by omega)
  rw [f_X5_best, rq hT.1, sp]
  refine mOp.fr (W := uI V 94 0 0) (mF_uI (by omega)) ?_
  generalize uI V 94 0 0 = V at h ⊢
  have np4 := ok.g.np
  have hno : Ret (some (((-1) : Int32), V)) fun q : Int32 × Vt => q.1 = -nI 1 ∧ MR q.2 a ∧ mFr V q.2 := Ret.ok ⟨rfl, h, mFr.rfl'⟩
  rw [pc m_inI, rBest, show (0 : Int64).toInt = 0 from rfl, show (60 : Int64).toInt = 60 from rfl]
  simp only [b1_0]
  cases h1 : iN n 0 60 with
  | false => exact hno
  | true =>
    rw [if_neg (by decide), pc m_inI, show (0 : Int64).toInt = 0 from rfl, show (19000 : Int64).toInt = 19000 from rfl]
    simp only [b1_0]
    cases h4 : iN m 0 19000 with
    | false => exact hno
    | true =>
      obtain ⟨n', rfl, n1, n2, n3⟩ := iN_of h1 (by omega)
      obtain ⟨m', rfl, w1, w2, w3⟩ := iN_of h4 (by omega)
      rw [if_neg (by decide), if_pos (show (true && true) = true from rfl), ix_nI (by omega), ix_nI (by omega)]
      refine lq4 (f_X5_best_L39 T 94 (nI n') (nI m') fun z26 U27 => some (z26, U27)) (fun i u v z W => v = (besS a n' m' i).1 ∧ u = (besS a n' m' i).2 ∧ z = nI i ∧ MR W a ∧ mFr V W) a.g.np ?_ ?_ fuel _ _ _ _ (Nat.lt_of_le_of_lt np4 (by decide)) ⟨rfl, rfl, rfl, h, mFr.rfl'⟩
      · intro i N u v z W hi ⟨q1, q2, q3, q4, q5⟩ ih
        subst q1 q2 q3
        have okR := pRun_ok ok hi (n := n') (by omega)
        have hnp : W.1 96 (ixN (3 : Int32)) = nI a.g.np := q4.mf.np
        rw [f_X5_best_L39, dr (rf3 q4.hV), show req (aIn T 96 0 (3 : Int32)) = req (aIn T 96 0 (nI 3)) from rfl, rq96 hT (by omega), hnp, if_neg (nI_ge hi (by omega))]
        refine Ret.c (m_yieldOf hT q4 ok hi (by omega)) ?_
        intro r X ⟨e1, hX, fX, e43⟩
        dsimp only at e1 hX fX e43
        subst e1
        have hi2 : ∀ u v, besS a n' m' (i + 1) = (v, u) → Ret (f_X5_best_L39 T 94 (nI n') (nI m') (fun z26 U27 => some (z26, U27)) N u v (nI (i + 1)) X) fun q => q.1 = (besS a n' m' a.g.np).1 ∧ MR q.2 a ∧ mFr V q.2 := fun u v e => ih _ _ _ _ ⟨by rw [e], by rw [e], rfl, hX, q5.tr fX⟩
        have j78 : ∀ u v r (b : Bool), f_X5_best_J78 T X 94 (nI n') (nI m') u v (nI i) r (b1 b) (f_X5_best_L39 T 94 (nI n') (nI m') (fun z26 U27 => some (z26, U27)) N) (fun z26 U27 => some (z26, U27)) = f_X5_best_L39 T 94 (nI n') (nI m') (fun z26 U27 => some (z26, U27)) N (if b then r else u) (if b then nI i else v) (nI (i + 1)) X := fun u v r b => by
          have e1 : nI i + (1 : Int32) = nI (i + 1) := nI_add _ _
          cases b with
          | false => rw [f_X5_best_J78, if_pos (by decide), f_X5_best_J92, if_pos (by decide), f_X5_best_J105, e1, sp]; rfl
          | true => rw [f_X5_best_J78, if_neg (by decide), f_X5_best_J92, if_neg (by decide), f_X5_best_J105, e1, sp]; rfl
        have j77 : ∀ u v r, f_X5_best_J77 T X 94 (nI n') (nI m') u v (nI i) r (f_X5_best_L39 T 94 (nI n') (nI m') (fun z26 U27 => some (z26, U27)) N) (fun z26 U27 => some (z26, U27)) = f_X5_best_L39 T 94 (nI n') (nI m') (fun z26 U27 => some (z26, U27)) N u v (nI (i + 1)) X := fun u v r => by
          rw [f_X5_best_J77]
          exact j78 u v r false
        have hlm := lmB_m okR.lm (m := m') (by omega)
        rw [e43]
        have eb : besS a n' m' (i + 1) = if lmB (pRun a i n').lm m' = true ∧ (besS a n' m' i).2 < (pRun a i n').yl then (nI i, (pRun a i n').yl) else besS a n' m' i := by rw [besS]
        by_cases w : lmB (pRun a i n').lm m' = false
        · rw [if_pos (hlm.mpr w), j77]
          exact hi2 _ _ (by rw [eb, if_neg (fun z => by rw [w] at z; cases z.1)])
        · have w' : lmB (pRun a i n').lm m' = true := by cases hn : lmB (pRun a i n').lm m' <;> simp_all
          rw [if_neg (fun z => w (hlm.mp z))]
          by_cases w2 : (besS a n' m' i).2 < (pRun a i n').yl
          · rw [if_neg (by rw [Int32.not_le]; exact w2)]
            refine cast (congrArg (fun f => Ret f _) (j78 _ _ _ true).symm) ?_
            exact hi2 _ _ (by rw [eb, if_pos ⟨w', w2⟩]; rfl)
          · rw [if_pos (by rw [← Int32.not_lt]; exact w2), j77]
            exact hi2 _ _ (by rw [eb, if_neg (fun z => w2 z.2)])
      · intro N u v z W ⟨q1, q2, q3, q4, q5⟩
        subst q1 q2 q3
        have hnp : W.1 96 (ixN (3 : Int32)) = nI a.g.np := q4.mf.np
        rw [f_X5_best_L39, dr (rf3 q4.hV), show req (aIn T 96 0 (3 : Int32)) = req (aIn T 96 0 (nI 3)) from rfl, rq96 hT (by omega), hnp, if_pos (nI_le (Nat.le_refl _) (by omega))]
        exact Ret.ok ⟨rfl, q4, q5⟩
