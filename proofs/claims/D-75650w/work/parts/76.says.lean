/-! 76: what laws say, on both sides -/
set_option maxRecDepth 100000
set_option maxHeartbeats 1000000 in
theorem c_says {P : Nat → Prop} {T : Tt} {V : Vt} (hC : CT T) (hU : CV V) {la pa : Nat} (hP : okP' P la pa) {g : Cfg} (hg : okG g) (cf : cCf P T V (ms la pa) g) {t d : Nat} {b : Tab} (hb : okB g b) (ct : cTb T V t d b) {head c : Nat} (hh : head < 3) (hc : c < g.n) :
    Ret (f_X0_says T V 0 (nI head) t (nI c)) fun p => p.1 = (sai g b head c).getD (-4000000000) ∧ frM nF lC V p.2 := by
  have hfo := cf.fo
  have hn := hg.n
  rw [sai]
  cases hf : g.fo with
  | none =>
    rw [hf] at hfo
    dsimp only [ms] at hfo
    simp (disch := omega) only [f_X0_says, rq_t, drs, sp, pcs, cls, ↓reduceIte, not_true_eq_false, not_false_eq_true, and_true, true_and, and_false, false_and, or_true, true_or, or_false, false_or, eq_self, l0, l1, l2, l3, l4, l5, l6, l7, l8, l9, l10, l11, l12, l13, l14, l15, l16, l17, l18, l19, l20, l21, l22, l23, l24, l25, l26, l27, l28, l29, l30, l31, l32, l33, l34, l35, l36, l37, l40, l41, l42, l43, l45, l47, l48, l50, l57, l59, l60, l61, l62, l63, l85, l91, l93, l96, l97, l98, l99, l100, l120, l122, l146, l160, l165, l170, l178, l186, l198, l255, l400, l900, l948, l999, l1000, l2475, l2640, l2970, l3990, l9390, l18780, l19000, l999999, l1000000, l100000000, l2147483639, nI_add, pk_mul, ix_nI, leT, leF, ltT, ltF, eqT, eqF, nI_leI, nI_ltI, nI_eq, ngEq, ngEq', ngLt, ngLt', ngLe, ngLe', ngNg, nI_p, pk_sub, Nat.reduceAdd, Nat.reduceMul, Nat.reduceSub, uI1, uI2, uL1, uL2, uL3, uR1, uR2, uR3, rq_eq hC.k0, rq_eq hC.k2, rq_eq hC.k3, rq_eq hC.k8, rq_eq hC.k10, rq_eq hC.k17, rq_eq hC.k19, rq_eq hC.k22, rq_eq hC.k23, rq_eq hC.k28, cq1 hC, cq4 hC, cq5 hC, cq6 hC, cq7 hC, cq12 hC, cq13 hC, cq14 hC, cq15 hC, cq16 hC, cq18 hC, cq20 hC, cq21 hC, cq24 hC, cq25 hC, cq26 hC, cq27 hC, cq29 hC, hU.r0_1, hU.r0_2, hU.r0_3, hU.r0_4, hU.r0_5, hU.r0_6, hU.r0_7, hU.r0_8, hU.r0_9, hU.r0_10, hU.r0_16, hU.r0_17, hU.r0_18, hU.r0_22, hU.r0_23, hU.r2_0, hU.r2_1, hU.r2_2, hU.r2_3, hU.r2_4, hU.r2_5, hU.r3_0, hU.r17_0, hU.r19_0, hU.r28_0, hU.r22_0, hU.r22_1, hfo, oI]
    exact Ret.ok ⟨rfl, frM.rfl'⟩
  | some f =>
    rw [hf] at hfo
    dsimp only [ms] at hfo
    have hfl := hg.fo f hf
    have hnl := hg.nl
    have h1 := cf.ti c hc
    have h2 := cf.sz c hc
    have h3 := cf.mo
    have h4 := ct.y
    have hB := hb.a hg hc
    have q1 := hg.ti c hc
    have q2 := hg.sz c hc
    have q3 := hg.mo
    have q4 := hb.y
    dsimp only [ms] at h1 h2 h3
    simp (disch := omega) only [f_X0_says, rq_t, drs, sp, pcs, cls, ↓reduceIte, not_true_eq_false, not_false_eq_true, and_true, true_and, and_false, false_and, or_true, true_or, or_false, false_or, eq_self, l0, l1, l2, l3, l4, l5, l6, l7, l8, l9, l10, l11, l12, l13, l14, l15, l16, l17, l18, l19, l20, l21, l22, l23, l24, l25, l26, l27, l28, l29, l30, l31, l32, l33, l34, l35, l36, l37, l40, l41, l42, l43, l45, l47, l48, l50, l57, l59, l60, l61, l62, l63, l85, l91, l93, l96, l97, l98, l99, l100, l120, l122, l146, l160, l165, l170, l178, l186, l198, l255, l400, l900, l948, l999, l1000, l2475, l2640, l2970, l3990, l9390, l18780, l19000, l999999, l1000000, l100000000, l2147483639, nI_add, pk_mul, ix_nI, leT, leF, ltT, ltF, eqT, eqF, nI_leI, nI_ltI, nI_eq, ngEq, ngEq', ngLt, ngLt', ngLe, ngLe', ngNg, nI_p, pk_sub, Nat.reduceAdd, Nat.reduceMul, Nat.reduceSub, uI1, uI2, uL1, uL2, uL3, uR1, uR2, uR3, rq_eq hC.k0, rq_eq hC.k2, rq_eq hC.k3, rq_eq hC.k8, rq_eq hC.k10, rq_eq hC.k17, rq_eq hC.k19, rq_eq hC.k22, rq_eq hC.k23, rq_eq hC.k28, cq1 hC, cq4 hC, cq5 hC, cq6 hC, cq7 hC, cq12 hC, cq13 hC, cq14 hC, cq15 hC, cq16 hC, cq18 hC, cq20 hC, cq21 hC, cq24 hC, cq25 hC, cq26 hC, cq27 hC, cq29 hC, hU.r0_1, hU.r0_2, hU.r0_3, hU.r0_4, hU.r0_5, hU.r0_6, hU.r0_7, hU.r0_8, hU.r0_9, hU.r0_10, hU.r0_16, hU.r0_17, hU.r0_18, hU.r0_22, hU.r0_23, hU.r2_0, hU.r2_1, hU.r2_2, hU.r2_3, hU.r2_4, hU.r2_5, hU.r3_0, hU.r17_0, hU.r19_0, hU.r28_0, hU.r22_0, hU.r22_1, hfo, oI, h1, h2, h3, h4]
    rw [pc (c_full (D := b.D) (d := d) ⟨ct.k.1, ?_, ct.k.2.2⟩ ?_ (by omega) hB)]
    rw [pc (c_years (D := b.D) (d := d) ⟨ct.k.1, ?_, ct.k.2.2⟩ ?_ (by omega) hB)]
    obtain ⟨cc, el, hls, hlw⟩ := cf.lw
    rw [pc (c_get (hls.fr ?_ ?_ ?_) hfl)]
    have hl := hlw f hfl
    rw [rq hl.2.1]
    have hok := hg.lw f hfl
    have hfr : ∀ W : Vt, W.1 = V.1 → W.2.2 = V.2.2 → isLaw P T W (el f) (g.lw f) := fun W w1 w2 => hl.fr (fun h j _ => by rw [w1]) (fun h j _ => by rw [w2])
    have hset : ∀ W : Vt, W.2.2 = V.2.2 → cSet T W (W.2.1 24) := fun W w => ⟨hC.k22, by rw [w]; exact hU.r22_0, hC.k23, by rw [w]; exact hU.r22_1, hC.k24, hC.n24, fun _ _ => rfl⟩
    have hag : ∀ W : Vt, (∀ i, i < 7 → W.2.1 24 i = vC g b c i) → W.1 = V.1 → W.2.2 = V.2.2 → frM nF lC V W → Ret (pcl (f_X19_told T W (el f) (nI head) 22) fun z => some (z, W)) fun p => p.1 = (tld (g.lw f) head (vC g b c) (g.lw f).1).getD (-4000000000) ∧ frM nF lC V p.2 := by
      intro W w1 w2 w3 w4
      have hv := vC_b hg hb hc
      rw [pc (c_told (hset W w3) (hfr W w2 w3) (okL_v hok (fun i hi => by rw [w1 i hi]; exact hv i hi)) hh), tld_c hok w1 _ (Nat.le_refl _)]
      exact Ret.ok ⟨rfl, w4⟩
    refine hag _ ?_ rfl rfl ⟨fun _ _ _ => rfl, fun h j q => ?_, rfl⟩
    · intro i hi
      have : i = 0 ∨ i = 1 ∨ i = 2 ∨ i = 3 ∨ i = 4 ∨ i = 5 ∨ i = 6 := by omega
      rcases this with h | h | h | h | h | h | h <;> subst h <;> simp (disch := omega) only [rq_t, drs, sp, pcs, cls, ↓reduceIte, not_true_eq_false, not_false_eq_true, and_true, true_and, and_false, false_and, or_true, true_or, or_false, false_or, eq_self, l0, l1, l2, l3, l4, l5, l6, l7, l8, l9, l10, l11, l12, l13, l14, l15, l16, l17, l18, l19, l20, l21, l22, l23, l24, l25, l26, l27, l28, l29, l30, l31, l32, l33, l34, l35, l36, l37, l40, l41, l42, l43, l45, l47, l48, l50, l57, l59, l60, l61, l62, l63, l85, l91, l93, l96, l97, l98, l99, l100, l120, l122, l146, l160, l165, l170, l178, l186, l198, l255, l400, l900, l948, l999, l1000, l2475, l2640, l2970, l3990, l9390, l18780, l19000, l999999, l1000000, l100000000, l2147483639, nI_add, pk_mul, ix_nI, leT, leF, ltT, ltF, eqT, eqF, nI_leI, nI_ltI, nI_eq, ngEq, ngEq', ngLt, ngLt', ngLe, ngLe', ngNg, nI_p, pk_sub, Nat.reduceAdd, Nat.reduceMul, Nat.reduceSub, uI1, uI2, uL1, uL2, uL3, uR1, uR2, uR3, vC, vL, nI_l]
    · simp (disch := omega) only [rq_t, drs, sp, pcs, cls, ↓reduceIte, not_true_eq_false, not_false_eq_true, and_true, true_and, and_false, false_and, or_true, true_or, or_false, false_or, eq_self, l0, l1, l2, l3, l4, l5, l6, l7, l8, l9, l10, l11, l12, l13, l14, l15, l16, l17, l18, l19, l20, l21, l22, l23, l24, l25, l26, l27, l28, l29, l30, l31, l32, l33, l34, l35, l36, l37, l40, l41, l42, l43, l45, l47, l48, l50, l57, l59, l60, l61, l62, l63, l85, l91, l93, l96, l97, l98, l99, l100, l120, l122, l146, l160, l165, l170, l178, l186, l198, l255, l400, l900, l948, l999, l1000, l2475, l2640, l2970, l3990, l9390, l18780, l19000, l999999, l1000000, l100000000, l2147483639, nI_add, pk_mul, ix_nI, leT, leF, ltT, ltF, eqT, eqF, nI_leI, nI_ltI, nI_eq, ngEq, ngEq', ngLt, ngLt', ngLe, ngLe', ngNg, nI_p, pk_sub, Nat.reduceAdd, Nat.reduceMul, Nat.reduceSub, uI1, uI2, uL1, uL2, uL3, uR1, uR2, uR3]
    all_goals first
      | exact ct.k.2.1
      | exact ct.D
      | (intro j; rfl)
theorem c_loses {P : Nat → Prop} {T : Tt} {V : Vt} (hC : CT T) (hU : CV V) {la pa : Nat} (hP : okP' P la pa) {g : Cfg} (hg : okG g) (cf : cCf P T V (ms la pa) g) {t d : Nat} {b : Tab} (hb : okB g b) (ct : cTb T V t d b) {c : Nat} (hc : c < g.n) :
    Ret (f_X0_losesOf T V 0 t (nI c)) fun p => p.1 = nI (los g b c) ∧ frM nF lC V p.2 := by
  rw [f_X0_losesOf, rq hC.k0, l0]
  refine Ret.c (c_says hC hU hP hg cf hb ct (by omega) hc) ?_
  intro a W ⟨e, f⟩
  dsimp only at e f
  simp only [lgc_eq0, lgc_eq]
  rw [los]
  cases hs : sai g b 0 c with
  | none =>
    rw [hs, Option.getD_none] at e
    rw [if_pos e]
    exact Ret.ok ⟨rfl, f⟩
  | some x =>
    rw [hs] at e
    have e : a = x := e
    subst e
    rw [if_neg (b9_n (sai_v hg hb hc hs).1), l99, pc (c_within (by omega))]
    exact Ret.ok ⟨rfl, f⟩
theorem c_yield {P : Nat → Prop} {T : Tt} {V : Vt} (hC : CT T) (hU : CV V) {la pa : Nat} (hP : okP' P la pa) {g : Cfg} (hg : okG g) (cf : cCf P T V (ms la pa) g) {t d : Nat} {b : Tab} (hb : okB g b) (ct : cTb T V t d b) {c : Nat} (hc : c < g.n) :
    Ret (f_X0_yieldOf T V 0 t (nI c)) fun p => p.1 = nI (yil g b c) ∧ frM nF lC V p.2 := by
  rw [f_X0_yieldOf, rq hC.k0, l1]
  refine Ret.c (c_says hC hU hP hg cf hb ct (by omega) hc) ?_
  intro a W ⟨e, f⟩
  dsimp only at e f
  simp only [lgc_eq0, lgc_eq]
  rw [yil]
  cases hs : sai g b 1 c with
  | none =>
    rw [hs, Option.getD_none] at e
    rw [if_pos e]
    exact Ret.ok ⟨rfl, f⟩
  | some x =>
    rw [hs] at e
    have e : a = x := e
    subst e
    rw [if_neg (b9_n (sai_v hg hb hc hs).1), l999, pc (c_within (by omega))]
    exact Ret.ok ⟨rfl, f⟩
def b1 (b : Bool) : Int32 := nI (if b then 1 else 0)
theorem c_barred {P : Nat → Prop} {T : Tt} {V : Vt} (hC : CT T) (hU : CV V) {la pa : Nat} (hP : okP' P la pa) {g : Cfg} (hg : okG g) (cf : cCf P T V (ms la pa) g) {t d : Nat} {b : Tab} (hb : okB g b) (ct : cTb T V t d b) {c : Nat} (hc : c < g.n) :
    Ret (f_X0_isBarred T V 0 t (nI c)) fun p => p.1 = b1 (bar g b c) ∧ frM nF lC V p.2 := by
  rw [f_X0_isBarred, rq hC.k0, l2]
  refine Ret.c (c_says hC hU hP hg cf hb ct (by omega) hc) ?_
  intro a W ⟨e, f⟩
  dsimp only at e f
  simp only [lgc_eq0, lgc_eq]
  rw [bar]
  cases hs : sai g b 2 c with
  | none =>
    rw [hs, Option.getD_none] at e
    rw [if_pos e]
    exact Ret.ok ⟨rfl, f⟩
  | some x =>
    rw [hs] at e
    have e : a = x := e
    subst e
    rw [if_neg (b9_n (sai_v hg hb hc hs).1)]
    exact Ret.ok ⟨rfl, f⟩
theorem m_says {T : Tt} {V : Vt} (hT : MT T) (hV : MV V) {g : Cfg} (hg : okG g) (mf : mCf V g) {b : Tab} (hb : okB g b) (mt : mTb V b) (ho : isB (V.1 94 20)) {head c : Nat} (hh : head < 3) (hc : c < g.n) {w : Int64} :
    Ret (f_X5_tells T V 94 (nI head) (nI c) w) fun p => p.1 = (sai g b head c).getD w ∧ frM sF lF V p.2 := by
  have hfo := mf.fo
  have hn := hg.n
  rw [sai]
  cases hf : g.fo with
  | none =>
    rw [hf] at hfo
    rw [m_tells0 hT hV hfo]
    exact Ret.ok ⟨rfl, frM.rfl'⟩
  | some f =>
    rw [hf] at hfo
    have hfl := hg.fo f hf
    have hnl := hg.nl
    have q1 := hg.ti c hc
    have q2 := hg.sz c hc
    have q3 := hg.mo
    have q4 := hb.y
    exact m_tells1 hT hV (by omega) hfo (mf.lw f hfl) mt.D (by omega) (hb.a hg hc) (mf.ti c hc) (mf.sz c hc) mt.y mf.mo (by omega) (by omega) (by omega) (by omega) ho hh
theorem m_loses {T : Tt} {V : Vt} (hT : MT T) (hV : MV V) {g : Cfg} (hg : okG g) (mf : mCf V g) {b : Tab} (hb : okB g b) (mt : mTb V b) (ho : isB (V.1 94 20)) {c : Nat} (hc : c < g.n) :
    Ret (f_X5_losesOf T V 94 (nI c)) fun p => p.1 = nI (los g b c) ∧ frM sF lF V p.2 := by
  rw [f_X5_losesOf, rq hT.1, l0]
  refine Ret.c (m_says hT hV hg mf hb mt ho (by omega) hc) ?_
  intro a W ⟨e, f⟩
  dsimp only at e f
  subst e
  rw [l99, ← l0, pc (m_bounded (by omega)), los]
  refine Ret.ok ⟨?_, f⟩
  cases sai g b 0 c <;> rfl
theorem m_yields {T : Tt} {V : Vt} (hT : MT T) (hV : MV V) {g : Cfg} (hg : okG g) (mf : mCf V g) {b : Tab} (hb : okB g b) (mt : mTb V b) (ho : isB (V.1 94 20)) {c : Nat} (hc : c < g.n) :
    Ret (f_X5_yieldsOf T V 94 (nI c)) fun p => p.1 = nI (yil g b c) ∧ frM sF lF V p.2 := by
  rw [f_X5_yieldsOf, rq hT.1, l1]
  refine Ret.c (m_says hT hV hg mf hb mt ho (by omega) hc) ?_
  intro a W ⟨e, f⟩
  dsimp only at e f
  subst e
  rw [l999, pc (m_bounded (by omega)), yil]
  refine Ret.ok ⟨?_, f⟩
  cases sai g b 1 c <;> rfl
theorem m_barred {T : Tt} {V : Vt} (hT : MT T) (hV : MV V) {g : Cfg} (hg : okG g) (mf : mCf V g) {b : Tab} (hb : okB g b) (mt : mTb V b) (ho : isB (V.1 94 20)) {c : Nat} (hc : c < g.n) :
    Ret (f_X5_isBarred T V 94 (nI c)) fun p => p.1 = b1 (bar g b c) ∧ frM sF lF V p.2 := by
  rw [f_X5_isBarred, rq hT.1, l2]
  refine Ret.c (m_says hT hV hg mf hb mt ho (by omega) hc) ?_
  intro a W ⟨e, f⟩
  dsimp only at e f
  subst e
  simp only [lgc_eq0, lgc_eq]
  rw [bar]
  cases hs : sai g b 2 c with
  | none =>
    rw [Option.getD_none, if_neg (by decide)]
    exact Ret.ok ⟨rfl, f⟩
  | some x =>
    rw [(sai_v hg hb hc hs).2 rfl, Option.getD_some, if_pos rfl]
    exact Ret.ok ⟨rfl, f⟩
