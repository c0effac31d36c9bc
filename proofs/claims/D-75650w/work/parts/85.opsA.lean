/-! 85: what is told is changed: terms, force, what was tasted, casks -/
set_option maxRecDepth 100000
def Cfg.wnt (g : Cfg) (n : Nat) (ta : Nat → Nat) : Cfg := ⟨g.n, g.ti, g.sz, n, ta, g.nl, g.lw, g.np, g.pl, g.fo, g.co, g.mo, g.pa⟩
def Cfg.wfo (g : Cfg) (f : Option Nat) : Cfg := ⟨g.n, g.ti, g.sz, g.nt, g.ta, g.nl, g.lw, g.np, g.pl, f, g.co, g.mo, g.pa⟩
def Cfg.wte (g : Cfg) (co mo pa : Nat) : Cfg := ⟨g.n, g.ti, g.sz, g.nt, g.ta, g.nl, g.lw, g.np, g.pl, g.fo, co, mo, pa⟩
def Cfg.wad (g : Cfg) (n : Nat) (ti sz : Nat → Nat) : Cfg := ⟨n, ti, sz, g.nt, g.ta, g.nl, g.lw, g.np, g.pl, g.fo, g.co, g.mo, g.pa⟩
theorem CR.cg {T : Tt} {V W : Vt} {x : HS} {a : St} (h : CR T V x a) (e : ∀ c j, ¬ (c = 2 ∨ c = 5 ∨ c = 6 ∨ c = 7) → W.1 c j = V.1 c j) (er : W.2.2 = V.2.2) {g : Cfg} (cf : cCf x.P T W (ms x.la x.pa) g) : CR T W x (a.wg g) := by
  have er : ∀ c j, W.2.2 c j = V.2.2 c j := fun c j => by rw [er]
  exact h.ups (fun c j q => e _ _ (by omega)) er rfl cf (h.ct.fr (fun j => e _ _ (by omega)) (fun j => e _ _ (by omega)) (fun j => er _ _)) (h.cu.fr (fun c j q => e _ _ (by omega)) (fun c j => er c j)) ((e _ _ (by omega)).trans h.st) (fun i hi => (e _ _ (by omega)).trans (h.rf i hi)) ((e _ _ (by omega)).trans h.tn) (fun i hi => (e _ _ (by omega)).trans (h.tp i hi)) ((e _ _ (by omega)).trans h.fa) ((e _ _ (by omega)).trans h.le) ((e _ _ (by omega)).trans h.so) ((e _ _ (by omega)).trans h.dm) (fun i hi q => (e _ _ (by omega)).trans (h.dd i hi q))
theorem cCf.lp {P : Nat → Prop} {T : Tt} {V W : Vt} {la pa : Nat} {g : Cfg} (hP : okP' P la pa) (h : cCf P T V (ms la pa) g) (e1 : ∀ c j, (8 ≤ c ∧ c ≤ 11) ∨ 120 ≤ c → W.1 c j = V.1 c j) (er : W.2.2 = V.2.2) :
    (∃ (c : Nat) (el : Nat → Nat), isLs T W 8 la c g.nl el ∧ ∀ i, i < g.nl → isLaw P T W (el i) (g.lw i)) ∧ ∃ (c : Nat) (el : Nat → Nat), isLs T W 10 pa c g.np el ∧ ∀ i, i < g.np → isPl P T W (el i) (g.pl i) := by
  have e2 : ∀ c j, P c → W.1 c j = V.1 c j := fun c j q => e1 _ _ (Or.inr (hP.1 c q))
  have e3 : ∀ c j, P c → W.2.2 c j = V.2.2 c j := fun c j q => by rw [er]
  obtain ⟨c, el, h1, h2⟩ := h.lw
  obtain ⟨d, em, h3, h4⟩ := h.pl
  exact ⟨⟨c, el, h1.fr (fun j => e1 8 j (by omega)) (fun j => by rw [er]) (fun j => by rw [er]), fun i hi => (h2 i hi).fr e2 e3⟩, d, em, h3.fr (fun j => e1 10 j (by omega)) (fun j => by rw [er]) (fun j => by rw [er]), fun i hi => (h4 i hi).fr e2 e3⟩
theorem mUn.g {V : Vt} {g g' : Cfg} {u : Un} (h : mUn V g u) (e1 : g'.co = g.co) (e2 : g'.mo = g.mo) (e3 : g'.pa = g.pa) : mUn V g' u := by
  have : ∀ t i, snap g' t i = snap g t i := fun t i => by rw [snap, snap, e1, e2, e3]
  exact ⟨h.n, h.l, fun k hk i hi => by rw [this]; exact h.s k hk i hi, h.w⟩
theorem MR.cg {V W : Vt} {a : St} (h : MR V a) (e : ∀ c j, c ≠ 96 → W.1 c j = V.1 c j) (el : W.2 = V.2) {g : Cfg} (mf : mCf W g) (mt : mTb W a.t) (mu : mUn W g a.u) : MR W (a.wg g) :=
  h.up (by rw [el]) (fun c j q => e _ _ (by omega)) (fun c j q => by rw [el]) rfl mf mt mu ((e _ _ (by omega)).trans h.st) (fun i hi => (e _ _ (by omega)).trans (h.rf i hi)) ((e _ _ (by omega)).trans h.od) ((e _ _ (by omega)).trans h.tn) (fun i hi => (e _ _ (by omega)).trans (h.tp i hi)) ((e _ _ (by omega)).trans h.fa) ((e _ _ (by omega)).trans h.le) ((e _ _ (by omega)).trans h.so) ((e _ _ (by omega)).trans h.dm) (fun i hi q => (e _ _ (by omega)).trans (h.dd i hi q))
/-- the plainest -/
theorem c_leaks {T : Tt} {V : Vt} {x : HS} {a : St} (h : CR T V x a) : f_X0_leaks T V 0 = some a.le := by rw [f_X0_leaks, rq h.hC.k0, h.le]
theorem c_fault {T : Tt} {V : Vt} {x : HS} {a : St} (h : CR T V x a) : f_X0_fault T V 0 = some a.fa := by rw [f_X0_fault, rq h.hC.k0, h.fa]
theorem c_stopped {T : Tt} {V : Vt} {x : HS} {a : St} (h : CR T V x a) : f_X0_stopped T V 0 = some a.so := by rw [f_X0_stopped, rq h.hC.k0, h.so]
theorem c_status {T : Tt} {V : Vt} {x : HS} {a : St} (h : CR T V x a) : f_X0_status T V 0 = some a.st := by rw [f_X0_status, rq h.hC.k0, h.st]
theorem m_leaks {T : Tt} {V : Vt} (hT : MT T) {a : St} (h : MR V a) (ok : OK a) : mOp (f_X5_leaks T V 94) V a.le a := by
  have h := h.s0 ok.g (j := 0) (v := 0) (by omega)
  rw [f_X5_leaks, rq hT.1, sp, h.le]
  exact Ret.ok ⟨rfl, h, mF_uI (by omega)⟩
theorem m_fault {T : Tt} {V : Vt} (hT : MT T) {a : St} (h : MR V a) (ok : OK a) : mOp (f_X5_fault T V 94) V a.fa a := by
  have h := h.s0 ok.g (j := 0) (v := 0) (by omega)
  rw [f_X5_fault, rq hT.1, sp, h.fa]
  exact Ret.ok ⟨rfl, h, mF_uI (by omega)⟩
theorem m_stopped {T : Tt} {V : Vt} (hT : MT T) {a : St} (h : MR V a) (ok : OK a) : mOp (f_X5_stopped T V 94) V a.so a := by
  have h := h.s0 ok.g (j := 0) (v := 0) (by omega)
  rw [f_X5_stopped, rq hT.1, sp, h.so]
  exact Ret.ok ⟨rfl, h, mF_uI (by omega)⟩
theorem m_status {T : Tt} {V : Vt} (hT : MT T) {a : St} (h : MR V a) (ok : OK a) : mOp (f_X5_status T V 94) V a.st a := by
  have h := h.s0 ok.g (j := 0) (v := 0) (by omega)
  rw [f_X5_status, rq hT.1, sp, h.st]
  exact Ret.ok ⟨rfl, h, mF_uI (by omega)⟩
def rEnd (a : St) (v : Int32) : Int32 := if iN v 0 a.tn then v else -nI 1
def oEnd (a : St) (v : Int32) : St := if iN v 0 a.tn then a.wtn (ixN v) else a
theorem end_no {v : Int32} {n : Nat} (hn : n < 2 ^ 31) (h : ¬ iN v 0 n = true) (h0 : ¬ v < 0) : ¬ v ≤ nI n := by
  intro w
  apply h
  rw [Int32.le_iff_toInt_le, nI_toInt hn] at w
  rw [Int32.lt_iff_toInt_lt] at h0
  have : (0 : Int32).toInt = 0 := rfl
  exact decide_eq_true (by omega)
theorem c_end {T : Tt} {V : Vt} {x : HS} {a : St} (h : CR T V x a) (ok : OK a) {v : Int32} : cOp (f_X0_end T V 0 v) T V (rEnd a v) (oEnd a v) := by
  have hn := ok.tn
  rw [f_X0_end, rq h.hC.k0, h.tn, rEnd, oEnd]
  by_cases w : iN v 0 a.tn = true
  · obtain ⟨k, rfl, h1, h2, h3⟩ := iN_of w (by omega)
    rw [if_neg (nI_pos h3), if_pos (nI_le (by omega) (by omega)), if_pos w, if_pos w, sp, ix_nI h3]
    exact Ret.ok ⟨rfl, ⟨x, h.s11⟩, cF_uI (by omega)⟩
  · rw [if_neg w, if_neg w]
    by_cases q : v < 0
    · rw [if_pos q]
      exact Ret.ok ⟨rfl, ⟨x, h⟩, cFr.rfl'⟩
    · rw [if_neg q, if_neg (end_no (by omega) w q)]
      exact Ret.ok ⟨rfl, ⟨x, h⟩, cFr.rfl'⟩
theorem m_end {T : Tt} {V : Vt} (hT : MT T) {a : St} (h : MR V a) (ok : OK a) {v : Int32} : mOp (f_X5_end T V 94 v) V (rEnd a v) (oEnd a v) := by
  have hn := ok.tn
  have h := h.s0 ok.g (j := 0) (v := 0) (by omega)
  rw [f_X5_end, rq hT.1, sp]
  refine mOp.fr (W := uI V 94 0 0) (mF_uI (by omega)) ?_
  generalize uI V 94 0 0 = V at h ⊢
  rw [h.tn, rEnd, oEnd]
  by_cases w : iN v 0 a.tn = true
  · obtain ⟨k, rfl, h1, h2, h3⟩ := iN_of w (by omega)
    rw [if_neg (nI_pos h3), if_pos (nI_le (by omega) (by omega)), if_pos w, if_pos w, sp, ix_nI h3]
    exact Ret.ok ⟨rfl, h.s13 ok.g, mF_uI (by omega)⟩
  · rw [if_neg w, if_neg w]
    by_cases q : v < 0
    · rw [if_pos q]
      exact Ret.ok ⟨rfl, h, mFr.rfl'⟩
    · rw [if_neg q, if_neg (end_no (by omega) w q)]
      exact Ret.ok ⟨rfl, h, mFr.rfl'⟩
/-- what was tasted -/
def oForget (a : St) : St := a.wg (a.g.wnt 0 a.g.ta)
theorem c_forget {T : Tt} {V : Vt} {x : HS} {a : St} (h : CR T V x a) : cOp (f_X0_forget T V 0) T V (nI a.g.nt) (oForget a) := by
  have hC := h.hC
  have hU := h.hU
  have hn : V.1 2 7 = nI a.g.nt := h.cf.nt
  simp (disch := omega) only [f_X0_forget, rq_t, drs, sp, pcs, cls, ↓reduceIte, not_true_eq_false, not_false_eq_true, and_true, true_and, and_false, false_and, or_true, true_or, or_false, false_or, eq_self, l0, l1, l2, l3, l4, l5, l6, l7, l8, l9, l10, l11, l12, l13, l14, l15, l16, l17, l18, l19, l20, l21, l22, l23, l24, l25, l26, l27, l28, l29, l30, l31, l32, l33, l34, l35, l36, l37, l40, l41, l42, l43, l45, l47, l48, l50, l57, l59, l60, l61, l62, l63, l85, l91, l93, l96, l97, l98, l99, l100, l120, l122, l146, l160, l165, l170, l178, l186, l198, l255, l400, l900, l948, l999, l1000, l2475, l2640, l2970, l3990, l9390, l18780, l19000, l999999, l1000000, l100000000, l2147483639, nI_add, pk_mul, ix_nI, leT, leF, ltT, ltF, eqT, eqF, nI_leI, nI_ltI, nI_eq, ngEq, ngEq', ngLt, ngLt', ngLe, ngLe', ngNg, nI_p, pk_sub, Nat.reduceAdd, Nat.reduceMul, Nat.reduceSub, uI1, uI2, uL1, uL2, uL3, uR1, uR2, uR3, rq_eq hC.k0, rq_eq hC.k2, rq_eq hC.k3, rq_eq hC.k8, rq_eq hC.k10, rq_eq hC.k17, rq_eq hC.k19, rq_eq hC.k22, rq_eq hC.k23, rq_eq hC.k28, cq1 hC, cq4 hC, cq5 hC, cq6 hC, cq7 hC, cq12 hC, cq13 hC, cq14 hC, cq15 hC, cq16 hC, cq18 hC, cq20 hC, cq21 hC, cq24 hC, cq25 hC, cq26 hC, cq27 hC, cq29 hC, hU.r0_1, hU.r0_2, hU.r0_3, hU.r0_4, hU.r0_5, hU.r0_6, hU.r0_7, hU.r0_8, hU.r0_9, hU.r0_10, hU.r0_16, hU.r0_17, hU.r0_18, hU.r0_22, hU.r0_23, hU.r2_0, hU.r2_1, hU.r2_2, hU.r2_3, hU.r2_4, hU.r2_5, hU.r3_0, hU.r17_0, hU.r19_0, hU.r28_0, hU.r22_0, hU.r22_1, hn]
  refine Ret.ok ⟨rfl, ⟨x, h.cg (W := uI V 2 7 (nI 0)) (fun c j q => by rw [uI1, if_neg (by omega)]) rfl ?_⟩, cF_uI (by omega)⟩
  have cf := h.cf
  have hl := cCf.lp (W := uI V 2 7 (nI 0)) h.P' cf (fun c j q => by rw [uI1, if_neg (by omega)]) rfl
  have e : ∀ c j, ¬ (c = 2 ∧ j = 7) → (uI V 2 7 (nI 0)).1 c j = V.1 c j := fun c j q => by rw [uI1, if_neg q]
  exact ⟨(e 2 6 (by omega)).trans cf.n, by show (uI V 2 7 (nI 0)).1 2 7 = nI 0; rw [uI1, if_pos ⟨rfl, rfl⟩], (e 2 8 (by omega)).trans cf.co, (e 2 9 (by omega)).trans cf.mo, (e 2 10 (by omega)).trans cf.pa, (e 2 11 (by omega)).trans cf.fo, fun c hc => (e 5 c (by omega)).trans (cf.ti c hc), fun c hc => (e 6 c (by omega)).trans (cf.sz c hc), fun k hk => absurd hk (Nat.not_lt_zero _), hl.1, hl.2⟩
theorem m_forget {T : Tt} {V : Vt} (hT : MT T) {a : St} (h : MR V a) (ok : OK a) : mOp (f_X5_forget T V 94) V (nI a.g.nt) (oForget a) := by
  have h := h.s0 ok.g (j := 0) (v := 0) (by omega)
  rw [f_X5_forget, rq hT.1, sp]
  refine mOp.fr (W := uI V 94 0 0) (mF_uI (by omega)) ?_
  generalize uI V 94 0 0 = V at h ⊢
  have hV := h.hV
  have hn := h.mf.nt
  simp (disch := omega) only [rq_t, drs, sp, pcs, cls, ↓reduceIte, not_true_eq_false, not_false_eq_true, and_true, true_and, and_false, false_and, or_true, true_or, or_false, false_or, eq_self, l0, l1, l2, l3, l4, l5, l6, l7, l8, l9, l10, l11, l12, l13, l14, l15, l16, l17, l18, l19, l20, l21, l22, l23, l24, l25, l26, l27, l28, l29, l30, l31, l32, l33, l34, l35, l36, l37, l40, l41, l42, l43, l45, l47, l48, l50, l57, l59, l60, l61, l62, l63, l85, l91, l93, l96, l97, l98, l99, l100, l120, l122, l146, l160, l165, l170, l178, l186, l198, l255, l400, l900, l948, l999, l1000, l2475, l2640, l2970, l3990, l9390, l18780, l19000, l999999, l1000000, l100000000, l2147483639, nI_add, pk_mul, ix_nI, leT, leF, ltT, ltF, eqT, eqF, nI_leI, nI_ltI, nI_eq, ngEq, ngEq', ngLt, ngLt', ngLe, ngLe', ngNg, nI_p, pk_sub, Nat.reduceAdd, Nat.reduceMul, Nat.reduceSub, uI1, uI2, uL1, uL2, uL3, uR1, uR2, uR3, rq_eq (MT0 hT), rq95 hT, rf2 hV, rq96 hT, rf3 hV, rq97 hT, rf4 hV, rq98 hT, rf5 hV, rq99 hT, rf6 hV, rq100 hT, rf7 hV, rq101 hT, rf9 hV, rq102 hT, rf10 hV, rq103 hT, rf12 hV, rq104 hT, rf22 hV, rq105 hT, rf24 hV, rq106 hT, rf25 hV, rq107 hT, rf27 hV, rq108 hT, rf28 hV, rq109 hT, rf31 hV, rq110 hT, rf32 hV, rq111 hT, rf33 hV, rq112 hT, rf35 hV, rq113 hT, rf36 hV, rq114 hT, rf37 hV, rq115 hT, rf41 hV, rq116 hT, rf44 hV, rq117 hT, rf45 hV, rq118 hT, rf51 hV, rq119 hT, rf53 hV, hn]
  have mf := h.mf
  have e : ∀ c j, ¬ (c = 96 ∧ j = 1) → (uI V 96 1 (nI 0)).1 c j = V.1 c j := fun c j q => by rw [uI1, if_neg q]
  have g8 := ok.g.n
  refine Ret.ok ⟨rfl, h.cg (W := uI V 96 1 (nI 0)) (fun c j q => e _ _ (by omega)) rfl ?_ (h.mt.fr4 (fun j q => e _ _ (by omega))) ((h.mu.fr (fun c j q => e _ _ (by omega))).g rfl rfl rfl), mF_uI (by omega)⟩
  exact ⟨(e _ _ (by omega)).trans mf.n, by rw [uI1, if_pos ⟨rfl, rfl⟩]; rfl, (e _ _ (by omega)).trans mf.nl, (e _ _ (by omega)).trans mf.np, (e _ _ (by omega)).trans mf.fo, (e _ _ (by omega)).trans mf.co, (e _ _ (by omega)).trans mf.mo, (e _ _ (by omega)).trans mf.pa, fun c hc => (e _ _ (by omega)).trans (mf.ti c hc), fun c hc => (e _ _ (by omega)).trans (mf.sz c hc), fun k hk => absurd hk (Nat.not_lt_zero _), fun i hi => (mf.pl i hi).fr (fun j => e _ _ (by omega)), fun i hi => (mf.lw i hi).fr5 (fun j => e _ _ (by omega))⟩
