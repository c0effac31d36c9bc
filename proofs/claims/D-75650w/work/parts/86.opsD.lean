/-! 86: the law in force, terms, compare -/
set_option maxRecDepth 100000
def isLw (g : Cfg) (v : Int32) : Bool := iN v (-1) ((g.nl : Int) - 1)
def oN (v : Int32) : Option Nat := if v = -1 then none else some (ixN v)
theorem m1T : (-1 : Int32).toInt = -1 := by decide
theorem isLw_of {g : Cfg} (hg : okG g) {v : Int32} (h : isLw g v = true) : v = oI (oN v) ∧ ∀ f, oN v = some f → f < g.nl := by
  have hl := hg.nl
  have h := of_decide_eq_true h
  rw [oN]
  by_cases e : v = -1
  · rw [if_pos e]
    exact ⟨e, fun f q => nomatch q⟩
  · rw [if_neg e]
    have h1 : v.toInt ≠ -1 := fun q => e (Int32.toInt_inj.mp (q.trans m1T.symm))
    have : iN v 0 ((g.nl : Int) - 1) = true := decide_eq_true (by omega)
    obtain ⟨n, rfl, -, h3, h4⟩ := iN_of this (by omega)
    rw [ix_nI h4]
    exact ⟨rfl, fun f q => by cases q; omega⟩
theorem c_isLaw {P : Nat → Prop} {T : Tt} {V : Vt} (hC : CT T) (hU : CV V) {la pa : Nat} {g : Cfg} (hg : okG g) (cf : cCf P T V (ms la pa) g) {v : Int32} : f_X0_isLaw T V 0 v = some (b1 (isLw g v)) := by
  have hl := hg.nl
  obtain ⟨c, el, h1, -⟩ := cf.lw
  rw [f_X0_isLaw, rq hC.k0, dr hU.r0_2, rq hC.k2, dr hU.r2_4, pc (c_size h1), pc c_in, sub1T (by omega), m1T, rq (b1_B _)]
  rfl
theorem m_isLaw {T : Tt} {V : Vt} (hT : MT T) (hV : MV V) {g : Cfg} (hg : okG g) (mf : mCf V g) {v : Int32} : f_X5_isLaw T V 94 v = some (b1 (isLw g v)) := by
  have hn := mf.nl
  have hl := hg.nl
  rw [f_X5_isLaw, rq hT.1, isLw]
  by_cases e : v = -1
  · rw [if_pos e, e, iN, m1T, decide_eq_true (by omega)]
    rfl
  · rw [if_neg e]
    have h1 : v.toInt ≠ -1 := fun q => e (Int32.toInt_inj.mp (q.trans m1T.symm))
    simp (disch := omega) only [rq_t, drs, sp, pcs, cls, ↓reduceIte, not_true_eq_false, not_false_eq_true, and_true, true_and, and_false, false_and, or_true, true_or, or_false, false_or, eq_self, l0, l1, l2, l3, l4, l5, l6, l7, l8, l9, l10, l11, l12, l13, l14, l15, l16, l17, l18, l19, l20, l21, l22, l23, l24, l25, l26, l27, l28, l29, l30, l31, l32, l33, l34, l35, l36, l37, l40, l41, l42, l43, l45, l47, l48, l50, l57, l59, l60, l61, l62, l63, l85, l91, l93, l96, l97, l98, l99, l100, l120, l122, l146, l160, l165, l170, l178, l186, l198, l255, l400, l900, l948, l999, l1000, l2475, l2640, l2970, l3990, l9390, l18780, l19000, l999999, l1000000, l100000000, l2147483639, nI_add, pk_mul, ix_nI, leT, leF, ltT, ltF, eqT, eqF, nI_leI, nI_ltI, nI_eq, ngEq, ngEq', ngLt, ngLt', ngLe, ngLe', ngNg, nI_p, pk_sub, Nat.reduceAdd, Nat.reduceMul, Nat.reduceSub, uI1, uI2, uL1, uL2, uL3, uR1, uR2, uR3, rq_eq (MT0 hT), rq95 hT, rf2 hV, rq96 hT, rf3 hV, rq97 hT, rf4 hV, rq98 hT, rf5 hV, rq99 hT, rf6 hV, rq100 hT, rf7 hV, rq101 hT, rf9 hV, rq102 hT, rf10 hV, rq103 hT, rf12 hV, rq104 hT, rf22 hV, rq105 hT, rf24 hV, rq106 hT, rf25 hV, rq107 hT, rf27 hV, rq108 hT, rf28 hV, rq109 hT, rf31 hV, rq110 hT, rf32 hV, rq111 hT, rf33 hV, rq112 hT, rf35 hV, rq113 hT, rf36 hV, rq114 hT, rf37 hV, rq115 hT, rf41 hV, rq116 hT, rf44 hV, rq117 hT, rf45 hV, rq118 hT, rf51 hV, rq119 hT, rf53 hV, hn, nI_l]
    rw [pc m_inI, sub1L (by omega), show (0 : Int64).toInt = 0 from rfl, iN, iN]
    by_cases q : 0 ≤ v.toInt ∧ v.toInt ≤ (g.nl : Int) - 1
    · rw [decide_eq_true q, decide_eq_true (show -1 ≤ v.toInt ∧ v.toInt ≤ (g.nl : Int) - 1 by omega)]
      rfl
    · rw [decide_eq_false q, decide_eq_false (show ¬ (-1 ≤ v.toInt ∧ v.toInt ≤ (g.nl : Int) - 1) by omega)]
      rfl
theorem okG.wfo {g : Cfg} (hg : okG g) {v : Int32} (h : isLw g v = true) : okG (g.wfo (oN v)) := ⟨hg.n, hg.ti, hg.sz, hg.nt, hg.ta, hg.nl, hg.lw, hg.np, hg.pl, (isLw_of hg h).2, hg.co, hg.mo, hg.pa⟩
/-- another law in force -/
theorem CR.wfo {T : Tt} {V : Vt} {x : HS} {a : St} (h : CR T V x a) {v : Int32} {f : Option Nat} (hv : v = oI f) : CR T (uI V 2 11 v) x (a.wg (a.g.wfo f)) := by
  have cf := h.cf
  have e : ∀ c j, ¬ (c = 2 ∧ j = 11) → (uI V 2 11 v).1 c j = V.1 c j := fun c j q => by rw [uI1, if_neg q]
  have hl := cCf.lp (W := uI V 2 11 v) h.P' cf (fun c j q => e _ _ (by omega)) rfl
  refine h.cg (W := uI V 2 11 v) (fun c j q => e _ _ (by omega)) rfl ⟨(e 2 6 (by omega)).trans cf.n, (e 2 7 (by omega)).trans cf.nt, (e 2 8 (by omega)).trans cf.co, (e 2 9 (by omega)).trans cf.mo, (e 2 10 (by omega)).trans cf.pa, ?_, fun c hc => (e 5 c (by omega)).trans (cf.ti c hc), fun c hc => (e 6 c (by omega)).trans (cf.sz c hc), fun k hk => (e 7 k (by omega)).trans (cf.ta k hk), hl.1, hl.2⟩
  show (uI V 2 11 v).1 2 11 = oI f
  rw [uI1, if_pos ⟨rfl, rfl⟩, hv]
theorem MR.wfo {V : Vt} {a : St} (h : MR V a) (og : okG a.g) {v : Int32} {f : Option Nat} (hv : v = oI f) : MR (uI V 96 4 v) (a.wg (a.g.wfo f)) := by
  have mf := h.mf
  have g8 := og.n
  have e : ∀ c j, ¬ (c = 96 ∧ j = 4) → (uI V 96 4 v).1 c j = V.1 c j := fun c j q => by rw [uI1, if_neg q]
  refine h.cg (W := uI V 96 4 v) (fun c j q => e _ _ (by omega)) rfl ⟨(e _ _ (by omega)).trans mf.n, (e _ _ (by omega)).trans mf.nt, (e _ _ (by omega)).trans mf.nl, (e _ _ (by omega)).trans mf.np, ?_, (e _ _ (by omega)).trans mf.co, (e _ _ (by omega)).trans mf.mo, (e _ _ (by omega)).trans mf.pa, fun c hc => (e _ _ (by omega)).trans (mf.ti c hc), fun c hc => (e _ _ (by omega)).trans (mf.sz c hc), fun k hk => (e _ _ (by omega)).trans (mf.ta k hk), fun i hi => (mf.pl i hi).fr (fun j => e _ _ (by omega)), fun i hi => (mf.lw i hi).fr5 (fun j => e _ _ (by omega))⟩ (h.mt.fr4 (fun j q => e _ _ (by omega))) ((h.mu.fr (fun c j q => e _ _ (by omega))).g rfl rfl rfl)
  rw [uI1, if_pos ⟨rfl, rfl⟩, hv]
  rfl
def rForce (a : St) (v : Int32) : Int32 := if isLw a.g v then oI a.g.fo else -nI 2
def oForce (a : St) (v : Int32) : St := if isLw a.g v then (a.wg (a.g.wfo (oN v))).wst (nI 0) else a.ref 2
theorem c_force {T : Tt} {V : Vt} {x : HS} {a : St} (h : CR T V x a) (ok : OK a) {v : Int32} : cOp (f_X0_force T V 0 v) T V (rForce a v) (oForce a v) := by
  have hf : V.1 2 11 = oI a.g.fo := h.cf.fo
  rw [f_X0_force, rq h.hC.k0, pc (c_isLaw h.hC h.hU ok.g h.cf), rForce, oForce, cal_id]
  simp only [b1_0]
  cases hv : isLw a.g v with
  | false => exact c_refuse (w := 2) h (by omega) (by omega)
  | true =>
    rw [if_neg (by decide), if_pos rfl, if_pos rfl, dr h.hU.r0_2, rq h.hC.k2, sp, dr h.hU.r0_2, rq h.hC.k2, sp, cal_id, hf]
    exact (c_done (h.wfo (isLw_of ok.g hv).1)).fr (cF_uI (by omega))
theorem m_force {T : Tt} {V : Vt} (hT : MT T) {a : St} (h : MR V a) (ok : OK a) {v : Int32} : mOp (f_X5_force T V 94 v) V (rForce a v) (oForce a v) := by
  have h := h.s0 ok.g (j := 0) (v := 0) (by omega)
  rw [f_X5_force, rq hT.1, sp]
  refine mOp.fr (W := uI V 94 0 0) (mF_uI (by omega)) ?_
  generalize uI V 94 0 0 = V at h ⊢
  have hV := h.hV
  have hf := h.mf.fo
  rw [pc (m_isLaw hT h.hV ok.g h.mf), rForce, oForce, cal_id, cal_id]
  simp only [b1_0]
  cases hv : isLw a.g v with
  | false => exact m_tellNo (w := 2) hT h ok.g (by omega) (by omega)
  | true =>
    rw [if_neg (by decide), if_pos rfl, if_pos rfl]
    simp (disch := omega) only [f_X5_change, rq_t, drs, sp, pcs, cls, ↓reduceIte, not_true_eq_false, not_false_eq_true, and_true, true_and, and_false, false_and, or_true, true_or, or_false, false_or, eq_self, l0, l1, l2, l3, l4, l5, l6, l7, l8, l9, l10, l11, l12, l13, l14, l15, l16, l17, l18, l19, l20, l21, l22, l23, l24, l25, l26, l27, l28, l29, l30, l31, l32, l33, l34, l35, l36, l37, l40, l41, l42, l43, l45, l47, l48, l50, l57, l59, l60, l61, l62, l63, l85, l91, l93, l96, l97, l98, l99, l100, l120, l122, l146, l160, l165, l170, l178, l186, l198, l255, l400, l900, l948, l999, l1000, l2475, l2640, l2970, l3990, l9390, l18780, l19000, l999999, l1000000, l100000000, l2147483639, nI_add, pk_mul, ix_nI, leT, leF, ltT, ltF, eqT, eqF, nI_leI, nI_ltI, nI_eq, ngEq, ngEq', ngLt, ngLt', ngLe, ngLe', ngNg, nI_p, pk_sub, Nat.reduceAdd, Nat.reduceMul, Nat.reduceSub, uI1, uI2, uL1, uL2, uL3, uR1, uR2, uR3, rq_eq (MT0 hT), rq95 hT, rf2 hV, rq96 hT, rf3 hV, rq97 hT, rf4 hV, rq98 hT, rf5 hV, rq99 hT, rf6 hV, rq100 hT, rf7 hV, rq101 hT, rf9 hV, rq102 hT, rf10 hV, rq103 hT, rf12 hV, rq104 hT, rf22 hV, rq105 hT, rf24 hV, rq106 hT, rf25 hV, rq107 hT, rf27 hV, rq108 hT, rf28 hV, rq109 hT, rf31 hV, rq110 hT, rf32 hV, rq111 hT, rf33 hV, rq112 hT, rf35 hV, rq113 hT, rf36 hV, rq114 hT, rf37 hV, rq115 hT, rf41 hV, rq116 hT, rf44 hV, rq117 hT, rf45 hV, rq118 hT, rf51 hV, rq119 hT, rf53 hV, hf]
    exact Ret.ok ⟨rfl, (h.wfo ok.g (isLw_of ok.g hv).1).s1 (ok.g.wfo hv), (mF_uI (by omega)).tr (mF_uI (by omega))⟩
/-- terms -/
def isTm (w v : Int32) : Bool := if w = 0 then iN v 0 999 else if w = 1 then iN v 0 10 else if w = 2 then iN v 0 9 else if w = 3 then iN v 1 100 else false
def tmV (a : St) (w : Int32) : Int32 := if w = 0 then nI a.t.y else if w = 1 then nI a.g.co else if w = 2 then nI a.g.mo else nI a.g.pa
def wTm (a : St) (w : Int32) (v : Nat) : St := if w = 0 then a.wt ⟨a.t.D, a.t.b, v⟩ else if w = 1 then a.wg (a.g.wte v a.g.mo a.g.pa) else if w = 2 then a.wg (a.g.wte a.g.co v a.g.pa) else a.wg (a.g.wte a.g.co a.g.mo v)
theorem c_isTerm {T : Tt} {V : Vt} {w v : Int32} : f_X0_isTerm T V w v = some (b1 (isTm w v)) := by
  rw [f_X0_isTerm, isTm]
  by_cases h0 : w = 0
  · rw [if_pos h0, if_pos h0, pc c_in, rq (b1_B _)]
    rfl
  rw [if_neg h0, if_neg h0]
  by_cases h1 : w = 1
  · rw [if_pos h1, if_pos h1, pc c_in, rq (b1_B _)]
    rfl
  rw [if_neg h1, if_neg h1]
  by_cases h2 : w = 2
  · rw [if_pos h2, if_pos h2, pc c_in, rq (b1_B _)]
    rfl
  rw [if_neg h2, if_neg h2]
  by_cases h3 : w = 3
  · rw [if_pos h3, if_pos h3, pc c_in, rq (b1_B _)]
    rfl
  rw [if_neg h3, if_neg h3]
  rfl
theorem c_termNow {T : Tt} {V : Vt} {x : HS} {a : St} (h : CR T V x a) {w : Int32} : f_X0_termNow T V 0 w = some (tmV a w) := by
  have e1 : V.1 2 8 = nI a.g.co := h.cf.co
  have e2 : V.1 2 9 = nI a.g.mo := h.cf.mo
  have e3 : V.1 2 10 = nI a.g.pa := h.cf.pa
  rw [f_X0_termNow, rq h.hC.k0, tmV]
  by_cases h0 : w = 0
  · rw [if_pos h0, if_pos h0, pc (c_table h.hC h.hU), rq h.hC.k3, h.ct.y]
  rw [if_neg h0, if_neg h0]
  by_cases h1 : w = 1
  · rw [if_pos h1, if_pos h1, dr h.hU.r0_2, rq h.hC.k2, e1]
  rw [if_neg h1, if_neg h1]
  by_cases h2 : w = 2
  · rw [if_pos h2, if_pos h2, dr h.hU.r0_2, rq h.hC.k2, e2]
  rw [if_neg h2, if_neg h2, dr h.hU.r0_2, rq h.hC.k2, e3]
theorem isTm_of {w v : Int32} (h : isTm w v = true) : ∃ n : Nat, v = nI n ∧ n ≤ 999 ∧ (w = 0 ∨ (w = 1 ∧ n ≤ 10) ∨ (w = 2 ∧ n ≤ 9) ∨ (w = 3 ∧ 1 ≤ n ∧ n ≤ 100)) := by
  rw [isTm] at h
  by_cases h0 : w = 0
  · rw [if_pos h0] at h
    obtain ⟨n, e, -, h2, -⟩ := iN_of h (by omega)
    exact ⟨n, e, by omega, Or.inl h0⟩
  rw [if_neg h0] at h
  by_cases h1 : w = 1
  · rw [if_pos h1] at h
    obtain ⟨n, e, -, h2, -⟩ := iN_of h (by omega)
    exact ⟨n, e, by omega, Or.inr (Or.inl ⟨h1, by omega⟩)⟩
  rw [if_neg h1] at h
  by_cases h2 : w = 2
  · rw [if_pos h2] at h
    obtain ⟨n, e, -, h3, -⟩ := iN_of h (by omega)
    exact ⟨n, e, by omega, Or.inr (Or.inr (Or.inl ⟨h2, by omega⟩))⟩
  rw [if_neg h2] at h
  by_cases h3 : w = 3
  · rw [if_pos h3] at h
    obtain ⟨n, e, h4, h5, -⟩ := iN_of h (by omega)
    exact ⟨n, e, by omega, Or.inr (Or.inr (Or.inr ⟨h3, by omega, by omega⟩))⟩
  rw [if_neg h3] at h
  cases h
def rTerms (a : St) (w v : Int32) : Int32 := if isTm w v then tmV a w else -nI 1
def oTerms (a : St) (w v : Int32) : St := if isTm w v then (wTm a w (ixN v)).set else a.ref 1
/-- other terms -/
theorem CR.wte {T : Tt} {V : Vt} {x : HS} {a : St} (h : CR T V x a) {j n co mo pa : Nat} (hj : (j = 8 ∧ co = n ∧ mo = a.g.mo ∧ pa = a.g.pa) ∨ (j = 9 ∧ co = a.g.co ∧ mo = n ∧ pa = a.g.pa) ∨ (j = 10 ∧ co = a.g.co ∧ mo = a.g.mo ∧ pa = n)) : CR T (uI V 2 j (nI n)) x (a.wg (a.g.wte co mo pa)) := by
  have cf := h.cf
  have e : ∀ c k, ¬ (c = 2 ∧ k = j) → (uI V 2 j (nI n)).1 c k = V.1 c k := fun c k q => by rw [uI1, if_neg q]
  have hl := cCf.lp (W := uI V 2 j (nI n)) h.P' cf (fun c k q => e _ _ (by omega)) rfl
  have e1 : V.1 2 8 = nI a.g.co := cf.co
  have e2 : V.1 2 9 = nI a.g.mo := cf.mo
  have e3 : V.1 2 10 = nI a.g.pa := cf.pa
  have f1 : (uI V 2 j (nI n)).1 2 8 = nI co := by
    rw [uI1]
    rcases hj with ⟨rfl, rfl, rfl, rfl⟩ | ⟨rfl, rfl, rfl, rfl⟩ | ⟨rfl, rfl, rfl, rfl⟩
    · rw [if_pos ⟨rfl, rfl⟩]
    · rw [if_neg (by omega), e1]
    · rw [if_neg (by omega), e1]
  have f2 : (uI V 2 j (nI n)).1 2 9 = nI mo := by
    rw [uI1]
    rcases hj with ⟨rfl, rfl, rfl, rfl⟩ | ⟨rfl, rfl, rfl, rfl⟩ | ⟨rfl, rfl, rfl, rfl⟩
    · rw [if_neg (by omega), e2]
    · rw [if_pos ⟨rfl, rfl⟩]
    · rw [if_neg (by omega), e2]
  have f3 : (uI V 2 j (nI n)).1 2 10 = nI pa := by
    rw [uI1]
    rcases hj with ⟨rfl, rfl, rfl, rfl⟩ | ⟨rfl, rfl, rfl, rfl⟩ | ⟨rfl, rfl, rfl, rfl⟩
    · rw [if_neg (by omega), e3]
    · rw [if_neg (by omega), e3]
    · rw [if_pos ⟨rfl, rfl⟩]
  exact h.cg (W := uI V 2 j (nI n)) (fun c k q => e _ _ (by omega)) rfl ⟨(e 2 6 (by omega)).trans cf.n, (e 2 7 (by omega)).trans cf.nt, f1, f2, f3, (e 2 11 (by omega)).trans cf.fo, fun c hc => (e 5 c (by omega)).trans (cf.ti c hc), fun c hc => (e 6 c (by omega)).trans (cf.sz c hc), fun k hk => (e 7 k (by omega)).trans (cf.ta k hk), hl.1, hl.2⟩
theorem MR.wte {V : Vt} {a : St} (h : MR V a) (og : okG a.g) (hu : a.u.n = 0) {j n co mo pa : Nat} (hj : (j = 6 ∧ co = n ∧ mo = a.g.mo ∧ pa = a.g.pa) ∨ (j = 7 ∧ co = a.g.co ∧ mo = n ∧ pa = a.g.pa) ∨ (j = 8 ∧ co = a.g.co ∧ mo = a.g.mo ∧ pa = n)) : MR (uI V 96 j (nI n)) (a.wg (a.g.wte co mo pa)) := by
  have mf := h.mf
  have g8 := og.n
  have e : ∀ c k, ¬ (c = 96 ∧ k = j) → (uI V 96 j (nI n)).1 c k = V.1 c k := fun c k q => by rw [uI1, if_neg q]
  have e1 := mf.co
  have e2 := mf.mo
  have e3 := mf.pa
  have f1 : (uI V 96 j (nI n)).1 96 6 = nI co := by
    rw [uI1]
    rcases hj with ⟨rfl, rfl, rfl, rfl⟩ | ⟨rfl, rfl, rfl, rfl⟩ | ⟨rfl, rfl, rfl, rfl⟩
    · rw [if_pos ⟨rfl, rfl⟩]
    · rw [if_neg (by omega), e1]
    · rw [if_neg (by omega), e1]
  have f2 : (uI V 96 j (nI n)).1 96 7 = nI mo := by
    rw [uI1]
    rcases hj with ⟨rfl, rfl, rfl, rfl⟩ | ⟨rfl, rfl, rfl, rfl⟩ | ⟨rfl, rfl, rfl, rfl⟩
    · rw [if_neg (by omega), e2]
    · rw [if_pos ⟨rfl, rfl⟩]
    · rw [if_neg (by omega), e2]
  have f3 : (uI V 96 j (nI n)).1 96 8 = nI pa := by
    rw [uI1]
    rcases hj with ⟨rfl, rfl, rfl, rfl⟩ | ⟨rfl, rfl, rfl, rfl⟩ | ⟨rfl, rfl, rfl, rfl⟩
    · rw [if_neg (by omega), e3]
    · rw [if_neg (by omega), e3]
    · rw [if_pos ⟨rfl, rfl⟩]
  refine h.cg (W := uI V 96 j (nI n)) (fun c k q => e _ _ (by omega)) rfl ⟨(e _ _ (by omega)).trans mf.n, (e _ _ (by omega)).trans mf.nt, (e _ _ (by omega)).trans mf.nl, (e _ _ (by omega)).trans mf.np, (e _ _ (by omega)).trans mf.fo, f1, f2, f3, fun c hc => (e _ _ (by omega)).trans (mf.ti c hc), fun c hc => (e _ _ (by omega)).trans (mf.sz c hc), fun k hk => (e _ _ (by omega)).trans (mf.ta k hk), fun i hi => (mf.pl i hi).fr (fun k => e _ _ (by omega)), fun i hi => (mf.lw i hi).fr5 (fun k => e _ _ (by omega))⟩ ⟨fun k hk => (e _ _ (by omega)).trans (h.mt.D k hk), (e _ _ (by omega)).trans h.mt.b, (e _ _ (by omega)).trans h.mt.y⟩ ⟨(e _ _ (by omega)).trans h.mu.n, h.mu.l, fun k hk => absurd hk (by omega), fun k hk => absurd hk (by omega)⟩
theorem CR.wye {T : Tt} {V : Vt} {x : HS} {a : St} (h : CR T V x a) {n : Nat} : CR T (uI V 3 2 (nI n)) x (a.wt ⟨a.t.D, a.t.b, n⟩) := by
  have e : ∀ c j, ¬ (c = 3 ∧ j = 2) → (uI V 3 2 (nI n)).1 c j = V.1 c j := fun c j q => by rw [uI1, if_neg q]
  have er : ∀ c j, (uI V 3 2 (nI n)).2.2 c j = V.2.2 c j := fun _ _ => rfl
  have hk := h.ct.k
  exact h.ups (fun c j q => e _ _ (by omega)) er rfl (h.cf.fc h.P' (fun c j q => e _ _ (by omega)) (fun c j q => er _ _)) ⟨hk, fun k hk => (e _ _ (by omega)).trans (h.ct.D k hk), (e _ _ (by omega)).trans h.ct.b, by rw [uI1, if_pos ⟨rfl, rfl⟩]; rfl⟩ (h.cu.fr (fun c j q => e _ _ (by omega)) (fun c j => er c j)) ((e _ _ (by omega)).trans h.st) (fun i hi => (e _ _ (by omega)).trans (h.rf i hi)) ((e _ _ (by omega)).trans h.tn) (fun i hi => (e _ _ (by omega)).trans (h.tp i hi)) ((e _ _ (by omega)).trans h.fa) ((e _ _ (by omega)).trans h.le) ((e _ _ (by omega)).trans h.so) ((e _ _ (by omega)).trans h.dm) (fun i hi q => (e _ _ (by omega)).trans (h.dd i hi q))
theorem MR.wye {V : Vt} {a : St} (h : MR V a) (og : okG a.g) {n : Nat} : MR (uI V 96 5 (nI n)) (a.wt ⟨a.t.D, a.t.b, n⟩) := by
  have e : ∀ c k, ¬ (c = 96 ∧ k = 5) → (uI V 96 5 (nI n)).1 c k = V.1 c k := fun c k q => by rw [uI1, if_neg q]
  exact h.up rfl (fun c j q => e _ _ (by omega)) (fun _ _ _ => rfl) rfl (h.mf.fr og (fun j _ _ _ => e _ _ (by omega))) ⟨fun k hk => (e _ _ (by omega)).trans (h.mt.D k hk), (e _ _ (by omega)).trans h.mt.b, by rw [uI1, if_pos ⟨rfl, rfl⟩]; rfl⟩ (h.mu.fr (fun c j q => e _ _ (by omega))) ((e _ _ (by omega)).trans h.st) (fun i hi => (e _ _ (by omega)).trans (h.rf i hi)) ((e _ _ (by omega)).trans h.od) ((e _ _ (by omega)).trans h.tn) (fun i hi => (e _ _ (by omega)).trans (h.tp i hi)) ((e _ _ (by omega)).trans h.fa) ((e _ _ (by omega)).trans h.le) ((e _ _ (by omega)).trans h.so) ((e _ _ (by omega)).trans h.dm) (fun i hi q => (e _ _ (by omega)).trans (h.dd i hi q))
theorem c_terms {T : Tt} {V : Vt} {x : HS} {a : St} (h : CR T V x a) {w v : Int32} : cOp (f_X0_terms T V 0 w v) T V (rTerms a w v) (oTerms a w v) := by
  rw [f_X0_terms, rq h.hC.k0, pc c_isTerm, rTerms, oTerms, cal_id]
  simp only [b1_0]
  cases hv : isTm w v with
  | false => exact c_refuse (w := 1) h (by omega) (by omega)
  | true =>
    obtain ⟨n, rfl, hn, hw⟩ := isTm_of hv
    rw [if_neg (by decide), if_pos rfl, if_pos rfl, pc (c_termNow h), ix_nI (by omega), wTm]
    by_cases h0 : w = 0
    · rw [if_pos h0, if_pos h0, pc (c_table h.hC h.hU), rq h.hC.k3, sp, f_X0_terms_J75, cal_id]
      exact (c_settles h.wye).fr (cF_uI (by omega))
    rw [if_neg h0, if_neg h0]
    by_cases h1 : w = 1
    · rw [if_pos h1, if_pos h1, dr h.hU.r0_2, rq h.hC.k2, sp, f_X0_terms_J75, cal_id]
      exact (c_settles (h.wte (by omega))).fr (cF_uI (by omega))
    rw [if_neg h1, if_neg h1]
    by_cases h2 : w = 2
    · rw [if_pos h2, if_pos h2, dr h.hU.r0_2, rq h.hC.k2, sp, f_X0_terms_J75, cal_id]
      exact (c_settles (h.wte (by omega))).fr (cF_uI (by omega))
    rw [if_neg h2, if_neg h2, dr h.hU.r0_2, rq h.hC.k2, sp, f_X0_terms_J75, cal_id]
    exact (c_settles (h.wte (by omega))).fr (cF_uI (by omega))
theorem m_termsJ {T : Tt} {V : Vt} (hT : MT T) {a : St} (h : MR V a) (ok : OK a) {w v : Int32} : mOp (f_X5_terms_J77 T V 94 w v (b1 (isTm w v))) V (rTerms a w v) (oTerms a w v) := by
  rw [f_X5_terms_J77, rTerms, oTerms]
  simp only [b1_0, cal_id]
  cases hv : isTm w v with
  | false => exact m_tellNo (w := 1) hT h ok.g (by omega) (by omega)
  | true =>
    obtain ⟨n, rfl, hn, hw⟩ := isTm_of hv
    rw [if_neg (by decide), if_pos rfl, if_pos rfl, sp, ix_nI (by omega), wTm, tmV]
    have h8 := h.s8 ok.g
    have hV := h8.hV
    have mf := h8.mf
    have mt := h8.mt
    refine mOp.fr (W := uI V 94 8 (nI 0)) (mF_uI (by omega)) ?_
    rw [show uI V 94 8 0 = uI V 94 8 (nI 0) from rfl]
    generalize uI V 94 8 (nI 0) = V at h8 hV mf mt ⊢
    have e5 : V.1 96 5 = nI a.t.y := mt.y
    have e6 : V.1 96 6 = nI a.g.co := mf.co
    have e7 : V.1 96 7 = nI a.g.mo := mf.mo
    have e9 : V.1 96 8 = nI a.g.pa := mf.pa
    have f2 : ∀ j v, mFr V (uI (uI V 96 j v) 94 1 (nI 0)) := fun j v => (mF_uI (by omega)).tr (mF_uI (by omega))
    rcases hw with rfl | ⟨rfl, q1⟩ | ⟨rfl, q1⟩ | ⟨rfl, q1, q2⟩
    · rw [if_pos rfl, if_pos rfl, f_X5_change]
      simp (disch := omega) only [rq_t, drs, sp, pcs, cls, ↓reduceIte, not_true_eq_false, not_false_eq_true, and_true, true_and, and_false, false_and, or_true, true_or, or_false, false_or, eq_self, l0, l1, l2, l3, l4, l5, l6, l7, l8, l9, l10, l11, l12, l13, l14, l15, l16, l17, l18, l19, l20, l21, l22, l23, l24, l25, l26, l27, l28, l29, l30, l31, l32, l33, l34, l35, l36, l37, l40, l41, l42, l43, l45, l47, l48, l50, l57, l59, l60, l61, l62, l63, l85, l91, l93, l96, l97, l98, l99, l100, l120, l122, l146, l160, l165, l170, l178, l186, l198, l255, l400, l900, l948, l999, l1000, l2475, l2640, l2970, l3990, l9390, l18780, l19000, l999999, l1000000, l100000000, l2147483639, nI_add, pk_mul, ix_nI, leT, leF, ltT, ltF, eqT, eqF, nI_leI, nI_ltI, nI_eq, ngEq, ngEq', ngLt, ngLt', ngLe, ngLe', ngNg, nI_p, pk_sub, Nat.reduceAdd, Nat.reduceMul, Nat.reduceSub, uI1, uI2, uL1, uL2, uL3, uR1, uR2, uR3, rq_eq (MT0 hT), rq95 hT, rf2 hV, rq96 hT, rf3 hV, rq97 hT, rf4 hV, rq98 hT, rf5 hV, rq99 hT, rf6 hV, rq100 hT, rf7 hV, rq101 hT, rf9 hV, rq102 hT, rf10 hV, rq103 hT, rf12 hV, rq104 hT, rf22 hV, rq105 hT, rf24 hV, rq106 hT, rf25 hV, rq107 hT, rf27 hV, rq108 hT, rf28 hV, rq109 hT, rf31 hV, rq110 hT, rf32 hV, rq111 hT, rf33 hV, rq112 hT, rf35 hV, rq113 hT, rf36 hV, rq114 hT, rf37 hV, rq115 hT, rf41 hV, rq116 hT, rf44 hV, rq117 hT, rf45 hV, rq118 hT, rf51 hV, rq119 hT, rf53 hV, e5]
      exact Ret.ok ⟨rfl, (h8.wye ok.g).s1 ok.g, f2 _ _⟩
    · rw [if_neg (by decide), if_pos rfl, if_neg (by decide), if_pos rfl, f_X5_change]
      simp (disch := omega) only [rq_t, drs, sp, pcs, cls, ↓reduceIte, not_true_eq_false, not_false_eq_true, and_true, true_and, and_false, false_and, or_true, true_or, or_false, false_or, eq_self, l0, l1, l2, l3, l4, l5, l6, l7, l8, l9, l10, l11, l12, l13, l14, l15, l16, l17, l18, l19, l20, l21, l22, l23, l24, l25, l26, l27, l28, l29, l30, l31, l32, l33, l34, l35, l36, l37, l40, l41, l42, l43, l45, l47, l48, l50, l57, l59, l60, l61, l62, l63, l85, l91, l93, l96, l97, l98, l99, l100, l120, l122, l146, l160, l165, l170, l178, l186, l198, l255, l400, l900, l948, l999, l1000, l2475, l2640, l2970, l3990, l9390, l18780, l19000, l999999, l1000000, l100000000, l2147483639, nI_add, pk_mul, ix_nI, leT, leF, ltT, ltF, eqT, eqF, nI_leI, nI_ltI, nI_eq, ngEq, ngEq', ngLt, ngLt', ngLe, ngLe', ngNg, nI_p, pk_sub, Nat.reduceAdd, Nat.reduceMul, Nat.reduceSub, uI1, uI2, uL1, uL2, uL3, uR1, uR2, uR3, rq_eq (MT0 hT), rq95 hT, rf2 hV, rq96 hT, rf3 hV, rq97 hT, rf4 hV, rq98 hT, rf5 hV, rq99 hT, rf6 hV, rq100 hT, rf7 hV, rq101 hT, rf9 hV, rq102 hT, rf10 hV, rq103 hT, rf12 hV, rq104 hT, rf22 hV, rq105 hT, rf24 hV, rq106 hT, rf25 hV, rq107 hT, rf27 hV, rq108 hT, rf28 hV, rq109 hT, rf31 hV, rq110 hT, rf32 hV, rq111 hT, rf33 hV, rq112 hT, rf35 hV, rq113 hT, rf36 hV, rq114 hT, rf37 hV, rq115 hT, rf41 hV, rq116 hT, rf44 hV, rq117 hT, rf45 hV, rq118 hT, rf51 hV, rq119 hT, rf53 hV, e6]
      exact Ret.ok ⟨rfl, (h8.wte (j := 6) (n := n) (co := n) (mo := a.g.mo) (pa := a.g.pa) ok.g rfl (Or.inl ⟨rfl, rfl, rfl, rfl⟩)).s1 ⟨ok.g.n, ok.g.ti, ok.g.sz, ok.g.nt, ok.g.ta, ok.g.nl, ok.g.lw, ok.g.np, ok.g.pl, ok.g.fo, q1, ok.g.mo, ok.g.pa⟩, f2 _ _⟩
    · rw [if_neg (by decide), if_neg (by decide), if_pos rfl, if_neg (by decide), if_neg (by decide), if_pos rfl, f_X5_change]
      simp (disch := omega) only [rq_t, drs, sp, pcs, cls, ↓reduceIte, not_true_eq_false, not_false_eq_true, and_true, true_and, and_false, false_and, or_true, true_or, or_false, false_or, eq_self, l0, l1, l2, l3, l4, l5, l6, l7, l8, l9, l10, l11, l12, l13, l14, l15, l16, l17, l18, l19, l20, l21, l22, l23, l24, l25, l26, l27, l28, l29, l30, l31, l32, l33, l34, l35, l36, l37, l40, l41, l42, l43, l45, l47, l48, l50, l57, l59, l60, l61, l62, l63, l85, l91, l93, l96, l97, l98, l99, l100, l120, l122, l146, l160, l165, l170, l178, l186, l198, l255, l400, l900, l948, l999, l1000, l2475, l2640, l2970, l3990, l9390, l18780, l19000, l999999, l1000000, l100000000, l2147483639, nI_add, pk_mul, ix_nI, leT, leF, ltT, ltF, eqT, eqF, nI_leI, nI_ltI, nI_eq, ngEq, ngEq', ngLt, ngLt', ngLe, ngLe', ngNg, nI_p, pk_sub, Nat.reduceAdd, Nat.reduceMul, Nat.reduceSub, uI1, uI2, uL1, uL2, uL3, uR1, uR2, uR3, rq_eq (MT0 hT), rq95 hT, rf2 hV, rq96 hT, rf3 hV, rq97 hT, rf4 hV, rq98 hT, rf5 hV, rq99 hT, rf6 hV, rq100 hT, rf7 hV, rq101 hT, rf9 hV, rq102 hT, rf10 hV, rq103 hT, rf12 hV, rq104 hT, rf22 hV, rq105 hT, rf24 hV, rq106 hT, rf25 hV, rq107 hT, rf27 hV, rq108 hT, rf28 hV, rq109 hT, rf31 hV, rq110 hT, rf32 hV, rq111 hT, rf33 hV, rq112 hT, rf35 hV, rq113 hT, rf36 hV, rq114 hT, rf37 hV, rq115 hT, rf41 hV, rq116 hT, rf44 hV, rq117 hT, rf45 hV, rq118 hT, rf51 hV, rq119 hT, rf53 hV, e7]
      exact Ret.ok ⟨rfl, (h8.wte (j := 7) (n := n) (co := a.g.co) (mo := n) (pa := a.g.pa) ok.g rfl (Or.inr (Or.inl ⟨rfl, rfl, rfl, rfl⟩))).s1 ⟨ok.g.n, ok.g.ti, ok.g.sz, ok.g.nt, ok.g.ta, ok.g.nl, ok.g.lw, ok.g.np, ok.g.pl, ok.g.fo, ok.g.co, q1, ok.g.pa⟩, f2 _ _⟩
    · rw [if_neg (by decide), if_neg (by decide), if_neg (by decide), if_neg (by decide), if_neg (by decide), if_neg (by decide), f_X5_change]
      simp (disch := omega) only [rq_t, drs, sp, pcs, cls, ↓reduceIte, not_true_eq_false, not_false_eq_true, and_true, true_and, and_false, false_and, or_true, true_or, or_false, false_or, eq_self, l0, l1, l2, l3, l4, l5, l6, l7, l8, l9, l10, l11, l12, l13, l14, l15, l16, l17, l18, l19, l20, l21, l22, l23, l24, l25, l26, l27, l28, l29, l30, l31, l32, l33, l34, l35, l36, l37, l40, l41, l42, l43, l45, l47, l48, l50, l57, l59, l60, l61, l62, l63, l85, l91, l93, l96, l97, l98, l99, l100, l120, l122, l146, l160, l165, l170, l178, l186, l198, l255, l400, l900, l948, l999, l1000, l2475, l2640, l2970, l3990, l9390, l18780, l19000, l999999, l1000000, l100000000, l2147483639, nI_add, pk_mul, ix_nI, leT, leF, ltT, ltF, eqT, eqF, nI_leI, nI_ltI, nI_eq, ngEq, ngEq', ngLt, ngLt', ngLe, ngLe', ngNg, nI_p, pk_sub, Nat.reduceAdd, Nat.reduceMul, Nat.reduceSub, uI1, uI2, uL1, uL2, uL3, uR1, uR2, uR3, rq_eq (MT0 hT), rq95 hT, rf2 hV, rq96 hT, rf3 hV, rq97 hT, rf4 hV, rq98 hT, rf5 hV, rq99 hT, rf6 hV, rq100 hT, rf7 hV, rq101 hT, rf9 hV, rq102 hT, rf10 hV, rq103 hT, rf12 hV, rq104 hT, rf22 hV, rq105 hT, rf24 hV, rq106 hT, rf25 hV, rq107 hT, rf27 hV, rq108 hT, rf28 hV, rq109 hT, rf31 hV, rq110 hT, rf32 hV, rq111 hT, rf33 hV, rq112 hT, rf35 hV, rq113 hT, rf36 hV, rq114 hT, rf37 hV, rq115 hT, rf41 hV, rq116 hT, rf44 hV, rq117 hT, rf45 hV, rq118 hT, rf51 hV, rq119 hT, rf53 hV, e9]
      exact Ret.ok ⟨rfl, (h8.wte (j := 8) (n := n) (co := a.g.co) (mo := a.g.mo) (pa := n) ok.g rfl (Or.inr (Or.inr ⟨rfl, rfl, rfl, rfl⟩))).s1 ⟨ok.g.n, ok.g.ti, ok.g.sz, ok.g.nt, ok.g.ta, ok.g.nl, ok.g.lw, ok.g.np, ok.g.pl, ok.g.fo, ok.g.co, ok.g.mo, q1, q2⟩, f2 _ _⟩
theorem m_terms {T : Tt} {V : Vt} (hT : MT T) {a : St} (h : MR V a) (ok : OK a) {w v : Int32} : mOp (f_X5_terms T V 94 w v) V (rTerms a w v) (oTerms a w v) := by
  have h := h.s0 ok.g (j := 0) (v := 0) (by omega)
  rw [f_X5_terms, rq hT.1, sp]
  refine mOp.fr (W := uI V 94 0 0) (mF_uI (by omega)) ?_
  generalize uI V 94 0 0 = V at h ⊢
  have hj := m_termsJ hT h ok (w := w) (v := v)
  rw [isTm] at hj
  by_cases h0 : w = 0
  · rw [if_pos h0, pc m_inI]
    rw [if_pos h0] at hj
    exact hj
  rw [if_neg h0]
  rw [if_neg h0] at hj
  by_cases h1 : w = 1
  · rw [if_pos h1, pc m_inI]
    rw [if_pos h1] at hj
    exact hj
  rw [if_neg h1]
  rw [if_neg h1] at hj
  by_cases h2 : w = 2
  · rw [if_pos h2, pc m_inI]
    rw [if_pos h2] at hj
    exact hj
  rw [if_neg h2]
  rw [if_neg h2] at hj
  by_cases h3 : w = 3
  · rw [if_pos h3, pc m_inI]
    rw [if_pos h3] at hj
    rw [show (1 : Int64).toInt = 1 from rfl, show (100 : Int64).toInt = 100 from rfl]
    simp only [b1_0, f_X5_terms_J76]
    cases hv : iN v 1 100 with
    | false => rw [hv] at hj; exact hj
    | true => rw [hv] at hj; exact hj
  rw [if_neg h3, f_X5_terms_J76]
  rw [if_neg h3] at hj
  exact hj
