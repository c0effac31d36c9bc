/-! 82: states changed; status and refusals, on both sides -/
set_option maxRecDepth 100000
def St.wst (a : St) (s : Int32) : St := ⟨a.g, a.t, a.u, s, a.rf, a.im, a.tn, a.tp, a.fa, a.le, a.so, a.dm, a.dd⟩
def St.wrf (a : St) (r : Nat → Int32) : St := ⟨a.g, a.t, a.u, a.st, r, a.im, a.tn, a.tp, a.fa, a.le, a.so, a.dm, a.dd⟩
def St.wg (a : St) (g : Cfg) : St := ⟨g, a.t, a.u, a.st, a.rf, a.im, a.tn, a.tp, a.fa, a.le, a.so, a.dm, a.dd⟩
def St.wt (a : St) (t : Tab) : St := ⟨a.g, t, a.u, a.st, a.rf, a.im, a.tn, a.tp, a.fa, a.le, a.so, a.dm, a.dd⟩
def St.wu (a : St) (u : Un) : St := ⟨a.g, a.t, u, a.st, a.rf, a.im, a.tn, a.tp, a.fa, a.le, a.so, a.dm, a.dd⟩
def St.wim (a : St) (i : Nat → Option (Cfg × Tab)) : St := ⟨a.g, a.t, a.u, a.st, a.rf, i, a.tn, a.tp, a.fa, a.le, a.so, a.dm, a.dd⟩
def St.wtn (a : St) (n : Nat) : St := ⟨a.g, a.t, a.u, a.st, a.rf, a.im, n, a.tp, a.fa, a.le, a.so, a.dm, a.dd⟩
def St.wtp (a : St) (n : Nat) (p : Nat → Nat) : St := ⟨a.g, a.t, a.u, a.st, a.rf, a.im, n, p, a.fa, a.le, a.so, a.dm, a.dd⟩
def St.wfa (a : St) (v : Int32) : St := ⟨a.g, a.t, a.u, a.st, a.rf, a.im, a.tn, a.tp, v, a.le, a.so, a.dm, a.dd⟩
def St.wle (a : St) (v : Int32) : St := ⟨a.g, a.t, a.u, a.st, a.rf, a.im, a.tn, a.tp, a.fa, v, a.so, a.dm, a.dd⟩
def St.wso (a : St) (v : Int32) : St := ⟨a.g, a.t, a.u, a.st, a.rf, a.im, a.tn, a.tp, a.fa, a.le, v, a.dm, a.dd⟩
def St.wdm (a : St) (m : Option Nat) (d : Nat → Nat) : St := ⟨a.g, a.t, a.u, a.st, a.rf, a.im, a.tn, a.tp, a.fa, a.le, a.so, m, d⟩
/-- refused, done, done for good -/
def St.ref (a : St) (w : Nat) : St := (a.wst (-nI w)).wrf fun i => if i = w then a.rf i + 1 else a.rf i
def u0 (u : Un) : Un := ⟨0, u.s, u.w⟩
def St.set (a : St) : St := (a.wu (u0 a.u)).wst (nI 0)
theorem cal_id {α γ : Type} {f : Option (α × γ)} : cal f (fun z U => some (z, U)) = f := by
  cases f with
  | none => rfl
  | some p => rfl
theorem cUn.fr {T : Tt} {V W : Vt} {p : Nat → Nat} {u : Un} (h : cUn T V p u) (e : ∀ c j, c = 15 ∨ uH c ∨ (c = 0 ∧ j = 15) → W.1 c j = V.1 c j) (er : ∀ c j, W.2.2 c j = V.2.2 c j) : cUn T W p u := by
  have hl := h.l
  refine ⟨(e _ _ (by omega)).trans h.n, hl, h.b, h.i, fun k hk => (er _ _).trans (h.r k hk), fun k hk => ?_, fun k hk => (e _ _ (by omega)).trans (h.w k hk)⟩
  have := h.b k (by omega)
  exact (h.t k hk).fr (fun j => e _ _ (by omega)) (fun j => e _ _ (by omega)) (fun j => er _ _)
theorem mUn.fr {V W : Vt} {g : Cfg} {u : Un} (h : mUn V g u) (e : ∀ c j, (c = 99 ∧ j < 2640) ∨ c = 100 ∨ (c = 94 ∧ j = 8) → W.1 c j = V.1 c j) : mUn W g u := by
  have hl := h.l
  exact ⟨(e _ _ (by omega)).trans h.n, hl, fun k hk i hi => (e _ _ (by omega)).trans (h.s k hk i hi), fun k hk => (e _ _ (by omega)).trans (h.w k hk)⟩
theorem CR.up {T : Tt} {V W : Vt} {x : HS} {a b : St} (h : CR T V x a) (q : Nat → Nat) (ei : ∀ c j, 120 ≤ c → W.1 c j = V.1 c j) (er : ∀ c j, c ≠ 13 → W.2.2 c j = V.2.2 c j) (him : b.im = a.im) (cf : cCf x.P T W (ms x.la x.pa) b.g) (ct : cTb T W 3 4 b.t) (cu : cUn T W q b.u) (st : W.1 0 0 = b.st) (rf : ∀ i, i < 7 → W.1 1 i = b.rf i) (tn : W.1 0 11 = nI b.tn) (tp : ∀ i, i < 400 → W.1 21 i = by8 (b.tp i)) (fa : W.1 0 12 = b.fa) (le : W.1 0 13 = b.le) (so : W.1 0 14 = b.so) (dm : W.1 0 24 = oI b.dm) (dd : ∀ i, i < 160 → b.dm ≠ none → W.1 29 i = nI (b.dd i)) :
    CR T W ⟨x.P, x.ow, x.la, x.pa, q, x.x⟩ b := by
  refine CR.mk ⟨h.hC, h.hU.e13 er, h.nT, h.hP, h.la, h.pa, cf, ct, cu, st, rf, tn, tp, fa, le, so, dm, dd, fun k hk => ?_⟩
  have hi := h.im k hk
  rw [him, er _ _ (by omega)]
  cases hm : a.im k with
  | none => rw [hm] at hi; exact hi
  | some gt =>
    rw [hm] at hi
    exact ⟨hi.1, hi.2.fr (fun c q => (h.hP c q).1) ei (fun c j q => er _ _ (by omega))⟩
theorem CR.ups {T : Tt} {V W : Vt} {x : HS} {a b : St} (h : CR T V x a) (ei : ∀ c j, 120 ≤ c → W.1 c j = V.1 c j) (er : ∀ c j, W.2.2 c j = V.2.2 c j) (him : b.im = a.im) (cf : cCf x.P T W (ms x.la x.pa) b.g) (ct : cTb T W 3 4 b.t) (cu : cUn T W x.p b.u) (st : W.1 0 0 = b.st) (rf : ∀ i, i < 7 → W.1 1 i = b.rf i) (tn : W.1 0 11 = nI b.tn) (tp : ∀ i, i < 400 → W.1 21 i = by8 (b.tp i)) (fa : W.1 0 12 = b.fa) (le : W.1 0 13 = b.le) (so : W.1 0 14 = b.so) (dm : W.1 0 24 = oI b.dm) (dd : ∀ i, i < 160 → b.dm ≠ none → W.1 29 i = nI (b.dd i)) :
    CR T W x b := h.up x.p ei (fun c j _ => er c j) him cf ct cu st rf tn tp fa le so dm dd
theorem MR.up {V W : Vt} {a b : St} (h : MR V a) (hV : W.2.2 = V.2.2) (e97 : ∀ c j, c = 97 ∨ c = 98 → W.1 c j = V.1 c j) (el : ∀ c j, c = 109 ∨ c = 110 ∨ c = 111 ∨ c = 116 → W.2.1 c j = V.2.1 c j) (him : b.im = a.im) (mf : mCf W b.g) (mt : mTb W b.t) (mu : mUn W b.g b.u) (st : W.1 94 1 = b.st) (rf : ∀ i, i < 7 → W.1 95 i = b.rf i) (od : W.1 94 20 = nI 0) (tn : W.1 94 13 = nI b.tn) (tp : ∀ i, i < 400 → W.1 103 i = nI (b.tp i)) (fa : W.1 94 18 = b.fa) (le : W.1 94 11 = b.le) (so : W.1 94 48 = b.so) (dm : W.1 94 54 = oI b.dm) (dd : ∀ i, i < 160 → b.dm ≠ none → W.1 119 i = nI (b.dd i)) : MR W b := by
  refine MR.mk ⟨h.hV.eq3 hV, mf, mt, mu, st, rf, od, tn, tp, fa, le, so, dm, dd, fun k hk => ?_, ?_⟩
  · have hi := h.im k hk
    rw [him, e97 _ _ (by omega), show (fun j => W.1 97 (9390 * k + j)) = fun j => V.1 97 (9390 * k + j) from funext fun j => e97 _ _ (by omega)]
    exact hi
  · have e1 : ∀ j, W.2.1 109 j = V.2.1 109 j := fun j => el _ _ (by omega)
    have e2 : ∀ j, W.2.1 110 j = V.2.1 110 j := fun j => el _ _ (by omega)
    have e3 : ∀ j, W.2.1 111 j = V.2.1 111 j := fun j => el _ _ (by omega)
    have e4 : ∀ j, W.2.1 116 j = V.2.1 116 j := fun j => el _ _ (by omega)
    have hk := h.kw
    unfold mK at *
    simp only [e1, e2, e3, e4]
    exact hk
/-- steps of both sides: what they answer, what they come to -/
abbrev cOp (f : Option (Int32 × Vt)) (T : Tt) (V : Vt) (r : Int32) (b : St) : Prop := Ret f fun p => p.1 = r ∧ (∃ x, CR T p.2 x b) ∧ cFr V p.2
abbrev mOp (f : Option (Int32 × Vt)) (V : Vt) (r : Int32) (b : St) : Prop := Ret f fun p => p.1 = r ∧ MR p.2 b ∧ mFr V p.2
theorem cOp.fr {f : Option (Int32 × Vt)} {T : Tt} {V W : Vt} {r : Int32} {b : St} (g : cFr V W) (h : cOp f T W r b) : cOp f T V r b := h.im fun _ q => ⟨q.1, q.2.1, g.tr q.2.2⟩
theorem mOp.fr {f : Option (Int32 × Vt)} {V W : Vt} {r : Int32} {b : St} (g : mFr V W) (h : mOp f W r b) : mOp f V r b := h.im fun _ q => ⟨q.1, q.2.1, g.tr q.2.2⟩
theorem cF_uI {V : Vt} {c j : Nat} {v : Int32} (h : ¬ mH c) : cFr V (uI V c j v) := ⟨fun d k q => by rw [uI1, if_neg (by omega)], fun _ _ _ => rfl, fun _ _ _ => rfl⟩
theorem mF_uI {V : Vt} {c j : Nat} {v : Int32} (h : mH c) : mFr V (uI V c j v) := ⟨fun d k q => by rw [uI1, if_neg (by omega)], fun _ _ _ => rfl, rfl⟩
theorem CR.s0 {T : Tt} {V : Vt} {x : HS} {a : St} (h : CR T V x a) {v : Int32} : CR T (uI V 0 0 v) x (a.wst v) := by
  have e : ∀ c j, ¬ (c = 0 ∧ j = 0) → (uI V 0 0 v).1 c j = V.1 c j := fun c j q => by rw [uI1, if_neg q]
  have er : ∀ c j, (uI V 0 0 v).2.2 c j = V.2.2 c j := fun _ _ => rfl
  exact h.ups (fun c j q => e _ _ (by omega)) er rfl (h.cf.fc h.P' (fun c j q => e _ _ (by omega)) (fun c j q => er _ _)) (h.ct.fr (fun j => e _ _ (by omega)) (fun j => e _ _ (by omega)) (fun j => er _ _)) (h.cu.fr (fun c j q => e _ _ (by omega)) (fun c j => er c j)) (by rw [uI1, if_pos ⟨rfl, rfl⟩]; rfl) (fun i hi => (e _ _ (by omega)).trans (h.rf i hi)) ((e _ _ (by omega)).trans h.tn) (fun i hi => (e _ _ (by omega)).trans (h.tp i hi)) ((e _ _ (by omega)).trans h.fa) ((e _ _ (by omega)).trans h.le) ((e _ _ (by omega)).trans h.so) ((e _ _ (by omega)).trans h.dm) (fun i hi q => (e _ _ (by omega)).trans (h.dd i hi q))
theorem CR.s11 {T : Tt} {V : Vt} {x : HS} {a : St} (h : CR T V x a) {n : Nat} : CR T (uI V 0 11 (nI n)) x (a.wtn n) := by
  have e : ∀ c j, ¬ (c = 0 ∧ j = 11) → (uI V 0 11 (nI n)).1 c j = V.1 c j := fun c j q => by rw [uI1, if_neg q]
  have er : ∀ c j, (uI V 0 11 (nI n)).2.2 c j = V.2.2 c j := fun _ _ => rfl
  exact h.ups (fun c j q => e _ _ (by omega)) er rfl (h.cf.fc h.P' (fun c j q => e _ _ (by omega)) (fun c j q => er _ _)) (h.ct.fr (fun j => e _ _ (by omega)) (fun j => e _ _ (by omega)) (fun j => er _ _)) (h.cu.fr (fun c j q => e _ _ (by omega)) (fun c j => er c j)) ((e _ _ (by omega)).trans h.st) (fun i hi => (e _ _ (by omega)).trans (h.rf i hi)) (by rw [uI1, if_pos ⟨rfl, rfl⟩]; rfl) (fun i hi => (e _ _ (by omega)).trans (h.tp i hi)) ((e _ _ (by omega)).trans h.fa) ((e _ _ (by omega)).trans h.le) ((e _ _ (by omega)).trans h.so) ((e _ _ (by omega)).trans h.dm) (fun i hi q => (e _ _ (by omega)).trans (h.dd i hi q))
theorem CR.s12 {T : Tt} {V : Vt} {x : HS} {a : St} (h : CR T V x a) {v : Int32} : CR T (uI V 0 12 v) x (a.wfa v) := by
  have e : ∀ c j, ¬ (c = 0 ∧ j = 12) → (uI V 0 12 v).1 c j = V.1 c j := fun c j q => by rw [uI1, if_neg q]
  have er : ∀ c j, (uI V 0 12 v).2.2 c j = V.2.2 c j := fun _ _ => rfl
  exact h.ups (fun c j q => e _ _ (by omega)) er rfl (h.cf.fc h.P' (fun c j q => e _ _ (by omega)) (fun c j q => er _ _)) (h.ct.fr (fun j => e _ _ (by omega)) (fun j => e _ _ (by omega)) (fun j => er _ _)) (h.cu.fr (fun c j q => e _ _ (by omega)) (fun c j => er c j)) ((e _ _ (by omega)).trans h.st) (fun i hi => (e _ _ (by omega)).trans (h.rf i hi)) ((e _ _ (by omega)).trans h.tn) (fun i hi => (e _ _ (by omega)).trans (h.tp i hi)) (by rw [uI1, if_pos ⟨rfl, rfl⟩]; rfl) ((e _ _ (by omega)).trans h.le) ((e _ _ (by omega)).trans h.so) ((e _ _ (by omega)).trans h.dm) (fun i hi q => (e _ _ (by omega)).trans (h.dd i hi q))
theorem CR.s13 {T : Tt} {V : Vt} {x : HS} {a : St} (h : CR T V x a) {v : Int32} : CR T (uI V 0 13 v) x (a.wle v) := by
  have e : ∀ c j, ¬ (c = 0 ∧ j = 13) → (uI V 0 13 v).1 c j = V.1 c j := fun c j q => by rw [uI1, if_neg q]
  have er : ∀ c j, (uI V 0 13 v).2.2 c j = V.2.2 c j := fun _ _ => rfl
  exact h.ups (fun c j q => e _ _ (by omega)) er rfl (h.cf.fc h.P' (fun c j q => e _ _ (by omega)) (fun c j q => er _ _)) (h.ct.fr (fun j => e _ _ (by omega)) (fun j => e _ _ (by omega)) (fun j => er _ _)) (h.cu.fr (fun c j q => e _ _ (by omega)) (fun c j => er c j)) ((e _ _ (by omega)).trans h.st) (fun i hi => (e _ _ (by omega)).trans (h.rf i hi)) ((e _ _ (by omega)).trans h.tn) (fun i hi => (e _ _ (by omega)).trans (h.tp i hi)) ((e _ _ (by omega)).trans h.fa) (by rw [uI1, if_pos ⟨rfl, rfl⟩]; rfl) ((e _ _ (by omega)).trans h.so) ((e _ _ (by omega)).trans h.dm) (fun i hi q => (e _ _ (by omega)).trans (h.dd i hi q))
theorem CR.s14 {T : Tt} {V : Vt} {x : HS} {a : St} (h : CR T V x a) {v : Int32} : CR T (uI V 0 14 v) x (a.wso v) := by
  have e : ∀ c j, ¬ (c = 0 ∧ j = 14) → (uI V 0 14 v).1 c j = V.1 c j := fun c j q => by rw [uI1, if_neg q]
  have er : ∀ c j, (uI V 0 14 v).2.2 c j = V.2.2 c j := fun _ _ => rfl
  exact h.ups (fun c j q => e _ _ (by omega)) er rfl (h.cf.fc h.P' (fun c j q => e _ _ (by omega)) (fun c j q => er _ _)) (h.ct.fr (fun j => e _ _ (by omega)) (fun j => e _ _ (by omega)) (fun j => er _ _)) (h.cu.fr (fun c j q => e _ _ (by omega)) (fun c j => er c j)) ((e _ _ (by omega)).trans h.st) (fun i hi => (e _ _ (by omega)).trans (h.rf i hi)) ((e _ _ (by omega)).trans h.tn) (fun i hi => (e _ _ (by omega)).trans (h.tp i hi)) ((e _ _ (by omega)).trans h.fa) ((e _ _ (by omega)).trans h.le) (by rw [uI1, if_pos ⟨rfl, rfl⟩]; rfl) ((e _ _ (by omega)).trans h.dm) (fun i hi q => (e _ _ (by omega)).trans (h.dd i hi q))
theorem CR.s15 {T : Tt} {V : Vt} {x : HS} {a : St} (h : CR T V x a) : CR T (uI V 0 15 (nI 0)) x (a.wu (u0 a.u)) := by
  have e : ∀ c j, ¬ (c = 0 ∧ j = 15) → (uI V 0 15 (nI 0)).1 c j = V.1 c j := fun c j q => by rw [uI1, if_neg q]
  have er : ∀ c j, (uI V 0 15 (nI 0)).2.2 c j = V.2.2 c j := fun _ _ => rfl
  exact h.ups (fun c j q => e _ _ (by omega)) er rfl (h.cf.fc h.P' (fun c j q => e _ _ (by omega)) (fun c j q => er _ _)) (h.ct.fr (fun j => e _ _ (by omega)) (fun j => e _ _ (by omega)) (fun j => er _ _)) ⟨by rw [uI1, if_pos ⟨rfl, rfl⟩]; rfl, Nat.zero_le _, h.cu.b, h.cu.i, h.cu.r, fun k hk => absurd hk (Nat.not_lt_zero _), fun k hk => absurd hk (Nat.not_lt_zero _)⟩ ((e _ _ (by omega)).trans h.st) (fun i hi => (e _ _ (by omega)).trans (h.rf i hi)) ((e _ _ (by omega)).trans h.tn) (fun i hi => (e _ _ (by omega)).trans (h.tp i hi)) ((e _ _ (by omega)).trans h.fa) ((e _ _ (by omega)).trans h.le) ((e _ _ (by omega)).trans h.so) ((e _ _ (by omega)).trans h.dm) (fun i hi q => (e _ _ (by omega)).trans (h.dd i hi q))
theorem CR.r1 {T : Tt} {V : Vt} {x : HS} {a : St} (h : CR T V x a) {w : Nat} {v : Int32} : CR T (uI V 1 w v) x (a.wrf fun i => if i = w then v else a.rf i) := by
  have e : ∀ c j, ¬ (c = 1) → (uI V 1 w v).1 c j = V.1 c j := fun c j q => by rw [uI1, if_neg (fun z => q z.1)]
  have er : ∀ c j, (uI V 1 w v).2.2 c j = V.2.2 c j := fun _ _ => rfl
  refine h.ups (fun c j q => e _ _ (by omega)) er rfl (h.cf.fc h.P' (fun c j q => e _ _ (by omega)) (fun c j q => er _ _)) (h.ct.fr (fun j => e _ _ (by omega)) (fun j => e _ _ (by omega)) (fun j => er _ _)) (h.cu.fr (fun c j q => e _ _ (by omega)) (fun c j => er c j)) ((e _ _ (by omega)).trans h.st) ?_ ((e _ _ (by omega)).trans h.tn) (fun i hi => (e _ _ (by omega)).trans (h.tp i hi)) ((e _ _ (by omega)).trans h.fa) ((e _ _ (by omega)).trans h.le) ((e _ _ (by omega)).trans h.so) ((e _ _ (by omega)).trans h.dm) (fun i hi q => (e _ _ (by omega)).trans (h.dd i hi q))
  intro i hi
  rw [uI1]
  show _ = if i = w then v else a.rf i
  by_cases q : i = w
  · rw [if_pos ⟨rfl, q⟩, if_pos q]
  · rw [if_neg (fun z => q z.2), if_neg q]
    exact h.rf i hi
theorem c_refuse {T : Tt} {V : Vt} {x : HS} {a : St} (h : CR T V x a) {w : Nat} (h1 : 1 ≤ w) (h6 : w ≤ 6) : cOp (f_X0_refuse T V 0 (-nI w)) T V (-nI w) (a.ref w) := by
  have hC := h.hC
  have hU := h.hU
  have hr := h.rf w (by omega)
  simp (disch := omega) only [f_X0_refuse, rq_t, drs, sp, pcs, cls, ↓reduceIte, not_true_eq_false, not_false_eq_true, and_true, true_and, and_false, false_and, or_true, true_or, or_false, false_or, eq_self, l0, l1, l2, l3, l4, l5, l6, l7, l8, l9, l10, l11, l12, l13, l14, l15, l16, l17, l18, l19, l20, l21, l22, l23, l24, l25, l26, l27, l28, l29, l30, l31, l32, l33, l34, l35, l36, l37, l40, l41, l42, l43, l45, l47, l48, l50, l57, l59, l60, l61, l62, l63, l85, l91, l93, l96, l97, l98, l99, l100, l120, l122, l146, l160, l165, l170, l178, l186, l198, l255, l400, l900, l948, l999, l1000, l2475, l2640, l2970, l3990, l9390, l18780, l19000, l999999, l1000000, l100000000, l2147483639, nI_add, pk_mul, ix_nI, leT, leF, ltT, ltF, eqT, eqF, nI_leI, nI_ltI, nI_eq, ngEq, ngEq', ngLt, ngLt', ngLe, ngLe', ngNg, nI_p, pk_sub, Nat.reduceAdd, Nat.reduceMul, Nat.reduceSub, uI1, uI2, uL1, uL2, uL3, uR1, uR2, uR3, rq_eq hC.k0, rq_eq hC.k2, rq_eq hC.k3, rq_eq hC.k8, rq_eq hC.k10, rq_eq hC.k17, rq_eq hC.k19, rq_eq hC.k22, rq_eq hC.k23, rq_eq hC.k28, cq1 hC, cq4 hC, cq5 hC, cq6 hC, cq7 hC, cq12 hC, cq13 hC, cq14 hC, cq15 hC, cq16 hC, cq18 hC, cq20 hC, cq21 hC, cq24 hC, cq25 hC, cq26 hC, cq27 hC, cq29 hC, hU.r0_1, hU.r0_2, hU.r0_3, hU.r0_4, hU.r0_5, hU.r0_6, hU.r0_7, hU.r0_8, hU.r0_9, hU.r0_10, hU.r0_16, hU.r0_17, hU.r0_18, hU.r0_22, hU.r0_23, hU.r2_0, hU.r2_1, hU.r2_2, hU.r2_3, hU.r2_4, hU.r2_5, hU.r3_0, hU.r17_0, hU.r19_0, hU.r28_0, hU.r22_0, hU.r22_1, hr]
  refine Ret.ok ⟨rfl, ⟨x, ?_⟩, (cF_uI (by omega)).tr (cF_uI (by omega))⟩
  have := (h.s0 (v := -nI w)).r1 (w := w) (v := a.rf w + nI 1)
  have e : (a.wst (-nI w)).wrf (fun i => if i = w then a.rf w + nI 1 else (a.wst (-nI w)).rf i) = a.ref w := by
    show St.wrf _ _ = St.wrf _ _
    congr 1
    funext i
    by_cases q : i = w
    · rw [if_pos q, if_pos q, q]
      rfl
    · rw [if_neg q, if_neg q]
      rfl
  rw [← e]
  exact this
theorem c_done {T : Tt} {V : Vt} {x : HS} {a : St} (h : CR T V x a) {v : Int32} : cOp (f_X0_done T V 0 v) T V v (a.wst (nI 0)) := by
  rw [f_X0_done, rq h.hC.k0, sp]
  exact Ret.ok ⟨rfl, ⟨x, h.s0⟩, cF_uI (by omega)⟩
theorem c_settles {T : Tt} {V : Vt} {x : HS} {a : St} (h : CR T V x a) {v : Int32} : cOp (f_X0_settles T V 0 v) T V v a.set := by
  rw [f_X0_settles, rq h.hC.k0, sp, cal_id]
  exact (c_done h.s15).fr (cF_uI (by omega))
theorem c_doneOr {T : Tt} {V : Vt} {x : HS} {a : St} (h : CR T V x a) {v : Int32} (hv : 0 ≤ v) : cOp (f_X0_doneOr T V 0 v) T V v (a.wst (nI 0)) := by
  rw [f_X0_doneOr, rq h.hC.k0, if_pos hv, cal_id]
  exact c_done h
theorem c_doneNo {T : Tt} {V : Vt} {x : HS} {a : St} (h : CR T V x a) {w : Nat} (h1 : 1 ≤ w) (h6 : w ≤ 6) : cOp (f_X0_doneOr T V 0 (-nI w)) T V (-nI w) (a.ref w) := by
  rw [f_X0_doneOr, rq h.hC.k0, if_neg (by rw [ng_0 (by omega)]; omega), cal_id]
  exact c_refuse h h1 h6
/-- the model's -/
theorem MR.s0 {V : Vt} {a : St} (h : MR V a) (og : okG a.g) {j : Nat} {v : Int32} (hj : j = 0 ∨ j = 42 ∨ j = 43 ∨ j = 34 ∨ j = 38) : MR (uI V 94 j v) a := by
  have e : ∀ c k, ¬ (c = 94 ∧ k = j) → (uI V 94 j v).1 c k = V.1 c k := fun c k q => by rw [uI1, if_neg q]
  exact h.up rfl (fun c j q => e _ _ (by omega)) (fun _ _ _ => rfl) rfl (h.mf.fr og (fun j _ _ _ => e _ _ (by omega))) (h.mt.fr (fun j => e _ _ (by omega))) (h.mu.fr (fun c j q => e _ _ (by omega))) ((e _ _ (by omega)).trans h.st) (fun i hi => (e _ _ (by omega)).trans (h.rf i hi)) ((e _ _ (by omega)).trans h.od) ((e _ _ (by omega)).trans h.tn) (fun i hi => (e _ _ (by omega)).trans (h.tp i hi)) ((e _ _ (by omega)).trans h.fa) ((e _ _ (by omega)).trans h.le) ((e _ _ (by omega)).trans h.so) ((e _ _ (by omega)).trans h.dm) (fun i hi q => (e _ _ (by omega)).trans (h.dd i hi q))
theorem MR.s1 {V : Vt} {a : St} (h : MR V a) (og : okG a.g) {v : Int32} : MR (uI V 94 1 v) (a.wst v) := by
  have e : ∀ c k, ¬ (c = 94 ∧ k = 1) → (uI V 94 1 v).1 c k = V.1 c k := fun c k q => by rw [uI1, if_neg q]
  exact h.up rfl (fun c j q => e _ _ (by omega)) (fun _ _ _ => rfl) rfl (h.mf.fr og (fun j _ _ _ => e _ _ (by omega))) (h.mt.fr (fun j => e _ _ (by omega))) (h.mu.fr (fun c j q => e _ _ (by omega))) (by rw [uI1, if_pos ⟨rfl, rfl⟩]; rfl) (fun i hi => (e _ _ (by omega)).trans (h.rf i hi)) ((e _ _ (by omega)).trans h.od) ((e _ _ (by omega)).trans h.tn) (fun i hi => (e _ _ (by omega)).trans (h.tp i hi)) ((e _ _ (by omega)).trans h.fa) ((e _ _ (by omega)).trans h.le) ((e _ _ (by omega)).trans h.so) ((e _ _ (by omega)).trans h.dm) (fun i hi q => (e _ _ (by omega)).trans (h.dd i hi q))
theorem MR.s8 {V : Vt} {a : St} (h : MR V a) (og : okG a.g) : MR (uI V 94 8 (nI 0)) (a.wu (u0 a.u)) := by
  have e : ∀ c k, ¬ (c = 94 ∧ k = 8) → (uI V 94 8 (nI 0)).1 c k = V.1 c k := fun c k q => by rw [uI1, if_neg q]
  exact h.up rfl (fun c j q => e _ _ (by omega)) (fun _ _ _ => rfl) rfl (h.mf.fr og (fun j _ _ _ => e _ _ (by omega))) (h.mt.fr (fun j => e _ _ (by omega))) ⟨by rw [uI1, if_pos ⟨rfl, rfl⟩]; rfl, Nat.zero_le _, fun k hk => absurd hk (Nat.not_lt_zero _), fun k hk => absurd hk (Nat.not_lt_zero _)⟩ ((e _ _ (by omega)).trans h.st) (fun i hi => (e _ _ (by omega)).trans (h.rf i hi)) ((e _ _ (by omega)).trans h.od) ((e _ _ (by omega)).trans h.tn) (fun i hi => (e _ _ (by omega)).trans (h.tp i hi)) ((e _ _ (by omega)).trans h.fa) ((e _ _ (by omega)).trans h.le) ((e _ _ (by omega)).trans h.so) ((e _ _ (by omega)).trans h.dm) (fun i hi q => (e _ _ (by omega)).trans (h.dd i hi q))
theorem MR.s11 {V : Vt} {a : St} (h : MR V a) (og : okG a.g) {v : Int32} : MR (uI V 94 11 v) (a.wle v) := by
  have e : ∀ c k, ¬ (c = 94 ∧ k = 11) → (uI V 94 11 v).1 c k = V.1 c k := fun c k q => by rw [uI1, if_neg q]
  exact h.up rfl (fun c j q => e _ _ (by omega)) (fun _ _ _ => rfl) rfl (h.mf.fr og (fun j _ _ _ => e _ _ (by omega))) (h.mt.fr (fun j => e _ _ (by omega))) (h.mu.fr (fun c j q => e _ _ (by omega))) ((e _ _ (by omega)).trans h.st) (fun i hi => (e _ _ (by omega)).trans (h.rf i hi)) ((e _ _ (by omega)).trans h.od) ((e _ _ (by omega)).trans h.tn) (fun i hi => (e _ _ (by omega)).trans (h.tp i hi)) ((e _ _ (by omega)).trans h.fa) (by rw [uI1, if_pos ⟨rfl, rfl⟩]; rfl) ((e _ _ (by omega)).trans h.so) ((e _ _ (by omega)).trans h.dm) (fun i hi q => (e _ _ (by omega)).trans (h.dd i hi q))
theorem MR.s13 {V : Vt} {a : St} (h : MR V a) (og : okG a.g) {n : Nat} : MR (uI V 94 13 (nI n)) (a.wtn n) := by
  have e : ∀ c k, ¬ (c = 94 ∧ k = 13) → (uI V 94 13 (nI n)).1 c k = V.1 c k := fun c k q => by rw [uI1, if_neg q]
  exact h.up rfl (fun c j q => e _ _ (by omega)) (fun _ _ _ => rfl) rfl (h.mf.fr og (fun j _ _ _ => e _ _ (by omega))) (h.mt.fr (fun j => e _ _ (by omega))) (h.mu.fr (fun c j q => e _ _ (by omega))) ((e _ _ (by omega)).trans h.st) (fun i hi => (e _ _ (by omega)).trans (h.rf i hi)) ((e _ _ (by omega)).trans h.od) (by rw [uI1, if_pos ⟨rfl, rfl⟩]; rfl) (fun i hi => (e _ _ (by omega)).trans (h.tp i hi)) ((e _ _ (by omega)).trans h.fa) ((e _ _ (by omega)).trans h.le) ((e _ _ (by omega)).trans h.so) ((e _ _ (by omega)).trans h.dm) (fun i hi q => (e _ _ (by omega)).trans (h.dd i hi q))
theorem MR.s48 {V : Vt} {a : St} (h : MR V a) (og : okG a.g) {v : Int32} : MR (uI V 94 48 v) (a.wso v) := by
  have e : ∀ c k, ¬ (c = 94 ∧ k = 48) → (uI V 94 48 v).1 c k = V.1 c k := fun c k q => by rw [uI1, if_neg q]
  exact h.up rfl (fun c j q => e _ _ (by omega)) (fun _ _ _ => rfl) rfl (h.mf.fr og (fun j _ _ _ => e _ _ (by omega))) (h.mt.fr (fun j => e _ _ (by omega))) (h.mu.fr (fun c j q => e _ _ (by omega))) ((e _ _ (by omega)).trans h.st) (fun i hi => (e _ _ (by omega)).trans (h.rf i hi)) ((e _ _ (by omega)).trans h.od) ((e _ _ (by omega)).trans h.tn) (fun i hi => (e _ _ (by omega)).trans (h.tp i hi)) ((e _ _ (by omega)).trans h.fa) ((e _ _ (by omega)).trans h.le) (by rw [uI1, if_pos ⟨rfl, rfl⟩]; rfl) ((e _ _ (by omega)).trans h.dm) (fun i hi q => (e _ _ (by omega)).trans (h.dd i hi q))
theorem MR.r95 {V : Vt} {a : St} (h : MR V a) (og : okG a.g) {w : Nat} {v : Int32} : MR (uI V 95 w v) (a.wrf fun i => if i = w then v else a.rf i) := by
  have e : ∀ c k, ¬ (c = 95) → (uI V 95 w v).1 c k = V.1 c k := fun c k q => by rw [uI1, if_neg (fun z => q z.1)]
  refine h.up rfl (fun c j q => e _ _ (by omega)) (fun _ _ _ => rfl) rfl (h.mf.fr og (fun j _ _ _ => e _ _ (by omega))) (h.mt.fr (fun j => e _ _ (by omega))) (h.mu.fr (fun c j q => e _ _ (by omega))) ((e _ _ (by omega)).trans h.st) ?_ ((e _ _ (by omega)).trans h.od) ((e _ _ (by omega)).trans h.tn) (fun i hi => (e _ _ (by omega)).trans (h.tp i hi)) ((e _ _ (by omega)).trans h.fa) ((e _ _ (by omega)).trans h.le) ((e _ _ (by omega)).trans h.so) ((e _ _ (by omega)).trans h.dm) (fun i hi q => (e _ _ (by omega)).trans (h.dd i hi q))
  intro i hi
  rw [uI1]
  show _ = if i = w then v else a.rf i
  by_cases q : i = w
  · rw [if_pos ⟨rfl, q⟩, if_pos q]
  · rw [if_neg (fun z => q z.2), if_neg q]
    exact h.rf i hi
theorem m_tellNo {T : Tt} {V : Vt} (hT : MT T) {a : St} (h : MR V a) (og : okG a.g) {w : Nat} (h1 : 1 ≤ w) (h6 : w ≤ 6) : mOp (f_X5_tell T V 94 (-nI w)) V (-nI w) (a.ref w) := by
  have hV := h.hV
  have hr := h.rf w (by omega)
  rw [f_X5_tell, rq hT.1, if_neg (by rw [ng_0 (by omega)]; omega), f_X5_tell_J10, rq hT.1, sp, if_neg (by rw [ng_0 (by omega)]; omega)]
  simp (disch := omega) only [rq_t, drs, sp, pcs, cls, ↓reduceIte, not_true_eq_false, not_false_eq_true, and_true, true_and, and_false, false_and, or_true, true_or, or_false, false_or, eq_self, l0, l1, l2, l3, l4, l5, l6, l7, l8, l9, l10, l11, l12, l13, l14, l15, l16, l17, l18, l19, l20, l21, l22, l23, l24, l25, l26, l27, l28, l29, l30, l31, l32, l33, l34, l35, l36, l37, l40, l41, l42, l43, l45, l47, l48, l50, l57, l59, l60, l61, l62, l63, l85, l91, l93, l96, l97, l98, l99, l100, l120, l122, l146, l160, l165, l170, l178, l186, l198, l255, l400, l900, l948, l999, l1000, l2475, l2640, l2970, l3990, l9390, l18780, l19000, l999999, l1000000, l100000000, l2147483639, nI_add, pk_mul, ix_nI, leT, leF, ltT, ltF, eqT, eqF, nI_leI, nI_ltI, nI_eq, ngEq, ngEq', ngLt, ngLt', ngLe, ngLe', ngNg, nI_p, pk_sub, Nat.reduceAdd, Nat.reduceMul, Nat.reduceSub, uI1, uI2, uL1, uL2, uL3, uR1, uR2, uR3, rq_eq (MT0 hT), rq95 hT, rf2 hV, rq96 hT, rf3 hV, rq97 hT, rf4 hV, rq98 hT, rf5 hV, rq99 hT, rf6 hV, rq100 hT, rf7 hV, rq101 hT, rf9 hV, rq102 hT, rf10 hV, rq103 hT, rf12 hV, rq104 hT, rf22 hV, rq105 hT, rf24 hV, rq106 hT, rf25 hV, rq107 hT, rf27 hV, rq108 hT, rf28 hV, rq109 hT, rf31 hV, rq110 hT, rf32 hV, rq111 hT, rf33 hV, rq112 hT, rf35 hV, rq113 hT, rf36 hV, rq114 hT, rf37 hV, rq115 hT, rf41 hV, rq116 hT, rf44 hV, rq117 hT, rf45 hV, rq118 hT, rf51 hV, rq119 hT, rf53 hV, hr]
  refine Ret.ok ⟨rfl, ?_, (mF_uI (by omega)).tr (mF_uI (by omega))⟩
  have := (h.s1 og (v := -nI w)).r95 (a := a.wst (-nI w)) og (w := w) (v := a.rf w + nI 1)
  have e : (a.wst (-nI w)).wrf (fun i => if i = w then a.rf w + nI 1 else (a.wst (-nI w)).rf i) = a.ref w := by
    show St.wrf _ _ = St.wrf _ _
    congr 1
    funext i
    by_cases q : i = w
    · rw [if_pos q, if_pos q, q]
      rfl
    · rw [if_neg q, if_neg q]
      rfl
  rw [← e]
  exact this
theorem m_tell {T : Tt} {V : Vt} (hT : MT T) {a : St} (h : MR V a) (og : okG a.g) {v : Int32} (hv : 0 ≤ v) : mOp (f_X5_tell T V 94 v) V v (a.wst (nI 0)) := by
  rw [f_X5_tell, rq hT.1, if_pos hv, f_X5_tell_J10, rq hT.1, sp, if_pos hv]
  exact Ret.ok ⟨rfl, h.s1 og, mF_uI (by omega)⟩
theorem OK.zu {a : St} (ok : OK a) : OK (a.wu (u0 a.u)) := OK.mk ⟨ok.g, ok.t, ok.y, fun k hk => absurd hk (Nat.not_lt_zero _), Nat.zero_le _, ok.im, ok.tn, ok.tp, ok.dm⟩
theorem m_lasting {T : Tt} {V : Vt} (hT : MT T) {a : St} (h : MR V a) (og : okG a.g) {v : Int32} (hv : 0 ≤ v) : mOp (f_X5_lasting T V 94 v) V v a.set := by
  rw [f_X5_lasting, rq hT.1, if_pos hv, f_X5_lasting_J13, rq hT.1, sp, cal_id]
  exact (m_tell hT (h.s8 og) og hv).fr (mF_uI (by omega))
theorem uI_id {V : Vt} {c j : Nat} {v : Int32} (h : V.1 c j = v) : uI V c j v = V := by
  have : (uI V c j v).1 = V.1 := by
    funext d k
    rw [uI1]
    split
    · rename_i q
      rw [q.1, q.2, h]
    · rfl
  exact Prod.ext this rfl
theorem m_lastNo {T : Tt} {V : Vt} (hT : MT T) {a : St} (h : MR V a) (og : okG a.g) {w : Nat} (h1 : 1 ≤ w) (h6 : w ≤ 6) : mOp (f_X5_lasting T V 94 (-nI w)) V (-nI w) (a.ref w) := by
  rw [f_X5_lasting, rq hT.1, if_neg (by rw [ng_0 (by omega)]; omega), f_X5_lasting_J13, rq hT.1, sp, cal_id, uI_id rfl]
  exact m_tellNo hT h og h1 h6
