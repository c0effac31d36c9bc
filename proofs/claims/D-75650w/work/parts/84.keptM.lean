/-! 84: the model's acts that are kept; pour, rack, bottle, pass, undo -/
set_option maxRecDepth 100000
theorem OK.nB {a : St} (ok : OK a) {c n : Int32} : OK (nB a c n) := by
  rw [nB.eq_1]
  split
  · rename_i w
    obtain ⟨c', n', rfl, rfl, h1, h2, h3, h4⟩ := whyB_0 ok.g w
    have h8 := ok.g.n
    rw [ix_nI (by omega), ix_nI (by omega)]
    exact ok.kp (by omega) (ok_bot ok.t h4) ok.y
  · exact ok
theorem OK.nR {a : St} (ok : OK a) {f o n : Int32} : OK (nR a f o n) := by
  rw [nR.eq_1]
  split
  · rename_i w
    obtain ⟨f', o', n', rfl, rfl, rfl, h1, h2, h3, h4, h5, h6, h7⟩ := whyR_0 ok.g w
    have h8 := ok.g.n
    rw [ix_nI (by omega), ix_nI (by omega), ix_nI (by omega)]
    exact ok.kp (by omega) (ok_rack ok.t h5 h6 h7) ok.y
  · exact ok
theorem OK.nY {a : St} (ok : OK a) : OK (nY a) := by
  have hy := ok.y
  rw [nY.eq_1]
  split
  · exact ok
  · refine ok.kp (by omega) (ok_end ok.t (by omega)) ?_
    show a.t.y + 1 ≤ 999
    omega
abbrev sKm (h j : Nat) : Prop := sRm h j ∨ sD h j ∨ h = 115 ∨ (h = 96 ∧ (j = 5 ∨ j = 9)) ∨ (h = 94 ∧ (j = 34 ∨ j = 38 ∨ j = 42 ∨ j = 43))
abbrev nOp (f : Option (Int32 × Vt)) (V : Vt) (r : Int32) (b : St) : Prop := Ret f fun p => p.1 = r ∧ MR p.2 b ∧ frM sKm lF V p.2
theorem sKm_m {V W : Vt} (h : frM sKm lF V W) : mFr V W := ⟨fun a j q => h.1 a j (by omega), fun a j q => h.2.1 a j (by omega), h.2.2⟩
theorem nOp.m {f : Option (Int32 × Vt)} {V : Vt} {r : Int32} {b : St} (h : nOp f V r b) : mOp f V r b := h.im fun _ q => ⟨q.1, q.2.1, sKm_m q.2.2⟩
theorem nOp.fr {f : Option (Int32 × Vt)} {V W : Vt} {r : Int32} {b : St} (g : frM sKm lF V W) (h : nOp f W r b) : nOp f V r b := h.im fun _ q => ⟨q.1, q.2.1, g.tr q.2.2 (fun _ _ q => q) (fun _ _ q => q)⟩
theorem MR.kp {V W : Vt} {a : St} (h : MR V a) (ok : OK a) (f : frM sKm lF V W) {u : Un} {t : Tab} (mu : mUn W a.g u) (mt : mTb W t) : MR W ((a.wu u).wt t) := by
  have e := f.1
  exact h.up f.2.2 (fun c j q => e _ _ (by omega)) (fun c j q => f.2.1 _ _ (by omega)) rfl (h.mf.fr ok.g fun j h1 h2 h3 => e _ _ (by omega)) mt mu ((e _ _ (by omega)).trans h.st) (fun i hi => (e _ _ (by omega)).trans (h.rf i hi)) ((e _ _ (by omega)).trans h.od) ((e _ _ (by omega)).trans h.tn) (fun i hi => (e _ _ (by omega)).trans (h.tp i hi)) ((e _ _ (by omega)).trans h.fa) ((e _ _ (by omega)).trans h.le) ((e _ _ (by omega)).trans h.so) ((e _ _ (by omega)).trans h.dm) (fun i hi q => (e _ _ (by omega)).trans (h.dd i hi q))
theorem MR.fk {V W : Vt} {a : St} (h : MR V a) (og : okG a.g) (f : frM sF lF V W) : MR W a := by
  have e := f.1
  exact h.up f.2.2 (fun c j q => e _ _ (by omega)) (fun c j q => f.2.1 _ _ (by omega)) rfl (h.mf.fr og (fun j _ _ _ => e _ _ (by omega))) (h.mt.fr (fun j => e _ _ (by omega))) (h.mu.fr (fun c j q => e _ _ (by omega))) ((e _ _ (by omega)).trans h.st) (fun i hi => (e _ _ (by omega)).trans (h.rf i hi)) ((e _ _ (by omega)).trans h.od) ((e _ _ (by omega)).trans h.tn) (fun i hi => (e _ _ (by omega)).trans (h.tp i hi)) ((e _ _ (by omega)).trans h.fa) ((e _ _ (by omega)).trans h.le) ((e _ _ (by omega)).trans h.so) ((e _ _ (by omega)).trans h.dm) (fun i hi q => (e _ _ (by omega)).trans (h.dd i hi q))
theorem m_act {T : Tt} {V : Vt} (hT : MT T) {a : St} (h : MR V a) (ok : OK a) {w : Nat} {S : Nat → Nat → Prop} (hS : ∀ c j, S c j → sKm c j ∧ ¬ sRm c j) {t : Tab} {r wi : Int32} (hw : wi = nI w) {F : Vt → Option (Int32 × Vt)}
    (hF : ∀ W, MV W → mCf W a.g → mTb W a.t → isB (W.1 94 20) → Ret (F W) fun p => p.1 = r ∧ frM S lF W p.2 ∧ mTb p.2 t) :
    nOp (pcl (f_X5_remember T V 94 wi) fun U => cal (F U) fun z X => some (z, X)) V r ((a.wu (keepU a.u a.t w)).wt t) := by
  subst hw
  refine Ret.p (m_remember hT h.hV ok.g h.mf h.mt h.mu) ?_
  intro W ⟨mu, f⟩
  have k1 : frM sKm lF V W := f.m.mono (fun _ _ q => Or.inl q) (fun _ _ q => absurd q id)
  rw [cal_id]
  refine (hF W (h.hV.eq f.2) (h.mf.fr ok.g fun j _ _ _ => f.1 _ _ (by omega)) (h.mt.fr fun j => f.1 _ _ (by omega)) (by rw [f.1 _ _ (by omega), h.od]; exact Or.inl rfl)).im fun p ⟨e, g1, g2⟩ => ?_
  have k2 : frM sKm lF V p.2 := k1.tr (g1.mono (fun c j q => (hS c j q).1) (fun _ _ q => q)) (fun _ _ q => q) (fun _ _ q => q)
  exact ⟨e, h.kp ok k2 (mu.fr fun c j q => g1.1 _ _ fun w => (hS c j w).2 q) g2, k2⟩
theorem m_pourNow {T : Tt} {V : Vt} (hT : MT T) {a : St} (h : MR V a) (ok : OK a) {c n : Int32} : nOp (f_X5_pourNow T V 94 c n) V (rP a c n) (nP a c n) := by
  have hl := whyP_le (g := a.g) (t := a.t) (c := c) (n := n)
  rw [f_X5_pourNow, rq hT.1, pc (m_whyPour hT h.hV ok.g h.mf ok.t h.mt), rP, nP]
  by_cases w : whyP a.g a.t c n = 0
  · rw [ng_p w, if_pos w, if_pos w]
    obtain ⟨c', n', rfl, rfl, h1, h2, h3, h4⟩ := whyP_0 ok.g w
    have h8 := ok.g.n
    have hs := ok.g.sz c' h1
    have h5 := of_decide_eq_true h4
    rw [ix_nI (by omega), ix_nI (by omega)]
    refine m_act hT h ok (w := 0) (F := fun U => f_X5_pourIt T U 94 (nI c') (nI n')) (S := sD) (hw := rfl) (fun c j q => by omega) fun W hV mf mt _ => ?_
    exact (m_pourIt hT hV mt (by omega) (by omega)).im fun p ⟨e1, e2, e3⟩ => ⟨e1, e2.mono (fun _ _ q => q) (fun _ _ q => absurd q id), e3⟩
  · rw [ng_r (by omega) w, if_neg w, if_neg w]
    exact Ret.ok ⟨rfl, h, frM.rfl'⟩
theorem m_rackNow {T : Tt} {V : Vt} (hT : MT T) {a : St} (h : MR V a) (ok : OK a) {f o n : Int32} : nOp (f_X5_rackNow T V 94 f o n) V (rR a f o n) (nR a f o n) := by
  have hl := whyR_le (g := a.g) (t := a.t) (f := f) (o := o) (n := n)
  rw [f_X5_rackNow, rq hT.1, rR, nR]
  refine Ret.c (m_whyRack hT h.hV ok.g h.mf ok.t h.mt (by rw [h.od]; exact Or.inl rfl)) ?_
  intro z W ⟨e, fr⟩
  dsimp only at e fr
  subst e
  have h' := h.fk ok.g fr
  have k1 : frM sKm lF V W := fr.mono (fun c j q => by omega) (fun _ _ q => q)
  by_cases w : whyR a.g a.t f o n = 0
  · rw [ng_p w, if_pos w, if_pos w]
    obtain ⟨f', o', n', rfl, rfl, rfl, h1, h2, h3, h4, h5, h6, h7⟩ := whyR_0 ok.g w
    have h8 := ok.g.n
    have hs := ok.g.sz o' h2
    have hr := of_decide_eq_true h7
    rw [ix_nI (by omega), ix_nI (by omega), ix_nI (by omega)]
    refine nOp.fr k1 (m_act hT h' ok (w := 1) (F := fun U => f_X5_rackIt T U 94 (nI f') (nI o') (nI n')) (S := fun h j => sD h j ∨ h = 115) (hw := rfl) (fun c j q => by omega) fun W hV mf mt _ => ?_)
    exact (m_rackIt hT hV mt (by omega) (by omega) h5 (by omega) h4 (gvs_l h6) (ok.t.a ok.g h1) (by omega)).im fun p ⟨e1, e2, e3⟩ => ⟨e1, e2.mono (fun _ _ q => q) (fun _ _ q => absurd q id), e3⟩
  · rw [ng_r (by omega) w, if_neg w, if_neg w]
    exact Ret.ok ⟨rfl, h', k1⟩
theorem m_bottleNow {T : Tt} {V : Vt} (hT : MT T) {a : St} (h : MR V a) (ok : OK a) {c n : Int32} : nOp (f_X5_bottleNow T V 94 c n) V (rB a c n) (nB a c n) := by
  have hl := whyB_le (g := a.g) (t := a.t) (c := c) (n := n)
  rw [f_X5_bottleNow, rq hT.1, rB, nB]
  refine Ret.c (m_whyBottle hT h.hV ok.g h.mf ok.t h.mt (by rw [h.od]; exact Or.inl rfl)) ?_
  intro z W ⟨e, fr⟩
  dsimp only at e fr
  subst e
  have h' := h.fk ok.g fr
  have k1 : frM sKm lF V W := fr.mono (fun c j q => by omega) (fun _ _ q => q)
  by_cases w : whyB a.g a.t c n = 0
  · rw [ng_p w, if_pos w, if_pos w]
    obtain ⟨c', n', rfl, rfl, h1, h3, h4, h6⟩ := whyB_0 ok.g w
    have h8 := ok.g.n
    rw [ix_nI (by omega), ix_nI (by omega)]
    refine nOp.fr k1 (m_act hT h' ok (w := 2) (F := fun U => f_X5_bottleIt T U 94 (nI c') (nI n')) (S := fun h j => sD h j ∨ h = 115 ∨ (h = 96 ∧ j = 9) ∨ (h = 94 ∧ (j = 42 ∨ j = 43))) (hw := rfl) (fun c j q => by omega) fun W hV mf mt _ => ?_)
    exact (m_bottleIt hT hV mt ok.t.b (by omega) (by omega) h4 (gvs_l h6) (ok.t.a ok.g h1)).im fun p ⟨e1, e2, e3, _⟩ => ⟨e1, e2.mono (fun _ _ q => q) (fun _ _ q => absurd q id), e3⟩
  · rw [ng_r (by omega) w, if_neg w, if_neg w]
    exact Ret.ok ⟨rfl, h', k1⟩
theorem m_passNow {T : Tt} {V : Vt} (hT : MT T) {a : St} (h : MR V a) (ok : OK a) : nOp (f_X5_passNow T V 94) V (rY a) (nY a) := by
  have hy := ok.y
  have hV := h.hV
  have h5 := h.mt.y
  rw [f_X5_passNow, rq hT.1, rY, nY]
  simp (disch := omega) only [rq_t, drs, sp, pcs, cls, ↓reduceIte, not_true_eq_false, not_false_eq_true, and_true, true_and, and_false, false_and, or_true, true_or, or_false, false_or, eq_self, l0, l1, l2, l3, l4, l5, l6, l7, l8, l9, l10, l11, l12, l13, l14, l15, l16, l17, l18, l19, l20, l21, l22, l23, l24, l25, l26, l27, l28, l29, l30, l31, l32, l33, l34, l35, l36, l37, l40, l41, l42, l43, l45, l47, l48, l50, l57, l59, l60, l61, l62, l63, l85, l91, l93, l96, l97, l98, l99, l100, l120, l122, l146, l160, l165, l170, l178, l186, l198, l255, l400, l900, l948, l999, l1000, l2475, l2640, l2970, l3990, l9390, l18780, l19000, l999999, l1000000, l100000000, l2147483639, nI_add, pk_mul, ix_nI, leT, leF, ltT, ltF, eqT, eqF, nI_leI, nI_ltI, nI_eq, ngEq, ngEq', ngLt, ngLt', ngLe, ngLe', ngNg, nI_p, pk_sub, Nat.reduceAdd, Nat.reduceMul, Nat.reduceSub, uI1, uI2, uL1, uL2, uL3, uR1, uR2, uR3, rq_eq (MT0 hT), rq95 hT, rf2 hV, rq96 hT, rf3 hV, rq97 hT, rf4 hV, rq98 hT, rf5 hV, rq99 hT, rf6 hV, rq100 hT, rf7 hV, rq101 hT, rf9 hV, rq102 hT, rf10 hV, rq103 hT, rf12 hV, rq104 hT, rf22 hV, rq105 hT, rf24 hV, rq106 hT, rf25 hV, rq107 hT, rf27 hV, rq108 hT, rf28 hV, rq109 hT, rf31 hV, rq110 hT, rf32 hV, rq111 hT, rf33 hV, rq112 hT, rf35 hV, rq113 hT, rf36 hV, rq114 hT, rf37 hV, rq115 hT, rf41 hV, rq116 hT, rf44 hV, rq117 hT, rf45 hV, rq118 hT, rf51 hV, rq119 hT, rf53 hV, h5]
  by_cases w : a.t.y = 999
  · rw [if_pos w, if_pos w, if_pos w]
    exact Ret.ok ⟨rfl, h, frM.rfl'⟩
  · rw [if_neg w, if_neg w, if_neg w]
    refine m_act hT h ok (w := 3) (F := fun U => f_X5_passIt T U 94) (S := sPa) (hw := rfl) (fun c j q => by omega) fun W hV mf mt hb => ?_
    exact m_passIt hT hV ok.g mf ok.t mt hb
/-- what they answer is no refusal -/
theorem nI_0le {k : Nat} (h : k < 2 ^ 31) : (0 : Int32) ≤ nI k := nI_pos' h
theorem rP_pos {a : St} (ok : OK a) {c n : Int32} (w : whyP a.g a.t c n = 0) : 0 ≤ rP a c n := by
  obtain ⟨c', n', rfl, rfl, h1, h2, h3, h4⟩ := whyP_0 ok.g w
  have h8 := ok.g.n
  have hs := (ok_pour ok.t h4).a ok.g h1
  rw [rP, if_pos w, ix_nI (by omega), ix_nI (by omega), tFull]
  exact nI_0le (by omega)
theorem rR_pos {a : St} (ok : OK a) {f o n : Int32} (w : whyR a.g a.t f o n = 0) : 0 ≤ rR a f o n := by
  obtain ⟨f', o', n', rfl, rfl, rfl, h1, h2, h3, h4, h5, h6, h7⟩ := whyR_0 ok.g w
  have h8 := ok.g.n
  rw [rR, if_pos w, ix_nI (by omega), ix_nI (by omega), ix_nI (by omega)]
  have ha : ¬ tAll (tRack a.t f' o' n').D o' = 0 := by
    show ¬ tAll (tCome (tDraw a.t.D f' n') o' (outA (gC a.t.D f') n')) o' = 0
    rw [all_come, out_sum (g := gC a.t.D f') (gvs_l h6)]
    omega
  have := mean_b ha
  rw [mean_v, if_neg ha]
  exact nI_0le (by omega)
theorem mnO_pos {g : Nat → Nat} {n : Nat} (h0 : 0 < n) (h : n * 1000 ≤ sg 20 g) : ∃ k, k ≤ 19000 ∧ mnOf (outA g n) = nI k := by
  have hs := out_sum h
  have := mn_le (g := outA g n)
  refine ⟨(sg 20 fun a => 1000 * a * outA g n a) / sg 20 (outA g n), ?_, by rw [mnOf, if_neg (by omega)]⟩
  rw [Nat.div_le_iff_le_mul_add_pred (by omega)]
  omega
theorem rB_pos {a : St} (ok : OK a) {c n : Int32} (w : whyB a.g a.t c n = 0) : 0 ≤ rB a c n := by
  obtain ⟨c', n', rfl, rfl, h1, h3, h4, h6⟩ := whyB_0 ok.g w
  have h8 := ok.g.n
  rw [rB, if_pos w, ix_nI (by omega), ix_nI (by omega)]
  obtain ⟨k, hk, e⟩ := mnO_pos (g := gC a.t.D c') h3 (gvs_l h6)
  rw [e]
  exact nI_0le (by omega)
theorem nE_le {g : Cfg} {t : Tab} (hg : okG g) (ht : okB g t) : ∀ i, i ≤ g.n → nE g t i ≤ i * 999000 := by
  intro i
  induction i with
  | zero => intro _; exact Nat.le_refl _
  | succ i ih =>
    intro hi
    have h1 := ih (by omega)
    have h2 := ht.a hg (c := i) (by omega)
    have h3 : (sg 20 fun a => lsA g t i a) ≤ tAll t.D i := sg_le fun a _ => by
      have := los_le (g := g) (t := t) (c := i)
      have : t.D (20 * i + a) * los g t i ≤ t.D (20 * i + a) * 1000 := Nat.mul_le_mul_left _ (by omega)
      rw [lsA]
      omega
    have h4 : nE g t (i + 1) = nE g t i + sg 20 fun a => lsA g t i a := rfl
    omega
theorem rY_pos {a : St} (ok : OK a) (w : ¬ a.t.y = 999) : 0 ≤ rY a := by
  have h8 := ok.g.n
  have := nE_le ok.g ok.t a.g.n (Nat.le_refl _)
  rw [rY, if_neg w]
  exact nI_0le (by omega)
/-- the steps themselves -/
def oPour (a : St) (c n : Int32) : St := if whyP a.g a.t c n = 0 then (nP a c n).wst (nI 0) else a.ref (whyP a.g a.t c n)
def oRack (a : St) (f o n : Int32) : St := if whyR a.g a.t f o n = 0 then (nR a f o n).wst (nI 0) else a.ref (whyR a.g a.t f o n)
def oBot (a : St) (c n : Int32) : St := if whyB a.g a.t c n = 0 then (nB a c n).wst (nI 0) else a.ref (whyB a.g a.t c n)
def oPass (a : St) : St := if a.t.y = 999 then a.ref 3 else (nY a).wst (nI 0)
theorem c_pour {T : Tt} {V : Vt} {x : HS} {a : St} (h : CR T V x a) (ok : OK a) {c n : Int32} : cOp (f_X0_pour T V 0 c n) T V (rP a c n) (oPour a c n) := by
  have hl := whyP_le (g := a.g) (t := a.t) (c := c) (n := n)
  rw [f_X0_pour, rq h.hC.k0, oPour]
  refine Ret.c (c_poursKept h ok) ?_
  intro z W ⟨e, ⟨q, h1⟩, f⟩
  dsimp only at e h1 f
  subst e
  rw [cal_id]
  by_cases w : whyP a.g a.t c n = 0
  · rw [if_pos w]
    exact (c_doneOr h1 (rP_pos ok w)).fr f.c
  · rw [nP, if_neg w] at h1
    rw [if_neg w, rP, if_neg w]
    exact (c_doneNo h1 (by omega) (by omega)).fr f.c
theorem c_rack {T : Tt} {V : Vt} {x : HS} {a : St} (h : CR T V x a) (ok : OK a) {f o n : Int32} : cOp (f_X0_rack T V 0 f o n) T V (rR a f o n) (oRack a f o n) := by
  have hl := whyR_le (g := a.g) (t := a.t) (f := f) (o := o) (n := n)
  rw [f_X0_rack, rq h.hC.k0, oRack]
  refine Ret.c (c_racksKept h ok) ?_
  intro z W ⟨e, ⟨q, h1⟩, fr⟩
  dsimp only at e h1 fr
  subst e
  rw [cal_id]
  by_cases w : whyR a.g a.t f o n = 0
  · rw [if_pos w]
    exact (c_doneOr h1 (rR_pos ok w)).fr fr.c
  · rw [nR, if_neg w] at h1
    rw [if_neg w, rR, if_neg w]
    exact (c_doneNo h1 (by omega) (by omega)).fr fr.c
theorem c_bottle {T : Tt} {V : Vt} {x : HS} {a : St} (h : CR T V x a) (ok : OK a) {c n : Int32} : cOp (f_X0_bottle T V 0 c n) T V (rB a c n) (oBot a c n) := by
  have hl := whyB_le (g := a.g) (t := a.t) (c := c) (n := n)
  rw [f_X0_bottle, rq h.hC.k0, oBot]
  refine Ret.c (c_bottlesKept h ok) ?_
  intro z W ⟨e, ⟨q, h1⟩, fr⟩
  dsimp only at e h1 fr
  subst e
  rw [cal_id]
  by_cases w : whyB a.g a.t c n = 0
  · rw [if_pos w]
    exact (c_doneOr h1 (rB_pos ok w)).fr fr.c
  · rw [nB, if_neg w] at h1
    rw [if_neg w, rB, if_neg w]
    exact (c_doneNo h1 (by omega) (by omega)).fr fr.c
theorem c_pass {T : Tt} {V : Vt} {x : HS} {a : St} (h : CR T V x a) (ok : OK a) : cOp (f_X0_pass T V 0) T V (rY a) (oPass a) := by
  rw [f_X0_pass, rq h.hC.k0, oPass]
  refine Ret.c (c_passesKept h ok) ?_
  intro z W ⟨e, ⟨q, h1⟩, fr⟩
  dsimp only at e h1 fr
  subst e
  rw [cal_id]
  by_cases w : a.t.y = 999
  · rw [nY, if_pos w] at h1
    rw [if_pos w, rY, if_pos w]
    exact (c_doneNo h1 (by omega) (by omega)).fr fr.c
  · rw [if_neg w]
    exact (c_doneOr h1 (rY_pos ok w)).fr fr.c
theorem m_pour {T : Tt} {V : Vt} (hT : MT T) {a : St} (h : MR V a) (ok : OK a) {c n : Int32} : mOp (f_X5_pour T V 94 c n) V (rP a c n) (oPour a c n) := by
  have hl := whyP_le (g := a.g) (t := a.t) (c := c) (n := n)
  rw [f_X5_pour, rq hT.1, sp, oPour]
  have h0 := h.s0 ok.g (j := 0) (v := 0) (by omega)
  refine mOp.fr (W := uI V 94 0 0) (mF_uI (by omega)) (Ret.c (m_pourNow hT h0 ok) ?_)
  intro z W ⟨e, h1, f⟩
  dsimp only at e h1 f
  subst e
  rw [cal_id]
  by_cases w : whyP a.g a.t c n = 0
  · rw [if_pos w]
    exact (m_tell hT h1 ok.nP.g (rP_pos ok w)).fr (sKm_m f)
  · rw [nP, if_neg w] at h1
    rw [if_neg w, rP, if_neg w]
    exact (m_tellNo hT h1 ok.g (by omega) (by omega)).fr (sKm_m f)
theorem m_rack {T : Tt} {V : Vt} (hT : MT T) {a : St} (h : MR V a) (ok : OK a) {f o n : Int32} : mOp (f_X5_rack T V 94 f o n) V (rR a f o n) (oRack a f o n) := by
  have hl := whyR_le (g := a.g) (t := a.t) (f := f) (o := o) (n := n)
  rw [f_X5_rack, rq hT.1, sp, oRack]
  have h0 := h.s0 ok.g (j := 0) (v := 0) (by omega)
  refine mOp.fr (W := uI V 94 0 0) (mF_uI (by omega)) (Ret.c (m_rackNow hT h0 ok) ?_)
  intro z W ⟨e, h1, fr⟩
  dsimp only at e h1 fr
  subst e
  rw [cal_id]
  by_cases w : whyR a.g a.t f o n = 0
  · rw [if_pos w]
    exact (m_tell hT h1 ok.nR.g (rR_pos ok w)).fr (sKm_m fr)
  · rw [nR, if_neg w] at h1
    rw [if_neg w, rR, if_neg w]
    exact (m_tellNo hT h1 ok.g (by omega) (by omega)).fr (sKm_m fr)
theorem m_bottle {T : Tt} {V : Vt} (hT : MT T) {a : St} (h : MR V a) (ok : OK a) {c n : Int32} : mOp (f_X5_bottle T V 94 c n) V (rB a c n) (oBot a c n) := by
  have hl := whyB_le (g := a.g) (t := a.t) (c := c) (n := n)
  rw [f_X5_bottle, rq hT.1, sp, oBot]
  have h0 := h.s0 ok.g (j := 0) (v := 0) (by omega)
  refine mOp.fr (W := uI V 94 0 0) (mF_uI (by omega)) (Ret.c (m_bottleNow hT h0 ok) ?_)
  intro z W ⟨e, h1, fr⟩
  dsimp only at e h1 fr
  subst e
  rw [cal_id]
  by_cases w : whyB a.g a.t c n = 0
  · rw [if_pos w]
    exact (m_tell hT h1 ok.nB.g (rB_pos ok w)).fr (sKm_m fr)
  · rw [nB, if_neg w] at h1
    rw [if_neg w, rB, if_neg w]
    exact (m_tellNo hT h1 ok.g (by omega) (by omega)).fr (sKm_m fr)
theorem m_pass {T : Tt} {V : Vt} (hT : MT T) {a : St} (h : MR V a) (ok : OK a) : mOp (f_X5_pass T V 94) V (rY a) (oPass a) := by
  rw [f_X5_pass, rq hT.1, sp, oPass]
  have h0 := h.s0 ok.g (j := 0) (v := 0) (by omega)
  refine mOp.fr (W := uI V 94 0 0) (mF_uI (by omega)) (Ret.c (m_passNow hT h0 ok) ?_)
  intro z W ⟨e, h1, fr⟩
  dsimp only at e h1 fr
  subst e
  rw [cal_id]
  by_cases w : a.t.y = 999
  · rw [nY, if_pos w] at h1
    rw [if_pos w, rY, if_pos w]
    exact (m_tellNo hT h1 ok.g (by omega) (by omega)).fr (sKm_m fr)
  · rw [if_neg w]
    exact (m_tell hT h1 ok.nY.g (rY_pos ok w)).fr (sKm_m fr)
/-- undo -/
def popU (u : Un) : Un := ⟨u.n - 1, u.s, u.w⟩
def rUn (a : St) : Int32 := if a.u.n = 0 then -nI 3 else nI (a.u.w (a.u.n - 1))
def oUn (a : St) : St := if a.u.n = 0 then a.ref 3 else ((a.wu (popU a.u)).wt (a.u.s (a.u.n - 1))).wst (nI 0)
theorem OK.un {a : St} (ok : OK a) (q : ¬ a.u.n = 0) : OK ((a.wu (popU a.u)).wt (a.u.s (a.u.n - 1))) := by
  have h := ok.u (a.u.n - 1) (by omega)
  have hl := ok.ul
  refine OK.mk ⟨ok.g, h.1, h.2.1, fun k hk => ok.u k (by have hk : k < a.u.n - 1 := hk; omega), ?_, ok.im, ok.tn, ok.tp, ok.dm⟩
  show a.u.n - 1 ≤ 16
  omega
theorem c_undo {T : Tt} {V : Vt} {x : HS} {a : St} (h : CR T V x a) (ok : OK a) : cOp (f_X0_undo T V 0) T V (rUn a) (oUn a) := by
  have hn := h.cu.n
  have hl := h.cu.l
  rw [f_X0_undo, rq h.hC.k0, hn, rUn, oUn]
  by_cases q : a.u.n = 0
  · rw [if_pos (by rw [q]; rfl), if_pos q, if_pos q, cal_id]
    exact c_refuse (w := 3) h (by omega) (by omega)
  · rw [if_neg (by rw [l0, nI_eq (by omega) (by omega)]; exact q), if_neg q, if_neg q, sp, l1, pk_sub (by omega)]
    have hC := h.hC
    have hU : CV (uI V 0 15 (nI (a.u.n - 1))) := h.hU.eq3 rfl
    have hp := h.cu.b (a.u.n - 1) (by omega)
    have hr : (uI V 0 15 (nI (a.u.n - 1))).2.2 13 (a.u.n - 1) = some (30 + 4 * x.p (a.u.n - 1)) := h.cu.r (a.u.n - 1) (by omega)
    have e15 : (uI V 0 15 (nI (a.u.n - 1))).1 0 15 = nI (a.u.n - 1) := by rw [uI1, if_pos ⟨rfl, rfl⟩]
    rw [pc (c_table hC hU), dr hU.r0_4, e15, cq13 hC (by omega), ix_nI (by omega), dr hr]
    have k0 : cTb T (uI V 0 15 (nI (a.u.n - 1))) (30 + 4 * x.p (a.u.n - 1)) (31 + 4 * x.p (a.u.n - 1)) (a.u.s (a.u.n - 1)) := (h.cu.t (a.u.n - 1) (by omega)).fr (fun j => by rw [uI1, if_neg (by omega)]) (fun j => by rw [uI1, if_neg (by omega)]) (fun j => rfl)
    refine Ret.p (c_takes (t := 3) (d := 4) ⟨hC.k3, hU.r3_0, hC.k4, hC.n4⟩ k0 (by omega) (by omega) (by omega)) ?_
    intro W ⟨f, tb⟩
    have hU2 := hU.eq3 (W := W) (by rw [f.2])
    have e2 : W.1 0 15 = nI (a.u.n - 1) := (f.1 _ _ (by omega)).trans e15
    have e3 : W.1 15 (a.u.n - 1) = nI (a.u.w (a.u.n - 1)) := by rw [f.1 _ _ (by omega), uI1, if_neg (by omega)]; exact h.cu.w _ (by omega)
    rw [dr hU2.r0_6, e2, cq15 hC (by omega), ix_nI (by omega), e3, cal_id]
    have kp : cKp V W := ⟨fun c j w => by rw [f.1 _ _ (by omega), uI1, if_neg (by omega)], fun c j w => by rw [f.2]; rfl, fun c j w => by rw [f.2]; rfl⟩
    have cu : cUn T W x.p (popU a.u) := by
      refine ⟨e2, ?_, h.cu.b, h.cu.i, fun k hk => ?_, fun k hk => ?_, fun k hk => ?_⟩
      · show a.u.n - 1 ≤ 16
        omega
      · rw [f.2]
        exact h.cu.r k hk
      · have hk : k < a.u.n - 1 := hk
        have := h.cu.b k (by omega)
        exact (h.cu.t k (by omega)).fr (fun j => by rw [f.1 _ _ (by omega), uI1, if_neg (by omega)]) (fun j => by rw [f.1 _ _ (by omega), uI1, if_neg (by omega)]) (fun j => by rw [f.2]; rfl)
      · have hk : k < a.u.n - 1 := hk
        rw [f.1 _ _ (by omega), uI1, if_neg (by omega)]
        exact h.cu.w k (by omega)
    exact (c_done (h.kp kp cu tb)).fr kp.c
theorem m_undo {T : Tt} {V : Vt} (hT : MT T) {a : St} (h : MR V a) (ok : OK a) : mOp (f_X5_undo T V 94) V (rUn a) (oUn a) := by
  have h := h.s0 ok.g (j := 0) (v := 0) (by omega)
  rw [f_X5_undo, rq hT.1, sp]
  refine mOp.fr (W := uI V 94 0 0) (mF_uI (by omega)) ?_
  generalize uI V 94 0 0 = V at h ⊢
  have hn := h.mu.n
  have hl := h.mu.l
  rw [hn, rUn, oUn]
  by_cases q : a.u.n = 0
  · rw [if_pos (by rw [q]; rfl), if_pos q, if_pos q, cal_id]
    exact m_tellNo (w := 3) hT h ok.g (by omega) (by omega)
  · rw [if_neg (by rw [l0, nI_eq (by omega) (by omega)]; exact q), if_neg q, if_neg q, sp, l1, pk_sub (by omega)]
    have e8 : (uI V 94 8 (nI (a.u.n - 1))).1 94 8 = nI (a.u.n - 1) := by rw [uI1, if_pos ⟨rfl, rfl⟩]
    rw [e8]
    refine Ret.p (m_putBack hT (h.hV.eq3 (W := uI V 94 8 (nI (a.u.n - 1))) rfl) (by omega)) ?_
    intro W ⟨f, ks⟩
    have hV2 := h.hV.eq3 (W := W) (by rw [f.2]; rfl)
    have e2 : W.1 94 8 = nI (a.u.n - 1) := (f.1 _ _ (by omega)).trans e8
    have e3 : W.1 100 (a.u.n - 1) = nI (a.u.w (a.u.n - 1)) := by rw [f.1 _ _ (by omega), uI1, if_neg (by omega)]; exact h.mu.w _ (by omega)
    have hw4 := (ok.u (a.u.n - 1) (by omega)).2.2
    rw [dr (rf7 hV2), e2, rq100 hT (by omega), ix_nI (by omega), e3, cal_id]
    have sn : ∀ i, i < 165 → W.1 96 (5 + i) = snap a.g (a.u.s (a.u.n - 1)) i := fun i hi => by rw [ks i hi, uI1, if_neg (by omega)]; exact h.mu.s _ (by omega) i hi
    obtain ⟨tb, t1, t2, t3⟩ := snap_tb sn
    have e : ∀ c j, ¬ ((c = 96 ∧ 5 ≤ j ∧ j < 170) ∨ (c = 94 ∧ j = 8)) → W.1 c j = V.1 c j := fun c j w => by rw [f.1 _ _ (by omega), uI1, if_neg (by omega)]
    have mf : mCf W a.g := by
      have h8 := ok.g.n
      have h6 := ok.g.nt
      have g0 : mCf W a.g → mCf W a.g := id
      have mfV := h.mf
      have hmid : mCf (uI (uI (uI W 96 6 (V.1 96 6)) 96 7 (V.1 96 7)) 96 8 (V.1 96 8)) a.g := mfV.fr ok.g fun j w1 w2 w3 => by
        simp only [uI1]
        by_cases c8 : j = 8
        · rw [if_pos ⟨trivial, c8⟩, c8]
        · rw [if_neg (by omega)]
          by_cases c7 : j = 7
          · rw [if_pos ⟨trivial, c7⟩, c7]
          · rw [if_neg (by omega)]
            by_cases c6 : j = 6
            · rw [if_pos ⟨trivial, c6⟩, c6]
            · rw [if_neg (by omega)]
              exact e _ _ (by omega)
      rw [uI_id (V := W) (t1.trans mfV.co.symm), uI_id (V := W) (t2.trans mfV.mo.symm), uI_id (V := W) (t3.trans mfV.pa.symm)] at hmid
      exact hmid
    have mu : mUn W a.g (popU a.u) := by
      refine ⟨e2, ?_, fun k hk i hi => ?_, fun k hk => ?_⟩
      · show a.u.n - 1 ≤ 16
        omega
      · have hk : k < a.u.n - 1 := hk
        rw [e _ _ (by omega)]
        exact h.mu.s k (by omega) i hi
      · have hk : k < a.u.n - 1 := hk
        rw [e _ _ (by omega)]
        exact h.mu.w k (by omega)
    have h2 : MR W ((a.wu (popU a.u)).wt (a.u.s (a.u.n - 1))) := h.up (by rw [f.2]; rfl) (fun c j q => e _ _ (by omega)) (fun c j q => by rw [f.2]; rfl) rfl mf tb mu ((e _ _ (by omega)).trans h.st) (fun i hi => (e _ _ (by omega)).trans (h.rf i hi)) ((e _ _ (by omega)).trans h.od) ((e _ _ (by omega)).trans h.tn) (fun i hi => (e _ _ (by omega)).trans (h.tp i hi)) ((e _ _ (by omega)).trans h.fa) ((e _ _ (by omega)).trans h.le) ((e _ _ (by omega)).trans h.so) ((e _ _ (by omega)).trans h.dm) (fun i hi q => (e _ _ (by omega)).trans (h.dd i hi q))
    exact (m_tell hT h2 (ok.un q).g (nI_0le (by omega))).fr ⟨fun c j w => e _ _ (by omega), fun c j w => by rw [f.2]; rfl, by rw [f.2]; rfl⟩
