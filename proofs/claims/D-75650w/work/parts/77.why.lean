/-! 77: whether it can be poured, racked, bottled, on both sides -/
set_option maxRecDepth 100000
/-- a number lies within -/
def iN (x : Int32) (lo hi : Int) : Bool := decide (lo ≤ x.toInt ∧ x.toInt ≤ hi)
theorem iN_of {x : Int32} {lo hi : Int} (h : iN x lo hi = true) (h0 : 0 ≤ lo) : ∃ n : Nat, x = nI n ∧ lo ≤ n ∧ (n : Int) ≤ hi ∧ n < 2 ^ 31 := by
  have h := of_decide_eq_true h
  have hb := x.toInt_lt
  refine ⟨x.toInt.toNat, Int32.toInt_inj.mp ?_, by omega, by omega, by omega⟩
  rw [nI_toInt (by omega)]
  omega
theorem iN_nI {n : Nat} (h : n < 2 ^ 31) {lo hi : Int} : iN (nI n) lo hi = decide (lo ≤ (n : Int) ∧ (n : Int) ≤ hi) := by rw [iN, nI_toInt h]
theorem c_in {T : Tt} {V : Vt} {x a b : Int32} : f_X0_in T V x a b = some (b1 (iN x a.toInt b.toInt)) := by
  rw [f_X0_in, iN]
  simp only [Int32.lt_iff_toInt_lt]
  by_cases h : x.toInt < a.toInt
  · rw [if_pos h, decide_eq_false (by omega)]
    rfl
  · rw [if_neg h]
    by_cases h2 : b.toInt < x.toInt
    · rw [if_pos h2, decide_eq_false (by omega)]
      rfl
    · rw [if_neg h2, decide_eq_true (by omega)]
      rfl
theorem i2l (x : Int32) : x.toInt64.toInt = x.toInt := Int32.toInt_toInt64 x
theorem m_inI {T : Tt} {V : Vt} {x : Int32} {a b : Int64} : f_X5_in T V x.toInt64 a b = some (b1 (iN x a.toInt b.toInt)) := by
  rw [m_in, iN]
  simp only [Int64.lt_iff_toInt_lt, i2l]
  by_cases h : x.toInt < a.toInt ∨ b.toInt < x.toInt
  · rw [if_pos h, decide_eq_false (by omega)]
    rfl
  · rw [if_neg h, decide_eq_true (by omega)]
    rfl
theorem b1_B (b : Bool) : isB (b1 b) := by cases b <;> decide
abbrev isKa (g : Cfg) (x : Int32) : Bool := iN x 0 ((g.n : Int) - 1)
theorem isKa_of {g : Cfg} {x : Int32} (h : isKa g x = true) : ∃ c : Nat, x = nI c ∧ c < g.n := by
  obtain ⟨n, e, -, h2, -⟩ := iN_of h (by omega)
  exact ⟨n, e, by omega⟩
theorem isKa_nI {g : Cfg} (hg : g.n ≤ 8) {c : Nat} (hc : c < g.n) : isKa g (nI c) = true := by
  rw [isKa, iN_nI (by omega)]
  exact decide_eq_true (by omega)
theorem sub1T {n : Nat} (h : n < 2 ^ 30) : (nI n - 1).toInt = (n : Int) - 1 := by
  rw [l1, pk_sub_toInt h (by omega)]
  rfl
theorem sub1L {n : Nat} (h : n < 2 ^ 30) : (lN n - 1).toInt = (n : Int) - 1 := by
  cases n with
  | zero => decide
  | succ n =>
    rw [L1, lN_sub (by omega), pk_lT (by omega)]
    omega
theorem c_isCask {P : Nat → Prop} {T : Tt} {V : Vt} (hC : CT T) (hU : CV V) {la pa : Nat} {g : Cfg} (hg : okG g) (cf : cCf P T V (ms la pa) g) {x : Int32} : f_X0_isCask T V 0 x = some (b1 (isKa g x)) := by
  have hn := cf.n
  have h8 := hg.n
  dsimp only [ms] at hn
  rw [f_X0_isCask, rq hC.k0, dr hU.r0_2, rq hC.k2, hn, pc c_in, sub1T (by omega), rq (b1_B _)]
  rfl
theorem m_isCask {T : Tt} {V : Vt} (hT : MT T) (hV : MV V) {g : Cfg} (hg : okG g) (mf : mCf V g) {x : Int32} : f_X5_isCask T V 94 x = some (b1 (isKa g x)) := by
  have hn := mf.n
  have h8 := hg.n
  simp (disch := omega) only [f_X5_isCask, rq_t, drs, sp, pcs, cls, ↓reduceIte, not_true_eq_false, not_false_eq_true, and_true, true_and, and_false, false_and, or_true, true_or, or_false, false_or, eq_self, l0, l1, l2, l3, l4, l5, l6, l7, l8, l9, l10, l11, l12, l13, l14, l15, l16, l17, l18, l19, l20, l21, l22, l23, l24, l25, l26, l27, l28, l29, l30, l31, l32, l33, l34, l35, l36, l37, l40, l41, l42, l43, l45, l47, l48, l50, l57, l59, l60, l61, l62, l63, l85, l91, l93, l96, l97, l98, l99, l100, l120, l122, l146, l160, l165, l170, l178, l186, l198, l255, l400, l900, l948, l999, l1000, l2475, l2640, l2970, l3990, l9390, l18780, l19000, l999999, l1000000, l100000000, l2147483639, nI_add, pk_mul, ix_nI, leT, leF, ltT, ltF, eqT, eqF, nI_leI, nI_ltI, nI_eq, ngEq, ngEq', ngLt, ngLt', ngLe, ngLe', ngNg, nI_p, pk_sub, Nat.reduceAdd, Nat.reduceMul, Nat.reduceSub, uI1, uI2, uL1, uL2, uL3, uR1, uR2, uR3, rq_eq (MT0 hT), rq95 hT, rf2 hV, rq96 hT, rf3 hV, rq97 hT, rf4 hV, rq98 hT, rf5 hV, rq99 hT, rf6 hV, rq100 hT, rf7 hV, rq101 hT, rf9 hV, rq102 hT, rf10 hV, rq103 hT, rf12 hV, rq104 hT, rf22 hV, rq105 hT, rf24 hV, rq106 hT, rf25 hV, rq107 hT, rf27 hV, rq108 hT, rf28 hV, rq109 hT, rf31 hV, rq110 hT, rf32 hV, rq111 hT, rf33 hV, rq112 hT, rf35 hV, rq113 hT, rf36 hV, rq114 hT, rf37 hV, rq115 hT, rf41 hV, rq116 hT, rf44 hV, rq117 hT, rf45 hV, rq118 hT, rf51 hV, rq119 hT, rf53 hV, hn, nI_l]
  rw [pc m_inI, sub1L (by omega), rq (b1_B _)]
  rfl
/-- why it is refused: 0 it is not -/
def chk (g : Cfg) (c n : Int32) : Nat := if iN n 1 999 then (if isKa g c then 0 else 2) else 1
def roo (g : Cfg) (t : Tab) (c n : Nat) : Bool := decide (tAll t.D c + 1000 * n ≤ 1000 * g.sz c)
def gvs (g : Cfg) (t : Tab) (c n : Nat) : Bool := !bar g t c && decide (n ≤ yil g t c) && decide (1000 * n ≤ tAll t.D c)
def whyP (g : Cfg) (t : Tab) (c n : Int32) : Nat := if chk g c n = 0 then (if roo g t (ixN c) (ixN n) then 0 else 3) else chk g c n
def whyR (g : Cfg) (t : Tab) (f o n : Int32) : Nat := if chk g f n = 0 then (if isKa g o then (if decide (g.ti (ixN o) + 1 = g.ti (ixN f)) && gvs g t (ixN f) (ixN n) && !bar g t (ixN o) && roo g t (ixN o) (ixN n) then 0 else 3) else 2) else chk g f n
def whyB (g : Cfg) (t : Tab) (c n : Int32) : Nat := if chk g c n = 0 then (if decide (g.ti (ixN c) = 0) && gvs g t (ixN c) (ixN n) then 0 else 3) else chk g c n
theorem chk_0 {g : Cfg} {c n : Int32} (h : chk g c n = 0) : ∃ c' n' : Nat, c = nI c' ∧ n = nI n' ∧ c' < g.n ∧ 1 ≤ n' ∧ n' ≤ 999 := by
  rw [chk] at h
  split at h
  · rename_i h1
    split at h
    · rename_i h2
      obtain ⟨c', e, hc⟩ := isKa_of h2
      obtain ⟨n', e2, h3, h4, -⟩ := iN_of h1 (by omega)
      exact ⟨c', n', e, e2, hc, by omega, by omega⟩
    · omega
  · omega
theorem chk_le {g : Cfg} {c n : Int32} : chk g c n ≤ 2 := by
  rw [chk]
  split
  · split <;> omega
  · omega
theorem whyP_le {g : Cfg} {t : Tab} {c n : Int32} : whyP g t c n ≤ 3 := by
  have := chk_le (g := g) (c := c) (n := n)
  rw [whyP]
  split
  · split <;> omega
  · omega
theorem whyB_le {g : Cfg} {t : Tab} {c n : Int32} : whyB g t c n ≤ 3 := by
  have := chk_le (g := g) (c := c) (n := n)
  rw [whyB]
  split
  · split <;> omega
  · omega
theorem whyR_le {g : Cfg} {t : Tab} {f o n : Int32} : whyR g t f o n ≤ 3 := by
  have := chk_le (g := g) (c := f) (n := n)
  rw [whyR]
  split
  · split
    · split <;> omega
    · omega
  · omega
theorem ng0 : (-nI 0 : Int32) = nI 0 := by decide
theorem ng_0 {w : Nat} (h : w ≤ 100) : (0 ≤ (-nI w : Int32)) = (w = 0) := by
  apply propext
  rw [Int32.le_iff_toInt_le, ngT (by omega)]
  have : (0 : Int32).toInt = 0 := rfl
  omega
theorem ng_l {w : Nat} (h : w ≤ 100) : ((-nI w : Int32) < 0) = ¬ (w = 0) := by
  apply propext
  rw [Int32.lt_iff_toInt_lt, ngT (by omega)]
  have : (0 : Int32).toInt = 0 := rfl
  omega
theorem ng_e {w : Nat} (h : w ≤ 100) : ((-nI w : Int32) = 0) = (w = 0) := by
  apply propext
  rw [← Int32.toInt_inj, ngT (by omega)]
  have : (0 : Int32).toInt = 0 := rfl
  omega
theorem b1_0 (b : Bool) : (b1 b = 0) = (b = false) := by cases b <;> decide
theorem c_checks {P : Nat → Prop} {T : Tt} {V : Vt} (hC : CT T) (hU : CV V) {la pa : Nat} {g : Cfg} (hg : okG g) (cf : cCf P T V (ms la pa) g) {c n : Int32} : f_X0_checks T V 0 c n = some (-nI (chk g c n)) := by
  rw [f_X0_checks, rq hC.k0, pc c_in, chk]
  simp only [b1_0]
  rw [show (1 : Int32).toInt = 1 from rfl, show (999 : Int32).toInt = 999 from rfl]
  cases h : iN n 1 999 with
  | false => rfl
  | true =>
    rw [if_neg (by decide), pc (c_isCask hC hU hg cf), if_pos rfl]
    simp only [b1_0]
    cases h : isKa g c with
    | false => rfl
    | true => rfl
theorem c_hasRoom {P : Nat → Prop} {T : Tt} {V : Vt} (hC : CT T) (hU : CV V) {la pa : Nat} {g : Cfg} (hg : okG g) (cf : cCf P T V (ms la pa) g) {t d : Nat} {b : Tab} (hb : okB g b) (ct : cTb T V t d b) {c n : Nat} (hc : c < g.n) (hn : n ≤ 999) : f_X0_hasRoom T V 0 t (nI c) (nI n) = some (b1 (roo g b c n)) := by
  have h8 := hg.n
  have h1 := cf.sz c hc
  have h2 := hg.sz c hc
  have h3 := hb.D c hc
  dsimp only [ms] at h1
  rw [f_X0_hasRoom, rq hC.k0, pc (c_all ct.k ct.D (by omega))]
  simp (disch := omega) only [rq_t, drs, sp, pcs, cls, ↓reduceIte, not_true_eq_false, not_false_eq_true, and_true, true_and, and_false, false_and, or_true, true_or, or_false, false_or, eq_self, l0, l1, l2, l3, l4, l5, l6, l7, l8, l9, l10, l11, l12, l13, l14, l15, l16, l17, l18, l19, l20, l21, l22, l23, l24, l25, l26, l27, l28, l29, l30, l31, l32, l33, l34, l35, l36, l37, l40, l41, l42, l43, l45, l47, l48, l50, l57, l59, l60, l61, l62, l63, l85, l91, l93, l96, l97, l98, l99, l100, l120, l122, l146, l160, l165, l170, l178, l186, l198, l255, l400, l900, l948, l999, l1000, l2475, l2640, l2970, l3990, l9390, l18780, l19000, l999999, l1000000, l100000000, l2147483639, nI_add, pk_mul, ix_nI, leT, leF, ltT, ltF, eqT, eqF, nI_leI, nI_ltI, nI_eq, ngEq, ngEq', ngLt, ngLt', ngLe, ngLe', ngNg, nI_p, pk_sub, Nat.reduceAdd, Nat.reduceMul, Nat.reduceSub, uI1, uI2, uL1, uL2, uL3, uR1, uR2, uR3, rq_eq hC.k0, rq_eq hC.k2, rq_eq hC.k3, rq_eq hC.k8, rq_eq hC.k10, rq_eq hC.k17, rq_eq hC.k19, rq_eq hC.k22, rq_eq hC.k23, rq_eq hC.k28, cq1 hC, cq4 hC, cq5 hC, cq6 hC, cq7 hC, cq12 hC, cq13 hC, cq14 hC, cq15 hC, cq16 hC, cq18 hC, cq20 hC, cq21 hC, cq24 hC, cq25 hC, cq26 hC, cq27 hC, cq29 hC, hU.r0_1, hU.r0_2, hU.r0_3, hU.r0_4, hU.r0_5, hU.r0_6, hU.r0_7, hU.r0_8, hU.r0_9, hU.r0_10, hU.r0_16, hU.r0_17, hU.r0_18, hU.r0_22, hU.r0_23, hU.r2_0, hU.r2_1, hU.r2_2, hU.r2_3, hU.r2_4, hU.r2_5, hU.r3_0, hU.r17_0, hU.r19_0, hU.r28_0, hU.r22_0, hU.r22_1, h1]
  rw [roo]
  by_cases q : tAll b.D c + 1000 * n ≤ 1000 * g.sz c
  · rw [if_neg (by omega), decide_eq_true q]
    rfl
  · rw [if_pos (by omega), decide_eq_false q]
    rfl
theorem c_canPour {P : Nat → Prop} {T : Tt} {V : Vt} (hC : CT T) (hU : CV V) {la pa : Nat} {g : Cfg} (hg : okG g) (cf : cCf P T V (ms la pa) g) {t d : Nat} {b : Tab} (hb : okB g b) (ct : cTb T V t d b) {c n : Int32} : f_X0_canPour T V 0 t c n = some (-nI (whyP g b c n)) := by
  rw [f_X0_canPour, rq hC.k0, pc (c_checks hC hU hg cf), whyP]
  have hk := chk_le (g := g) (c := c) (n := n)
  simp only [ng_0 (show chk g c n ≤ 100 by omega)]
  by_cases h : chk g c n = 0
  · obtain ⟨c', n', rfl, rfl, h1, h2, h3⟩ := chk_0 h
    have h8 := hg.n
    rw [if_pos h, if_pos h, pc (c_hasRoom hC hU hg cf hb ct h1 h3), ix_nI (by omega), ix_nI (by omega)]
    simp only [b1_0]
    cases roo g b c' n' <;> rfl
  · rw [if_neg h, if_neg h]
theorem c_gives {P : Nat → Prop} {T : Tt} {V : Vt} (hC : CT T) (hU : CV V) {la pa : Nat} (hP : okP' P la pa) {g : Cfg} (hg : okG g) (cf : cCf P T V (ms la pa) g) {t d : Nat} {b : Tab} (hb : okB g b) (ct : cTb T V t d b) {c n : Nat} (hc : c < g.n) (hn : n ≤ 999) :
    Ret (f_X0_gives T V 0 t (nI c) (nI n)) fun p => p.1 = b1 (gvs g b c n) ∧ frM nF lC V p.2 := by
  have h8 := hg.n
  rw [f_X0_gives, rq hC.k0]
  refine Ret.c (c_barred hC hU hP hg cf hb ct hc) ?_
  intro a W ⟨e, f⟩
  dsimp only at e f
  subst e
  simp only [b1_0]
  rw [gvs]
  cases hbar : bar g b c with
  | true =>
    rw [if_neg (by decide)]
    exact Ret.ok ⟨rfl, f⟩
  | false =>
    rw [if_pos rfl]
    have hU' := hU.eq3 f.2.2
    have cf' := cf.fc hP (W := W) (fun h j _ => f.1 h j id) (fun h j _ => by rw [f.2.2])
    have ct' : cTb T W t d b := ⟨⟨ct.k.1, by rw [f.2.2]; exact ct.k.2.1, ct.k.2.2⟩, fun k hk => (f.1 _ _ id).trans (ct.D k hk), (f.1 _ _ id).trans ct.b, (f.1 _ _ id).trans ct.y⟩
    refine Ret.c (c_yield hC hU' hP hg cf' hb ct' hc) ?_
    intro a U ⟨e, f2⟩
    dsimp only at e f2
    subst e
    have hy := yil_le (g := g) (t := b) (c := c)
    have f3 : frM nF lC V U := f.tr f2 (fun _ _ q => q) (fun _ _ q => q)
    have ct' : cTb T U t d b := ⟨⟨ct.k.1, by rw [f3.2.2]; exact ct.k.2.1, ct.k.2.2⟩, fun k hk => (f3.1 _ _ id).trans (ct.D k hk), (f3.1 _ _ id).trans ct.b, (f3.1 _ _ id).trans ct.y⟩
    have hB := hb.a hg hc
    rw [pc (c_all ct'.k ct'.D (by omega))]
    simp (disch := omega) only [rq_t, drs, sp, pcs, cls, ↓reduceIte, not_true_eq_false, not_false_eq_true, and_true, true_and, and_false, false_and, or_true, true_or, or_false, false_or, eq_self, l0, l1, l2, l3, l4, l5, l6, l7, l8, l9, l10, l11, l12, l13, l14, l15, l16, l17, l18, l19, l20, l21, l22, l23, l24, l25, l26, l27, l28, l29, l30, l31, l32, l33, l34, l35, l36, l37, l40, l41, l42, l43, l45, l47, l48, l50, l57, l59, l60, l61, l62, l63, l85, l91, l93, l96, l97, l98, l99, l100, l120, l122, l146, l160, l165, l170, l178, l186, l198, l255, l400, l900, l948, l999, l1000, l2475, l2640, l2970, l3990, l9390, l18780, l19000, l999999, l1000000, l100000000, l2147483639, nI_add, pk_mul, ix_nI, leT, leF, ltT, ltF, eqT, eqF, nI_leI, nI_ltI, nI_eq, ngEq, ngEq', ngLt, ngLt', ngLe, ngLe', ngNg, nI_p, pk_sub, Nat.reduceAdd, Nat.reduceMul, Nat.reduceSub, uI1, uI2, uL1, uL2, uL3, uR1, uR2, uR3]
    by_cases q : yil g b c < n
    · rw [if_pos q, decide_eq_false (show ¬ n ≤ yil g b c by omega)]
      exact Ret.ok ⟨rfl, f3⟩
    · rw [if_neg q, decide_eq_true (show n ≤ yil g b c by omega)]
      by_cases q2 : tAll b.D c < n * 1000
      · rw [if_pos q2, decide_eq_false (show ¬ 1000 * n ≤ tAll b.D c by omega)]
        exact Ret.ok ⟨rfl, f3⟩
      · rw [if_neg q2, decide_eq_true (show 1000 * n ≤ tAll b.D c by omega)]
        exact Ret.ok ⟨rfl, f3⟩
theorem cTb.fr {T : Tt} {V W : Vt} {t d : Nat} {b : Tab} (h : cTb T V t d b) (e1 : ∀ j, W.1 t j = V.1 t j) (e2 : ∀ j, W.1 d j = V.1 d j) (e3 : ∀ j, W.2.2 t j = V.2.2 t j) : cTb T W t d b := ⟨⟨h.k.1, (e3 _).trans h.k.2.1, h.k.2.2⟩, fun k hk => (e2 _).trans (h.D k hk), (e1 _).trans h.b, (e1 _).trans h.y⟩
theorem c_canRack {P : Nat → Prop} {T : Tt} {V : Vt} (hC : CT T) (hU : CV V) {la pa : Nat} (hP : okP' P la pa) {g : Cfg} (hg : okG g) (cf : cCf P T V (ms la pa) g) {t d : Nat} {b : Tab} (hb : okB g b) (ct : cTb T V t d b) {f o n : Int32} :
    Ret (f_X0_canRack T V 0 t f o n) fun p => p.1 = -nI (whyR g b f o n) ∧ frM nF lC V p.2 := by
  rw [f_X0_canRack, rq hC.k0, pc (c_checks hC hU hg cf), whyR]
  have hk := chk_le (g := g) (c := f) (n := n)
  simp only [ng_l (show chk g f n ≤ 100 by omega), f_X0_canRack_J22, ng_0 (show chk g f n ≤ 100 by omega)]
  by_cases h : chk g f n = 0
  · obtain ⟨f', n', rfl, rfl, h1, h2, h3⟩ := chk_0 h
    have h8 := hg.n
    rw [if_neg (not_not_intro h), pc (c_isCask hC hU hg cf), if_pos h, if_pos h]
    simp only [b1_0]
    cases ho : isKa g o with
    | false => exact Ret.ok ⟨rfl, frM.rfl'⟩
    | true =>
      obtain ⟨o', rfl, ho'⟩ := isKa_of ho
      have t1 := cf.ti f' h1
      have t2 := cf.ti o' ho'
      have t3 := hg.ti f' h1
      have t4 := hg.ti o' ho'
      dsimp only [ms] at t1 t2
      simp (disch := omega) only [rq_t, drs, sp, pcs, cls, ↓reduceIte, not_true_eq_false, not_false_eq_true, and_true, true_and, and_false, false_and, or_true, true_or, or_false, false_or, eq_self, l0, l1, l2, l3, l4, l5, l6, l7, l8, l9, l10, l11, l12, l13, l14, l15, l16, l17, l18, l19, l20, l21, l22, l23, l24, l25, l26, l27, l28, l29, l30, l31, l32, l33, l34, l35, l36, l37, l40, l41, l42, l43, l45, l47, l48, l50, l57, l59, l60, l61, l62, l63, l85, l91, l93, l96, l97, l98, l99, l100, l120, l122, l146, l160, l165, l170, l178, l186, l198, l255, l400, l900, l948, l999, l1000, l2475, l2640, l2970, l3990, l9390, l18780, l19000, l999999, l1000000, l100000000, l2147483639, nI_add, pk_mul, ix_nI, leT, leF, ltT, ltF, eqT, eqF, nI_leI, nI_ltI, nI_eq, ngEq, ngEq', ngLt, ngLt', ngLe, ngLe', ngNg, nI_p, pk_sub, Nat.reduceAdd, Nat.reduceMul, Nat.reduceSub, uI1, uI2, uL1, uL2, uL3, uR1, uR2, uR3, rq_eq hC.k0, rq_eq hC.k2, rq_eq hC.k3, rq_eq hC.k8, rq_eq hC.k10, rq_eq hC.k17, rq_eq hC.k19, rq_eq hC.k22, rq_eq hC.k23, rq_eq hC.k28, cq1 hC, cq4 hC, cq5 hC, cq6 hC, cq7 hC, cq12 hC, cq13 hC, cq14 hC, cq15 hC, cq16 hC, cq18 hC, cq20 hC, cq21 hC, cq24 hC, cq25 hC, cq26 hC, cq27 hC, cq29 hC, hU.r0_1, hU.r0_2, hU.r0_3, hU.r0_4, hU.r0_5, hU.r0_6, hU.r0_7, hU.r0_8, hU.r0_9, hU.r0_10, hU.r0_16, hU.r0_17, hU.r0_18, hU.r0_22, hU.r0_23, hU.r2_0, hU.r2_1, hU.r2_2, hU.r2_3, hU.r2_4, hU.r2_5, hU.r3_0, hU.r17_0, hU.r19_0, hU.r28_0, hU.r22_0, hU.r22_1, t1, t2]
      have e0 : (nI (g.ti o') = nI (g.ti f') - nI 1) = (g.ti o' + 1 = g.ti f') := by
        apply propext
        rw [← Int32.toInt_inj, nI_toInt (by omega), pk_sub_toInt (by omega) (by omega)]
        omega
      simp only [e0, reduceCtorEq, if_false]
      by_cases q : g.ti o' + 1 = g.ti f'
      · rw [if_pos q, decide_eq_true q]
        refine Ret.c (c_gives hC hU hP hg cf hb ct h1 h3) ?_
        intro a W ⟨e, fr⟩
        dsimp only at e fr
        subst e
        simp only [b1_0, ← l0]
        cases hgv : gvs g b f' n' with
        | false => exact Ret.ok ⟨rfl, fr⟩
        | true =>
          rw [if_neg (by decide)]
          have hU' := hU.eq3 fr.2.2
          have cf' := cf.fc hP (W := W) (fun h j _ => fr.1 h j id) (fun h j _ => by rw [fr.2.2])
          have ct' : cTb T W t d b := ct.fr (fun j => fr.1 _ _ id) (fun j => fr.1 _ _ id) (fun j => by rw [fr.2.2])
          refine Ret.c (c_barred hC hU' hP hg cf' hb ct' ho') ?_
          intro a U ⟨e, fr2⟩
          dsimp only at e fr2
          subst e
          simp only [b1_0]
          have f3 : frM nF lC V U := fr.tr fr2 (fun _ _ q => q) (fun _ _ q => q)
          cases hba : bar g b o' with
          | true => exact Ret.ok ⟨rfl, f3⟩
          | false =>
            have hU' := hU.eq3 f3.2.2
            have cf' := cf.fc hP (W := U) (fun h j _ => f3.1 h j id) (fun h j _ => by rw [f3.2.2])
            have ct' : cTb T U t d b := ct.fr (fun j => f3.1 _ _ id) (fun j => f3.1 _ _ id) (fun j => by rw [f3.2.2])
            rw [if_pos rfl, pc (c_hasRoom hC hU' hg cf' hb ct' ho' h3)]
            simp only [b1_0]
            cases roo g b o' n' with
            | true => exact Ret.ok ⟨rfl, f3⟩
            | false => exact Ret.ok ⟨rfl, f3⟩
      · rw [if_neg q, decide_eq_false q]
        exact Ret.ok ⟨rfl, frM.rfl'⟩
  · rw [if_pos h, if_neg h, if_neg h]
    exact Ret.ok ⟨rfl, frM.rfl'⟩
theorem c_canBottle {P : Nat → Prop} {T : Tt} {V : Vt} (hC : CT T) (hU : CV V) {la pa : Nat} (hP : okP' P la pa) {g : Cfg} (hg : okG g) (cf : cCf P T V (ms la pa) g) {t d : Nat} {b : Tab} (hb : okB g b) (ct : cTb T V t d b) {c n : Int32} :
    Ret (f_X0_canBottle T V 0 t c n) fun p => p.1 = -nI (whyB g b c n) ∧ frM nF lC V p.2 := by
  rw [f_X0_canBottle, rq hC.k0, pc (c_checks hC hU hg cf), whyB]
  have hk := chk_le (g := g) (c := c) (n := n)
  simp only [ng_0 (show chk g c n ≤ 100 by omega)]
  by_cases h : chk g c n = 0
  · obtain ⟨c', n', rfl, rfl, h1, h2, h3⟩ := chk_0 h
    have h8 := hg.n
    have t1 := cf.ti c' h1
    have t3 := hg.ti c' h1
    dsimp only [ms] at t1
    rw [if_pos h, if_pos h]
    simp (disch := omega) only [rq_t, drs, sp, pcs, cls, ↓reduceIte, not_true_eq_false, not_false_eq_true, and_true, true_and, and_false, false_and, or_true, true_or, or_false, false_or, eq_self, l0, l1, l2, l3, l4, l5, l6, l7, l8, l9, l10, l11, l12, l13, l14, l15, l16, l17, l18, l19, l20, l21, l22, l23, l24, l25, l26, l27, l28, l29, l30, l31, l32, l33, l34, l35, l36, l37, l40, l41, l42, l43, l45, l47, l48, l50, l57, l59, l60, l61, l62, l63, l85, l91, l93, l96, l97, l98, l99, l100, l120, l122, l146, l160, l165, l170, l178, l186, l198, l255, l400, l900, l948, l999, l1000, l2475, l2640, l2970, l3990, l9390, l18780, l19000, l999999, l1000000, l100000000, l2147483639, nI_add, pk_mul, ix_nI, leT, leF, ltT, ltF, eqT, eqF, nI_leI, nI_ltI, nI_eq, ngEq, ngEq', ngLt, ngLt', ngLe, ngLe', ngNg, nI_p, pk_sub, Nat.reduceAdd, Nat.reduceMul, Nat.reduceSub, uI1, uI2, uL1, uL2, uL3, uR1, uR2, uR3, rq_eq hC.k0, rq_eq hC.k2, rq_eq hC.k3, rq_eq hC.k8, rq_eq hC.k10, rq_eq hC.k17, rq_eq hC.k19, rq_eq hC.k22, rq_eq hC.k23, rq_eq hC.k28, cq1 hC, cq4 hC, cq5 hC, cq6 hC, cq7 hC, cq12 hC, cq13 hC, cq14 hC, cq15 hC, cq16 hC, cq18 hC, cq20 hC, cq21 hC, cq24 hC, cq25 hC, cq26 hC, cq27 hC, cq29 hC, hU.r0_1, hU.r0_2, hU.r0_3, hU.r0_4, hU.r0_5, hU.r0_6, hU.r0_7, hU.r0_8, hU.r0_9, hU.r0_10, hU.r0_16, hU.r0_17, hU.r0_18, hU.r0_22, hU.r0_23, hU.r2_0, hU.r2_1, hU.r2_2, hU.r2_3, hU.r2_4, hU.r2_5, hU.r3_0, hU.r17_0, hU.r19_0, hU.r28_0, hU.r22_0, hU.r22_1, t1]
    by_cases q : g.ti c' = 0
    · rw [if_pos q, decide_eq_true q]
      refine Ret.c (c_gives hC hU hP hg cf hb ct h1 h3) ?_
      intro a W ⟨e, fr⟩
      dsimp only at e fr
      subst e
      simp only [b1_0, ← l0]
      cases gvs g b c' n' with
      | false => exact Ret.ok ⟨rfl, fr⟩
      | true => exact Ret.ok ⟨rfl, fr⟩
    · rw [if_neg q, decide_eq_false q]
      exact Ret.ok ⟨rfl, frM.rfl'⟩
  · rw [if_neg h, if_neg h]
    exact Ret.ok ⟨rfl, frM.rfl'⟩
theorem mTb.fr {V W : Vt} {b : Tab} (h : mTb V b) (e : ∀ j, W.1 96 j = V.1 96 j) : mTb W b := ⟨fun k hk => (e _).trans (h.D k hk), (e _).trans h.b, (e _).trans h.y⟩
theorem m_room {T : Tt} {V : Vt} (hT : MT T) (hV : MV V) {g : Cfg} (hg : okG g) (mf : mCf V g) {b : Tab} (hb : okB g b) (mt : mTb V b) {c : Nat} (hc : c < g.n) : f_X5_roomOf T V 94 (nI c) = some (nI (1000 * g.sz c - tAll b.D c)) := by
  have h8 := hg.n
  have h1 := mf.sz c hc
  have h3 := hb.D c hc
  rw [f_X5_roomOf, rq hT.1]
  simp (disch := omega) only [rq_t, drs, sp, pcs, cls, ↓reduceIte, not_true_eq_false, not_false_eq_true, and_true, true_and, and_false, false_and, or_true, true_or, or_false, false_or, eq_self, l0, l1, l2, l3, l4, l5, l6, l7, l8, l9, l10, l11, l12, l13, l14, l15, l16, l17, l18, l19, l20, l21, l22, l23, l24, l25, l26, l27, l28, l29, l30, l31, l32, l33, l34, l35, l36, l37, l40, l41, l42, l43, l45, l47, l48, l50, l57, l59, l60, l61, l62, l63, l85, l91, l93, l96, l97, l98, l99, l100, l120, l122, l146, l160, l165, l170, l178, l186, l198, l255, l400, l900, l948, l999, l1000, l2475, l2640, l2970, l3990, l9390, l18780, l19000, l999999, l1000000, l100000000, l2147483639, nI_add, pk_mul, ix_nI, leT, leF, ltT, ltF, eqT, eqF, nI_leI, nI_ltI, nI_eq, ngEq, ngEq', ngLt, ngLt', ngLe, ngLe', ngNg, nI_p, pk_sub, Nat.reduceAdd, Nat.reduceMul, Nat.reduceSub, uI1, uI2, uL1, uL2, uL3, uR1, uR2, uR3, rq_eq (MT0 hT), rq95 hT, rf2 hV, rq96 hT, rf3 hV, rq97 hT, rf4 hV, rq98 hT, rf5 hV, rq99 hT, rf6 hV, rq100 hT, rf7 hV, rq101 hT, rf9 hV, rq102 hT, rf10 hV, rq103 hT, rf12 hV, rq104 hT, rf22 hV, rq105 hT, rf24 hV, rq106 hT, rf25 hV, rq107 hT, rf27 hV, rq108 hT, rf28 hV, rq109 hT, rf31 hV, rq110 hT, rf32 hV, rq111 hT, rf33 hV, rq112 hT, rf35 hV, rq113 hT, rf36 hV, rq114 hT, rf37 hV, rq115 hT, rf41 hV, rq116 hT, rf44 hV, rq117 hT, rf45 hV, rq118 hT, rf51 hV, rq119 hT, rf53 hV, m_all hT hV mt.D, h1]
theorem m_whyPour {T : Tt} {V : Vt} (hT : MT T) (hV : MV V) {g : Cfg} (hg : okG g) (mf : mCf V g) {b : Tab} (hb : okB g b) (mt : mTb V b) {c n : Int32} : f_X5_whyNotPour T V 94 c n = some (-nI (whyP g b c n)) := by
  rw [f_X5_whyNotPour, rq hT.1, pc m_inI, whyP, chk]
  simp only [b1_0]
  rw [show (1 : Int64).toInt = 1 from rfl, show (999 : Int64).toInt = 999 from rfl]
  cases hn : iN n 1 999 with
  | false => rfl
  | true =>
    rw [if_neg (by decide), pc (m_isCask hT hV hg mf), if_pos rfl]
    simp only [b1_0]
    cases hc : isKa g c with
    | false => rfl
    | true =>
      obtain ⟨c', rfl, h1⟩ := isKa_of hc
      obtain ⟨n', rfl, h2, h3, h4⟩ := iN_of hn (by omega)
      have h8 := hg.n
      have h5 := hb.D c' h1
      have h6 := hg.sz c' h1
      rw [if_neg (by decide), pc (m_room hT hV hg mf hb mt h1), if_pos rfl, if_pos rfl, ix_nI (by omega), ix_nI (by omega), roo]
      simp (disch := omega) only [rq_t, drs, sp, pcs, cls, ↓reduceIte, not_true_eq_false, not_false_eq_true, and_true, true_and, and_false, false_and, or_true, true_or, or_false, false_or, eq_self, l0, l1, l2, l3, l4, l5, l6, l7, l8, l9, l10, l11, l12, l13, l14, l15, l16, l17, l18, l19, l20, l21, l22, l23, l24, l25, l26, l27, l28, l29, l30, l31, l32, l33, l34, l35, l36, l37, l40, l41, l42, l43, l45, l47, l48, l50, l57, l59, l60, l61, l62, l63, l85, l91, l93, l96, l97, l98, l99, l100, l120, l122, l146, l160, l165, l170, l178, l186, l198, l255, l400, l900, l948, l999, l1000, l2475, l2640, l2970, l3990, l9390, l18780, l19000, l999999, l1000000, l100000000, l2147483639, nI_add, pk_mul, ix_nI, leT, leF, ltT, ltF, eqT, eqF, nI_leI, nI_ltI, nI_eq, ngEq, ngEq', ngLt, ngLt', ngLe, ngLe', ngNg, nI_p, pk_sub, Nat.reduceAdd, Nat.reduceMul, Nat.reduceSub, uI1, uI2, uL1, uL2, uL3, uR1, uR2, uR3]
      by_cases q : tAll b.D c' + 1000 * n' ≤ 1000 * g.sz c'
      · rw [if_pos (by omega), decide_eq_true q, if_pos rfl]
        rfl
      · rw [if_neg (by omega), decide_eq_false q, if_neg (by decide)]
theorem m_whyRack {T : Tt} {V : Vt} (hT : MT T) (hV : MV V) {g : Cfg} (hg : okG g) (mf : mCf V g) {b : Tab} (hb : okB g b) (mt : mTb V b) (ho : isB (V.1 94 20)) {f o n : Int32} :
    Ret (f_X5_whyNotRack T V 94 f o n) fun p => p.1 = -nI (whyR g b f o n) ∧ frM sF lF V p.2 := by
  rw [f_X5_whyNotRack, rq hT.1, pc m_inI, whyR, chk]
  simp only [b1_0]
  rw [show (1 : Int64).toInt = 1 from rfl, show (999 : Int64).toInt = 999 from rfl]
  cases hn : iN n 1 999 with
  | false => exact Ret.ok ⟨rfl, frM.rfl'⟩
  | true =>
    rw [if_neg (by decide), pc (m_isCask hT hV hg mf), if_pos rfl]
    simp only [b1_0]
    cases hc : isKa g f with
    | false => exact Ret.ok ⟨rfl, frM.rfl'⟩
    | true =>
      rw [if_neg (by decide), pc (m_isCask hT hV hg mf), if_pos rfl, if_pos rfl]
      simp only [b1_0]
      cases hoc : isKa g o with
      | false => exact Ret.ok ⟨rfl, frM.rfl'⟩
      | true =>
        obtain ⟨f', rfl, h1⟩ := isKa_of hc
        obtain ⟨o', rfl, ho'⟩ := isKa_of hoc
        obtain ⟨n', rfl, h2, h3, h4⟩ := iN_of hn (by omega)
        have h8 := hg.n
        have t1 := mf.ti f' h1
        have t2 := mf.ti o' ho'
        have t3 := hg.ti f' h1
        have t4 := hg.ti o' ho'
        rw [if_neg (by decide)]
        simp (disch := omega) only [rq_t, drs, sp, pcs, cls, ↓reduceIte, not_true_eq_false, not_false_eq_true, and_true, true_and, and_false, false_and, or_true, true_or, or_false, false_or, eq_self, l0, l1, l2, l3, l4, l5, l6, l7, l8, l9, l10, l11, l12, l13, l14, l15, l16, l17, l18, l19, l20, l21, l22, l23, l24, l25, l26, l27, l28, l29, l30, l31, l32, l33, l34, l35, l36, l37, l40, l41, l42, l43, l45, l47, l48, l50, l57, l59, l60, l61, l62, l63, l85, l91, l93, l96, l97, l98, l99, l100, l120, l122, l146, l160, l165, l170, l178, l186, l198, l255, l400, l900, l948, l999, l1000, l2475, l2640, l2970, l3990, l9390, l18780, l19000, l999999, l1000000, l100000000, l2147483639, nI_add, pk_mul, ix_nI, leT, leF, ltT, ltF, eqT, eqF, nI_leI, nI_ltI, nI_eq, ngEq, ngEq', ngLt, ngLt', ngLe, ngLe', ngNg, nI_p, pk_sub, Nat.reduceAdd, Nat.reduceMul, Nat.reduceSub, uI1, uI2, uL1, uL2, uL3, uR1, uR2, uR3, rq_eq (MT0 hT), rq95 hT, rf2 hV, rq96 hT, rf3 hV, rq97 hT, rf4 hV, rq98 hT, rf5 hV, rq99 hT, rf6 hV, rq100 hT, rf7 hV, rq101 hT, rf9 hV, rq102 hT, rf10 hV, rq103 hT, rf12 hV, rq104 hT, rf22 hV, rq105 hT, rf24 hV, rq106 hT, rf25 hV, rq107 hT, rf27 hV, rq108 hT, rf28 hV, rq109 hT, rf31 hV, rq110 hT, rf32 hV, rq111 hT, rf33 hV, rq112 hT, rf35 hV, rq113 hT, rf36 hV, rq114 hT, rf37 hV, rq115 hT, rf41 hV, rq116 hT, rf44 hV, rq117 hT, rf45 hV, rq118 hT, rf51 hV, rq119 hT, rf53 hV, t1, t2]
        have e0 : (nI (g.ti o') = nI (g.ti f') - nI 1) = (g.ti o' + 1 = g.ti f') := by
          apply propext
          rw [← Int32.toInt_inj, nI_toInt (by omega), pk_sub_toInt (by omega) (by omega)]
          omega
        simp only [e0, f_X5_whyNotRack_J78, f_X5_whyNotRack_J79]
        by_cases q : g.ti o' + 1 = g.ti f'
        · rw [if_pos q, decide_eq_true q]
          refine Ret.c (m_barred hT hV hg mf hb mt ho h1) ?_
          intro a W ⟨e, f1⟩
          dsimp only at e f1
          subst e
          rw [gvs]
          cases hbf : bar g b f' with
          | true => exact Ret.ok ⟨rfl, f1⟩
          | false =>
            have hV' := hV.eq3 f1.2.2
            have mf' := mf.fr hg (W := W) (fun j _ _ _ => f1.1 _ _ (by omega))
            have mt' := mt.fr (W := W) (fun j => f1.1 _ _ (by omega))
            rw [if_pos (by decide)]
            refine Ret.c (m_barred hT hV' hg mf' hb mt' (by rw [f1.1 _ _ (by omega)]; exact ho) ho') ?_
            intro a U ⟨e, f2⟩
            dsimp only at e f2
            subst e
            have f3 : frM sF lF V U := f1.tr f2 (fun _ _ q => q) (fun _ _ q => q)
            cases hba : bar g b o' with
            | true =>
              rw [if_neg (by decide)]
              refine Ret.ok ⟨?_, f3⟩
              cases (decide (n' ≤ yil g b f')) <;> cases (decide (1000 * n' ≤ tAll b.D f')) <;> rfl
            | false =>
              have hV' := hV.eq3 f3.2.2
              have mf' := mf.fr hg (W := U) (fun j _ _ _ => f3.1 _ _ (by omega))
              have mt' := mt.fr (W := U) (fun j => f3.1 _ _ (by omega))
              rw [if_pos (by decide), if_neg (by decide)]
              refine Ret.c (m_yields hT hV' hg mf' hb mt' (by rw [f3.1 _ _ (by omega)]; exact ho) h1) ?_
              intro a X ⟨e, f4⟩
              dsimp only at e f4
              subst e
              have f5 : frM sF lF V X := f3.tr f4 (fun _ _ q => q) (fun _ _ q => q)
              have hV' := hV.eq3 f5.2.2
              have mf' := mf.fr hg (W := X) (fun j _ _ _ => f5.1 _ _ (by omega))
              have mt' := mt.fr (W := X) (fun j => f5.1 _ _ (by omega))
              have hy := yil_le (g := g) (t := b) (c := f')
              have hB := hb.a hg h1
              have hR := hb.D o' ho'
              have hz := hg.sz o' ho'
              rw [pc (m_all hT hV' mt'.D (by omega)), pc (m_room hT hV' hg mf' hb mt' ho'), roo]
              simp (disch := omega) only [rq_t, drs, sp, pcs, cls, ↓reduceIte, not_true_eq_false, not_false_eq_true, and_true, true_and, and_false, false_and, or_true, true_or, or_false, false_or, eq_self, l0, l1, l2, l3, l4, l5, l6, l7, l8, l9, l10, l11, l12, l13, l14, l15, l16, l17, l18, l19, l20, l21, l22, l23, l24, l25, l26, l27, l28, l29, l30, l31, l32, l33, l34, l35, l36, l37, l40, l41, l42, l43, l45, l47, l48, l50, l57, l59, l60, l61, l62, l63, l85, l91, l93, l96, l97, l98, l99, l100, l120, l122, l146, l160, l165, l170, l178, l186, l198, l255, l400, l900, l948, l999, l1000, l2475, l2640, l2970, l3990, l9390, l18780, l19000, l999999, l1000000, l100000000, l2147483639, nI_add, pk_mul, ix_nI, leT, leF, ltT, ltF, eqT, eqF, nI_leI, nI_ltI, nI_eq, ngEq, ngEq', ngLt, ngLt', ngLe, ngLe', ngNg, nI_p, pk_sub, Nat.reduceAdd, Nat.reduceMul, Nat.reduceSub, uI1, uI2, uL1, uL2, uL3, uR1, uR2, uR3]
              by_cases q1 : yil g b f' < n'
              · rw [if_pos q1, decide_eq_false (show ¬ n' ≤ yil g b f' by omega)]
                exact Ret.ok ⟨rfl, f5⟩
              · rw [if_neg q1, decide_eq_true (show n' ≤ yil g b f' by omega)]
                by_cases q2 : tAll b.D f' < 1000 * n'
                · rw [if_pos q2, decide_eq_false (show ¬ 1000 * n' ≤ tAll b.D f' by omega)]
                  exact Ret.ok ⟨rfl, f5⟩
                · rw [if_neg q2, decide_eq_true (show 1000 * n' ≤ tAll b.D f' by omega)]
                  by_cases q3 : 1000 * g.sz o' - tAll b.D o' < 1000 * n'
                  · rw [if_pos q3, decide_eq_false (show ¬ tAll b.D o' + 1000 * n' ≤ 1000 * g.sz o' by omega)]
                    exact Ret.ok ⟨rfl, f5⟩
                  · rw [if_neg q3, decide_eq_true (show tAll b.D o' + 1000 * n' ≤ 1000 * g.sz o' by omega)]
                    exact Ret.ok ⟨rfl, f5⟩
        · rw [if_neg q, decide_eq_false q]
          exact Ret.ok ⟨rfl, frM.rfl'⟩
theorem m_whyBottle {T : Tt} {V : Vt} (hT : MT T) (hV : MV V) {g : Cfg} (hg : okG g) (mf : mCf V g) {b : Tab} (hb : okB g b) (mt : mTb V b) (ho : isB (V.1 94 20)) {c n : Int32} :
    Ret (f_X5_whyNotBottle T V 94 c n) fun p => p.1 = -nI (whyB g b c n) ∧ frM sF lF V p.2 := by
  rw [f_X5_whyNotBottle, rq hT.1, pc m_inI, whyB, chk]
  simp only [b1_0]
  rw [show (1 : Int64).toInt = 1 from rfl, show (999 : Int64).toInt = 999 from rfl]
  cases hn : iN n 1 999 with
  | false => exact Ret.ok ⟨rfl, frM.rfl'⟩
  | true =>
    rw [if_neg (by decide), pc (m_isCask hT hV hg mf), if_pos rfl]
    simp only [b1_0]
    cases hc : isKa g c with
    | false => exact Ret.ok ⟨rfl, frM.rfl'⟩
    | true =>
      obtain ⟨c', rfl, h1⟩ := isKa_of hc
      obtain ⟨n', rfl, h2, h3, h4⟩ := iN_of hn (by omega)
      have h8 := hg.n
      have t1 := mf.ti c' h1
      have t3 := hg.ti c' h1
      rw [if_neg (by decide), if_pos rfl, if_pos rfl]
      simp (disch := omega) only [rq_t, drs, sp, pcs, cls, ↓reduceIte, not_true_eq_false, not_false_eq_true, and_true, true_and, and_false, false_and, or_true, true_or, or_false, false_or, eq_self, l0, l1, l2, l3, l4, l5, l6, l7, l8, l9, l10, l11, l12, l13, l14, l15, l16, l17, l18, l19, l20, l21, l22, l23, l24, l25, l26, l27, l28, l29, l30, l31, l32, l33, l34, l35, l36, l37, l40, l41, l42, l43, l45, l47, l48, l50, l57, l59, l60, l61, l62, l63, l85, l91, l93, l96, l97, l98, l99, l100, l120, l122, l146, l160, l165, l170, l178, l186, l198, l255, l400, l900, l948, l999, l1000, l2475, l2640, l2970, l3990, l9390, l18780, l19000, l999999, l1000000, l100000000, l2147483639, nI_add, pk_mul, ix_nI, leT, leF, ltT, ltF, eqT, eqF, nI_leI, nI_ltI, nI_eq, ngEq, ngEq', ngLt, ngLt', ngLe, ngLe', ngNg, nI_p, pk_sub, Nat.reduceAdd, Nat.reduceMul, Nat.reduceSub, uI1, uI2, uL1, uL2, uL3, uR1, uR2, uR3, rq_eq (MT0 hT), rq95 hT, rf2 hV, rq96 hT, rf3 hV, rq97 hT, rf4 hV, rq98 hT, rf5 hV, rq99 hT, rf6 hV, rq100 hT, rf7 hV, rq101 hT, rf9 hV, rq102 hT, rf10 hV, rq103 hT, rf12 hV, rq104 hT, rf22 hV, rq105 hT, rf24 hV, rq106 hT, rf25 hV, rq107 hT, rf27 hV, rq108 hT, rf28 hV, rq109 hT, rf31 hV, rq110 hT, rf32 hV, rq111 hT, rf33 hV, rq112 hT, rf35 hV, rq113 hT, rf36 hV, rq114 hT, rf37 hV, rq115 hT, rf41 hV, rq116 hT, rf44 hV, rq117 hT, rf45 hV, rq118 hT, rf51 hV, rq119 hT, rf53 hV, t1]
      by_cases q : g.ti c' = 0
      · rw [if_pos q, decide_eq_true q]
        refine Ret.c (m_barred hT hV hg mf hb mt ho h1) ?_
        intro a W ⟨e, f1⟩
        dsimp only at e f1
        subst e
        rw [gvs]
        cases hbf : bar g b c' with
        | true => exact Ret.ok ⟨rfl, f1⟩
        | false =>
          have hV' := hV.eq3 f1.2.2
          have mf' := mf.fr hg (W := W) (fun j _ _ _ => f1.1 _ _ (by omega))
          have mt' := mt.fr (W := W) (fun j => f1.1 _ _ (by omega))
          rw [if_pos (by decide)]
          refine Ret.c (m_yields hT hV' hg mf' hb mt' (by rw [f1.1 _ _ (by omega)]; exact ho) h1) ?_
          intro a X ⟨e, f4⟩
          dsimp only at e f4
          subst e
          have f5 : frM sF lF V X := f1.tr f4 (fun _ _ q => q) (fun _ _ q => q)
          have hV' := hV.eq3 f5.2.2
          have mt' := mt.fr (W := X) (fun j => f5.1 _ _ (by omega))
          have hy := yil_le (g := g) (t := b) (c := c')
          have hB := hb.a hg h1
          rw [pc (m_all hT hV' mt'.D (by omega))]
          simp (disch := omega) only [rq_t, drs, sp, pcs, cls, ↓reduceIte, not_true_eq_false, not_false_eq_true, and_true, true_and, and_false, false_and, or_true, true_or, or_false, false_or, eq_self, l0, l1, l2, l3, l4, l5, l6, l7, l8, l9, l10, l11, l12, l13, l14, l15, l16, l17, l18, l19, l20, l21, l22, l23, l24, l25, l26, l27, l28, l29, l30, l31, l32, l33, l34, l35, l36, l37, l40, l41, l42, l43, l45, l47, l48, l50, l57, l59, l60, l61, l62, l63, l85, l91, l93, l96, l97, l98, l99, l100, l120, l122, l146, l160, l165, l170, l178, l186, l198, l255, l400, l900, l948, l999, l1000, l2475, l2640, l2970, l3990, l9390, l18780, l19000, l999999, l1000000, l100000000, l2147483639, nI_add, pk_mul, ix_nI, leT, leF, ltT, ltF, eqT, eqF, nI_leI, nI_ltI, nI_eq, ngEq, ngEq', ngLt, ngLt', ngLe, ngLe', ngNg, nI_p, pk_sub, Nat.reduceAdd, Nat.reduceMul, Nat.reduceSub, uI1, uI2, uL1, uL2, uL3, uR1, uR2, uR3]
          by_cases q1 : yil g b c' < n'
          · rw [if_pos q1, decide_eq_false (show ¬ n' ≤ yil g b c' by omega)]
            exact Ret.ok ⟨rfl, f5⟩
          · rw [if_neg q1, decide_eq_true (show n' ≤ yil g b c' by omega)]
            by_cases q2 : tAll b.D c' < 1000 * n'
            · rw [if_pos q2, decide_eq_false (show ¬ 1000 * n' ≤ tAll b.D c' by omega)]
              exact Ret.ok ⟨rfl, f5⟩
            · rw [if_neg q2, decide_eq_true (show 1000 * n' ≤ tAll b.D c' by omega)]
              exact Ret.ok ⟨rfl, f5⟩
      · rw [if_neg q, decide_eq_false q]
        exact Ret.ok ⟨rfl, frM.rfl'⟩
