/-! 98: what is asked of plans, the component -/
set_option maxRecDepth 100000
abbrev isPa (g : Cfg) (x : Int32) : Bool := iN x 0 ((g.np : Int) - 1)
theorem isPa_of {g : Cfg} {x : Int32} (h : isPa g x = true) : ∃ c : Nat, x = nI c ∧ c < g.np := by
  obtain ⟨n, e, h1, h2, h3⟩ := iN_of h (by omega)
  exact ⟨n, e, by omega⟩
theorem c_isPlan {P : Nat → Prop} {T : Tt} {V : Vt} (hC : CT T) (hU : CV V) {la pa : Nat} {g : Cfg} (hg : okG g) (cf : cCf P T V (ms la pa) g) {v : Int32} : f_X0_isPlan T V 0 v = some (b1 (isPa g v)) := by
  have hl := hg.np
  obtain ⟨c, el, h1, -⟩ := cf.pl
  rw [f_X0_isPlan, rq hC.k0, dr hU.r0_2, rq hC.k2, dr hU.r2_5, pc (c_size h1), pc c_in, sub1T (by omega), show (0 : Int32).toInt = 0 from rfl, rq (b1_B _)]
theorem CR.pc {T : Tt} {V W : Vt} {x : HS} {a : St} (h : CR T V x a) (f : frM sPc lC V W) : CR T W x a := by
  have e := f.1
  have er : ∀ c j, W.2.2 c j = V.2.2 c j := fun c j => by rw [f.2.2]
  exact h.ups (b := a) (fun c j q => e _ _ (by omega)) er rfl (h.cf.fc h.P' (fun c j q => e _ _ (by omega)) (fun c j q => er _ _)) (h.ct.fr (fun j => e _ _ (by omega)) (fun j => e _ _ (by omega)) (fun j => er _ _)) (h.cu.fr (fun c j q => e _ _ (by omega)) (fun c j => er c j)) ((e _ _ (by omega)).trans h.st) (fun i hi => (e _ _ (by omega)).trans (h.rf i hi)) ((e _ _ (by omega)).trans h.tn) (fun i hi => (e _ _ (by omega)).trans (h.tp i hi)) ((e _ _ (by omega)).trans h.fa) ((e _ _ (by omega)).trans h.le) ((e _ _ (by omega)).trans h.so) ((e _ _ (by omega)).trans h.dm) (fun i hi q => (e _ _ (by omega)).trans (h.dd i hi q))
theorem cPc_c {V W : Vt} (f : frM sPc lC V W) : cFr V W := ⟨fun c j q => f.1 _ _ (by omega), fun c j q => f.2.1 _ _ (by omega), fun c j _ => by rw [f.2.2]⟩
theorem c_plan {T : Tt} {V : Vt} {x : HS} {a : St} (h : CR T V x a) {i : Nat} (hi : i < a.g.np) : ∃ hp, isPl x.P T V hp (a.g.pl i) ∧ ∀ {β : Type} (kk : Nat → Option β), drf (V.2.2 0 2) (fun r => req (T.1 r = 2) (drf (V.2.2 r 5) (fun r' => pcl (f_J2_get T V r' (nI i)) (fun hh => req (T.1 hh = 19) (kk hh))))) = kk hp := by
  obtain ⟨c, el, h1, h2⟩ := h.cf.pl
  refine ⟨el i, h2 i hi, fun kk => ?_⟩
  rw [dr h.hU.r0_2, rq h.hC.k2, dr h.hU.r2_5, pc (c_get h1 hi), rq (h2 i hi).2.1]
theorem c_begins {T : Tt} {V : Vt} {x : HS} {a : St} (h : CR T V x a) (ok : OK a) : Ret (f_X0_begins T V 0) fun W => frM sPc lC V W ∧ cPs x.P T W x.la x.pa a.g (pBeg a.t) := by
  have hC := h.hC
  have hU := h.hU
  rw [f_X0_begins, rq hC.k0, dr hU.r0_9, pc (c_table hC hU)]
  refine Ret.p (c_takes (t := 19) (d := 20) ⟨hC.k19, hU.r19_0, hC.k20, hC.n20⟩ h.ct (by omega) (by omega) (by omega)) ?_
  intro W ⟨f, ct⟩
  have e : ∀ c j, ¬ sPc c j → (uI (uI W 0 19 (0 : Int32)) 0 20 (1000000 : Int32)).1 c j = V.1 c j := fun c j z => by rw [uI1, if_neg (by omega), uI1, if_neg (by omega), f.1 _ _ (by omega)]
  have f2 : frM sPc lC V (uI (uI W 0 19 (0 : Int32)) 0 20 (1000000 : Int32)) := ⟨e, fun c j _ => by rw [uI2, uI2, f.2], by rw [uI2, uI2, f.2]⟩
  have h2 := h.pc f2
  rw [sp, sp]
  refine Ret.ok ⟨f2, ⟨hC, h2.hU, h2.P', ok.g, h2.cf, ok.t, ct.fr (fun j => by rw [uI1, if_neg (by omega), uI1, if_neg (by omega)]) (fun j => by rw [uI1, if_neg (by omega), uI1, if_neg (by omega)]) (fun j => rfl)⟩, ?_, ?_⟩
  · rw [uI1, if_neg (by omega), uI1, if_pos ⟨rfl, rfl⟩]
    rfl
  · rw [uI1, if_pos ⟨rfl, rfl⟩]
    rfl
/-- after n years of a plan -/
abbrev pRun (a : St) (i n : Nat) : Pp := pYears a.g (a.g.pl i) (pBeg a.t) n
theorem pRun_ok {a : St} (ok : OK a) {i : Nat} (hi : i < a.g.np) {n : Nat} (hn : n ≤ 100) : okQ a.g (pRun a i n) 240 (999 + n) := (okQ.beg ok.t ok.y).years ok.g (ok.g.pl i hi) n (by omega)
theorem c_runs {T : Tt} {V : Vt} {x : HS} {a : St} (h : CR T V x a) (ok : OK a) {i n hp : Nat} (hi : i < a.g.np) (hn : n ≤ 60) (hpl : isPl x.P T V hp (a.g.pl i)) : Ret (f_X0_runs T V 0 hp (nI n)) fun W => frM sPc lC V W ∧ cPs x.P T W x.la x.pa a.g (pRun a i n) := by
  have hP := h.P'.1
  rw [f_X0_runs, rq h.hC.k0]
  refine Ret.p (c_begins h ok) ?_
  intro W ⟨f, hW⟩
  refine lq2 (f_X0_runs_L6 T 0 hp (nI n) fun U9 => some U9) (fun k c X => c = nI k ∧ frM sPc lC V X ∧ cPs x.P T X x.la x.pa a.g (pRun a i k)) n ?_ ?_ fuel _ _ (Nat.lt_of_le_of_lt hn (by decide)) ⟨rfl, f, hW⟩
  · intro k N c X hk ⟨q1, q2, q3⟩ ih
    subst q1
    rw [f_X0_runs_L6, if_neg (nI_ge hk (by omega))]
    refine Ret.p (c_year q3 (pRun_ok ok hi (n := k) (by omega)) (by omega) (hpl.fc hP q2) (ok.g.pl i hi)) ?_
    intro Y ⟨f2, hY⟩
    rw [l1, nI_add, sp]
    exact ih _ _ ⟨rfl, q2.t f2, hY.s⟩
  · intro N c X ⟨q1, q2, q3⟩
    subst q1
    rw [f_X0_runs_L6, if_pos (nI_le (Nat.le_refl _) (by omega))]
    exact Ret.ok ⟨q2, q3⟩
def rByPlan (a : St) (p n c w : Int32) : Int32 := if (isPa a.g p && iN n 0 60 && isKa a.g c && iN w 0 2) = true then (if ixN w = 0 then nI (tAll (pRun a (ixN p) (ixN n)).b.D (ixN c)) else if ixN w = 1 then tMean (pRun a (ixN p) (ixN n)).b.D (ixN c) else tLab (pRun a (ixN p) (ixN n)).b.D (ixN c) a.g.pa) else -nI 1
theorem t60 : (60 : Int32).toInt = 60 := rfl
theorem t0 : (0 : Int32).toInt = 0 := rfl
theorem t2 : (2 : Int32).toInt = 2 := rfl
theorem t19k : (19000 : Int32).toInt = 19000 := rfl
theorem c_byPlan {T : Tt} {V : Vt} {x : HS} {a : St} (h : CR T V x a) (ok : OK a) {p n c w : Int32} : cOp (f_X0_byPlan T V 0 p n c w) T V (rByPlan a p n c w) a := by
  have hC := h.hC
  have hU := h.hU
  have g8 := ok.g.n
  have np4 := ok.g.np
  have hno : Ret (some (((-1) : Int32), V)) fun q : Int32 × Vt => q.1 = -nI 1 ∧ (∃ x, CR T q.2 x a) ∧ cFr V q.2 := Ret.ok ⟨rfl, ⟨x, h⟩, cFr.rfl'⟩
  rw [f_X0_byPlan, rq hC.k0, pc (c_isPlan hC hU ok.g h.cf), rByPlan]
  simp only [b1_0]
  cases h1 : isPa a.g p with
  | false => exact hno
  | true =>
    rw [if_neg (by decide), pc c_in, t0, t60]
    simp only [b1_0]
    cases h2 : iN n 0 60 with
    | false => exact hno
    | true =>
      rw [if_neg (by decide), pc (c_isCask hC hU ok.g h.cf)]
      simp only [b1_0]
      cases h3 : isKa a.g c with
      | false => exact hno
      | true =>
        rw [if_neg (by decide), pc c_in, t0, t2]
        simp only [b1_0]
        cases h4 : iN w 0 2 with
        | false => exact hno
        | true =>
          obtain ⟨i, rfl, hi⟩ := isPa_of h1
          obtain ⟨n', rfl, n1, n2, n3⟩ := iN_of h2 (by omega)
          obtain ⟨c', rfl, hc⟩ := isKa_of h3
          obtain ⟨w', rfl, w1, w2, w3⟩ := iN_of h4 (by omega)
          obtain ⟨hp, hpl, hk⟩ := c_plan h hi
          have okR := pRun_ok ok hi (n := n') (by omega)
          rw [if_neg (by decide), hk, if_pos (show (true && true && true && true) = true from rfl), ix_nI (by omega), ix_nI (by omega), ix_nI (by omega), ix_nI (by omega)]
          refine Ret.p (c_runs h ok hi (by omega) hpl) ?_
          intro W ⟨f, hW⟩
          have hB := okR.b.a ok.g hc
          generalize pRun a i n' = s at okR hW hB ⊢
          have hCR := h.pc f
          have fin : ∀ r, Ret (some (r, W)) fun q : Int32 × Vt => q.1 = r ∧ (∃ x, CR T q.2 x a) ∧ cFr V q.2 := fun r => Ret.ok ⟨rfl, ⟨x, hCR⟩, cPc_c f⟩
          have : w' = 0 ∨ w' = 1 ∨ w' = 2 := by omega
          rcases this with e | e | e <;> subst e
          · rw [if_pos (by decide), if_pos rfl, dr hCR.hU.r0_9, pc (c_all hW.h.ct.k hW.h.ct.D (by omega))]
            exact fin _
          · rw [if_neg (by decide), if_pos (by decide), if_neg (by decide), if_pos rfl, dr hCR.hU.r0_9, pc (c_mean hW.h.ct.k hW.h.ct.D (by omega) (by omega))]
            exact fin _
          · have hpa : W.1 2 10 = nI a.g.pa := hCR.cf.pa
            have hpb := ok.g.pa
            rw [if_neg (by decide), if_neg (by decide), if_neg (by decide), if_neg (by decide), dr hCR.hU.r0_9, dr hCR.hU.r0_2, rq hC.k2, hpa, pc (c_label hW.h.ct.k hW.h.ct.D (by omega) hB hpb.2)]
            exact fin _
def rYields (a : St) (p n : Int32) : Int32 := if (isPa a.g p && iN n 0 60) = true then (pRun a (ixN p) (ixN n)).yl else -nI 1
theorem c_yieldsP {T : Tt} {V : Vt} {x : HS} {a : St} (h : CR T V x a) (ok : OK a) {p n : Int32} : cOp (f_X0_yields T V 0 p n) T V (rYields a p n) a := by
  have hC := h.hC
  have hU := h.hU
  have np4 := ok.g.np
  have hno : Ret (some (((-1) : Int32), V)) fun q : Int32 × Vt => q.1 = -nI 1 ∧ (∃ x, CR T q.2 x a) ∧ cFr V q.2 := Ret.ok ⟨rfl, ⟨x, h⟩, cFr.rfl'⟩
  rw [f_X0_yields, rq hC.k0, pc (c_isPlan hC hU ok.g h.cf), rYields]
  simp only [b1_0]
  cases h1 : isPa a.g p with
  | false => exact hno
  | true =>
    rw [if_neg (by decide), pc c_in, t0, t60]
    simp only [b1_0]
    cases h2 : iN n 0 60 with
    | false => exact hno
    | true =>
      obtain ⟨i, rfl, hi⟩ := isPa_of h1
      obtain ⟨n', rfl, n1, n2, n3⟩ := iN_of h2 (by omega)
      obtain ⟨hp, hpl, hk⟩ := c_plan h hi
      rw [if_neg (by decide), hk, if_pos (show (true && true) = true from rfl), ix_nI (by omega), ix_nI (by omega)]
      refine Ret.p (c_runs h ok hi (by omega) hpl) ?_
      intro W ⟨f, hW⟩
      rw [hW.y]
      exact Ret.ok ⟨rfl, ⟨x, h.pc f⟩, cPc_c f⟩
/-- the first year from n on, of k, of which it is so -/
def fstY (b : Nat → Bool) : Nat → Nat → Int32
  | 0, _ => -nI 1
  | k + 1, n => if b n = true then nI n else fstY b k (n + 1)
abbrev bOld (a : St) (i c m : Nat) (n : Nat) : Bool := decide (nI m ≤ tMean (pRun a i n).b.D c)
abbrev bSet (a : St) (i c : Nat) (n : Nat) : Bool := decide (tMean (pRun a i n).b.D c ≠ -nI 1 ∧ tMean (pRun a i (n + 1)).b.D c = tMean (pRun a i n).b.D c)
abbrev bSta (a : St) (i : Nat) (n : Nat) : Bool := (pRun a i (n + 1)).sk
def rOldE (a : St) (p c m : Int32) : Int32 := if (isPa a.g p && isKa a.g c && iN m 0 19000) = true then fstY (bOld a (ixN p) (ixN c) (ixN m)) 61 0 else -nI 1
def rSett (a : St) (p c : Int32) : Int32 := if (isPa a.g p && isKa a.g c) = true then fstY (bSet a (ixN p) (ixN c)) 60 0 else -nI 1
def rStar (a : St) (p : Int32) : Int32 := if isPa a.g p = true then fstY (bSta a (ixN p)) 60 0 else -nI 1
theorem c_oldL {T : Tt} {V : Vt} {x : HS} {a : St} (ok : OK a) {i c m : Nat} (hi : i < a.g.np) (hc : c < a.g.n) (hm : m ≤ 19000) : ∀ k n N W, n + k = 61 → k < N → CR T W x a → cFr V W → cPs x.P T W x.la x.pa a.g (pRun a i n) →
    Ret (f_X0_oldEnough_L36 T 0 (nI i) (nI c) (nI m) (fun z28 U29 => some (z28, U29)) (fun U30 => some (((-1) : Int32), U30)) N (nI n) W) fun q => q.1 = fstY (bOld a i c m) k n ∧ (∃ x, CR T q.2 x a) ∧ cFr V q.2 := by
  have g8 := ok.g.n
  intro k
  induction k with
  | zero =>
    intro n N W h1 h2 h3 h4 h5
    obtain ⟨N, rfl⟩ : ∃ n, N = n + 1 := ⟨N - 1, by omega⟩
    rw [f_X0_oldEnough_L36, if_pos (by rw [show (60 : Int32) = nI 60 from rfl, nI_ltI (by omega) (by omega)]; omega)]
    exact Ret.ok ⟨rfl, ⟨x, h3⟩, h4⟩
  | succ k ih =>
    intro n N W h1 h2 h3 h4 h5
    obtain ⟨N, rfl⟩ : ∃ n, N = n + 1 := ⟨N - 1, by omega⟩
    have okR := pRun_ok ok hi (n := n) (by omega)
    have hB := okR.b.a ok.g hc
    rw [f_X0_oldEnough_L36, if_neg (by rw [show (60 : Int32) = nI 60 from rfl, nI_ltI (by omega) (by omega)]; omega), dr h3.hU.r0_9, pc (c_mean h5.h.ct.k h5.h.ct.D (by omega) (by omega)), fstY]
    by_cases q : nI m ≤ tMean (pRun a i n).b.D c
    · rw [if_neg (by rw [Int32.not_lt]; exact q), if_pos (decide_eq_true q)]
      exact Ret.ok ⟨rfl, ⟨x, h3⟩, h4⟩
    · obtain ⟨hp, hpl, hk⟩ := c_plan h3 hi
      rw [if_pos (by rw [← Int32.not_le]; exact q), if_neg (fun z => q (of_decide_eq_true z)), hk]
      refine Ret.p (c_year h5 okR (by omega) hpl (ok.g.pl i hi)) ?_
      intro Y ⟨f, hY⟩
      rw [show nI n + (1 : Int32) = nI (n + 1) from nI_add _ _, sp]
      exact ih (n + 1) N Y (by omega) (by omega) (h3.pc f) (h4.tr (cPc_c f)) hY.s
theorem c_oldEnough {T : Tt} {V : Vt} {x : HS} {a : St} (h : CR T V x a) (ok : OK a) {p c m : Int32} : cOp (f_X0_oldEnough T V 0 p c m) T V (rOldE a p c m) a := by
  have hC := h.hC
  have hU := h.hU
  have g8 := ok.g.n
  have np4 := ok.g.np
  have hno : Ret (some (((-1) : Int32), V)) fun q : Int32 × Vt => q.1 = -nI 1 ∧ (∃ x, CR T q.2 x a) ∧ cFr V q.2 := Ret.ok ⟨rfl, ⟨x, h⟩, cFr.rfl'⟩
  rw [f_X0_oldEnough, rq hC.k0, pc (c_isPlan hC hU ok.g h.cf), rOldE]
  simp only [b1_0]
  cases h1 : isPa a.g p with
  | false => exact hno
  | true =>
    rw [if_neg (by decide), pc (c_isCask hC hU ok.g h.cf)]
    simp only [b1_0]
    cases h3 : isKa a.g c with
    | false => exact hno
    | true =>
      rw [if_neg (by decide), pc c_in, t0, t19k]
      simp only [b1_0]
      cases h4 : iN m 0 19000 with
      | false => exact hno
      | true =>
        obtain ⟨i, rfl, hi⟩ := isPa_of h1
        obtain ⟨c', rfl, hc⟩ := isKa_of h3
        obtain ⟨m', rfl, w1, w2, w3⟩ := iN_of h4 (by omega)
        rw [if_neg (by decide), if_pos (show (true && true && true) = true from rfl), ix_nI (by omega), ix_nI (by omega), ix_nI (by omega)]
        refine Ret.p (c_begins h ok) ?_
        intro W ⟨f, hW⟩
        exact c_oldL ok hi hc (by omega) 61 0 fuel W (by omega) (by decide) (h.pc f) (cPc_c f) hW
theorem c_setL {T : Tt} {V : Vt} {x : HS} {a : St} (ok : OK a) {i c : Nat} (hi : i < a.g.np) (hc : c < a.g.n) : ∀ k n N W, n + k = 60 → k < N → CR T W x a → cFr V W → cPs x.P T W x.la x.pa a.g (pRun a i n) →
    Ret (f_X0_settled_L24 T 0 (nI i) (nI c) (fun z28 U29 => some (z28, U29)) (fun U30 => some (((-1) : Int32), U30)) N (nI n) W) fun q => q.1 = fstY (bSet a i c) k n ∧ (∃ x, CR T q.2 x a) ∧ cFr V q.2 := by
  have g8 := ok.g.n
  intro k
  induction k with
  | zero =>
    intro n N W h1 h2 h3 h4 h5
    obtain ⟨N, rfl⟩ : ∃ n, N = n + 1 := ⟨N - 1, by omega⟩
    rw [f_X0_settled_L24, if_pos (by rw [show (60 : Int32) = nI 60 from rfl]; exact nI_le (by omega) (by omega))]
    exact Ret.ok ⟨rfl, ⟨x, h3⟩, h4⟩
  | succ k ih =>
    intro n N W h1 h2 h3 h4 h5
    obtain ⟨N, rfl⟩ : ∃ n, N = n + 1 := ⟨N - 1, by omega⟩
    have okR := pRun_ok ok hi (n := n) (by omega)
    have okR1 := pRun_ok ok hi (n := n + 1) (by omega)
    have hB := okR.b.a ok.g hc
    have hB1 := okR1.b.a ok.g hc
    obtain ⟨hp, hpl, hk⟩ := c_plan h3 hi
    rw [f_X0_settled_L24, if_neg (by rw [show (60 : Int32) = nI 60 from rfl]; exact nI_ge (by omega) (by omega)), dr h3.hU.r0_9, pc (c_mean h5.h.ct.k h5.h.ct.D (by omega) (by omega)), fstY, hk]
    refine Ret.p (c_year h5 okR (by omega) hpl (ok.g.pl i hi)) ?_
    intro Y ⟨f, hY⟩
    have hCR := h3.pc f
    have hn : Ret (f_X0_settled_J79 T Y 0 (nI i) (nI c) (nI n) (f_X0_settled_L24 T 0 (nI i) (nI c) (fun z28 U29 => some (z28, U29)) (fun U30 => some (((-1) : Int32), U30)) N) (fun z28 U29 => some (z28, U29)) (fun U30 => some (((-1) : Int32), U30))) fun q => q.1 = fstY (bSet a i c) k (n + 1) ∧ (∃ x, CR T q.2 x a) ∧ cFr V q.2 := by
      rw [f_X0_settled_J79, show nI n + (1 : Int32) = nI (n + 1) from nI_add _ _, sp]
      exact ih (n + 1) N Y (by omega) (by omega) hCR (h4.tr (cPc_c f)) hY.s
    by_cases q : tMean (pRun a i n).b.D c = ((-1) : Int32)
    · rw [if_pos q, if_neg (fun z => (of_decide_eq_true z).1 q)]
      exact hn
    · rw [if_neg q, dr hCR.hU.r0_9, pc (c_mean (D := (pRun a i (n + 1)).b.D) hY.h.ct.k hY.h.ct.D (by omega) (by omega))]
      by_cases q2 : tMean (pRun a i (n + 1)).b.D c = tMean (pRun a i n).b.D c
      · rw [if_pos q2, if_pos (decide_eq_true ⟨q, q2⟩)]
        exact Ret.ok ⟨rfl, ⟨x, hCR⟩, h4.tr (cPc_c f)⟩
      · rw [if_neg q2, if_neg (fun z => q2 (of_decide_eq_true z).2)]
        exact hn
theorem c_settled {T : Tt} {V : Vt} {x : HS} {a : St} (h : CR T V x a) (ok : OK a) {p c : Int32} : cOp (f_X0_settled T V 0 p c) T V (rSett a p c) a := by
  have hC := h.hC
  have hU := h.hU
  have g8 := ok.g.n
  have np4 := ok.g.np
  have hno : Ret (some (((-1) : Int32), V)) fun q : Int32 × Vt => q.1 = -nI 1 ∧ (∃ x, CR T q.2 x a) ∧ cFr V q.2 := Ret.ok ⟨rfl, ⟨x, h⟩, cFr.rfl'⟩
  rw [f_X0_settled, rq hC.k0, pc (c_isPlan hC hU ok.g h.cf), rSett]
  simp only [b1_0]
  cases h1 : isPa a.g p with
  | false => exact hno
  | true =>
    rw [if_neg (by decide), pc (c_isCask hC hU ok.g h.cf)]
    simp only [b1_0]
    cases h3 : isKa a.g c with
    | false => exact hno
    | true =>
      obtain ⟨i, rfl, hi⟩ := isPa_of h1
      obtain ⟨c', rfl, hc⟩ := isKa_of h3
      rw [if_neg (by decide), if_pos (show (true && true) = true from rfl), ix_nI (by omega), ix_nI (by omega)]
      refine Ret.p (c_begins h ok) ?_
      intro W ⟨f, hW⟩
      exact c_setL ok hi hc 60 0 fuel W (by omega) (by decide) (h.pc f) (cPc_c f) hW
theorem c_staL {T : Tt} {V : Vt} {x : HS} {a : St} (ok : OK a) {i : Nat} (hi : i < a.g.np) : ∀ k n N W, n + k = 60 → k < N → CR T W x a → cFr V W → cPs x.P T W x.la x.pa a.g (pRun a i n) →
    Ret (f_X0_starves_L16 T 0 (nI i) (fun z28 U29 => some (z28, U29)) (fun U30 => some (((-1) : Int32), U30)) N (nI n) W) fun q => q.1 = fstY (bSta a i) k n ∧ (∃ x, CR T q.2 x a) ∧ cFr V q.2 := by
  intro k
  induction k with
  | zero =>
    intro n N W h1 h2 h3 h4 h5
    obtain ⟨N, rfl⟩ : ∃ n, N = n + 1 := ⟨N - 1, by omega⟩
    rw [f_X0_starves_L16, if_pos (by rw [show (60 : Int32) = nI 60 from rfl]; exact nI_le (by omega) (by omega))]
    exact Ret.ok ⟨rfl, ⟨x, h3⟩, h4⟩
  | succ k ih =>
    intro n N W h1 h2 h3 h4 h5
    obtain ⟨N, rfl⟩ : ∃ n, N = n + 1 := ⟨N - 1, by omega⟩
    have okR := pRun_ok ok hi (n := n) (by omega)
    obtain ⟨hp, hpl, hk⟩ := c_plan h3 hi
    rw [f_X0_starves_L16, if_neg (by rw [show (60 : Int32) = nI 60 from rfl]; exact nI_ge (by omega) (by omega)), hk, fstY]
    refine Ret.p (c_year h5 okR (by omega) hpl (ok.g.pl i hi)) ?_
    intro Y ⟨f, hY⟩
    have hCR := h3.pc f
    have hsk : Y.1 0 21 = b1 (bSta a i n) := hY.k
    rw [hsk]
    simp only [b1_0]
    cases q : bSta a i n with
    | false =>
      rw [if_pos rfl, if_neg (by decide), show nI n + (1 : Int32) = nI (n + 1) from nI_add _ _, sp]
      exact ih (n + 1) N Y (by omega) (by omega) hCR (h4.tr (cPc_c f)) hY.s
    | true =>
      rw [if_neg (by decide), if_pos rfl]
      exact Ret.ok ⟨rfl, ⟨x, hCR⟩, h4.tr (cPc_c f)⟩
theorem c_starves {T : Tt} {V : Vt} {x : HS} {a : St} (h : CR T V x a) (ok : OK a) {p : Int32} : cOp (f_X0_starves T V 0 p) T V (rStar a p) a := by
  have hC := h.hC
  have hU := h.hU
  have np4 := ok.g.np
  rw [f_X0_starves, rq hC.k0, pc (c_isPlan hC hU ok.g h.cf), rStar]
  simp only [b1_0]
  cases h1 : isPa a.g p with
  | false => exact Ret.ok ⟨rfl, ⟨x, h⟩, cFr.rfl'⟩
  | true =>
    obtain ⟨i, rfl, hi⟩ := isPa_of h1
    rw [if_neg (by decide), if_pos rfl, ix_nI (by omega)]
    refine Ret.p (c_begins h ok) ?_
    intro W ⟨f, hW⟩
    exact c_staL ok hi 60 0 fuel W (by omega) (by decide) (h.pc f) (cPc_c f) hW
/-- the best of the first k plans: which, how much it yields -/
def lmB (l : Option Nat) (m : Nat) : Bool := match l with
  | none => true
  | some k => decide (m ≤ k)
def besS (a : St) (n m : Nat) : Nat → Int32 × Int32
  | 0 => (-nI 1, -nI 1)
  | i + 1 => if lmB (pRun a i n).lm m = true ∧ (besS a n m i).2 < (pRun a i n).yl then (nI i, (pRun a i n).yl) else besS a n m i
def rBest (a : St) (n m : Int32) : Int32 := if (iN n 0 60 && iN m 0 19000) = true then (besS a (ixN n) (ixN m) a.g.np).1 else -nI 1
theorem lmB_c {l : Option Nat} {m : Nat} (h : ∀ k, l = some k → k ≤ 19000) (hm : m ≤ 19000) : (nI (l.getD 1000000) < nI m) = (lmB l m = false) := by
  cases l with
  | none =>
    rw [Option.getD_none, nI_ltI (by omega) (by omega)]
    exact propext ⟨fun w => absurd w (by omega), fun w => by cases w⟩
  | some k =>
    have := h k rfl
    rw [Option.getD_some, nI_ltI (by omega) (by omega), lmB]
    exact propext ⟨fun w => decide_eq_false (by omega), fun w => by have := of_decide_eq_false w; omega⟩
theorem c_best {T : Tt} {V : Vt} {x : HS} {a : St} (h : CR T V x a) (ok : OK a) {n m : Int32} : cOp (f_X0_best T V 0 n m) T V (rBest a n m) a := by
  have hC := h.hC
  have hU := h.hU
  have np4 := ok.g.np
  have hno : Ret (some (((-1) : Int32), V)) fun q : Int32 × Vt => q.1 = -nI 1 ∧ (∃ x, CR T q.2 x a) ∧ cFr V q.2 := Ret.ok ⟨rfl, ⟨x, h⟩, cFr.rfl'⟩
  rw [f_X0_best, rq hC.k0, pc c_in, rBest, t0, t60]
  simp only [b1_0]
  cases h1 : iN n 0 60 with
  | false => exact hno
  | true =>
    rw [if_neg (by decide), pc c_in, t0, t19k]
    simp only [b1_0]
    cases h4 : iN m 0 19000 with
    | false => exact hno
    | true =>
      obtain ⟨n', rfl, n1, n2, n3⟩ := iN_of h1 (by omega)
      obtain ⟨m', rfl, w1, w2, w3⟩ := iN_of h4 (by omega)
      rw [if_neg (by decide), if_pos (show (true && true) = true from rfl), ix_nI (by omega), ix_nI (by omega)]
      refine lq4 (f_X0_best_L31 T 0 (nI n') (nI m') fun z26 U27 => some (z26, U27)) (fun i u v z W => u = (besS a n' m' i).1 ∧ v = (besS a n' m' i).2 ∧ z = nI i ∧ CR T W x a ∧ cFr V W) a.g.np ?_ ?_ fuel _ _ _ _ (Nat.lt_of_le_of_lt np4 (by decide)) ⟨rfl, rfl, rfl, h, cFr.rfl'⟩
      · intro i N u v z W hi ⟨q1, q2, q3, q4, q5⟩ ih
        subst q1 q2 q3
        obtain ⟨c, el, hl1, -⟩ := q4.cf.pl
        obtain ⟨hp, hpl, hk⟩ := c_plan q4 hi
        have okR := pRun_ok ok hi (n := n') (by omega)
        rw [f_X0_best_L31, dr q4.hU.r0_2, rq hC.k2, dr q4.hU.r2_5, pc (c_size hl1), if_neg (nI_ge hi (by omega)), hk]
        refine Ret.p (c_runs q4 ok hi (by omega) hpl) ?_
        intro X ⟨f, hX⟩
        have hCR := q4.pc f
        have j95 : ∀ u v, f_X0_best_J95 T X 0 (nI n') (nI m') u v (nI i) (f_X0_best_L31 T 0 (nI n') (nI m') (fun z26 U27 => some (z26, U27)) N) (fun z26 U27 => some (z26, U27)) = f_X0_best_L31 T 0 (nI n') (nI m') (fun z26 U27 => some (z26, U27)) N u v (nI (i + 1)) X := fun u v => by rw [f_X0_best_J95, show nI i + (1 : Int32) = nI (i + 1) from nI_add _ _, sp]
        have hi2 : ∀ u v, besS a n' m' (i + 1) = (u, v) → Ret (f_X0_best_L31 T 0 (nI n') (nI m') (fun z26 U27 => some (z26, U27)) N u v (nI (i + 1)) X) fun q => q.1 = (besS a n' m' a.g.np).1 ∧ (∃ x, CR T q.2 x a) ∧ cFr V q.2 := fun u v e => ih _ _ _ _ ⟨by rw [e], by rw [e], rfl, hCR, q5.tr (cPc_c f)⟩
        have hlm := lmB_c okR.lm (m := m') (by omega)
        rw [hX.m, hX.y]
        have eb : besS a n' m' (i + 1) = if lmB (pRun a i n').lm m' = true ∧ (besS a n' m' i).2 < (pRun a i n').yl then (nI i, (pRun a i n').yl) else besS a n' m' i := by rw [besS]
        by_cases w : lmB (pRun a i n').lm m' = false
        · rw [if_pos (hlm.mpr w), j95]
          exact hi2 _ _ (by rw [eb, if_neg (fun z => by rw [w] at z; cases z.1)])
        · have w' : lmB (pRun a i n').lm m' = true := by cases hn : lmB (pRun a i n').lm m' <;> simp_all
          rw [if_neg (fun z => w (hlm.mp z))]
          by_cases w2 : (besS a n' m' i).2 < (pRun a i n').yl
          · rw [if_pos w2, sp, j95]
            exact hi2 _ _ (by rw [eb, if_pos ⟨w', w2⟩])
          · rw [if_neg w2, j95]
            exact hi2 _ _ (by rw [eb, if_neg (fun z => w2 z.2)])
      · intro N u v z W ⟨q1, q2, q3, q4, q5⟩
        subst q1 q2 q3
        obtain ⟨c, el, hl1, -⟩ := q4.cf.pl
        rw [f_X0_best_L31, dr q4.hU.r0_2, rq hC.k2, dr q4.hU.r2_5, pc (c_size hl1), if_pos (nI_le (Nat.le_refl _) (by omega))]
        exact Ret.ok ⟨rfl, ⟨x, q4⟩, q5⟩
