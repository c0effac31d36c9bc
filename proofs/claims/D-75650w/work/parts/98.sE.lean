/-! 98: the component's state when more cells are made -/
set_option maxRecDepth 100000
/-- a step that makes cells: what it answers, what it comes to, how much it makes -/
abbrev dOp (f : Option ((Int32 × Vt × Tt) × Nat × Nat)) (T : Tt) (V : Vt) (r : Int32) (b : St) (n k : Nat) : Prop := Ret f fun q => q.1.1 = r ∧ (∃ x, CR q.1.2.2 q.1.2.1 x b) ∧ cFr V q.1.2.1 ∧ exT T q.1.2.2 ∧ q.2.1 ≤ n ∧ q.2.2 ≤ k
theorem dOp.c {f : Option (Int32 × Vt)} {T : Tt} {V : Vt} {r : Int32} {b : St} {n k : Nat} (h : cOp f T V r b) : dOp (cal f fun z U => some ((z, U, T), 0, 0)) T V r b n k := by
  refine Ret.c h ?_
  intro z U ⟨h1, h2, h3⟩
  exact Ret.ok ⟨h1, h2, h3, exT.rfl', Nat.zero_le _, Nat.zero_le _⟩
theorem cTb.ft {T T' : Tt} {V : Vt} {t d : Nat} {b : Tab} (h : cTb T V t d b) (e1 : T'.1 t = T.1 t) (e2 : T'.1 d = T.1 d) (e3 : T'.2.1 d = T.2.1 d) : cTb T' V t d b := ⟨⟨e1.trans h.k.1, h.k.2.1, e2.trans h.k.2.2.1, e3.trans h.k.2.2.2⟩, h.D, h.b, h.y⟩
theorem exT.lo {T T' : Tt} (h : exT T T') (n : 120 ≤ T.2.2) : ∀ a, a < 120 → T'.1 a = T.1 a ∧ T'.2.1 a = T.2.1 a := fun a q => h.2 a (Nat.lt_of_lt_of_le q n)
theorem MT.x {T T' : Tt} (h : MT T) (g : exT T T') (n : 120 ≤ T.2.2) : MT T' := h.ex (g.lo n)
theorem new.ex {T T' : Tt} {ow ow' : Nat → Nat} {h w : Nat} (q : new T ow h w) (g : exT T T') (e : ∀ h, h < T.2.2 → ow' h = ow h) : new T' ow' h w := ⟨q.1, Nat.lt_of_lt_of_le q.2.1 g.1, (e h q.2.1).trans q.2.2⟩
theorem isIm.own' {T : Tt} {V : Vt} {ow : Nat → Nat} {P : Nat → Prop} {b : Nat} {x : SH} {g : Cfg} {t : Tab} (h : isIm T V ow P b x g t) {c : Nat} (q : oS x c) : ∃ i, i < 10 ∧ new T ow c (b + i) := by
  rcases q with q | q | q | q | q | q | q | q | q | q <;> subst q
  · exact ⟨0, by omega, h.s⟩
  · exact ⟨1, by omega, h.t⟩
  · exact ⟨2, by omega, h.d⟩
  · exact ⟨3, by omega, h.ti⟩
  · exact ⟨4, by omega, h.sz⟩
  · exact ⟨5, by omega, h.ta⟩
  · exact ⟨6, by omega, h.ll⟩
  · exact ⟨7, by omega, h.la.1⟩
  · exact ⟨8, by omega, h.pl⟩
  · exact ⟨9, by omega, h.pa.1⟩
theorem cCf.ft {P : Nat → Prop} {T T' : Tt} {V : Vt} {x : SH} {g : Cfg} (q : cCf P T V x g) (e : ∀ h, P h → T'.1 h = T.1 h ∧ T'.2.1 h = T.2.1 h) (e1 : T'.1 x.ll = T.1 x.ll) (e2 : T'.1 x.la = T.1 x.la ∧ T'.2.1 x.la = T.2.1 x.la) (e3 : T'.1 x.pl = T.1 x.pl) (e4 : T'.1 x.pa = T.1 x.pa ∧ T'.2.1 x.pa = T.2.1 x.pa) : cCf P T' V x g := by
  refine ⟨q.n, q.nt, q.co, q.mo, q.pa, q.fo, q.ti, q.sz, q.ta, ?_, ?_⟩
  · obtain ⟨c, el, h1, h2⟩ := q.lw
    exact ⟨c, el, h1.ft e1 e2.1 e2.2, fun i hi => (h2 i hi).ft (fun h y => (e h y).1) fun h y => (e h y).2⟩
  · obtain ⟨c, el, h1, h2⟩ := q.pl
    exact ⟨c, el, h1.ft e3 e4.1 e4.2, fun i hi => (h2 i hi).ft (fun h y => (e h y).1) fun h y => (e h y).2⟩
theorem isIm.ex {T T' : Tt} {V W : Vt} {ow ow' : Nat → Nat} {P : Nat → Prop} {b : Nat} {x : SH} {g : Cfg} {t : Tab} (h : isIm T V ow P b x g t) (hP : ∀ c, P c → c < T.2.2) (g' : exT T T') (eo : ∀ h, h < T.2.2 → ow' h = ow h) (e : ∀ c j, (oS x c ∨ P c) → W.1 c j = V.1 c j ∧ W.2.2 c j = V.2.2 c j) : isIm T' W ow' P b x g t := by
  have lt : ∀ c, oS x c → c < T.2.2 := fun c q => by
    obtain ⟨i, _, w⟩ := h.own' q
    exact w.2.1
  have own_oS : ∀ c, P c ∨ own x c → oS x c ∨ P c := fun c q => by
    rcases q with q | q
    · exact Or.inr q
    · refine Or.inl ?_
      rcases q with q | q | q | q | q | q | q | q <;> subst q
      · exact oS.s
      · exact oS.ti
      · exact oS.sz
      · exact oS.ta
      · exact oS.ll
      · exact oS.la
      · exact oS.pl
      · exact oS.pa
  have k1 := fun c q => (g'.2 c (lt c q)).1
  have k2 := fun c q => (g'.2 c (lt c q)).2
  refine ⟨h.s.ex g' eo, h.t.ex g' eo, h.d.ex g' eo, h.ti.ex g' eo, h.sz.ex g' eo, h.ta.ex g' eo, h.ll.ex g' eo, ⟨h.la.1.ex g' eo, by rw [k2 _ oS.la]; exact h.la.2⟩, h.pl.ex g' eo, ⟨h.pa.1.ex g' eo, by rw [k2 _ oS.pa]; exact h.pa.2⟩, (k1 _ oS.s).trans h.ks, ⟨⟨(k1 _ oS.ti).trans h.k.1.1, (k2 _ oS.ti).trans h.k.1.2⟩, ⟨(k1 _ oS.sz).trans h.k.2.1.1, (k2 _ oS.sz).trans h.k.2.1.2⟩, (k1 _ oS.ta).trans h.k.2.2.1, (k2 _ oS.ta).trans h.k.2.2.2⟩, ?_, ?_, ?_⟩
  · have hr := h.r
    simp only [(e _ _ (Or.inl oS.s)).2]
    exact hr
  · exact (h.cf.ft (fun c q => g'.2 c (hP c q)) (k1 _ oS.ll) (g'.2 _ (lt _ oS.la)) (k1 _ oS.pl) (g'.2 _ (lt _ oS.pa))).fr (fun c j q => (e c j (own_oS c q)).1) (fun c j q => (e c j (own_oS c q)).2)
  · exact (h.ct.ft (k1 _ oS.t) (k1 _ oS.d) (k2 _ oS.d)).fr (fun j => (e _ j (Or.inl oS.t)).1) (fun j => (e _ j (Or.inl oS.d)).1) (fun j => (e _ j (Or.inl oS.t)).2)
/-- classes of cells: the main state's from 100 on, others by their owner -/
def clH (ow : Nat → Nat) (h : Nat) : Nat := if h < 120 then (if 2 ≤ h ∧ h ≤ 11 then 98 + h else 1000) else if ow h = 1 then 107 else if ow h = 2 then 109 else ow h
theorem clH_m {ow : Nat → Nat} {h : Nat} (q : 2 ≤ h ∧ h ≤ 11) : clH ow h = 98 + h := by rw [clH, if_pos (by omega), if_pos q]
theorem clH_n {ow : Nat → Nat} {h w : Nat} (q : 120 ≤ h) (e : ow h = w) (n1 : w ≠ 1) (n2 : w ≠ 2) : clH ow h = w := by rw [clH, if_neg (by omega), e, if_neg n1, if_neg n2]
theorem CR.sh {T : Tt} {V : Vt} {x : HS} {a : St} (h : CR T V x a) : isSh T V (clH x.ow) 100 (ms x.la x.pa) := by
  have hC := h.hC
  have hU := h.hU
  have nT := h.nT
  have hla := h.la
  have hpa := h.pa
  refine ⟨⟨clH_m (h := 2) (by omega), by show 2 < _; omega, hC.k2⟩, ⟨clH_m (h := 3) (by omega), by show 3 < _; omega⟩, ⟨clH_m (h := 4) (by omega), by show 4 < _; omega⟩, ⟨clH_m (h := 5) (by omega), by show 5 < _; omega, hC.k5, hC.n5⟩, ⟨clH_m (h := 6) (by omega), by show 6 < _; omega, hC.k6, hC.n6⟩, ⟨clH_m (h := 7) (by omega), by show 7 < _; omega, hC.k7, hC.n7⟩, ⟨clH_m (h := 8) (by omega), by show 8 < _; omega⟩, ⟨?_, ?_, hla.2⟩, ⟨clH_m (h := 10) (by omega), by show 10 < _; omega⟩, ⟨?_, ?_, hpa.2⟩, hU.r2_0, hU.r2_1, hU.r2_2, hU.r2_3, hU.r2_4, hU.r2_5⟩
  · show clH x.ow x.la = 107
    rcases hla.1 with q | q
    · rw [q]
      exact clH_m (by omega)
    · rw [clH, if_neg (by have := q.1; omega), if_pos q.2.2]
  · show x.la < _
    rcases hla.1 with q | q
    · omega
    · exact q.2.1
  · show clH x.ow x.pa = 109
    rcases hpa.1 with q | q
    · rw [q]
      exact clH_m (by omega)
    · rw [clH, if_neg (by have := q.1; omega), if_neg (by rw [q.2.2]; omega), if_pos q.2.2]
  · show x.pa < _
    rcases hpa.1 with q | q
    · omega
    · exact q.2.1
theorem isIm.sh {T : Tt} {V : Vt} {ow : Nat → Nat} {P : Nat → Prop} {b : Nat} {x : SH} {g : Cfg} {t : Tab} (h : isIm T V ow P b x g t) (hb : 10 ≤ b) : isSh T V (clH ow) b x := by
  have c : ∀ {y i}, new T ow y (b + i) → clH ow y = b + i := fun q => clH_n q.1 q.2.2 (by omega) (by omega)
  exact ⟨⟨c (i := 0) h.s, h.s.2.1, h.ks⟩, ⟨c h.t, h.t.2.1⟩, ⟨c h.d, h.d.2.1⟩, ⟨c h.ti, h.ti.2.1, h.k.1⟩, ⟨c h.sz, h.sz.2.1, h.k.2.1⟩, ⟨c h.ta, h.ta.2.1, h.k.2.2⟩, ⟨c h.ll, h.ll.2.1⟩, ⟨c h.la.1, h.la.1.2.1, h.la.2⟩, ⟨c h.pl, h.pl.2.1⟩, ⟨c h.pa.1, h.pa.1.2.1, h.pa.2⟩, h.r⟩
theorem CR.pcl {T : Tt} {V : Vt} {x : HS} {a : St} (h : CR T V x a) : ∀ c, x.P c → clH x.ow c = 0 ∧ c < T.2.2 := fun c q => ⟨clH_n (h.hP c q).1 (h.hP c q).2.2 (by omega) (by omega), (h.hP c q).2.1⟩
/-- what is no part of the state nor of images stays -/
theorem CR.big {T T' : Tt} {V W : Vt} {x : HS} {a b : St} (h : CR T V x a) (ex : exT T T') (e : ∀ c j, c < 120 → ¬ (2 ≤ c ∧ c ≤ 12) → W.1 c j = V.1 c j ∧ W.2.2 c j = V.2.2 c j) (e2 : ∀ j, W.2.2 2 j = V.2.2 2 j) (e3 : W.2.2 3 0 = some 4) {ow' : Nat → Nat} {la' pa' : Nat} {xi : Nat → SH} {P' : Nat → Prop} (hP : ∀ c, P' c → new T' ow' c 0) (la : (la' = 9 ∨ new T' ow' la' 1) ∧ 1 ≤ T'.2.1 la') (pa : (pa' = 11 ∨ new T' ow' pa' 2) ∧ 1 ≤ T'.2.1 pa') (cf : cCf P' T' W (ms la' pa') b.g) (ct : cTb T' W 3 4 b.t) (im : ∀ k, k < 2 → match b.im k with | none => W.2.2 12 k = none | some gt => W.2.2 12 k = some (xi k).s ∧ isIm T' W ow' P' (10 + 10 * k) (xi k) gt.1 gt.2) (u : b.u = a.u) (st : b.st = a.st) (rf : b.rf = a.rf) (tn : b.tn = a.tn) (tp : b.tp = a.tp) (fa : b.fa = a.fa) (le : b.le = a.le) (so : b.so = a.so) (dm : b.dm = a.dm) (dd : b.dd = a.dd) : CR T' W ⟨P', ow', la', pa', x.p, xi⟩ b := by
  have nT := h.nT
  have lo := ex.lo nT
  have er : ∀ c j, c < 120 → ¬ (4 ≤ c ∧ c ≤ 11) → c ≠ 13 → (c = 3 → j = 0) → ¬ c = 12 → W.2.2 c j = V.2.2 c j := fun c j w z _ y v => by
    by_cases c2 : c = 2
    · rw [c2]
      exact e2 j
    · by_cases c3 : c = 3
      · rw [c3, y c3, e3]
        exact h.hU.r3_0.symm
      · exact (e c j w (by omega)).2
  refine CR.mk ⟨h.hC.ex lo, h.hU.ex fun c j w z n y => er c j w z n.2 y n.1, Nat.le_trans nT ex.1, hP, la, pa, cf, ct, ?_, ?_, fun i hi => ?_, ?_, fun i hi => ?_, ?_, ?_, ?_, ?_, fun i hi hn => ?_, im⟩
  · rw [u]
    exact ⟨(e 0 15 (by omega) (by omega)).1.trans h.cu.n, h.cu.l, h.cu.b, h.cu.i, fun k hk => (e 13 k (by omega) (by omega)).2.trans (h.cu.r k hk), fun k hk => by
      have hp := h.cu.b k (by have := h.cu.l; omega)
      exact ((h.cu.t k hk).ft (lo _ (by omega)).1 (lo _ (by omega)).1 (lo _ (by omega)).2).fr (fun j => (e _ j (by omega) (by omega)).1) (fun j => (e _ j (by omega) (by omega)).1) (fun j => (e _ j (by omega) (by omega)).2), fun k hk => (e 15 k (by omega) (by omega)).1.trans (h.cu.w k hk)⟩
  · rw [st]
    exact (e 0 0 (by omega) (by omega)).1.trans h.st
  · rw [rf]
    exact (e 1 i (by omega) (by omega)).1.trans (h.rf i hi)
  · rw [tn]
    exact (e 0 11 (by omega) (by omega)).1.trans h.tn
  · rw [tp]
    exact (e 21 i (by omega) (by omega)).1.trans (h.tp i hi)
  · rw [fa]
    exact (e 0 12 (by omega) (by omega)).1.trans h.fa
  · rw [le]
    exact (e 0 13 (by omega) (by omega)).1.trans h.le
  · rw [so]
    exact (e 0 14 (by omega) (by omega)).1.trans h.so
  · rw [dm]
    exact (e 0 24 (by omega) (by omega)).1.trans h.dm
  · rw [dd]
    rw [dm] at hn
    exact (e 29 i (by omega) (by omega)).1.trans (h.dd i hi hn)
