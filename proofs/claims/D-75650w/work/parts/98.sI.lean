/-! 98: images, the component -/
set_option maxRecDepth 100000
theorem isSh.ex {T T' : Tt} {V W : Vt} {cl cl' : Nat → Nat} {b : Nat} {x : SH} (h : isSh T V cl b x) (ex : exT T T') (ec : ∀ c, c < T.2.2 → cl' c = cl c) (er : ∀ j, W.2.2 x.s j = V.2.2 x.s j) : isSh T' W cl' b x := by
  have k1 := fun c (q : oS x c) => ex.2 c (h.lt' q)
  have lt := fun c (q : oS x c) => Nat.lt_of_lt_of_le (h.lt' q) ex.1
  have kc := fun c (q : oS x c) => ec c (h.lt' q)
  refine ⟨⟨(kc _ oS.s).trans h.s.1, lt _ oS.s, (k1 _ oS.s).1.trans h.s.2.2⟩, ⟨(kc _ oS.t).trans h.t.1, lt _ oS.t⟩, ⟨(kc _ oS.d).trans h.d.1, lt _ oS.d⟩, ⟨(kc _ oS.ti).trans h.ti.1, lt _ oS.ti, (k1 _ oS.ti).1.trans h.ti.2.2.1, (k1 _ oS.ti).2.trans h.ti.2.2.2⟩, ⟨(kc _ oS.sz).trans h.sz.1, lt _ oS.sz, (k1 _ oS.sz).1.trans h.sz.2.2.1, (k1 _ oS.sz).2.trans h.sz.2.2.2⟩, ⟨(kc _ oS.ta).trans h.ta.1, lt _ oS.ta, (k1 _ oS.ta).1.trans h.ta.2.2.1, (k1 _ oS.ta).2.trans h.ta.2.2.2⟩, ⟨(kc _ oS.ll).trans h.ll.1, lt _ oS.ll⟩, ⟨(kc _ oS.la).trans h.la.1, lt _ oS.la, by rw [(k1 _ oS.la).2]; exact h.la.2.2⟩, ⟨(kc _ oS.pl).trans h.pl.1, lt _ oS.pl⟩, ⟨(kc _ oS.pa).trans h.pa.1, lt _ oS.pa, by rw [(k1 _ oS.pa).2]; exact h.pa.2.2⟩, ?_⟩
  simp only [er]
  exact h.r
theorem clH_c {ow ow' : Nat → Nat} {h : Nat} (e : ow' h = ow h) : clH ow' h = clH ow h := by rw [clH, clH, e]
/-- the owners of an image's cells -/
abbrev nwS (T : Tt) (ow : Nat → Nat) (b : Nat) (x : SH) : Prop := (new T ow x.s b) ∧ (new T ow x.t (b + 1)) ∧ (new T ow x.d (b + 2)) ∧ (new T ow x.ti (b + 3)) ∧ (new T ow x.sz (b + 4)) ∧ (new T ow x.ta (b + 5)) ∧ (new T ow x.ll (b + 6)) ∧ (new T ow x.la (b + 7)) ∧ (new T ow x.pl (b + 8)) ∧ (new T ow x.pa (b + 9))
theorem nwS.s {T : Tt} {ow : Nat → Nat} {b : Nat} {x : SH} (h__ : nwS T ow b x) : new T ow x.s b := h__.1
theorem nwS.t {T : Tt} {ow : Nat → Nat} {b : Nat} {x : SH} (h__ : nwS T ow b x) : new T ow x.t (b + 1) := h__.2.1
theorem nwS.d {T : Tt} {ow : Nat → Nat} {b : Nat} {x : SH} (h__ : nwS T ow b x) : new T ow x.d (b + 2) := h__.2.2.1
theorem nwS.ti {T : Tt} {ow : Nat → Nat} {b : Nat} {x : SH} (h__ : nwS T ow b x) : new T ow x.ti (b + 3) := h__.2.2.2.1
theorem nwS.sz {T : Tt} {ow : Nat → Nat} {b : Nat} {x : SH} (h__ : nwS T ow b x) : new T ow x.sz (b + 4) := h__.2.2.2.2.1
theorem nwS.ta {T : Tt} {ow : Nat → Nat} {b : Nat} {x : SH} (h__ : nwS T ow b x) : new T ow x.ta (b + 5) := h__.2.2.2.2.2.1
theorem nwS.ll {T : Tt} {ow : Nat → Nat} {b : Nat} {x : SH} (h__ : nwS T ow b x) : new T ow x.ll (b + 6) := h__.2.2.2.2.2.2.1
theorem nwS.la {T : Tt} {ow : Nat → Nat} {b : Nat} {x : SH} (h__ : nwS T ow b x) : new T ow x.la (b + 7) := h__.2.2.2.2.2.2.2.1
theorem nwS.pl {T : Tt} {ow : Nat → Nat} {b : Nat} {x : SH} (h__ : nwS T ow b x) : new T ow x.pl (b + 8) := h__.2.2.2.2.2.2.2.2.1
theorem nwS.pa {T : Tt} {ow : Nat → Nat} {b : Nat} {x : SH} (h__ : nwS T ow b x) : new T ow x.pa (b + 9) := h__.2.2.2.2.2.2.2.2.2
set_option maxHeartbeats 1000000 in
theorem c_imJ {T0 T : Tt} {V0 V : Vt} {x : HS} {a : St} (h : CR T0 V0 x a) (ok : OK a) {i : Nat} (hi : i < 2) (ex0 : exT T0 T) (f0 : ∀ c j, c < T0.2.2 → c ≠ 12 → V.1 c j = V0.1 c j ∧ V.2.1 c j = V0.2.1 c j ∧ V.2.2 c j = V0.2.2 c j) {s t d ti sz ta ll la pl pa : Nat} (r12 : V.2.2 12 i = some s) (r12' : ∀ j, j ≠ i → V.2.2 12 j = V0.2.2 12 j) {ow : Nat → Nat} (eo : ∀ h, h < T0.2.2 → ow h = x.ow h) (hn : nwS T ow (10 + 10 * i) ⟨s, t, d, ti, sz, ta, ll, la, pl, pa⟩) (hd : isSh T V (clH ow) (10 + 10 * i) ⟨s, t, d, ti, sz, ta, ll, la, pl, pa⟩) (kt : isTb T V t d) (ld : ∃ c n el, isLs T V ll la c n el) (pd : ∃ c n el, isLs T V pl pa c n el) :
    Ret (f_X0_image_J37 T V 0 (nI i)) fun q => q.1.1 = nI 0 ∧ (∃ x, CR q.1.2.2 q.1.2.1 x ((a.wim (imN a i)).wst (nI 0))) ∧ cFr V0 q.1.2.1 ∧ exT T0 q.1.2.2 ∧ q.2.1 ≤ 4 ∧ q.2.2 ≤ 30 := by
  have nT := h.nT
  have lo := ex0.lo nT
  have hC := h.hC.ex lo
  have nTT : 120 ≤ T.2.2 := Nat.le_trans nT ex0.1
  have ref : ∀ c j, c < 120 → c ≠ 12 → V.2.2 c j = V0.2.2 c j := fun c j q w => (f0 c j (by omega) w).2.2
  have clx : ∀ c, c < T0.2.2 → clH ow c = clH x.ow c := fun c q => clH_c (eo c q)
  have hs : isSh T V (clH ow) 100 (ms x.la x.pa) := h.sh.ex ex0 clx fun j => ref 2 j (by omega) (by omega)
  have hla : x.la = 9 ∨ 120 ≤ x.la := h.la.1.imp id fun q => q.1
  have hpa : x.pa = 11 ∨ 120 ≤ x.pa := h.pa.1.imp id fun q => q.1
  have ne12 : ∀ c, x.P c ∨ own (ms x.la x.pa) c → c < T0.2.2 ∧ c ≠ 12 := fun c q => by
    rcases q with q | q
    · have := h.hP c q
      exact ⟨this.2.1, by have := this.1; omega⟩
    · have w1 : x.la < T0.2.2 := h.sh.la.2.1
      have w2 : x.pa < T0.2.2 := h.sh.pa.2.1
      dsimp only [own, ms, SH.s, SH.ti, SH.sz, SH.ta, SH.ll, SH.la, SH.pl, SH.pa] at q
      omega
  have cfm : cCf x.P T V (ms x.la x.pa) a.g := (h.cf.ft (fun c q => ex0.2 c (h.hP c q).2.1) (lo 8 (by omega)).1 (ex0.2 _ h.sh.la.2.1) (lo 10 (by omega)).1 (ex0.2 _ h.sh.pa.2.1)).fr (fun c j q => (f0 c j (ne12 c q).1 (ne12 c q).2).1) (fun c j q => (f0 c j (ne12 c q).1 (ne12 c q).2).2.2)
  have ctm : cTb T V 3 4 a.t := (h.ct.ft (lo 3 (by omega)).1 (lo 4 (by omega)).1 (lo 4 (by omega)).2).fr (fun j => (f0 3 j (by omega) (by omega)).1) (fun j => (f0 4 j (by omega) (by omega)).1) (fun j => ref 3 j (by omega) (by omega))
  have hP : ∀ c, x.P c → clH ow c = 0 ∧ c < T.2.2 := fun c q => ⟨(clx c (h.hP c q).2.1).trans (h.pcl c q).1, Nat.lt_of_lt_of_le (h.hP c q).2.1 ex0.1⟩
  rw [f_X0_image_J37, rq hC.k0, dr ((ref 0 3 (by omega) (by omega)).trans h.hU.r0_3), cq12 hC hi]
  simp only [ix_nI (show i < 2 ^ 31 by omega)]
  rw [dr r12, dr ((ref 0 2 (by omega) (by omega)).trans h.hU.r0_2)]
  refine Ret.dv (c_takesS (cl := clH ow) (b := 10 + 10 * i) (b' := 100) (xs := ms x.la x.pa) hd hs (by omega) (by omega) (by omega) hP kt ld pd cfm ctm ok.g) ?_
  intro U T' n k ⟨la', pa', cf, ct, ex, q1, q2, q3, q4, q5, fr, er, n1, n2⟩
  dsimp only at cf ct ex q1 q2 q4 q5 fr er n1 n2
  have exx := ex0.tr ex
  have no : ∀ c, c < T0.2.2 → (∀ j, j < 10 → clH x.ow c ≠ 10 + 10 * i + j) → ¬ oS (⟨s, t, d, ti, sz, ta, ll, la, pl, pa⟩ : SH) c := fun c w z q => by
    have a1 := hd.cl' q
    rw [clx c w] at a1
    exact z (clH x.ow c - (10 + 10 * i)) (by omega) (by omega)
  have no120 : ∀ c, c < 120 → ¬ oS (⟨s, t, d, ti, sz, ta, ll, la, pl, pa⟩ : SH) c := fun c w => no c (by omega) fun j hj => by
    rw [clH, if_pos w]
    split <;> omega
  obtain ⟨ow', how'⟩ : ∃ f : Nat → Nat, f = fun h => if T.2.2 ≤ h then (if h = la' then 10 + 10 * i + 7 else 10 + 10 * i + 9) else ow h := ⟨_, rfl⟩
  have eo1 : ∀ h, h < T.2.2 → ow' h = ow h := fun h w => by rw [how']; exact if_neg (by omega)
  have eo2 : ∀ h, h < T0.2.2 → ow' h = x.ow h := fun h w => (eo1 h (Nat.lt_of_lt_of_le w ex0.1)).trans (eo h w)
  have fV : ∀ c j, c < T0.2.2 → c ≠ 12 → ¬ oS (⟨s, t, d, ti, sz, ta, ll, la, pl, pa⟩ : SH) c → U.1 c j = V0.1 c j ∧ U.2.1 c j = V0.2.1 c j ∧ U.2.2 c j = V0.2.2 c j := fun c j w z y => by
    have a1 := fr c j (Nat.lt_of_lt_of_le w ex0.1) y
    have a2 := f0 c j w z
    exact ⟨a1.1.trans a2.1, a1.2.1.trans a2.2.1, a1.2.2.trans a2.2.2⟩
  have nomain : ∀ c, x.P c ∨ oS (ms x.la x.pa) c → ¬ oS (⟨s, t, d, ti, sz, ta, ll, la, pl, pa⟩ : SH) c := fun c q w => by
    have a1 := hd.cl' w
    rcases q with q | q
    · have a2 := (hP c q).1
      omega
    · have a2 := hs.cl' q
      omega
  have ownS : ∀ c, own (ms x.la x.pa) c → oS (ms x.la x.pa) c := fun c q => by
    rcases q with q | q | q | q | q | q | q | q <;> subst q
    · exact oS.s
    · exact oS.ti
    · exact oS.sz
    · exact oS.ta
    · exact oS.ll
    · exact oS.la
    · exact oS.pl
    · exact oS.pa
  have hnew : ∀ {c w}, new T ow c w → new T' ow' c w := fun q => q.ex ex eo1
  have hIm : isIm T' U ow' x.P (10 + 10 * i) ⟨s, t, d, ti, sz, ta, ll, la', pl, pa'⟩ a.g a.t := by
    have kk := fun c (q : oS (⟨s, t, d, ti, sz, ta, ll, la, pl, pa⟩ : SH) c) => ex.2 c (hd.lt' q)
    refine ⟨hnew hn.s, hnew hn.t, hnew hn.d, hnew hn.ti, hnew hn.sz, hnew hn.ta, hnew hn.ll, ⟨?_, q4⟩, hnew hn.pl, ⟨?_, q5⟩, (kk _ oS.s).1.trans hd.s.2.2, ⟨⟨(kk _ oS.ti).1.trans hd.ti.2.2.1, (kk _ oS.ti).2.trans hd.ti.2.2.2⟩, ⟨(kk _ oS.sz).1.trans hd.sz.2.2.1, (kk _ oS.sz).2.trans hd.sz.2.2.2⟩, (kk _ oS.ta).1.trans hd.ta.2.2.1, (kk _ oS.ta).2.trans hd.ta.2.2.2⟩, ?_, cf, ct⟩
    · show new T' ow' la' (10 + 10 * i + 7)
      rcases q1 with q | q
      · have y : new T' ow' la (10 + 10 * i + 7) := hnew hn.la
        rw [← q] at y
        exact y
      · exact ⟨by omega, q.2, by rw [how']; show (if _ then _ else _) = _; rw [if_pos q.1, if_pos rfl]⟩
    · show new T' ow' pa' (10 + 10 * i + 9)
      rcases q2 with q | q
      · have y : new T' ow' pa (10 + 10 * i + 9) := hnew hn.pa
        rw [← q] at y
        exact y
      · exact ⟨by omega, q.2, by rw [how']; show (if _ then _ else _) = _; rw [if_pos q.1, if_neg (Ne.symm q3)]⟩
    · show U.2.2 s 0 = some t ∧ U.2.2 s 1 = some ti ∧ U.2.2 s 2 = some sz ∧ U.2.2 s 3 = some ta ∧ U.2.2 s 4 = some ll ∧ U.2.2 s 5 = some pl
      simp only [er]
      exact hd.r
  have r12U : ∀ j, U.2.2 12 j = V.2.2 12 j := fun j => (fr 12 j (by omega) (no120 12 (by omega))).2.2
  have hCR : CR T' U ⟨x.P, ow', x.la, x.pa, x.p, fun k => if k = i then ⟨s, t, d, ti, sz, ta, ll, la', pl, pa'⟩ else x.x k⟩ (a.wim (imN a i)) := by
    refine h.big exx (fun c j w z => ?_) (fun j => ?_) ?_ (fun c q => (h.hP c q).ex exx eo2) ⟨?_, ?_⟩ ⟨?_, ?_⟩ ?_ ?_ (fun k hk => ?_) rfl rfl rfl rfl rfl rfl rfl rfl rfl rfl
    · have := fV c j (by omega) (by omega) (no120 c w)
      exact ⟨this.1, this.2.2⟩
    · exact (fV 2 j (by omega) (by omega) (no120 2 (by omega))).2.2
    · exact ((fV 3 0 (by omega) (by omega) (no120 3 (by omega))).2.2).trans h.hU.r3_0
    · exact h.la.1.imp id fun q => q.ex exx eo2
    · rw [(exx.2 _ h.sh.la.2.1).2]
      exact h.la.2
    · exact h.pa.1.imp id fun q => q.ex exx eo2
    · rw [(exx.2 _ h.sh.pa.2.1).2]
      exact h.pa.2
    · refine (cfm.ft (fun c q => ex.2 c (hP c q).2) (ex.2 8 (by omega)).1 (ex.2 _ hs.la.2.1) (ex.2 10 (by omega)).1 (ex.2 _ hs.pa.2.1)).fr (fun c j q => ?_) (fun c j q => ?_)
      · exact (fr c j (Nat.lt_of_lt_of_le (ne12 c q).1 ex0.1) (nomain c (q.imp id (ownS c)))).1
      · exact (fr c j (Nat.lt_of_lt_of_le (ne12 c q).1 ex0.1) (nomain c (q.imp id (ownS c)))).2.2
    · exact (ctm.ft (ex.2 3 (by omega)).1 (ex.2 4 (by omega)).1 (ex.2 4 (by omega)).2).fr (fun j => (fr 3 j (by omega) (no120 3 (by omega))).1) (fun j => (fr 4 j (by omega) (no120 4 (by omega))).1) (fun j => (fr 3 j (by omega) (no120 3 (by omega))).2.2)
    · show match imN a i k with | none => U.2.2 12 k = none | some gt => U.2.2 12 k = some (if k = i then _ else x.x k).s ∧ isIm T' U ow' x.P (10 + 10 * k) (if k = i then _ else x.x k) gt.1 gt.2
      by_cases w : k = i
      · subst w
        rw [show imN a k k = some (a.g, a.t) from if_pos rfl]
        simp only [if_true]
        exact ⟨(r12U k).trans r12, hIm⟩
      · rw [show imN a i k = a.im k from if_neg w]
        simp only [w, if_false]
        have hk' := h.im k hk
        have e12 := (r12U k).trans (r12' k w)
        cases hm : a.im k with
        | none =>
          rw [hm] at hk'
          exact e12.trans hk'
        | some gt =>
          rw [hm] at hk'
          refine ⟨e12.trans hk'.1, hk'.2.ex (fun c q => (h.pcl c q).2) exx eo2 fun c j q => ?_⟩
          have hsk := hk'.2.sh (by omega)
          have hlt : c < T0.2.2 := by
            rcases q with q | q
            · exact hsk.lt' q
            · exact (h.pcl c q).2
          have h120 : 120 ≤ c := by
            rcases q with q | q
            · obtain ⟨m, _, y⟩ := hk'.2.own' q
              exact y.1
            · exact (h.hP c q).1
          have := fV c j hlt (by omega) (no c hlt fun m hm y => by
            rcases q with q | q
            · have a2 := hsk.cl' q
              omega
            · have a2 := (h.pcl c q).1
              omega)
          exact ⟨this.1, this.2.2⟩
  refine Ret.c (c_done (v := (0 : Int32)) hCR) ?_
  intro z W ⟨e1, e2, e3⟩
  have fU : cFr V0 U := ⟨fun c j q => (fV c j (by omega) (by omega) (no120 c (by omega))).1, fun c j q => (fV c j (by omega) (by omega) (no120 c (by omega))).2.1, fun c j q => (fV c j (by omega) (by omega) (no120 c (by omega))).2.2⟩
  exact Ret.ok ⟨e1, e2, fU.tr e3, exx, by show 0 + n ≤ 4; omega, by show 0 + k ≤ 30; omega⟩
set_option maxHeartbeats 1000000 in
theorem c_image {T : Tt} {V : Vt} {x : HS} {a : St} (h : CR T V x a) (ok : OK a) {k : Int32} : dOp (f_X0_image T V 0 k) T V (rImg k) (oImg a k) 14 300 := by
  have hC := h.hC
  have hU := h.hU
  have nT := h.nT
  rw [f_X0_image, rq hC.k0, pc c_in, t0, t1I, rImg, oImg]
  simp only [b1_0]
  cases h1 : iN k 0 1 with
  | false => exact dOp.c (c_refuse (w := 1) h (by omega) (by omega))
  | true =>
    obtain ⟨i, rfl, w1, w2, w3⟩ := iN_of h1 (by omega)
    have hi2 : i < 2 := by omega
    have hi := h.im i hi2
    rw [if_neg (by decide), if_pos rfl, if_pos rfl, dr hU.r0_3, cq12 hC hi2]
    simp only [ix_nI w3]
    cases hm : a.im i with
    | some gt =>
      rw [hm] at hi
      obtain ⟨r12, im⟩ := hi
      obtain ⟨cw, elw, lw, -⟩ := im.cf.lw
      obtain ⟨cp, elp, lp, -⟩ := im.cf.pl
      rw [if_neg (by rw [r12]; exact fun w => nomatch w)]
      refine (c_imJ (ow := x.ow) (s := (x.x i).s) (t := (x.x i).t) (d := (x.x i).d) (ti := (x.x i).ti) (sz := (x.x i).sz) (ta := (x.x i).ta) (ll := (x.x i).ll) (la := (x.x i).la) (pl := (x.x i).pl) (pa := (x.x i).pa) h ok hi2 exT.rfl' (fun _ _ _ _ => ⟨rfl, rfl, rfl⟩) r12 (fun _ _ => rfl) (fun _ _ => rfl) ⟨im.s, im.t, im.d, im.ti, im.sz, im.ta, im.ll, im.la.1, im.pl, im.pa.1⟩ (im.sh (by omega)) im.ct.k ⟨cw, _, elw, lw⟩ ⟨cp, _, elp, lp⟩).im fun q ⟨q1, q2, q3, q4, q5, q6⟩ => ⟨q1, q2, q3, q4, by omega, by omega⟩
    | none =>
      rw [hm] at hi
      have hi : V.2.2 12 i = none := hi
      rw [if_pos hi, dr hU.r0_3]
      refine Ret.i ?_
      rw [sp, sp, sp]
      have x1 : exT T (aT T 2 0) := aT_ex
      obtain ⟨t1, e1⟩ : ∃ t, t = aT T 2 0 := ⟨_, rfl⟩
      rw [← e1] at x1 ⊢
      have m1 : t1.2.2 = T.2.2 + 1 := by rw [e1]; rfl
      have k1 : t1.1 T.2.2 = 2 := by rw [e1]; exact aT_k
      refine Ret.dv (c_X1init (el := id) k1 (by omega)) ?_
      intro U T' n k' ⟨q1, q2, q3, ⟨r0, r1, r2, r3, r4, r5⟩, kt, k3, k4, k5, l1, l2, n1, n2⟩
      dsimp only at q1 q2 q3 r0 r1 r2 r3 r4 r5 kt k3 k4 k5 l1 l2 n1 n2
      have ex0 : exT T T' := x1.tr q1
      have kq : T'.1 T.2.2 = 2 := (q1.2 _ (by omega)).1.trans k1
      have lo := ex0.lo nT
      rw [cq12 (hC.ex lo) hi2, rq kq, sp]
      simp only [ix_nI w3]
      have fU : ∀ c j, c < T.2.2 → U.1 c j = V.1 c j ∧ U.2.1 c j = V.2.1 c j ∧ U.2.2 c j = V.2.2 c j := fun c j w => by
        have a1 := q3 c j (by omega) (show ¬ c = T.2.2 by omega)
        have a2 := (frO_z (S := fun _ => False) (V := V) (q := T.2.2)) c j w id
        exact ⟨a1.1.trans a2.1, a1.2.1.trans a2.2.1, a1.2.2.trans a2.2.2⟩
      have u3 : ∀ c j, ¬ (c = 12 ∧ j = i) → (uR U 12 i (some T.2.2)).2.2 c j = U.2.2 c j := fun c j w => by rw [uR3, if_neg w]
      have u4 : (uR U 12 i (some T.2.2)).2.2 12 i = some T.2.2 := by rw [uR3, if_pos ⟨rfl, rfl⟩]
      have u1 : ∀ c j, (uR U 12 i (some T.2.2)).1 c j = U.1 c j := fun _ _ => rfl
      have u2 : ∀ c j, (uR U 12 i (some T.2.2)).2.1 c j = U.2.1 c j := fun _ _ => rfl
      generalize uR U 12 i (some T.2.2) = X at u3 u4 u1 u2 ⊢
      obtain ⟨ow, how⟩ : ∃ f : Nat → Nat, f = fun h => if T.2.2 ≤ h then 10 + 10 * i + (h - T.2.2) else x.ow h := ⟨_, rfl⟩
      have nw : ∀ m c, c = T.2.2 + m → m < 10 → new T' ow c (10 + 10 * i + m) := fun m c e w => ⟨by omega, by omega, by rw [how]; show (if _ then _ else _) = _; rw [if_pos (by omega)]; omega⟩
      have cn : ∀ m c, c = T.2.2 + m → m < 10 → clH ow c = 10 + 10 * i + m ∧ c < T'.2.2 := fun m c e w => ⟨clH_n (by omega) (nw m c e w).2.2 (by omega) (by omega), by omega⟩
      have l1' : isLs T' X (t1.2.2 + 5) (t1.2.2 + 6) 2 0 id := l1.fr (fun j => u1 _ _) (fun j => u3 _ _ (by omega)) (fun j => u3 _ _ (by omega))
      have l2' : isLs T' X (t1.2.2 + 7) (t1.2.2 + 8) 2 0 id := l2.fr (fun j => u1 _ _) (fun j => u3 _ _ (by omega)) (fun j => u3 _ _ (by omega))
      have ktX : isTb T' X t1.2.2 (t1.2.2 + 1) := ⟨kt.1, (u3 t1.2.2 0 (by omega)).trans kt.2.1, kt.2.2⟩
      have c0 := cn 0 T.2.2 rfl (by omega)
      have c1 := cn 1 t1.2.2 m1 (by omega)
      have c2 := cn 2 (t1.2.2 + 1) (by omega) (by omega)
      have c3 := cn 3 (t1.2.2 + 2) (by omega) (by omega)
      have c4 := cn 4 (t1.2.2 + 3) (by omega) (by omega)
      have c5 := cn 5 (t1.2.2 + 4) (by omega) (by omega)
      have c6 := cn 6 (t1.2.2 + 5) (by omega) (by omega)
      have c7 := cn 7 (t1.2.2 + 6) (by omega) (by omega)
      have c8 := cn 8 (t1.2.2 + 7) (by omega) (by omega)
      have c9 := cn 9 (t1.2.2 + 8) (by omega) (by omega)
      have hd : isSh T' X (clH ow) (10 + 10 * i) ⟨T.2.2, t1.2.2, t1.2.2 + 1, t1.2.2 + 2, t1.2.2 + 3, t1.2.2 + 4, t1.2.2 + 5, t1.2.2 + 6, t1.2.2 + 7, t1.2.2 + 8⟩ :=
        ⟨⟨c0.1, c0.2, kq⟩, c1, c2, ⟨c3.1, c3.2, k3⟩, ⟨c4.1, c4.2, k4⟩, ⟨c5.1, c5.2, k5⟩, c6, ⟨c7.1, c7.2, by show 1 ≤ T'.2.1 (t1.2.2 + 6); rw [show T'.2.1 (t1.2.2 + 6) = 2 from l1.2.2.2.1]; omega⟩, c8, ⟨c9.1, c9.2, by show 1 ≤ T'.2.1 (t1.2.2 + 8); rw [show T'.2.1 (t1.2.2 + 8) = 2 from l2.2.2.2.1]; omega⟩, (u3 T.2.2 0 (by omega)).trans r0, (u3 T.2.2 1 (by omega)).trans r1, (u3 T.2.2 2 (by omega)).trans r2, (u3 T.2.2 3 (by omega)).trans r3, (u3 T.2.2 4 (by omega)).trans r4, (u3 T.2.2 5 (by omega)).trans r5⟩
      refine (c_imJ (ow := ow) h ok hi2 ex0 (fun c j w z => ⟨(u1 _ _).trans (fU c j w).1, (u2 _ _).trans (fU c j w).2.1, (u3 c j (by omega)).trans (fU c j w).2.2⟩) u4 (fun j w => (u3 12 j (by omega)).trans (fU 12 j (by omega)).2.2) (fun c w => by rw [how]; exact if_neg (by omega)) ⟨nw 0 _ rfl (by omega), nw 1 _ m1 (by omega), nw 2 _ (by show t1.2.2 + 1 = _; omega) (by omega), nw 3 _ (by show t1.2.2 + 2 = _; omega) (by omega), nw 4 _ (by show t1.2.2 + 3 = _; omega) (by omega), nw 5 _ (by show t1.2.2 + 4 = _; omega) (by omega), nw 6 _ (by show t1.2.2 + 5 = _; omega) (by omega), nw 7 _ (by show t1.2.2 + 6 = _; omega) (by omega), nw 8 _ (by show t1.2.2 + 7 = _; omega) (by omega), nw 9 _ (by show t1.2.2 + 8 = _; omega) (by omega)⟩ hd ktX ⟨2, 0, id, l1'⟩ ⟨2, 0, id, l2'⟩).im fun q ⟨z1, z2, z3, z4, z5, z6⟩ => ⟨z1, z2, z3, z4, ?_, ?_⟩
      · show q.2.1 + n + 1 ≤ 14
        omega
      · show q.2.2 + k' + 12 ≤ 300
        omega
