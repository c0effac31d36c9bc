/-! 98: back, the component -/
set_option maxRecDepth 100000
def rBack (a : St) (k : Int32) : Int32 := if iN k 0 1 = true then (match a.im (ixN k) with | none => -nI 2 | some _ => nI 0) else -nI 1
def oBack (a : St) (k : Int32) : St := if iN k 0 1 = true then (match a.im (ixN k) with | none => a.ref 2 | some gt => ((a.wg gt.1).wt gt.2).set) else a.ref 1
theorem OK.back {a : St} (ok : OK a) {k : Int32} : OK (oBack a k) := by
  rw [oBack]
  split
  · rename_i q
    obtain ⟨i, rfl, h1, h2, h3⟩ := iN_of q (by omega)
    rw [ix_nI h3]
    cases hm : a.im i with
    | none => exact ok.ref
    | some gt =>
      have h := ok.im i gt.1 gt.2 (by omega) hm
      exact OK.mk ⟨h.1, h.2.1, h.2.2, fun k hk => absurd hk (Nat.not_lt_zero _), Nat.zero_le _, ok.im, ok.tn, ok.tp, ok.dm⟩
  · exact ok.ref
theorem t1I : (1 : Int32).toInt = 1 := rfl
theorem ms_no {T : Tt} {V : Vt} {x : HS} {a : St} (h : CR T V x a) {c : Nat} (h1 : c < 120) (h2 : ¬ (2 ≤ c ∧ c ≤ 11)) : ¬ oS (ms x.la x.pa) c := by
  have hla : x.la = 9 ∨ 120 ≤ x.la := h.la.1.imp id fun q => q.1
  have hpa : x.pa = 11 ∨ 120 ≤ x.pa := h.pa.1.imp id fun q => q.1
  intro q
  rcases q with q | q | q | q | q | q | q | q | q | q <;> dsimp only [ms, SH.s, SH.t, SH.d, SH.ti, SH.sz, SH.ta, SH.ll, SH.la, SH.pl, SH.pa] at q <;> omega
theorem im_main {T : Tt} {V : Vt} {x : HS} {a : St} (h : CR T V x a) {k : Nat} (hk : k < 2) {g : Cfg} {t : Tab} (hi : isIm T V x.ow x.P (10 + 10 * k) (x.x k) g t) {c : Nat} (q : oS (x.x k) c ∨ x.P c) : ¬ oS (ms x.la x.pa) c := fun w => by
  have a1 := h.sh.cl' w
  rcases q with q | q
  · have a2 := (hi.sh (by omega)).cl' q
    omega
  · have a2 := (h.pcl c q).1
    omega
set_option maxHeartbeats 1000000 in
theorem c_back {T : Tt} {V : Vt} {x : HS} {a : St} (h : CR T V x a) (ok : OK a) {k : Int32} : dOp (f_X0_back T V 0 k) T V (rBack a k) (oBack a k) 4 30 := by
  have hC := h.hC
  have hU := h.hU
  have nT := h.nT
  rw [f_X0_back, rq hC.k0, pc c_in, t0, t1I, rBack, oBack]
  simp only [b1_0]
  cases h1 : iN k 0 1 with
  | false => exact dOp.c (c_refuse (w := 1) h (by omega) (by omega))
  | true =>
    obtain ⟨i, rfl, w1, w2, w3⟩ := iN_of h1 (by omega)
    have hi2 : i < 2 := by omega
    have hi := h.im i hi2
    rw [if_neg (by decide), if_pos rfl, if_pos rfl, dr hU.r0_3, cq12 hC hi2]
    simp only [ix_nI w3]
    cases hm : a.im i with
    | none =>
      rw [hm] at hi
      have hi : V.2.2 12 i = none := hi
      rw [if_pos hi]
      exact dOp.c (c_refuse (w := 2) h (by omega) (by omega))
    | some gt =>
      rw [hm] at hi
      obtain ⟨r12, im⟩ := hi
      rw [if_neg (by rw [r12]; exact fun w => nomatch w), dr hU.r0_2, dr hU.r0_3, cq12 hC hi2, dr r12]
      obtain ⟨cw, elw, lw, -⟩ := h.cf.lw
      obtain ⟨cp, elp, lp, -⟩ := h.cf.pl
      have okm := ok.im i gt.1 gt.2 hi2 hm
      refine Ret.dv (c_takesS (cl := clH x.ow) (b := 100) (b' := 10 + 10 * i) h.sh (im.sh (by omega)) (by omega) (by omega) (by omega) h.pcl h.ct.k ⟨cw, _, elw, lw⟩ ⟨cp, _, elp, lp⟩ im.cf im.ct okm.1) ?_
      intro U T' n k ⟨la', pa', cf, ct, ex, q1, q2, q3, q4, q5, fr, er, n1, n2⟩
      dsimp only at cf ct ex q1 q2 q4 q5 fr er n1 n2
      have eo : ∀ h, h < T.2.2 → (fun h => if T.2.2 ≤ h then (if h = la' then 1 else 2) else x.ow h) h = x.ow h := fun h w => if_neg (by omega)
      have lla : x.la < T.2.2 := h.sh.la.2.1
      have lpa : x.pa < T.2.2 := h.sh.pa.2.1
      have hCR : CR T' U ⟨x.P, fun h => if T.2.2 ≤ h then (if h = la' then 1 else 2) else x.ow h, la', pa', x.p, x.x⟩ ((a.wg gt.1).wt gt.2) := by
        refine h.big ex (fun c j w z => ?_) er ct.k.2.1 (fun c q => (h.hP c q).ex ex eo) ⟨?_, q4⟩ ⟨?_, q5⟩ cf ct (fun k hk => ?_) rfl rfl rfl rfl rfl rfl rfl rfl rfl rfl
        · have := fr c j (by omega) (ms_no h w (by omega))
          exact ⟨this.1, this.2.2⟩
        · rcases q1 with q | q
          · exact h.la.1.imp (fun z => q.trans z) fun z => by
              have y := z.ex ex eo
              rw [← q] at y
              exact y
          · exact Or.inr ⟨by omega, q.2, by show (if _ then _ else _) = _; rw [if_pos q.1, if_pos rfl]⟩
        · rcases q2 with q | q
          · exact h.pa.1.imp (fun z => q.trans z) fun z => by
              have y := z.ex ex eo
              rw [← q] at y
              exact y
          · exact Or.inr ⟨by omega, q.2, by show (if _ then _ else _) = _; rw [if_pos q.1, if_neg (Ne.symm q3)]⟩
        · have hk' := h.im k hk
          have r12' := (fr 12 k (by omega) (ms_no h (by omega) (by omega))).2.2
          show match a.im k with | none => U.2.2 12 k = none | some gt => U.2.2 12 k = some (x.x k).s ∧ isIm T' U _ x.P (10 + 10 * k) (x.x k) gt.1 gt.2
          cases hm' : a.im k with
          | none =>
            rw [hm'] at hk'
            exact r12'.trans hk'
          | some gt' =>
            rw [hm'] at hk'
            refine ⟨r12'.trans hk'.1, hk'.2.ex (fun c q => (h.pcl c q).2) ex eo fun c j q => ?_⟩
            have hlt : c < T.2.2 := by
              rcases q with q | q
              · exact (hk'.2.sh (by omega)).lt' q
              · exact (h.pcl c q).2
            have := fr c j hlt (im_main h hk hk'.2 q)
            exact ⟨this.1, this.2.2⟩
      have fV : cFr V U := ⟨fun c j q => (fr c j (by omega) (ms_no h (by omega) (by omega))).1, fun c j q => (fr c j (by omega) (ms_no h (by omega) (by omega))).2.1, fun c j q => (fr c j (by omega) (ms_no h (by omega) (by omega))).2.2⟩
      refine Ret.c (c_settles (v := (0 : Int32)) hCR) ?_
      intro z W ⟨e1, e2, e3⟩
      exact Ret.ok ⟨e1, e2, fV.tr e3, ex, by show 0 + n ≤ 4; omega, by show 0 + k ≤ 30; omega⟩
