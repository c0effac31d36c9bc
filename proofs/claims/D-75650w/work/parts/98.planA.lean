/-! 98: an order on paper, the component -/
set_option maxRecDepth 100000
abbrev sPc (h j : Nat) : Prop := h = 20 ∨ h = 25 ∨ h = 26 ∨ (h = 19 ∧ (j = 1 ∨ j = 2)) ∨ (h = 0 ∧ (j = 19 ∨ j = 20 ∨ j = 21))
abbrev cPr (P : Nat → Prop) (T : Tt) (V : Vt) (la pa : Nat) (g : Cfg) (s : Pp) : Prop := (cPp P T V la pa g 19 20 s.b) ∧ (V.1 0 19 = s.yl) ∧ (V.1 0 20 = nI (s.lm.getD 1000000)) ∧ (V.1 0 21 = b1 s.sk)
theorem cPr.h {P : Nat → Prop} {T : Tt} {V : Vt} {la pa : Nat} {g : Cfg} {s : Pp} (h__ : cPr P T V la pa g s) : cPp P T V la pa g 19 20 s.b := h__.1
theorem cPr.y {P : Nat → Prop} {T : Tt} {V : Vt} {la pa : Nat} {g : Cfg} {s : Pp} (h__ : cPr P T V la pa g s) : V.1 0 19 = s.yl := h__.2.1
theorem cPr.m {P : Nat → Prop} {T : Tt} {V : Vt} {la pa : Nat} {g : Cfg} {s : Pp} (h__ : cPr P T V la pa g s) : V.1 0 20 = nI (s.lm.getD 1000000) := h__.2.2.1
theorem cPr.k {P : Nat → Prop} {T : Tt} {V : Vt} {la pa : Nat} {g : Cfg} {s : Pp} (h__ : cPr P T V la pa g s) : V.1 0 21 = b1 s.sk := h__.2.2.2
theorem cSet_of {P : Nat → Prop} {T : Tt} {V : Vt} {la pa : Nat} {g : Cfg} {t d : Nat} {b : Tab} (h : cPp P T V la pa g t d b) {v : Vals} (hv : ∀ j, j < 28 → V.2.1 24 j = v j) : cSet T V v := ⟨h.C.k22, h.U.r22_0, h.C.k23, h.U.r22_1, h.C.k24, h.C.n24, hv⟩
theorem c_sO {P : Nat → Prop} {T : Tt} {V : Vt} {v : Vals} (hs : cSet T V v) {h : Nat} {o : Od} (ho : isOd P T V h o) (ok : okO o) {k : Nat} (hk : k < 3) (hh : hasS o.1 k = true) : f_X18_told T V h (nI k) 22 = some (sO o v k) := by
  have hne := (ok.2.1 k hk).mp hh
  cases hq : o.2.1 k with
  | none => exact absurd hq hne
  | some s => rw [c_oTold hs ho hk hq, sO, hq]
theorem mn_c {l : Option Nat} {m : Nat} (h : ∀ k, l = some k → k ≤ 19000) (hm : m ≤ 19000) : (if nI m < nI (l.getD 1000000) then nI m else nI (l.getD 1000000)) = nI (mnN l m) := by
  cases l with
  | none => exact if_pos (by rw [Option.getD_none, nI_ltI (by omega) (by omega)]; omega)
  | some k =>
    have := h k rfl
    rw [Option.getD_some, mnN]
    by_cases q : m < k
    · rw [if_pos (by rw [nI_ltI (by omega) (by omega)]; exact q), if_pos q]
    · rw [if_neg (by rw [nI_ltI (by omega) (by omega)]; exact q), if_neg q]
set_option maxHeartbeats 1000000 in
theorem c_tries {P : Nat → Prop} {T : Tt} {V : Vt} {la pa : Nat} {g : Cfg} {s : Pp} {d e : Nat} (h : cPr P T V la pa g s) (hq : okQ g s d e) {hh : Nat} {o : Od} (ho : isOd P T V hh o) (ok : okO o) (h3 : o.1 < 3) {v : Vals} (hs : cSet T V v) :
    Ret (f_X0_triesOrder T V 0 hh) fun p => (if whyO g s.b o v = 0 then 0 ≤ p.1 ∧ (o.1 = 2 → p.1 = (pAct g s o v).lt) else p.1 < 0) ∧ frM sPc lC V p.2 ∧ cTb T p.2 19 20 (pAct g s o v).b ∧ p.2.1 0 19 = (pAct g s o v).yl ∧ p.2.1 0 20 = nI ((pAct g s o v).lm.getD 1000000) ∧ p.2.1 0 21 = V.1 0 21 := by
  have hC := h.h.C
  have hU := h.h.U
  have g8 := h.h.g.n
  have hk := ho.2.1
  have h0 := ho.2.2.1
  have h1 : o.1 = 0 ∨ o.1 = 1 ∨ o.1 = 2 := by omega
  have t0 : f_X18_told T V hh (0 : Int32) 22 = some (sO o v 0) := c_sO hs ho ok (k := 0) (by omega) (by rcases h1 with e | e | e <;> rw [e] <;> rfl)
  have t1 : f_X18_told T V hh (1 : Int32) 22 = some (sO o v 1) := c_sO hs ho ok (k := 1) (by omega) (by rcases h1 with e | e | e <;> rw [e] <;> rfl)
  rw [f_X0_triesOrder, rq hC.k0, dr hU.r0_16, pc t0, dr hU.r0_16, pc t1, rq hk, h0]
  have hno : ∀ W : Vt, ¬ whyO g s.b o v = 0 → frM nF lC V W → ∀ w, ¬ w = 0 → w ≤ 3 → Ret (some (-nI w, W)) fun p : Int32 × Vt => (if whyO g s.b o v = 0 then 0 ≤ p.1 ∧ (o.1 = 2 → p.1 = (pAct g s o v).lt) else p.1 < 0) ∧ frM sPc lC V p.2 ∧ cTb T p.2 19 20 (pAct g s o v).b ∧ p.2.1 0 19 = (pAct g s o v).yl ∧ p.2.1 0 20 = nI ((pAct g s o v).lm.getD 1000000) ∧ p.2.1 0 21 = V.1 0 21 := by
    intro W w f w1 w2 w3
    have ea : pAct g s o v = ⟨s.b, s.dn, s.lt, true, s.yl, s.lm⟩ := by rw [pAct, if_neg w]
    refine Ret.ok ?_
    dsimp only
    rw [ea, if_neg w]
    exact ⟨by rw [ng_l (by omega)]; exact w2, f.mono (fun _ _ q => absurd q id) (fun _ _ q => q), h.h.ct.fr (fun j => f.1 _ _ id) (fun j => f.1 _ _ id) (fun j => by rw [f.2.2]), (f.1 _ _ id).trans h.y, (f.1 _ _ id).trans h.m, f.1 _ _ id⟩
  rcases h1 with q | q | q
  · have ew : whyO g s.b o v = whyP g s.b (sO o v 1) (sO o v 0) := by rw [whyO, if_pos q]
    have hl := whyP_le (g := g) (t := s.b) (c := sO o v 1) (n := sO o v 0)
    rw [if_neg (by rw [q]; decide), f_X0_triesOrder_J41, rq hk, h0, if_pos (by rw [q]; decide), dr hU.r0_9, pc (c_canPour hC hU h.h.g h.h.cf h.h.b h.h.ct), f_X0_triesOrder_J96]
    by_cases w : whyP g s.b (sO o v 1) (sO o v 0) = 0
    · obtain ⟨c', n', e1, e2, w1, w2, w3, w4⟩ := whyP_0 h.h.g w
      have w5 := of_decide_eq_true w4
      have hz := h.h.g.sz c' w1
      rw [ng_p w, rq hk, h0, if_pos (by rw [q]; decide), dr hU.r0_9, e1, e2]
      refine Ret.c (c_pours hC (t := 19) (d := 20) (by omega) h.h.ct (by omega) (by omega)) ?_
      intro z W ⟨ez, f, ct⟩
      dsimp only at ez f ct
      have ea : pAct g s o v = ⟨tPour s.b c' n', s.dn + 1, s.lt, s.sk, s.yl, s.lm⟩ := by rw [pAct, ew, if_pos w, if_pos q, e1, e2, ix_nI (by omega), ix_nI (by omega)]
      refine Ret.ok ?_
      dsimp only
      rw [ea, ew, if_pos w]
      refine ⟨⟨?_, fun q2 => absurd q2 (by omega)⟩, f.mono (fun _ _ q => Or.inl q) (fun _ _ q => absurd q id), ct, (f.1 _ _ (by omega)).trans h.y, (f.1 _ _ (by omega)).trans h.m, f.1 _ _ (by omega)⟩
      have := (ok_pour h.h.b w4).a h.h.g w1
      rw [ez]
      exact nI_0le (by omega)
    · rw [ng_r (by omega) w]
      exact hno V (by rw [ew]; exact w) frM.rfl' _ w hl
  · have t2 : f_X18_told T V hh (2 : Int32) 22 = some (sO o v 2) := c_sO hs ho ok (k := 2) (by omega) (by rw [q]; rfl)
    have ew : whyO g s.b o v = whyR g s.b (sO o v 1) (sO o v 2) (sO o v 0) := by rw [whyO, if_neg (by omega), if_pos q]
    have hl := whyR_le (g := g) (t := s.b) (f := sO o v 1) (o := sO o v 2) (n := sO o v 0)
    rw [if_pos (by rw [q]; decide), dr hU.r0_16, pc t2, f_X0_triesOrder_J41, rq hk, h0, if_neg (by rw [q]; decide), if_pos (by rw [q]; decide), dr hU.r0_9]
    refine Ret.c (c_canRack hC hU h.h.P h.h.g h.h.cf h.h.b h.h.ct) ?_
    intro z W ⟨ez, f⟩
    dsimp only at ez f
    subst ez
    have hU1 := hU.eq3 f.2.2
    have h01 : W.1 hh 0 = nI o.1 := (f.1 _ _ id).trans h0
    have ct1 : cTb T W 19 20 s.b := h.h.ct.fr (fun j => f.1 _ _ id) (fun j => f.1 _ _ id) (fun j => by rw [f.2.2])
    rw [f_X0_triesOrder_J96]
    by_cases w : whyR g s.b (sO o v 1) (sO o v 2) (sO o v 0) = 0
    · obtain ⟨f', o', n', e1, e2, e3, w1, w2, w3, w4, w5, w6, w7⟩ := whyR_0 h.h.g w
      have hr := of_decide_eq_true w7
      have hz := h.h.g.sz o' w2
      rw [ng_p w, rq hk, h01, if_neg (by rw [q]; decide), if_pos (by rw [q]; decide), dr hU1.r0_9, e1, e2, e3]
      refine Ret.c (c_racks hC hU1 (t := 19) (d := 20) (by omega) ct1 (by omega) (by omega) w5 (by omega) w4 (gvs_l w6) (h.h.b.a h.h.g w1) (by omega)) ?_
      intro z X ⟨ez, f2, ct⟩
      dsimp only at ez f2 ct
      have ea : pAct g s o v = ⟨tRack s.b f' o' n', s.dn + 1, s.lt, s.sk, s.yl, s.lm⟩ := by rw [pAct, ew, if_pos w, if_neg (by omega), if_pos q, e1, e2, e3, ix_nI (by omega), ix_nI (by omega), ix_nI (by omega)]
      refine Ret.ok ?_
      dsimp only
      rw [ea, ew, if_pos w]
      refine ⟨⟨?_, fun q2 => absurd q2 (by omega)⟩, ⟨fun c j z => by rw [f2.1 _ _ (by omega), f.1 _ _ id], fun c j z => by rw [f2.2.1 _ _ id, f.2.1 _ _ z], by rw [f2.2.2, f.2.2]⟩, ct, (f2.1 _ _ (by omega)).trans ((f.1 _ _ id).trans h.y), (f2.1 _ _ (by omega)).trans ((f.1 _ _ id).trans h.m), (f2.1 _ _ (by omega)).trans (f.1 _ _ id)⟩
      have ha := (ok_rack h.h.b w5 w6 w7).a h.h.g w2
      rw [ez]
      show 0 ≤ tMean (tRack s.b f' o' n').D o'
      rw [mean_v]
      split
      · rename_i z0
        exfalso
        have : tAll (tRack s.b f' o' n').D o' = tAll (tDraw s.b.D f' n') o' + sg 20 (outA (gC s.b.D f') n') := all_come
        rw [out_sum (g := gC s.b.D f') (n := n') (gvs_l w6)] at this
        omega
      · rename_i z0
        have := mean_b z0
        exact nI_0le (by omega)
    · rw [ng_r (by omega) w]
      exact hno W (by rw [ew]; exact w) f _ w hl
  · have ew : whyO g s.b o v = whyB g s.b (sO o v 1) (sO o v 0) := by rw [whyO, if_neg (by omega), if_neg (by omega)]
    have hl := whyB_le (g := g) (t := s.b) (c := sO o v 1) (n := sO o v 0)
    rw [if_neg (by rw [q]; decide), f_X0_triesOrder_J41, rq hk, h0, if_neg (by rw [q]; decide), if_neg (by rw [q]; decide), dr hU.r0_9]
    refine Ret.c (c_canBottle hC hU h.h.P h.h.g h.h.cf h.h.b h.h.ct) ?_
    intro z W ⟨ez, f⟩
    dsimp only at ez f
    subst ez
    have hU1 := hU.eq3 f.2.2
    have h01 : W.1 hh 0 = nI o.1 := (f.1 _ _ id).trans h0
    have ct1 : cTb T W 19 20 s.b := h.h.ct.fr (fun j => f.1 _ _ id) (fun j => f.1 _ _ id) (fun j => by rw [f.2.2])
    rw [f_X0_triesOrder_J96]
    by_cases w : whyB g s.b (sO o v 1) (sO o v 0) = 0
    · obtain ⟨c', n', e1, e2, w1, w2, w3, w4⟩ := whyB_0 h.h.g w
      obtain ⟨k, k1, k2⟩ := mnO_pos (g := gC s.b.D c') (n := n') (by omega) (gvs_l w4)
      rw [ng_p w, rq hk, h01, if_neg (by rw [q]; decide), if_neg (by rw [q]; decide), dr hU1.r0_9, e1, e2]
      refine Ret.c (c_bottles hC hU1 (t := 19) (d := 20) (by omega) ct1 h.h.b.b (by omega) (by omega) w3 (gvs_l w4) (h.h.b.a h.h.g w1)) ?_
      intro z X ⟨ez, f2, ct⟩
      dsimp only at ez f2 ct
      subst ez
      have ea : pAct g s o v = ⟨tBot s.b c' n', s.dn + 1, mnOf (outA (gC s.b.D c') n'), s.sk, s.yl + nI n', some (mnN s.lm k)⟩ := by rw [pAct, ew, if_pos w, if_neg (by omega), if_neg (by omega), e1, e2, ix_nI (by omega), ix_nI (by omega), k2, ix_nI (by omega)]
      rw [sp, sp]
      have y1 : X.1 0 19 = s.yl := (f2.1 _ _ (by omega)).trans ((f.1 _ _ id).trans h.y)
      have m1 : (uI X 0 19 (X.1 0 19 + nI n')).1 0 20 = nI (s.lm.getD 1000000) := by
        rw [uI1, if_neg (by omega)]
        exact (f2.1 _ _ (by omega)).trans ((f.1 _ _ id).trans h.m)
      rw [m1, k2, mn_c hq.lm k1, y1]
      have fx : ∀ c j, ¬ sPc c j → (uI (uI X 0 19 (s.yl + nI n')) 0 20 (nI (mnN s.lm k))).1 c j = V.1 c j := fun c j z => by rw [uI1, if_neg (by omega), uI1, if_neg (by omega), f2.1 _ _ (by omega), f.1 _ _ id]
      refine Ret.ok ?_
      dsimp only
      rw [ea, ew, if_pos w]
      refine ⟨⟨nI_0le (by omega), fun _ => k2.symm⟩, ⟨fx, fun c j z => by rw [uI2, uI2, f2.2.1 _ _ id, f.2.1 _ _ z], by rw [uI2, uI2, f2.2.2, f.2.2]⟩, ct.fr (fun j => by rw [uI1, if_neg (by omega), uI1, if_neg (by omega)]) (fun j => by rw [uI1, if_neg (by omega), uI1, if_neg (by omega)]) (fun j => rfl), by rw [uI1, if_neg (by omega), uI1, if_pos ⟨rfl, rfl⟩], by rw [uI1, if_pos ⟨rfl, rfl⟩]; rfl, ?_⟩
      show (uI (uI X 0 19 (s.yl + nI n')) 0 20 (nI (mnN s.lm k))).1 0 21 = _
      rw [uI1, if_neg (by omega), uI1, if_neg (by omega), f2.1 _ _ (by omega), f.1 _ _ id]
    · rw [ng_r (by omega) w]
      exact hno W (by rw [ew]; exact w) f _ w hl
