/-! 96: harvests of the component, the step itself -/
set_option maxRecDepth 100000
theorem CR.dw {T : Tt} {V W : Vt} {x : HS} {a : St} {m : Nat} {d d' : Nat → Nat} (h : CR T V x (a.wdm (some m) d)) (f : frM sHx lC V W) (hD : ∀ i, i < 160 → W.1 29 i = nI (d' i)) : CR T W x (a.wdm (some m) d') := by
  have e := f.1
  have er : ∀ c j, W.2.2 c j = V.2.2 c j := fun c j => by rw [f.2.2]
  exact h.ups (b := a.wdm (some m) d') (fun c j q => e _ _ (by omega)) er rfl (h.cf.fc h.P' (fun c j q => e _ _ (by omega)) (fun c j q => er _ _)) (h.ct.fr (fun j => e _ _ (by omega)) (fun j => e _ _ (by omega)) (fun j => er _ _)) (h.cu.fr (fun c j q => e _ _ (by omega)) (fun c j => er c j)) ((e _ _ (by omega)).trans h.st) (fun i hi => (e _ _ (by omega)).trans (h.rf i hi)) ((e _ _ (by omega)).trans h.tn) (fun i hi => (e _ _ (by omega)).trans (h.tp i hi)) ((e _ _ (by omega)).trans h.fa) ((e _ _ (by omega)).trans h.le) ((e _ _ (by omega)).trans h.so) ((e _ _ (by omega)).trans h.dm) (fun i hi _ => hD i hi)
theorem c_harv_L {T : Tt} {V : Vt} {x : HS} {a : St} (ok : OK a) {n s : Nat} (hn : n ≤ 60) (hs : s ≤ 1000003) (h0 : 0 < a.g.n) (h : CR T V x (a.wdm (some a.g.n) a.t.D)) (ct : cTb T V 28 29 a.t) (h25 : V.1 0 25 = nI s) {k : Int32 → Vt → Option (Int32 × Vt)} {R : Int32 × Vt → Prop}
    (hR : ∀ W, CR T W x (a.wdm (some a.g.n) (hvN a.g a.t s n).1.D) → cFr V W → Ret (k (nI (hvN a.g a.t s n).2.2) W) R) : Ret (f_X0_harvests_L76 T 0 (nI n) k fuel (nI 0) (nI 0) V) R := by
  refine lq3 (f_X0_harvests_L76 T 0 (nI n) k) (fun i q z W => q = nI (hvN a.g a.t s i).2.2 ∧ z = nI i ∧ CR T W x (a.wdm (some a.g.n) (hvN a.g a.t s i).1.D) ∧ cTb T W 28 29 (hvN a.g a.t s i).1 ∧ W.1 0 25 = nI (hvN a.g a.t s i).2.1 ∧ cFr V W) n ?_ ?_ fuel _ _ _ (Nat.lt_of_le_of_lt hn (by decide)) ⟨rfl, rfl, h, ct, h25, cFr.rfl'⟩
  · intro i N q z W hi ⟨q1, q2, q3, q4, q5, q6⟩ ih
    subst q1 q2
    have hC := q3.hC
    have hU := q3.hU
    have o := hvN_ok ok.g ok.t ok.y hs h0 i
    have hst := fun (y : 999 ≤ (hvN a.g a.t s i).1.y) => hvN_st y (n - i)
    have hsu : hvN a.g a.t s (i + 1) = if 999 ≤ (hvN a.g a.t s i).1.y then hvN a.g a.t s i else (tEnd a.g (hvS a.g (hvN a.g a.t s i).1 (hvN a.g a.t s i).2.1).1, dw (dw (dw (dw (hvN a.g a.t s i).2.1))), (hvN a.g a.t s i).2.2 + (hvS a.g (hvN a.g a.t s i).1 (hvN a.g a.t s i).2.1).2) := by rw [hvN]
    rw [f_X0_harvests_L76, if_neg (nI_ge hi (by omega)), dr hU.r0_23, rq hC.k28, q4.y]
    by_cases y : 999 ≤ (hvN a.g a.t s i).1.y
    · rw [if_pos (by rw [l999]; exact nI_le y (by omega))]
      have e := hst y
      rw [show i + (n - i) = n by omega] at e
      rw [e] at hR
      exact hR W q3 q6
    · rw [if_neg (by rw [l999]; exact nI_ge (by omega) (by omega)), dr hU.r0_23]
      rw [if_neg y] at hsu
      refine Ret.c (c_harvest ⟨hC, hU, q3.P', ok.g, q3.cf, o.1, q4⟩ q5 o.2.2.1 h0) ?_
      intro r U ⟨u1, u2, u3, u4⟩
      dsimp only at u1 u2 u3 u4
      subst u1
      rw [nI_add, l1, nI_add, sp, sp]
      have hc : cFr W U := ⟨fun c j w => u4.1 _ _ (by omega), fun c j w => u4.2.1 _ _ (by omega), fun c j w => by rw [u4.2.2]⟩
      refine ih _ _ _ ⟨?_, rfl, ?_, ?_, ?_, q6.tr hc⟩
      · rw [hsu]
      · rw [hsu]
        exact q3.dw u4 u2.D
      · rw [hsu]
        exact u2
      · rw [hsu]
        exact u3
  · intro N q z W ⟨q1, q2, q3, q4, q5, q6⟩
    subst q1 q2
    rw [f_X0_harvests_L76, if_pos (nI_le (Nat.le_refl _) (by omega))]
    exact hR W q3 q6
def rHarv (a : St) (s n : Int32) : Int32 := if (iN s 0 1000000 && iN n 1 60) = true then (if a.g.n = 0 then -nI 3 else nI (hvN a.g a.t (ixN s) (ixN n)).2.2) else -nI 1
def oHarv (a : St) (s n : Int32) : St := if (iN s 0 1000000 && iN n 1 60) = true then (if a.g.n = 0 then a.ref 3 else (a.wdm (some a.g.n) (hvN a.g a.t (ixN s) (ixN n)).1.D).wst (nI 0)) else a.ref 1
theorem c_harvests {T : Tt} {V : Vt} {x : HS} {a : St} (h : CR T V x a) (ok : OK a) {s n : Int32} : cOp (f_X0_harvests T V 0 s n) T V (rHarv a s n) (oHarv a s n) := by
  have hC := h.hC
  have hU := h.hU
  have g8 := ok.g.n
  have hn : V.1 2 6 = nI a.g.n := h.cf.n
  rw [f_X0_harvests, rq hC.k0, pc c_in, rHarv, oHarv, show (0 : Int32).toInt = 0 from rfl, show (1000000 : Int32).toInt = 1000000 from rfl]
  simp only [b1_0, f_X0_harvests_J21, f_X0_harvests_J112, cal_id]
  cases hs : iN s 0 1000000 with
  | false => exact c_refuse (w := 1) h (by omega) (by omega)
  | true =>
    rw [if_neg (by decide), pc c_in, Bool.true_and, show (1 : Int32).toInt = 1 from rfl, show (60 : Int32).toInt = 60 from rfl]
    simp only [b1_0]
    cases hm : iN n 1 60 with
    | false => exact c_refuse (w := 1) h (by omega) (by omega)
    | true =>
      obtain ⟨s', rfl, s1, s2, s3⟩ := iN_of hs (by omega)
      obtain ⟨n', rfl, n1, n2, n3⟩ := iN_of hm (by omega)
      rw [if_neg (by decide), if_pos rfl, if_pos rfl, dr hU.r0_2, rq hC.k2, hn, ix_nI s3, ix_nI n3]
      by_cases q : a.g.n = 0
      · rw [if_pos (by rw [q]; rfl), if_pos q, if_pos q]
        exact c_refuse (w := 3) h (by omega) (by omega)
      · rw [if_neg (nI_ne0 (by omega) (by omega)), if_neg q, if_neg q, sp]
        have hU1 : CV (uI V 0 25 (nI s')) := hU.eq3 rfl
        have n6 : (uI V 0 25 (nI s')).1 2 6 = nI a.g.n := by rw [uI1, if_neg (by omega)]; exact hn
        have hU2 : CV (uI (uI V 0 25 (nI s')) 0 24 (nI a.g.n)) := hU.eq3 rfl
        rw [dr hU1.r0_2, rq hC.k2, sp, n6, dr hU2.r0_23, pc (c_table hC hU2)]
        have e0 : ∀ c j, ¬ (c = 0 ∧ (j = 24 ∨ j = 25)) → (uI (uI V 0 25 (nI s')) 0 24 (nI a.g.n)).1 c j = V.1 c j := fun c j w => by rw [uI1, if_neg (by omega), uI1, if_neg (by omega)]
        have ct0 : cTb T (uI (uI V 0 25 (nI s')) 0 24 (nI a.g.n)) 3 4 a.t := h.ct.fr (fun j => e0 _ _ (by omega)) (fun j => e0 _ _ (by omega)) (fun j => rfl)
        have e25 : (uI (uI V 0 25 (nI s')) 0 24 (nI a.g.n)).1 0 25 = nI s' := by rw [uI1, if_neg (by omega), uI1, if_pos ⟨rfl, rfl⟩]
        have e24 : (uI (uI V 0 25 (nI s')) 0 24 (nI a.g.n)).1 0 24 = nI a.g.n := by rw [uI1, if_pos ⟨rfl, rfl⟩]
        have el : (uI (uI V 0 25 (nI s')) 0 24 (nI a.g.n)).2 = V.2 := rfl
        generalize uI (uI V 0 25 (nI s')) 0 24 (nI a.g.n) = X at hU2 e0 ct0 e25 e24 el ⊢
        refine Ret.p (c_takes (t := 28) (d := 29) ⟨hC.k28, hU2.r28_0, hC.k29, hC.n29⟩ ct0 (by omega) (by omega) (by omega)) ?_
        intro W ⟨f, ct⟩
        have e : ∀ c j, ¬ (c = 0 ∧ (j = 24 ∨ j = 25) ∨ c = 29 ∨ c = 28) → W.1 c j = V.1 c j := fun c j w => by rw [f.1 _ _ (by omega), e0 _ _ (by omega)]
        have er : ∀ c j, W.2.2 c j = V.2.2 c j := fun c j => by rw [f.2, el]
        have h2 : CR T W x (a.wdm (some a.g.n) a.t.D) := h.ups (b := a.wdm (some a.g.n) a.t.D) (fun c j w => e _ _ (by omega)) er rfl (h.cf.fc h.P' (fun c j w => e _ _ (by omega)) (fun c j w => er _ _)) (h.ct.fr (fun j => e _ _ (by omega)) (fun j => e _ _ (by omega)) (fun j => er _ _)) (h.cu.fr (fun c j q => e _ _ (by omega)) (fun c j => er c j)) ((e _ _ (by omega)).trans h.st) (fun i hi => (e _ _ (by omega)).trans (h.rf i hi)) ((e _ _ (by omega)).trans h.tn) (fun i hi => (e _ _ (by omega)).trans (h.tp i hi)) ((e _ _ (by omega)).trans h.fa) ((e _ _ (by omega)).trans h.le) ((e _ _ (by omega)).trans h.so) ((f.1 _ _ (by omega)).trans e24) (fun i hi _ => ct.D i hi)
        have fv : cFr V W := ⟨fun c j w => e _ _ (by omega), fun c j w => by rw [f.2, el], fun c j w => er _ _⟩
        refine cOp.fr fv (c_harv_L ok (s := s') (by omega) (by omega) (by omega) h2 ct ((f.1 _ _ (by omega)).trans e25) fun U h3 fu => ?_)
        exact (c_done h3).fr fu
