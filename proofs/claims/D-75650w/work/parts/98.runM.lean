/-! 98: orders that are run, the model -/
set_option maxRecDepth 100000
abbrev sOm (c j : Nat) : Prop := sKm c j ∨ (c = 94 ∧ (j = 20 ∨ j = 46 ∨ j = 47 ∨ j = 49))
theorem sOm_m {V W : Vt} (f : frM sOm lMp V W) : mFr V W := ⟨fun c j q => f.1 _ _ (by omega), fun c j q => f.2.1 _ _ (by omega), f.2.2⟩
theorem MR.fo {V W : Vt} {a : St} (h : MR V a) (og : okG a.g) {S L : Nat → Nat → Prop} (f : frM S L V W) (hS : ∀ c j, S c j → c = 94 ∧ (j = 20 ∨ j = 38 ∨ j = 46 ∨ j = 47 ∨ j = 49)) (hL : ∀ c j, L c j → lMp c j) (od : W.1 94 20 = nI 0) : MR W a := by
  have e : ∀ c j, ¬ (c = 94 ∧ (j = 20 ∨ j = 38 ∨ j = 46 ∨ j = 47 ∨ j = 49)) → W.1 c j = V.1 c j := fun c j w => f.1 _ _ fun q => w (hS c j q)
  exact h.up (b := a) f.2.2 (fun c j q => e _ _ (by omega)) (fun c j q => f.2.1 _ _ fun w => by have := hL _ _ w; omega) rfl (h.mf.fr og (fun j _ _ _ => e _ _ (by omega))) (h.mt.fr (fun j => e _ _ (by omega))) (h.mu.fr (fun c j q => e _ _ (by omega))) ((e _ _ (by omega)).trans h.st) (fun i hi => (e _ _ (by omega)).trans (h.rf i hi)) od ((e _ _ (by omega)).trans h.tn) (fun i hi => (e _ _ (by omega)).trans (h.tp i hi)) ((e _ _ (by omega)).trans h.fa) ((e _ _ (by omega)).trans h.le) ((e _ _ (by omega)).trans h.so) ((e _ _ (by omega)).trans h.dm) (fun i hi q => (e _ _ (by omega)).trans (h.dd i hi q))
theorem MR.mp {T : Tt} {V : Vt} (hT : MT T) {a : St} (h : MR V a) (ok : OK a) : mPp T V a.g a.t := ⟨hT, h.hV, ok.g, h.mf, ok.t, h.mt, by rw [h.od]; exact b0B⟩
/-- orders that are run: what the model has of them -/
abbrev mOr (T : Tt) (V : Vt) (p : Pl) (C : Nat → Nat × Nat) (nc : Nat) (s : Os) : Prop := (MT T) ∧ (MR V s.a) ∧ (mLd V p C nc) ∧ (V.1 94 46 = nI s.dn) ∧ (V.1 94 47 = s.lt)
theorem mOr.T {T : Tt} {V : Vt} {p : Pl} {C : Nat → Nat × Nat} {nc : Nat} {s : Os} (h__ : mOr T V p C nc s) : MT T := h__.1
theorem mOr.m {T : Tt} {V : Vt} {p : Pl} {C : Nat → Nat × Nat} {nc : Nat} {s : Os} (h__ : mOr T V p C nc s) : MR V s.a := h__.2.1
theorem mOr.ld {T : Tt} {V : Vt} {p : Pl} {C : Nat → Nat × Nat} {nc : Nat} {s : Os} (h__ : mOr T V p C nc s) : mLd V p C nc := h__.2.2.1
theorem mOr.dn {T : Tt} {V : Vt} {p : Pl} {C : Nat → Nat × Nat} {nc : Nat} {s : Os} (h__ : mOr T V p C nc s) : V.1 94 46 = nI s.dn := h__.2.2.2.1
theorem mOr.lt {T : Tt} {V : Vt} {p : Pl} {C : Nat → Nat × Nat} {nc : Nat} {s : Os} (h__ : mOr T V p C nc s) : V.1 94 47 = s.lt := h__.2.2.2.2
theorem why_none' {a : St} (ok : OK a) {o : Od} (oko : okO o) (h3 : ¬ o.1 = 3) {v : Vals} (hv : ∀ i, i < 28 → b9 (v i)) (h : sM o v 0 = none ∨ sM o v 1 = none ∨ sM o v 2 = none) : ¬ actW a o v = 0 := by
  have o4 := oko.1
  rw [actW, if_neg h3]
  exact why_none ok.g oko (by omega) hv h
theorem sM_pass {o : Od} (oko : okO o) (h3 : o.1 = 3) {v : Vals} : ¬ (sM o v 0 = none ∨ sM o v 1 = none ∨ sM o v 2 = none) := by
  have hn : ∀ k, k < 3 → o.2.1 k = none := fun k hk => by
    have := (oko.2.1 k hk)
    cases hq : o.2.1 k with
    | none => rfl
    | some s =>
      have h := this.mpr (by rw [hq]; exact fun w => nomatch w)
      rw [h3] at h
      have : k = 0 ∨ k = 1 ∨ k = 2 := by omega
      rcases this with e | e | e <;> subst e <;> exact absurd h (by decide)
  intro h
  rcases h with h | h | h
  · exact sM_no (by rw [sl00]; exact hn 0 (by omega)) h
  · exact sM_no (by rw [slM, if_neg (by omega), if_pos rfl, if_neg (by omega)]) h
  · exact sM_no (by rw [slM, if_neg (by omega), if_neg (by omega), if_neg (by omega), if_neg (by omega)]) h
theorem m_actA {T : Tt} {V : Vt} (hT : MT T) {a : St} (h : MR V a) (ok : OK a) {o : Od} (oko : okO o) {v : Vals} (hv : ∀ i, i < 28 → b9 (v i)) {x y z : Int32} (e1 : sM o v 0 = some x) (e2 : sM o v 1 = some y) (e3 : sM o v 2 = some z) :
    Ret (f_X5_act T V 94 (nI o.1) x y z) fun p => (if actW a o v = 0 then p.1 = actR a o v else ¬ 0 ≤ p.1) ∧ MR p.2 (actN a o v) ∧ frM sKm lF V p.2 := by
  have hg := ok.g
  have o4 := oko.1
  have key : ∀ {r : Int32} {b : St} {f : Option (Int32 × Vt)}, nOp f V r b → (actW a o v = 0 → r = actR a o v ∧ b = actN a o v) → (¬ actW a o v = 0 → ¬ 0 ≤ r ∧ b = a) → Ret f fun p => (if actW a o v = 0 then p.1 = actR a o v else ¬ 0 ≤ p.1) ∧ MR p.2 (actN a o v) ∧ frM sKm lF V p.2 := by
    intro r b f hn h1 h2
    refine hn.im fun p ⟨q1, q2, q3⟩ => ?_
    by_cases w : actW a o v = 0
    · obtain ⟨a1, a2⟩ := h1 w
      rw [if_pos w]
      exact ⟨q1.trans a1, by rw [← a2]; exact q2, q3⟩
    · obtain ⟨a1, a2⟩ := h2 w
      rw [if_neg w, (act_no w).2]
      exact ⟨by rw [q1]; exact a1, by rw [← a2]; exact q2, q3⟩
  have hng : ∀ w, ¬ w = 0 → w ≤ 3 → ¬ 0 ≤ (-nI w : Int32) := fun w w1 w2 => by
    rw [ng_0 (by omega)]
    exact w1
  rw [f_X5_act, rq hT.1]
  have h1 : o.1 = 0 ∨ o.1 = 1 ∨ o.1 = 2 ∨ o.1 = 3 := by omega
  rcases h1 with q | q | q | q
  · have s0 := (sM_sim oko hv (k := 0) (j := 0) (by omega) (by rw [q]; rfl) sl00).1 x e1
    have s1 := (sM_sim oko hv (k := 1) (j := 2) (by omega) (by rw [q]; rfl) (sl02 q)).1 z e3
    have ew : actW a o v = whyP a.g a.t (sO o v 1) (sO o v 0) := by rw [actW, if_neg (by omega), whyO, if_pos q]
    rw [if_pos (by rw [q]; rfl), cal_id]
    refine key (m_pourNow hT h ok) (fun w => ?_) (fun w => ?_)
    · rw [ew] at w
      obtain ⟨ea, eb⟩ := whyP_s hg s1 s0 w
      rw [actR, if_neg (by omega), if_pos q, actN, if_neg (by omega), if_pos q, ea, eb]
      exact ⟨rfl, rfl⟩
    · rw [ew] at w
      have w' := whyP_ne hg s1 s0 w
      rw [rP, nP, if_neg w', if_neg w']
      exact ⟨hng _ w' whyP_le, rfl⟩
  · have s0 := (sM_sim oko hv (k := 0) (j := 0) (by omega) (by rw [q]; rfl) sl00).1 x e1
    have s1 := (sM_sim oko hv (k := 1) (j := 1) (by omega) (by rw [q]; rfl) (sl11 (Or.inl q))).1 y e2
    have s2 := (sM_sim oko hv (k := 2) (j := 2) (by omega) (by rw [q]; rfl) (sl12 q)).1 z e3
    have ew : actW a o v = whyR a.g a.t (sO o v 1) (sO o v 2) (sO o v 0) := by rw [actW, if_neg (by omega), whyO, if_neg (by omega), if_pos q]
    rw [if_neg (by rw [q]; decide), if_pos (by rw [q]; rfl), cal_id]
    refine key (m_rackNow hT h ok) (fun w => ?_) (fun w => ?_)
    · rw [ew] at w
      obtain ⟨ea, eb, ec⟩ := whyR_s hg s1 s2 s0 w
      rw [actR, if_neg (by omega), if_neg (by omega), if_pos q, actN, if_neg (by omega), if_neg (by omega), if_pos q, ea, eb, ec]
      exact ⟨rfl, rfl⟩
    · rw [ew] at w
      have w' := whyR_ne hg s1 s2 s0 w
      rw [rR, nR, if_neg w', if_neg w']
      exact ⟨hng _ w' whyR_le, rfl⟩
  · have s0 := (sM_sim oko hv (k := 0) (j := 0) (by omega) (by rw [q]; rfl) sl00).1 x e1
    have s1 := (sM_sim oko hv (k := 1) (j := 1) (by omega) (by rw [q]; rfl) (sl11 (Or.inr q))).1 y e2
    have ew : actW a o v = whyB a.g a.t (sO o v 1) (sO o v 0) := by rw [actW, if_neg (by omega), whyO, if_neg (by omega), if_neg (by omega)]
    rw [if_neg (by rw [q]; decide), if_neg (by rw [q]; decide), if_pos (by rw [q]; rfl), cal_id]
    refine key (m_bottleNow hT h ok) (fun w => ?_) (fun w => ?_)
    · rw [ew] at w
      obtain ⟨ea, eb⟩ := whyB_s hg s1 s0 w
      rw [actR, if_neg (by omega), if_neg (by omega), if_neg (by omega), actN, if_neg (by omega), if_neg (by omega), if_neg (by omega), ea, eb]
      exact ⟨rfl, rfl⟩
    · rw [ew] at w
      have w' := whyB_ne hg s1 s0 w
      rw [rB, nB, if_neg w', if_neg w']
      exact ⟨hng _ w' whyB_le, rfl⟩
  · rw [if_neg (by rw [q]; decide), if_neg (by rw [q]; decide), if_neg (by rw [q]; decide), cal_id]
    refine key (m_passNow hT h ok) (fun w => ?_) (fun w => ?_)
    · rw [actR, if_pos q, actN, if_pos q]
      exact ⟨rfl, rfl⟩
    · have := act_no w
      rw [actR, if_pos q, actN, if_pos q] at this
      exact this
set_option maxHeartbeats 1000000 in
theorem m_runOnce {T : Tt} {V : Vt} {a : St} {p : Pl} {C : Nat → Nat × Nat} {nc : Nat} {s : Os} {d : Nat} (h : mOr T V p C nc s) (hq : okE a s d) (hd : d ≤ 1000000) (hn : ∀ o, 1 ≤ o → o < 5 → V.2.1 113 o = vS s (o - 1)) (h49 : V.1 94 49 = nI 0) {i : Nat} (hi : i < p.1) (oko : okO (p.2 i)) :
    Ret (f_X5_runOnce T V 94 (nI (10 * i))) fun q => frM sOm lMp V q.2 ∧ if actW s.a (p.2 i) (vS s) = 0 then q.1 = nI 0 ∧ mOr T q.2 p C nc ⟨actN s.a (p.2 i) (vS s), s.dn + 1, if (p.2 i).1 = 2 then actR s.a (p.2 i) (vS s) else s.lt⟩ else q.1 = -nI 3 ∧ MR q.2 s.a := by
  have hT := h.T
  have hb12 := h.ld.b
  have hv := hq.v hd
  have o4 := oko.1
  rw [f_X5_runOnce, rq hT.1]
  refine m_sums (h.m.mp hT hq.ok) hn h.m.od h.ld hi h49 ?_ ?_
  · intro x y z W e1 e2 e3 f w20 w49
    have fW : frM sOm lMp V W := f.mono (fun c j w => by omega) (fun c j w => by omega)
    have hW : MR W s.a := h.m.fo hq.ok.g f (fun c j w => by omega) (fun c j w => by omega) w20
    have ldW : mLd W p C nc := h.ld.fr fun c j w => f.1 _ _ (by omega)
    have h0 : ∀ X, mLd X p C nc → X.1 117 (ixN (nI (10 * i))) = nI (p.2 i).1 := fun X q => by
      rw [ix_nI (by omega)]
      exact (q.o i hi).1
    rw [if_pos (show W.1 94 49 = (0 : Int32) from w49), dr (rf45 hW.hV), rq117 hT (by omega), h0 W ldW]
    refine Ret.c (m_actA hT hW hq.ok oko hv e1 e2 e3) ?_
    intro r X ⟨c1, hX, fX⟩
    dsimp only at c1 hX fX
    have fX' : frM sOm lMp W X := fX.mono (fun _ _ w => Or.inl w) (fun _ _ w => Or.inl w)
    by_cases w : actW s.a (p.2 i) (vS s) = 0
    · rw [if_pos w] at c1
      subst c1
      have ldX : mLd X p C nc := ldW.fr fun c j w => fX.1 _ _ (by omega)
      have x46 : X.1 94 46 = nI s.dn := (fX.1 _ _ (by omega)).trans ((f.1 _ _ (by omega)).trans h.dn)
      have x47 : X.1 94 47 = s.lt := (fX.1 _ _ (by omega)).trans ((f.1 _ _ (by omega)).trans h.lt)
      have okN := actN_ok hq.ok (o := p.2 i) (v := vS s)
      rw [if_pos (actR_pos hq.ok w), dr (rf45 hX.hV), rq117 hT (by omega), h0 X ldX]
      have fin : ∀ l : Int32, l = (if (p.2 i).1 = 2 then actR s.a (p.2 i) (vS s) else s.lt) → Ret (f_X5_runOnce_J79 T X 94 94 l) fun q => frM sOm lMp V q.2 ∧ q.1 = nI 0 ∧ mOr T q.2 p C nc ⟨actN s.a (p.2 i) (vS s), s.dn + 1, if (p.2 i).1 = 2 then actR s.a (p.2 i) (vS s) else s.lt⟩ := by
        intro l el
        have u46 : (uI X 94 47 l).1 94 46 = nI s.dn := by rw [uI1, if_neg (by omega)]; exact x46
        rw [f_X5_runOnce_J79, rq hT.1, sp, u46, show nI s.dn + (1 : Int32) = nI (s.dn + 1) from nI_add _ _, sp]
        have eU : ∀ c j, ¬ (c = 94 ∧ (j = 46 ∨ j = 47)) → (uI (uI X 94 47 l) 94 46 (nI (s.dn + 1))).1 c j = X.1 c j := fun c j w => by rw [uI1, if_neg (by omega), uI1, if_neg (by omega)]
        have fU : frM (fun c j => c = 94 ∧ (j = 46 ∨ j = 47)) nF X (uI (uI X 94 47 l) 94 46 (nI (s.dn + 1))) := ⟨eU, fun _ _ _ => rfl, rfl⟩
        refine Ret.ok ⟨(fW.t fX').t (fU.mono (fun c j w => by omega) (fun _ _ w => absurd w id)), rfl, ⟨hT, hX.fo okN.g fU (fun c j w => by omega) (fun _ _ w => absurd w id) ((eU _ _ (by omega)).trans hX.od), ldX.fr fun c j w => eU _ _ (by omega), ?_, ?_⟩⟩
        · rw [uI1, if_pos ⟨rfl, rfl⟩]
        · rw [uI1, if_neg (by omega), uI1, if_pos ⟨rfl, rfl⟩]
          exact el
      by_cases q2 : (p.2 i).1 = 2
      · rw [if_pos (by rw [q2]; rfl)]
        exact (fin _ (by rw [if_pos q2])).im fun q hh => ⟨hh.1, by rw [if_pos w]; exact hh.2⟩
      · rw [if_neg (by rw [l2, nI_eq (by omega) (by omega)]; exact q2), x47]
        exact (fin _ (by rw [if_neg q2])).im fun q hh => ⟨hh.1, by rw [if_pos w]; exact hh.2⟩
    · rw [if_neg w] at c1
      rw [(act_no w).2] at hX
      rw [if_neg c1]
      exact Ret.ok ⟨fW.t fX', by rw [if_neg w]; exact ⟨rfl, hX⟩⟩
  · intro hn0 x y z W f w20 w49
    have fW : frM sOm lMp V W := f.mono (fun c j w => by omega) (fun c j w => by omega)
    have hW : MR W s.a := h.m.fo hq.ok.g f (fun c j w => by omega) (fun c j w => by omega) w20
    have w : ¬ actW s.a (p.2 i) (vS s) = 0 := by
      by_cases q3 : (p.2 i).1 = 3
      · exact absurd hn0 (sM_pass oko q3)
      · exact why_none' hq.ok oko q3 hv hn0
    rw [if_neg (by rw [w49]; decide)]
    exact Ret.ok ⟨fW, by rw [if_neg w]; exact ⟨rfl, hW⟩⟩
