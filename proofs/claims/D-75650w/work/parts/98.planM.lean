/-! 98: an order on paper, the model -/
set_option maxRecDepth 100000
theorem sl00 {o : Od} : slM o 0 = o.2.1 0 := by rw [slM, if_pos rfl]
theorem sl02 {o : Od} (q : o.1 = 0) : slM o 2 = o.2.1 1 := by rw [slM, if_neg (by omega), if_neg (by omega), if_pos q]
theorem sl01 {o : Od} (q : o.1 = 0) : slM o 1 = none := by rw [slM, if_neg (by omega), if_pos rfl, if_neg (by omega)]
theorem sl11 {o : Od} (q : o.1 = 1 ∨ o.1 = 2) : slM o 1 = o.2.1 1 := by rw [slM, if_neg (by omega), if_pos rfl, if_pos q]
theorem sl12 {o : Od} (q : o.1 = 1) : slM o 2 = o.2.1 2 := by rw [slM, if_neg (by omega), if_neg (by omega), if_neg (by omega), if_pos q]
theorem sl22 {o : Od} (q : o.1 = 2) : slM o 2 = none := by rw [slM, if_neg (by omega), if_neg (by omega), if_neg (by omega), if_neg (by omega)]
theorem sM_no {o : Od} {v : Vals} {j : Nat} (e : slM o j = none) : ¬ sM o v j = none := by
  rw [sM, e]
  exact fun w => by cases w
theorem why_none {g : Cfg} (hg : okG g) {b : Tab} {o : Od} (ok : okO o) (h3 : o.1 < 3) {v : Vals} (hv : ∀ i, i < 28 → b9 (v i)) (h : sM o v 0 = none ∨ sM o v 1 = none ∨ sM o v 2 = none) : ¬ whyO g b o v = 0 := by
  intro w
  rw [whyO] at w
  have h1 : o.1 = 0 ∨ o.1 = 1 ∨ o.1 = 2 := by omega
  have s0 := sM_sim ok hv (k := 0) (j := 0) (by omega) (by rcases h1 with e | e | e <;> rw [e] <;> rfl) sl00
  rcases h1 with q | q | q
  · have s1 := sM_sim ok hv (k := 1) (j := 2) (by omega) (by rw [q]; rfl) (sl02 q)
    rw [if_pos q] at w
    have n := whyP_n hg w
    rcases h with h | h | h
    · exact n.2 (s0.2 h)
    · exact sM_no (sl01 q) h
    · exact n.1 (s1.2 h)
  · have s1 := sM_sim ok hv (k := 1) (j := 1) (by omega) (by rw [q]; rfl) (sl11 (Or.inl q))
    have s2 := sM_sim ok hv (k := 2) (j := 2) (by omega) (by rw [q]; rfl) (sl12 q)
    rw [if_neg (by omega), if_pos q] at w
    have n := whyR_n hg w
    rcases h with h | h | h
    · exact n.2.2 (s0.2 h)
    · exact n.1 (s1.2 h)
    · exact n.2.1 (s2.2 h)
  · have s1 := sM_sim ok hv (k := 1) (j := 1) (by omega) (by rw [q]; rfl) (sl11 (Or.inr q))
    rw [if_neg (by omega), if_neg (by omega)] at w
    have n := whyB_n hg w
    rcases h with h | h | h
    · exact n.2 (s0.2 h)
    · exact n.1 (s1.2 h)
    · exact sM_no (sl22 q) h
abbrev sMp (c j : Nat) : Prop := sPm c j ∨ (c = 94 ∧ (j = 20 ∨ j = 46 ∨ j = 47 ∨ j = 49 ∨ j = 50))
abbrev lMp (c j : Nat) : Prop := lF c j ∨ c = 113
abbrev mPr (T : Tt) (V : Vt) (g : Cfg) (p : Pl) (C : Nat → Nat × Nat) (nc : Nat) (s : Pp) : Prop := (mPp T V g s.b) ∧ (mLd V p C nc) ∧ (V.1 94 46 = nI s.dn) ∧ (V.1 94 47 = s.lt) ∧ (V.1 94 50 = b1 s.sk) ∧ (V.1 94 42 = s.yl) ∧ (V.1 94 43 = nI (s.lm.getD 100000000)) ∧ (V.1 94 20 = nI 0)
theorem mPr.h {T : Tt} {V : Vt} {g : Cfg} {p : Pl} {C : Nat → Nat × Nat} {nc : Nat} {s : Pp} (h__ : mPr T V g p C nc s) : mPp T V g s.b := h__.1
theorem mPr.ld {T : Tt} {V : Vt} {g : Cfg} {p : Pl} {C : Nat → Nat × Nat} {nc : Nat} {s : Pp} (h__ : mPr T V g p C nc s) : mLd V p C nc := h__.2.1
theorem mPr.dn {T : Tt} {V : Vt} {g : Cfg} {p : Pl} {C : Nat → Nat × Nat} {nc : Nat} {s : Pp} (h__ : mPr T V g p C nc s) : V.1 94 46 = nI s.dn := h__.2.2.1
theorem mPr.lt {T : Tt} {V : Vt} {g : Cfg} {p : Pl} {C : Nat → Nat × Nat} {nc : Nat} {s : Pp} (h__ : mPr T V g p C nc s) : V.1 94 47 = s.lt := h__.2.2.2.1
theorem mPr.sk {T : Tt} {V : Vt} {g : Cfg} {p : Pl} {C : Nat → Nat × Nat} {nc : Nat} {s : Pp} (h__ : mPr T V g p C nc s) : V.1 94 50 = b1 s.sk := h__.2.2.2.2.1
theorem mPr.yl {T : Tt} {V : Vt} {g : Cfg} {p : Pl} {C : Nat → Nat × Nat} {nc : Nat} {s : Pp} (h__ : mPr T V g p C nc s) : V.1 94 42 = s.yl := h__.2.2.2.2.2.1
theorem mPr.lm {T : Tt} {V : Vt} {g : Cfg} {p : Pl} {C : Nat → Nat × Nat} {nc : Nat} {s : Pp} (h__ : mPr T V g p C nc s) : V.1 94 43 = nI (s.lm.getD 100000000) := h__.2.2.2.2.2.2.1
theorem mPr.od {T : Tt} {V : Vt} {g : Cfg} {p : Pl} {C : Nat → Nat × Nat} {nc : Nat} {s : Pp} (h__ : mPr T V g p C nc s) : V.1 94 20 = nI 0 := h__.2.2.2.2.2.2.2
theorem mn_m {l : Option Nat} {m : Nat} (h : ∀ k, l = some k → k ≤ 19000) (hm : m ≤ 19000) : mnI (nI (l.getD 100000000)) (nI m) = nI (mnN l m) := by
  rw [mnI]
  cases l with
  | none => exact if_neg (by rw [Option.getD_none, nI_leI (by omega) (by omega)]; omega)
  | some k =>
    have := h k rfl
    rw [Option.getD_some, mnN]
    by_cases q : m < k
    · rw [if_neg (by rw [nI_leI (by omega) (by omega)]; omega), if_pos q]
    · rw [if_pos (by rw [nI_leI (by omega) (by omega)]; omega), if_neg q]
abbrev mPs (T : Tt) (V : Vt) (g : Cfg) (p : Pl) (C : Nat → Nat × Nat) (nc : Nat) (s : Pp) : Prop := (mPp T V g s.b) ∧ (mLd V p C nc) ∧ (V.1 94 42 = s.yl) ∧ (V.1 94 43 = nI (s.lm.getD 100000000)) ∧ (V.1 94 20 = nI 0)
theorem mPs.h {T : Tt} {V : Vt} {g : Cfg} {p : Pl} {C : Nat → Nat × Nat} {nc : Nat} {s : Pp} (h__ : mPs T V g p C nc s) : mPp T V g s.b := h__.1
theorem mPs.ld {T : Tt} {V : Vt} {g : Cfg} {p : Pl} {C : Nat → Nat × Nat} {nc : Nat} {s : Pp} (h__ : mPs T V g p C nc s) : mLd V p C nc := h__.2.1
theorem mPs.yl {T : Tt} {V : Vt} {g : Cfg} {p : Pl} {C : Nat → Nat × Nat} {nc : Nat} {s : Pp} (h__ : mPs T V g p C nc s) : V.1 94 42 = s.yl := h__.2.2.1
theorem mPs.lm {T : Tt} {V : Vt} {g : Cfg} {p : Pl} {C : Nat → Nat × Nat} {nc : Nat} {s : Pp} (h__ : mPs T V g p C nc s) : V.1 94 43 = nI (s.lm.getD 100000000) := h__.2.2.2.1
theorem mPs.od {T : Tt} {V : Vt} {g : Cfg} {p : Pl} {C : Nat → Nat × Nat} {nc : Nat} {s : Pp} (h__ : mPs T V g p C nc s) : V.1 94 20 = nI 0 := h__.2.2.2.2
theorem mPr.s {T : Tt} {V : Vt} {g : Cfg} {p : Pl} {C : Nat → Nat × Nat} {nc : Nat} {s : Pp} (h : mPr T V g p C nc s) : mPs T V g p C nc s := ⟨h.h, h.ld, h.yl, h.lm, h.od⟩
theorem mPs.aft {T : Tt} {V W : Vt} {g : Cfg} {p : Pl} {C : Nat → Nat × Nat} {nc : Nat} {s s' : Pp} (h : mPs T V g p C nc s) {S : Nat → Nat → Prop} (f : frM S lMp V W) (hS : ∀ c j, S c j → sMp c j) (hb : okB g s'.b) (mt : mTb W s'.b) (e1 : W.1 94 46 = nI s'.dn) (e2 : W.1 94 47 = s'.lt) (e3 : W.1 94 50 = b1 s'.sk) (e4 : W.1 94 42 = s'.yl) (e5 : W.1 94 43 = nI (s'.lm.getD 100000000)) (e6 : W.1 94 20 = nI 0) : mPr T W g p C nc s' := by
  refine ⟨⟨h.h.T, h.h.V.eq3 f.2.2, h.h.g, h.h.mf.fr h.h.g (fun j w1 w2 w3 => f.1 _ _ fun w => ?_), hb, mt, by rw [e6]; exact b0B⟩, h.ld.fr fun c j w => f.1 _ _ fun q => ?_, e1, e2, e3, e4, e5, e6⟩
  · have := hS _ _ w
    omega
  · have := hS _ _ q
    omega
theorem mPr.aft {T : Tt} {V W : Vt} {g : Cfg} {p : Pl} {C : Nat → Nat × Nat} {nc : Nat} {s s' : Pp} (h : mPr T V g p C nc s) {S : Nat → Nat → Prop} (f : frM S lMp V W) (hS : ∀ c j, S c j → sMp c j) (hb : okB g s'.b) (mt : mTb W s'.b) (e1 : W.1 94 46 = nI s'.dn) (e2 : W.1 94 47 = s'.lt) (e3 : W.1 94 50 = b1 s'.sk) (e4 : W.1 94 42 = s'.yl) (e5 : W.1 94 43 = nI (s'.lm.getD 100000000)) (e6 : W.1 94 20 = nI 0) : mPr T W g p C nc s' := h.s.aft f hS hb mt e1 e2 e3 e4 e5 e6
def skO (s : Pp) (b : Bool) : Pp := ⟨s.b, s.dn, s.lt, b, s.yl, s.lm⟩
set_option maxHeartbeats 1000000 in
theorem m_planOnce {T : Tt} {V : Vt} {g : Cfg} {p : Pl} {C : Nat → Nat × Nat} {nc : Nat} {s : Pp} {d e : Nat} (h : mPr T V g p C nc s) (hq : okQ g s d e) (hd : d ≤ 1000000) (hn : ∀ o, 1 ≤ o → o < 5 → V.2.1 113 o = vP g s (o - 1)) (h49 : V.1 94 49 = nI 0) {i : Nat} (hi : i < p.1) (ok : okO (p.2 i)) (h3 : (p.2 i).1 < 3) :
    Ret (f_X5_planOnce T V 94 (nI (10 * i))) fun q => q.1 = (if whyO g s.b (p.2 i) (vP g s) = 0 then nI 0 else -nI 3) ∧ frM sMp lMp V q.2 ∧ mPr T q.2 g p C nc (skO (pAct g s (p.2 i) (vP g s)) s.sk) := by
  have hT := h.h.T
  have hg := h.h.g
  have g8 := hg.n
  have hb12 := h.ld.b
  have hv := hq.v hg hd
  rw [f_X5_planOnce, rq hT.1]
  refine m_sums h.h hn h.od h.ld hi h49 ?_ ?_
  · intro x y z W e1 e2 e3 f w20 w49
    have fW : frM sMp lMp V W := f.mono (fun c j w => by omega) (fun c j w => by omega)
    have hW : mPr T W g p C nc s := h.aft fW (fun _ _ w => w) hq.b (h.h.mt.fr fun j => f.1 _ _ (by omega)) ((f.1 _ _ (by omega)).trans h.dn) ((f.1 _ _ (by omega)).trans h.lt) ((f.1 _ _ (by omega)).trans h.sk) ((f.1 _ _ (by omega)).trans h.yl) ((f.1 _ _ (by omega)).trans h.lm) w20
    have h0 : W.1 117 (ixN (nI (10 * i))) = nI (p.2 i).1 := by
      rw [ix_nI (by omega)]
      exact (hW.ld.o i hi).1
    have h1 : (p.2 i).1 = 0 ∨ (p.2 i).1 = 1 ∨ (p.2 i).1 = 2 := by omega
    have s0 := (sM_sim ok hv (k := 0) (j := 0) (by omega) (by rcases h1 with e | e | e <;> rw [e] <;> rfl) sl00).1 x e1
    have hno : ∀ X : Vt, ¬ whyO g s.b (p.2 i) (vP g s) = 0 → frM sMp lMp W X → mPr T X g p C nc s → Ret (some (-nI 3, X)) fun q : Int32 × Vt => q.1 = (if whyO g s.b (p.2 i) (vP g s) = 0 then nI 0 else -nI 3) ∧ frM sMp lMp V q.2 ∧ mPr T q.2 g p C nc (skO (pAct g s (p.2 i) (vP g s)) s.sk) := by
      intro X w f2 hX
      refine Ret.ok ⟨by rw [if_neg w], fW.t f2, ?_⟩
      rw [pAct, if_neg w]
      exact hX
    have fin : ∀ (X : Vt) (s' : Pp), whyO g s.b (p.2 i) (vP g s) = 0 → frM sMp lMp W X → X.1 94 46 = nI s.dn → (∀ U, frM sMp lMp W U → U.1 94 46 = nI (s.dn + 1) → (∀ c j, ¬ (c = 94 ∧ j = 46) → U.1 c j = X.1 c j) → U.2 = X.2 → mPr T U g p C nc s') → skO (pAct g s (p.2 i) (vP g s)) s.sk = s' → Ret (f_X5_planOnce_J135 T X 94) fun q : Int32 × Vt => q.1 = (if whyO g s.b (p.2 i) (vP g s) = 0 then nI 0 else -nI 3) ∧ frM sMp lMp V q.2 ∧ mPr T q.2 g p C nc (skO (pAct g s (p.2 i) (vP g s)) s.sk) := by
      intro X s' w f2 w46 hU es
      rw [f_X5_planOnce_J135, w46, show nI s.dn + (1 : Int32) = nI (s.dn + 1) from nI_add _ _, sp, es]
      have f3 : frM sMp lMp W (uI X 94 46 (nI (s.dn + 1))) := ⟨fun c j z => by rw [uI1, if_neg (by omega)]; exact f2.1 c j z, f2.2.1, f2.2.2⟩
      exact Ret.ok ⟨by rw [if_pos w]; rfl, fW.t f3, hU _ f3 (by rw [uI1, if_pos ⟨rfl, rfl⟩]) (fun c j z => by rw [uI1, if_neg z]) rfl⟩
    rw [if_pos (show W.1 94 49 = (0 : Int32) from w49), dr (rf45 hW.h.V), rq117 hT (by omega), h0, sp]
    rcases h1 with q | q | q
    · have s1 := (sM_sim ok hv (k := 1) (j := 2) (by omega) (by rw [q]; rfl) (sl02 q)).1 z e3
      have ew : whyO g s.b (p.2 i) (vP g s) = whyP g s.b (sO (p.2 i) (vP g s) 1) (sO (p.2 i) (vP g s) 0) := by rw [whyO, if_pos q]
      have hl := whyP_le (g := g) (t := s.b) (c := z) (n := x)
      rw [q, if_pos (by decide), pc (m_whyPour hT hW.h.V hg hW.h.mf hW.h.b hW.h.mt), f_X5_planOnce_J81]
      by_cases w : whyP g s.b (sO (p.2 i) (vP g s) 1) (sO (p.2 i) (vP g s) 0) = 0
      · obtain ⟨ea, eb⟩ := whyP_s hg s1 s0 w
        obtain ⟨c', n', f1, f2, w1, w2, w3, w4⟩ := whyP_0 hg w
        have w5 := of_decide_eq_true w4
        have hz := hg.sz c' w1
        have ez := ea.symm.trans f1
        have ex := eb.symm.trans f2
        have w' := w
        rw [f1, f2, ← ez, ← ex] at w'
        rw [ng_p w', if_pos (by decide), ez, ex]
        refine Ret.c (m_pourIt hT hW.h.V hW.h.mt (by omega) (by omega)) ?_
        intro r X ⟨_, fX, mt⟩
        dsimp only at fX mt
        have fX' : frM sMp lMp W X := fX.mono (fun c j z => by omega) (fun _ _ z => absurd z id)
        refine fin X ⟨tPour s.b c' n', s.dn + 1, s.lt, s.sk, s.yl, s.lm⟩ (ew.trans w) fX' ((fX.1 _ _ (by omega)).trans hW.dn) (fun U f5 u46 u u2 => ?_) ?_
        · exact hW.aft f5 (fun _ _ z => z) (ok_pour hq.b w4) (mt.fr fun j => u _ _ (by omega)) u46 ((u _ _ (by omega)).trans ((fX.1 _ _ (by omega)).trans hW.lt)) ((u _ _ (by omega)).trans ((fX.1 _ _ (by omega)).trans hW.sk)) ((u _ _ (by omega)).trans ((fX.1 _ _ (by omega)).trans hW.yl)) ((u _ _ (by omega)).trans ((fX.1 _ _ (by omega)).trans hW.lm)) ((u _ _ (by omega)).trans ((fX.1 _ _ (by omega)).trans hW.od))
        · rw [pAct, ew, if_pos w, if_pos q, f1, f2, ix_nI (by omega), ix_nI (by omega)]
          rfl
      · rw [ng_r (by omega) (whyP_ne hg s1 s0 w)]
        exact hno W (by rw [ew]; exact w) frM.rfl' hW
    · have s1 := (sM_sim ok hv (k := 1) (j := 1) (by omega) (by rw [q]; rfl) (sl11 (Or.inl q))).1 y e2
      have s2 := (sM_sim ok hv (k := 2) (j := 2) (by omega) (by rw [q]; rfl) (sl12 q)).1 z e3
      have ew : whyO g s.b (p.2 i) (vP g s) = whyR g s.b (sO (p.2 i) (vP g s) 1) (sO (p.2 i) (vP g s) 2) (sO (p.2 i) (vP g s) 0) := by rw [whyO, if_neg (by omega), if_pos q]
      have hl := whyR_le (g := g) (t := s.b) (f := y) (o := z) (n := x)
      rw [q, if_neg (by decide), if_pos (by decide)]
      refine Ret.c (m_whyRack hT hW.h.V hg hW.h.mf hW.h.b hW.h.mt hW.h.o) ?_
      intro r X ⟨er, fr⟩
      dsimp only at er fr
      subst er
      have fX : frM sMp lMp W X := fr.mono (fun c j z => by omega) (fun _ _ z => Or.inl z)
      have hX : mPr T X g p C nc s := hW.aft fX (fun _ _ w => w) hq.b (hW.h.mt.fr fun j => fr.1 _ _ (by omega)) ((fr.1 _ _ (by omega)).trans hW.dn) ((fr.1 _ _ (by omega)).trans hW.lt) ((fr.1 _ _ (by omega)).trans hW.sk) ((fr.1 _ _ (by omega)).trans hW.yl) ((fr.1 _ _ (by omega)).trans hW.lm) ((fr.1 _ _ (by omega)).trans hW.od)
      rw [f_X5_planOnce_J81]
      by_cases w : whyR g s.b (sO (p.2 i) (vP g s) 1) (sO (p.2 i) (vP g s) 2) (sO (p.2 i) (vP g s) 0) = 0
      · obtain ⟨ea, eb, ec⟩ := whyR_s hg s1 s2 s0 w
        obtain ⟨f', o', n', f1, f2, f3, w1, w2, w3, w4, w5, w6, w7⟩ := whyR_0 hg w
        have hr := of_decide_eq_true w7
        have hz := hg.sz o' w2
        have ey := ea.symm.trans f1
        have ez := eb.symm.trans f2
        have ex := ec.symm.trans f3
        have w' := w
        rw [f1, f2, f3, ← ey, ← ez, ← ex] at w'
        rw [ng_p w', if_neg (by decide), if_pos (by decide), ey, ez, ex]
        refine Ret.c (m_rackIt hT hX.h.V hX.h.mt (by omega) (by omega) w5 (by omega) w4 (gvs_l w6) (hq.b.a hg w1) (by omega)) ?_
        intro r Y ⟨_, fY, mt⟩
        dsimp only at fY mt
        have fY' : frM sMp lMp X Y := fY.mono (fun c j z => by omega) (fun _ _ z => absurd z id)
        refine fin Y ⟨tRack s.b f' o' n', s.dn + 1, s.lt, s.sk, s.yl, s.lm⟩ (ew.trans w) (fX.t fY') ((fY.1 _ _ (by omega)).trans hX.dn) (fun U f5 u46 u u2 => ?_) ?_
        · exact hW.aft f5 (fun _ _ z => z) (ok_rack hq.b w5 w6 w7) (mt.fr fun j => u _ _ (by omega)) u46 ((u _ _ (by omega)).trans ((fY.1 _ _ (by omega)).trans hX.lt)) ((u _ _ (by omega)).trans ((fY.1 _ _ (by omega)).trans hX.sk)) ((u _ _ (by omega)).trans ((fY.1 _ _ (by omega)).trans hX.yl)) ((u _ _ (by omega)).trans ((fY.1 _ _ (by omega)).trans hX.lm)) ((u _ _ (by omega)).trans ((fY.1 _ _ (by omega)).trans hX.od))
        · rw [pAct, ew, if_pos w, if_neg (by omega), if_pos q, f1, f2, f3, ix_nI (by omega), ix_nI (by omega), ix_nI (by omega)]
          rfl
      · rw [ng_r (by omega) (whyR_ne hg s1 s2 s0 w)]
        exact hno X (by rw [ew]; exact w) fX hX
    · have s1 := (sM_sim ok hv (k := 1) (j := 1) (by omega) (by rw [q]; rfl) (sl11 (Or.inr q))).1 y e2
      have ew : whyO g s.b (p.2 i) (vP g s) = whyB g s.b (sO (p.2 i) (vP g s) 1) (sO (p.2 i) (vP g s) 0) := by rw [whyO, if_neg (by omega), if_neg (by omega)]
      have hl := whyB_le (g := g) (t := s.b) (c := y) (n := x)
      rw [q, if_neg (by decide), if_neg (by decide)]
      refine Ret.c (m_whyBottle hT hW.h.V hg hW.h.mf hW.h.b hW.h.mt hW.h.o) ?_
      intro r X ⟨er, fr⟩
      dsimp only at er fr
      subst er
      have fX : frM sMp lMp W X := fr.mono (fun c j z => by omega) (fun _ _ z => Or.inl z)
      have hX : mPr T X g p C nc s := hW.aft fX (fun _ _ w => w) hq.b (hW.h.mt.fr fun j => fr.1 _ _ (by omega)) ((fr.1 _ _ (by omega)).trans hW.dn) ((fr.1 _ _ (by omega)).trans hW.lt) ((fr.1 _ _ (by omega)).trans hW.sk) ((fr.1 _ _ (by omega)).trans hW.yl) ((fr.1 _ _ (by omega)).trans hW.lm) ((fr.1 _ _ (by omega)).trans hW.od)
      rw [f_X5_planOnce_J81]
      by_cases w : whyB g s.b (sO (p.2 i) (vP g s) 1) (sO (p.2 i) (vP g s) 0) = 0
      · obtain ⟨ea, ec⟩ := whyB_s hg s1 s0 w
        obtain ⟨c', n', f1, f3, w1, w2, w3, w4⟩ := whyB_0 hg w
        obtain ⟨k, k1, k2⟩ := mnO_pos (g := gC s.b.D c') (n := n') (by omega) (gvs_l w4)
        have ey := ea.symm.trans f1
        have ex := ec.symm.trans f3
        have w' := w
        rw [f1, f3, ← ey, ← ex] at w'
        rw [ng_p w', if_neg (by decide), if_neg (by decide), ey, ex]
        refine Ret.c (m_bottleIt hT hX.h.V hX.h.mt hq.b.b (by omega) (by omega) w3 (gvs_l w4) (hq.b.a hg w1)) ?_
        intro r Y ⟨er, fY, mt, y42, y43⟩
        dsimp only at er fY mt y42 y43
        subst er
        rw [hX.lm, k2, mn_m hq.lm k1] at y43
        rw [hX.yl] at y42
        have fY' : frM sMp lMp X Y := fY.mono (fun c j z => by omega) (fun _ _ z => absurd z id)
        have fZ : frM sMp lMp X (uI Y 94 47 (mnOf (outA (gC s.b.D c') n'))) := ⟨fun c j z => by rw [uI1, if_neg (by omega)]; exact fY'.1 c j z, fY'.2.1, fY'.2.2⟩
        rw [sp]
        have ez : ∀ c j, ¬ (c = 94 ∧ j = 47) → (uI Y 94 47 (mnOf (outA (gC s.b.D c') n'))).1 c j = Y.1 c j := fun c j z => by rw [uI1, if_neg z]
        have ez7 : (uI Y 94 47 (mnOf (outA (gC s.b.D c') n'))).1 94 47 = mnOf (outA (gC s.b.D c') n') := by rw [uI1, if_pos ⟨rfl, rfl⟩]
        generalize uI Y 94 47 (mnOf (outA (gC s.b.D c') n')) = Z at fZ ez ez7 ⊢
        refine fin Z ⟨tBot s.b c' n', s.dn + 1, mnOf (outA (gC s.b.D c') n'), s.sk, s.yl + nI n', some (mnN s.lm k)⟩ (ew.trans w) (fX.t fZ) ((ez _ _ (by omega)).trans ((fY.1 _ _ (by omega)).trans hX.dn)) (fun U f5 u46 u u2 => ?_) ?_
        · exact hW.aft f5 (fun _ _ z => z) (ok_bot hq.b w4) (mt.fr fun j => (u _ _ (by omega)).trans (ez _ _ (by omega))) u46 ((u _ _ (by omega)).trans ez7) ((u _ _ (by omega)).trans ((ez _ _ (by omega)).trans ((fY.1 _ _ (by omega)).trans hX.sk))) ((u _ _ (by omega)).trans ((ez _ _ (by omega)).trans y42)) ((u _ _ (by omega)).trans ((ez _ _ (by omega)).trans y43)) ((u _ _ (by omega)).trans ((ez _ _ (by omega)).trans ((fY.1 _ _ (by omega)).trans hX.od)))
        · rw [pAct, ew, if_pos w, if_neg (by omega), if_neg (by omega), f1, f3, ix_nI (by omega), ix_nI (by omega), k2, ix_nI (by omega)]
          rfl
      · rw [ng_r (by omega) (whyB_ne hg s1 s0 w)]
        exact hno X (by rw [ew]; exact w) fX hX
  · intro hn0 x y z W f w20 w49
    have fW : frM sMp lMp V W := f.mono (fun c j w => by omega) (fun c j w => by omega)
    have hW : mPr T W g p C nc s := h.aft fW (fun _ _ w => w) hq.b (h.h.mt.fr fun j => f.1 _ _ (by omega)) ((f.1 _ _ (by omega)).trans h.dn) ((f.1 _ _ (by omega)).trans h.lt) ((f.1 _ _ (by omega)).trans h.sk) ((f.1 _ _ (by omega)).trans h.yl) ((f.1 _ _ (by omega)).trans h.lm) w20
    have w := why_none hg (b := s.b) ok h3 hv hn0
    rw [if_neg (by rw [w49]; decide)]
    refine Ret.ok ⟨by rw [if_neg w]; rfl, fW, ?_⟩
    rw [pAct, if_neg w]
    exact hW
