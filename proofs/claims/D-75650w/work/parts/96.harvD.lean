/-! 96: acts of the model on paper -/
set_option maxRecDepth 100000
abbrev sPm (h j : Nat) : Prop := sD h j ∨ h = 115 ∨ (h = 96 ∧ (j = 5 ∨ j = 9)) ∨ (h = 94 ∧ (j = 34 ∨ j = 38 ∨ j = 42 ∨ j = 43))
abbrev mPp (T : Tt) (V : Vt) (g : Cfg) (b : Tab) : Prop := (MT T) ∧ (MV V) ∧ (okG g) ∧ (mCf V g) ∧ (okB g b) ∧ (mTb V b) ∧ (isB (V.1 94 20))
theorem mPp.T {T : Tt} {V : Vt} {g : Cfg} {b : Tab} (h__ : mPp T V g b) : MT T := h__.1
theorem mPp.V {T : Tt} {V : Vt} {g : Cfg} {b : Tab} (h__ : mPp T V g b) : MV V := h__.2.1
theorem mPp.g {T : Tt} {V : Vt} {g : Cfg} {b : Tab} (h__ : mPp T V g b) : okG g := h__.2.2.1
theorem mPp.mf {T : Tt} {V : Vt} {g : Cfg} {b : Tab} (h__ : mPp T V g b) : mCf V g := h__.2.2.2.1
theorem mPp.b {T : Tt} {V : Vt} {g : Cfg} {b : Tab} (h__ : mPp T V g b) : okB g b := h__.2.2.2.2.1
theorem mPp.mt {T : Tt} {V : Vt} {g : Cfg} {b : Tab} (h__ : mPp T V g b) : mTb V b := h__.2.2.2.2.2.1
theorem mPp.o {T : Tt} {V : Vt} {g : Cfg} {b : Tab} (h__ : mPp T V g b) : isB (V.1 94 20) := h__.2.2.2.2.2.2
theorem mPp.fr {T : Tt} {V W : Vt} {g : Cfg} {b b' : Tab} (h : mPp T V g b) {S L : Nat → Nat → Prop} (f : frM S L V W) (hS : ∀ c j, S c j → sPm c j) (hb : okB g b') (mt : mTb W b') : mPp T W g b' :=
  ⟨h.T, h.V.eq3 f.2.2, h.g, h.mf.fr h.g (fun j q1 q2 q3 => f.1 _ _ fun w => by have := hS _ _ w; omega), hb, mt, by rw [f.1 _ _ fun w => by have := hS _ _ w; omega]; exact h.o⟩
theorem m_drawnAct {T : Tt} {V : Vt} {g : Cfg} {b : Tab} (h : mPp T V g b) {how c o n : Nat} (hh : how < 4) (hc : c < g.n) (ho : o < g.n) (hn : n ≤ 9) :
    Ret (f_X5_drawnAct T V 94 (nI how) (nI c) (nI o) (nI n)) fun W => mTb W (hvT g b how c o n).1 ∧ frM sPm lF V W ∧ W.1 94 42 = V.1 94 42 + nI (hvT g b how c o n).2 := by
  have g8 := h.g.n
  have hT := h.T
  have fin : ∀ (W : Vt) (b' : Tab) (k : Nat), mTb W b' → frM sPm lF V W → W.1 94 42 = V.1 94 42 + nI k → hvT g b how c o n = (b', k) → Ret (some W) fun W => mTb W (hvT g b how c o n).1 ∧ frM sPm lF V W ∧ W.1 94 42 = V.1 94 42 + nI (hvT g b how c o n).2 := fun W b' k q1 q2 q3 e => by
    rw [e]
    exact Ret.ok ⟨q1, q2, q3⟩
  have z0 : ∀ v : Int32, v = v + nI 0 := fun v => (Int32.add_zero v).symm
  rw [f_X5_drawnAct, rq hT.1]
  have : how = 0 ∨ how = 1 ∨ how = 2 ∨ how = 3 := by omega
  rcases this with e | e | e | e <;> subst e
  · rw [if_pos (by decide), pc (m_whyPour hT h.V h.g h.mf h.b h.mt)]
    have hl := whyP_le (g := g) (t := b) (c := nI c) (n := nI n)
    simp only [ng_e (show whyP g b (nI c) (nI n) ≤ 100 by omega)]
    have j22 : ∀ W, f_X5_drawnAct_J22 T W 94 (nI 0) (nI c) (nI o) (nI n) = some W := fun W => by
      rw [f_X5_drawnAct_J22, if_neg (by decide), f_X5_drawnAct_J47, if_neg (by decide)]
    by_cases w : whyP g b (nI c) (nI n) = 0
    · have e : hvT g b 0 c o n = (tPour b c n, 0) := by rw [hvT, if_pos ⟨rfl, w⟩]
      obtain ⟨c', n', e1, e2, h1, h2, h3, h4⟩ := whyP_0 h.g w
      obtain rfl := nI_inj (by omega) (by omega) e1
      obtain rfl := nI_inj (by omega) (by omega) e2
      have h5 := of_decide_eq_true h4
      have hs := h.g.sz c h1
      rw [if_pos w]
      refine Ret.c (m_pourIt hT h.V h.mt (by omega) (by omega)) ?_
      intro z W ⟨_, f, mt⟩
      dsimp only at f mt
      rw [j22]
      exact fin W _ 0 mt (f.mono (fun c j q => by omega) (fun _ _ q => absurd q id)) ((f.1 _ _ (by omega)).trans (z0 _)) e
    · rw [if_neg w, j22]
      exact fin V b 0 h.mt frM.rfl' (z0 _) (by rw [hvT, if_neg (fun q => w q.2), if_neg (fun q => absurd q.1 (by omega)), if_neg (fun q => absurd q.1 (by omega))])
  · rw [if_neg (by decide), f_X5_drawnAct_J22, if_pos (by decide)]
    have j47 : ∀ W, f_X5_drawnAct_J47 T W 94 (nI 1) (nI c) (nI n) = some W := fun W => by rw [f_X5_drawnAct_J47, if_neg (by decide)]
    refine Ret.c (m_whyRack hT h.V h.g h.mf h.b h.mt h.o) ?_
    intro z W ⟨e, f⟩
    dsimp only at e f
    subst e
    have hl := whyR_le (g := g) (t := b) (f := nI c) (o := nI o) (n := nI n)
    simp only [ng_e (show whyR g b (nI c) (nI o) (nI n) ≤ 100 by omega)]
    have mt1 : mTb W b := h.mt.fr (fun j => f.1 _ _ (by omega))
    have k1 : frM sPm lF V W := f.mono (fun c j q => by omega) (fun _ _ q => q)
    by_cases w : whyR g b (nI c) (nI o) (nI n) = 0
    · have e : hvT g b 1 c o n = (tRack b c o n, 0) := by rw [hvT, if_neg (fun q => absurd q.1 (by omega)), if_pos ⟨rfl, w⟩]
      obtain ⟨f', o', n', e1, e2, e3, h1, h2, h3, h4, h5, h6, h7⟩ := whyR_0 h.g w
      obtain rfl := nI_inj (by omega) (by omega) e1
      obtain rfl := nI_inj (by omega) (by omega) e2
      obtain rfl := nI_inj (by omega) (by omega) e3
      have hr := of_decide_eq_true h7
      have hs := h.g.sz o h2
      rw [if_pos w]
      refine Ret.c (m_rackIt hT (h.V.eq3 f.2.2) mt1 (by omega) (by omega) h5 (by omega) h4 (gvs_l h6) (h.b.a h.g h1) (by omega)) ?_
      intro z X ⟨_, f2, mt⟩
      dsimp only at f2 mt
      rw [j47]
      exact fin X _ 0 mt (k1.tr (f2.mono (L' := lF) (fun c j q => by omega) (fun _ _ q => absurd q id)) (fun _ _ q => q) (fun _ _ q => q)) (((f2.1 _ _ (by omega)).trans (f.1 _ _ (by omega))).trans (z0 _)) e
    · rw [if_neg w, j47]
      exact fin W b 0 mt1 k1 ((f.1 _ _ (by omega)).trans (z0 _)) (by rw [hvT, if_neg (fun q => absurd q.1 (by omega)), if_neg (fun q => w q.2), if_neg (fun q => absurd q.1 (by omega))])
  · rw [if_neg (by decide), f_X5_drawnAct_J22, if_neg (by decide), f_X5_drawnAct_J47, if_pos (by decide)]
    refine Ret.c (m_whyBottle hT h.V h.g h.mf h.b h.mt h.o) ?_
    intro z W ⟨e, f⟩
    dsimp only at e f
    subst e
    have hl := whyB_le (g := g) (t := b) (c := nI c) (n := nI n)
    simp only [ng_e (show whyB g b (nI c) (nI n) ≤ 100 by omega)]
    have mt1 : mTb W b := h.mt.fr (fun j => f.1 _ _ (by omega))
    have k1 : frM sPm lF V W := f.mono (fun c j q => by omega) (fun _ _ q => q)
    by_cases w : whyB g b (nI c) (nI n) = 0
    · have e : hvT g b 2 c o n = (tBot b c n, n) := by rw [hvT, if_neg (fun q => absurd q.1 (by omega)), if_neg (fun q => absurd q.1 (by omega)), if_pos ⟨rfl, w⟩]
      obtain ⟨c', n', e1, e2, h1, h3, h4, h6⟩ := whyB_0 h.g w
      obtain rfl := nI_inj (by omega) (by omega) e1
      obtain rfl := nI_inj (by omega) (by omega) e2
      rw [if_pos w]
      refine Ret.c (m_bottleIt hT (h.V.eq3 f.2.2) mt1 h.b.b (by omega) (by omega) h4 (gvs_l h6) (h.b.a h.g h1)) ?_
      intro z X ⟨_, f2, mt, y1, _⟩
      dsimp only at f2 mt y1
      exact fin X _ n mt (k1.tr (f2.mono (L' := lF) (fun c j q => by omega) (fun _ _ q => absurd q id)) (fun _ _ q => q) (fun _ _ q => q)) (y1.trans (by rw [f.1 _ _ (by omega)])) e
    · rw [if_neg w]
      exact fin W b 0 mt1 k1 ((f.1 _ _ (by omega)).trans (z0 _)) (by rw [hvT, if_neg (fun q => absurd q.1 (by omega)), if_neg (fun q => absurd q.1 (by omega)), if_neg (fun q => w q.2)])
  · rw [if_neg (by decide), f_X5_drawnAct_J22, if_neg (by decide), f_X5_drawnAct_J47, if_neg (by decide)]
    exact fin V b 0 h.mt frM.rfl' (z0 _) (by rw [hvT, if_neg (fun q => absurd q.1 (by omega)), if_neg (fun q => absurd q.1 (by omega)), if_neg (fun q => absurd q.1 (by omega))])
