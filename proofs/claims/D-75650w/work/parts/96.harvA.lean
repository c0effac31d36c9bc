/-! 96: a harvest of the component -/
set_option maxRecDepth 100000
abbrev sHv (h j : Nat) : Prop := h = 29 ∨ h = 25 ∨ h = 26 ∨ (h = 28 ∧ (j = 1 ∨ j = 2))
/-- what an act on paper needs of the component -/
abbrev cPp (P : Nat → Prop) (T : Tt) (V : Vt) (la pa : Nat) (g : Cfg) (t d : Nat) (b : Tab) : Prop := (CT T) ∧ (CV V) ∧ (okP' P la pa) ∧ (okG g) ∧ (cCf P T V (ms la pa) g) ∧ (okB g b) ∧ (cTb T V t d b)
theorem cPp.C {P : Nat → Prop} {T : Tt} {V : Vt} {la pa : Nat} {g : Cfg} {t d : Nat} {b : Tab} (h__ : cPp P T V la pa g t d b) : CT T := h__.1
theorem cPp.U {P : Nat → Prop} {T : Tt} {V : Vt} {la pa : Nat} {g : Cfg} {t d : Nat} {b : Tab} (h__ : cPp P T V la pa g t d b) : CV V := h__.2.1
theorem cPp.P {P : Nat → Prop} {T : Tt} {V : Vt} {la pa : Nat} {g : Cfg} {t d : Nat} {b : Tab} (h__ : cPp P T V la pa g t d b) : okP' P la pa := h__.2.2.1
theorem cPp.g {P : Nat → Prop} {T : Tt} {V : Vt} {la pa : Nat} {g : Cfg} {t d : Nat} {b : Tab} (h__ : cPp P T V la pa g t d b) : okG g := h__.2.2.2.1
theorem cPp.cf {P : Nat → Prop} {T : Tt} {V : Vt} {la pa : Nat} {g : Cfg} {t d : Nat} {b : Tab} (h__ : cPp P T V la pa g t d b) : cCf P T V (ms la pa) g := h__.2.2.2.2.1
theorem cPp.b {P : Nat → Prop} {T : Tt} {V : Vt} {la pa : Nat} {g : Cfg} {t d : Nat} {b : Tab} (h__ : cPp P T V la pa g t d b) : okB g b := h__.2.2.2.2.2.1
theorem cPp.ct {P : Nat → Prop} {T : Tt} {V : Vt} {la pa : Nat} {g : Cfg} {t d : Nat} {b : Tab} (h__ : cPp P T V la pa g t d b) : cTb T V t d b := h__.2.2.2.2.2.2
theorem cPp.fr {P : Nat → Prop} {T : Tt} {V W : Vt} {la pa : Nat} {g : Cfg} {t d : Nat} {b b' : Tab} (h : cPp P T V la pa g t d b) {S L : Nat → Nat → Prop} (f : frM S L V W) (hS : ∀ c j, S c j → ¬ cfgH c) (hb : okB g b') (ct : cTb T W t d b') : cPp P T W la pa g t d b' :=
  ⟨h.C, h.U.eq3 f.2.2, h.P, h.g, h.cf.fc h.P (fun c j q => f.1 _ _ fun w => hS c j w q) (fun c j _ => by rw [f.2.2]), hb, ct⟩
theorem c_hvE {P : Nat → Prop} {T : Tt} {V : Vt} {la pa : Nat} {g : Cfg} {b : Tab} (h : cPp P T V la pa g 28 29 b) {k : Nat} : Ret (f_X0_harvest_J127 T V 0 28 (nI k)) fun p => p.1 = nI k ∧ cTb T p.2 28 29 (tEnd g b) ∧ frM sHv lC V p.2 := by
  rw [f_X0_harvest_J127]
  refine Ret.c (c_ends h.C h.U h.P h.g h.cf (by omega) h.b h.ct) ?_
  intro z W ⟨_, f, ct⟩
  dsimp only at f ct
  exact Ret.ok ⟨rfl, ct, f.mono (fun c j q => by omega) (fun _ _ q => q)⟩
theorem c_hvA {P : Nat → Prop} {T : Tt} {V : Vt} {la pa : Nat} {g : Cfg} {b : Tab} (h : cPp P T V la pa g 28 29 b) {how c o n : Nat} (hh : how < 4) (hc : c < g.n) (ho : o < g.n) (hn : n ≤ 9) {R : Int32 × Vt → Prop}
    (hR : ∀ p : Int32 × Vt, p.1 = nI (hvT g b how c o n).2 → cTb T p.2 28 29 (tEnd g (hvT g b how c o n).1) → frM sHv lC V p.2 → R p) :
    Ret (if nI how = 0 then (pcl (f_X0_canPour T V 0 28 (nI c) (nI n)) (fun z39 => if z39 = 0 then (cal (f_X0_pours T V 0 28 (nI c) (nI n)) (fun _ U43 => f_X0_harvest_J69 T U43 0 28 (nI c) (nI o) (nI n) (nI how) (0 : Int32))) else (f_X0_harvest_J69 T V 0 28 (nI c) (nI o) (nI n) (nI how) (0 : Int32)))) else (f_X0_harvest_J69 T V 0 28 (nI c) (nI o) (nI n) (nI how) (0 : Int32))) R := by
  have g8 := h.g.n
  have ok := hvT_ok h.g h.b (how := how) hc ho hn
  have fin : ∀ (W : Vt) (b' : Tab) (k : Nat) (S : Nat → Nat → Prop), frM S lC V W → (∀ c j, S c j → sHv c j) → cTb T W 28 29 b' → okB g b' → hvT g b how c o n = (b', k) → Ret (f_X0_harvest_J127 T W 0 28 (nI k)) R := by
    intro W b' k S f hS ct hb e
    have h2 := h.fr f (fun c j q => by have := hS c j q; omega) hb ct
    refine (c_hvE h2 (k := k)).im fun p ⟨q1, q2, q3⟩ => hR p ?_ ?_ ?_
    · rw [e]
      exact q1
    · rw [e]
      exact q2
    · exact (f.mono hS (fun _ _ q => q)).tr q3 (fun _ _ q => q) (fun _ _ q => q)
  have frn : frM nF lC V V := frM.rfl'
  have : how = 0 ∨ how = 1 ∨ how = 2 ∨ how = 3 := by omega
  rcases this with e | e | e | e <;> subst e
  · rw [if_pos (by decide), pc (c_canPour h.C h.U h.g h.cf h.b h.ct)]
    have hl := whyP_le (g := g) (t := b) (c := nI c) (n := nI n)
    simp only [ng_e (show whyP g b (nI c) (nI n) ≤ 100 by omega)]
    have j69 : ∀ W, f_X0_harvest_J69 T W 0 28 (nI c) (nI o) (nI n) (nI 0) 0 = f_X0_harvest_J127 T W 0 28 (nI 0) := fun W => by
      rw [f_X0_harvest_J69, if_neg (by decide), f_X0_harvest_J97, if_neg (by decide)]
      rfl
    by_cases w : whyP g b (nI c) (nI n) = 0
    · have e : hvT g b 0 c o n = (tPour b c n, 0) := by rw [hvT, if_pos ⟨rfl, w⟩]
      obtain ⟨c', n', e1, e2, h1, h2, h3, h4⟩ := whyP_0 h.g w
      obtain rfl := nI_inj (by omega) (by omega) e1
      obtain rfl := nI_inj (by omega) (by omega) e2
      have h5 := of_decide_eq_true h4
      have hs := h.g.sz c h1
      rw [if_pos w]
      refine Ret.c (c_pours h.C (by omega) h.ct (by omega) (by omega)) ?_
      intro z W ⟨_, f, ct⟩
      dsimp only at f ct
      rw [j69]
      exact fin W _ 0 _ (f.mono (fun _ _ q => q) (fun _ _ q => absurd q id)) (fun c j q => by omega) ct (ok_pour h.b h4) e
    · rw [if_neg w, j69]
      exact fin V b 0 _ frn (fun _ _ q => absurd q id) h.ct h.b (by rw [hvT, if_neg (fun q => w q.2), if_neg (fun q => absurd q.1 (by omega)), if_neg (fun q => absurd q.1 (by omega))])
  · rw [if_neg (by decide), f_X0_harvest_J69, if_pos (by decide)]
    have j97 : ∀ W, f_X0_harvest_J97 T W 0 28 (nI c) (nI n) (nI 1) 0 = f_X0_harvest_J127 T W 0 28 (nI 0) := fun W => by
      rw [f_X0_harvest_J97, if_neg (by decide)]
      rfl
    refine Ret.c (c_canRack h.C h.U h.P h.g h.cf h.b h.ct) ?_
    intro z W ⟨e, f⟩
    dsimp only at e f
    subst e
    have hl := whyR_le (g := g) (t := b) (f := nI c) (o := nI o) (n := nI n)
    simp only [ng_e (show whyR g b (nI c) (nI o) (nI n) ≤ 100 by omega)]
    have ct1 : cTb T W 28 29 b := h.ct.fr (fun j => f.1 _ _ id) (fun j => f.1 _ _ id) (fun j => by rw [f.2.2])
    by_cases w : whyR g b (nI c) (nI o) (nI n) = 0
    · have e : hvT g b 1 c o n = (tRack b c o n, 0) := by rw [hvT, if_neg (fun q => absurd q.1 (by omega)), if_pos ⟨rfl, w⟩]
      obtain ⟨f', o', n', e1, e2, e3, h1, h2, h3, h4, h5, h6, h7⟩ := whyR_0 h.g w
      obtain rfl := nI_inj (by omega) (by omega) e1
      obtain rfl := nI_inj (by omega) (by omega) e2
      obtain rfl := nI_inj (by omega) (by omega) e3
      have hr := of_decide_eq_true h7
      have hs := h.g.sz o h2
      rw [if_pos w]
      refine Ret.c (c_racks h.C (h.U.eq3 f.2.2) (by omega) ct1 (by omega) (by omega) h5 (by omega) h4 (gvs_l h6) (h.b.a h.g h1) (by omega)) ?_
      intro z X ⟨_, f2, ct⟩
      dsimp only at f2 ct
      rw [j97]
      exact fin X _ 0 (fun h _ => h = 29 ∨ h = 25) (f.tr (f2.mono (L' := lC) (fun _ _ q => q) (fun _ _ q => absurd q id)) (fun _ _ q => absurd q id) (fun _ _ q => q)) (fun c j q => by omega) ct (ok_rack h.b h5 h6 h7) e
    · rw [if_neg w, j97]
      exact fin W b 0 _ f (fun _ _ q => absurd q id) ct1 h.b (by rw [hvT, if_neg (fun q => absurd q.1 (by omega)), if_neg (fun q => w q.2), if_neg (fun q => absurd q.1 (by omega))])
  · rw [if_neg (by decide), f_X0_harvest_J69, if_neg (by decide), f_X0_harvest_J97, if_pos (by decide)]
    refine Ret.c (c_canBottle h.C h.U h.P h.g h.cf h.b h.ct) ?_
    intro z W ⟨e, f⟩
    dsimp only at e f
    subst e
    have hl := whyB_le (g := g) (t := b) (c := nI c) (n := nI n)
    simp only [ng_e (show whyB g b (nI c) (nI n) ≤ 100 by omega)]
    have ct1 : cTb T W 28 29 b := h.ct.fr (fun j => f.1 _ _ id) (fun j => f.1 _ _ id) (fun j => by rw [f.2.2])
    by_cases w : whyB g b (nI c) (nI n) = 0
    · have e : hvT g b 2 c o n = (tBot b c n, n) := by rw [hvT, if_neg (fun q => absurd q.1 (by omega)), if_neg (fun q => absurd q.1 (by omega)), if_pos ⟨rfl, w⟩]
      obtain ⟨c', n', e1, e2, h1, h3, h4, h6⟩ := whyB_0 h.g w
      obtain rfl := nI_inj (by omega) (by omega) e1
      obtain rfl := nI_inj (by omega) (by omega) e2
      rw [if_pos w]
      refine Ret.c (c_bottles h.C (h.U.eq3 f.2.2) (by omega) ct1 h.b.b (by omega) (by omega) h4 (gvs_l h6) (h.b.a h.g h1)) ?_
      intro z X ⟨_, f2, ct⟩
      dsimp only at f2 ct
      exact fin X _ n (fun h j => h = 29 ∨ h = 25 ∨ (h = 28 ∧ j = 1)) (f.tr (f2.mono (L' := lC) (fun _ _ q => q) (fun _ _ q => absurd q id)) (fun _ _ q => absurd q id) (fun _ _ q => q)) (fun c j q => by omega) ct (ok_bot h.b h6) e
    · rw [if_neg w]
      exact fin W b 0 _ f (fun _ _ q => absurd q id) ct1 h.b (by rw [hvT, if_neg (fun q => absurd q.1 (by omega)), if_neg (fun q => absurd q.1 (by omega)), if_neg (fun q => w q.2)])
  · rw [if_neg (by decide), f_X0_harvest_J69, if_neg (by decide), f_X0_harvest_J97, if_neg (by decide)]
    exact fin V b 0 _ frn (fun _ _ q => absurd q id) h.ct h.b (by rw [hvT, if_neg (fun q => absurd q.1 (by omega)), if_neg (fun q => absurd q.1 (by omega)), if_neg (fun q => absurd q.1 (by omega))])
