/-! 75: how the component, the model keep what is told -/
set_option maxRecDepth 100000
def isOd (B : Nat → Prop) (T : Tt) (V : Vt) (h : Nat) (o : Od) : Prop := B h ∧ T.1 h = 16 ∧ V.1 h 0 = nI o.1 ∧ V.1 h 2 = nI o.2.2.1 ∧
  (∃ a, V.2.2 h 1 = some a ∧ B a ∧ T.1 a = 107 ∧ T.2.1 a = 3 ∧ ∀ k, k < 3 → match o.2.1 k with
    | none => V.2.2 a k = none
    | some m => ∃ s, V.2.2 a k = some s ∧ isSum 60 B T V s m) ∧
  (match o.2.2.2 with
    | none => V.2.2 h 3 = none
    | some t => ∃ s, V.2.2 h 3 = some s ∧ isTst 100 B T V s t)
def isPl (B : Nat → Prop) (T : Tt) (V : Vt) (h : Nat) (p : Pl) : Prop := B h ∧ T.1 h = 19 ∧ ∃ (ls a c : Nat) (el : Nat → Nat), V.2.2 h 0 = some ls ∧ B ls ∧ B a ∧ isLs T V ls a c p.1 el ∧ ∀ i, i < p.1 → isOd B T V (el i) (p.2 i)
/-- the cells of a state -/
abbrev SH : Type := (Nat) × (Nat) × (Nat) × (Nat) × (Nat) × (Nat) × (Nat) × (Nat) × (Nat) × (Nat)
abbrev SH.s (x__ : SH) : Nat := x__.1
abbrev SH.t (x__ : SH) : Nat := x__.2.1
abbrev SH.d (x__ : SH) : Nat := x__.2.2.1
abbrev SH.ti (x__ : SH) : Nat := x__.2.2.2.1
abbrev SH.sz (x__ : SH) : Nat := x__.2.2.2.2.1
abbrev SH.ta (x__ : SH) : Nat := x__.2.2.2.2.2.1
abbrev SH.ll (x__ : SH) : Nat := x__.2.2.2.2.2.2.1
abbrev SH.la (x__ : SH) : Nat := x__.2.2.2.2.2.2.2.1
abbrev SH.pl (x__ : SH) : Nat := x__.2.2.2.2.2.2.2.2.1
abbrev SH.pa (x__ : SH) : Nat := x__.2.2.2.2.2.2.2.2.2
abbrev ms (la pa : Nat) : SH := ⟨2, 3, 4, 5, 6, 7, 8, la, 10, pa⟩
abbrev cCf (P : Nat → Prop) (T : Tt) (V : Vt) (x : SH) (g : Cfg) : Prop := (V.1 x.s 6 = nI g.n) ∧ (V.1 x.s 7 = nI g.nt) ∧ (V.1 x.s 8 = nI g.co) ∧ (V.1 x.s 9 = nI g.mo) ∧ (V.1 x.s 10 = nI g.pa) ∧ (V.1 x.s 11 = oI g.fo) ∧ (∀ c, c < g.n → V.1 x.ti c = nI (g.ti c)) ∧ (∀ c, c < g.n → V.1 x.sz c = nI (g.sz c)) ∧ (∀ k, k < 2 * g.nt → V.1 x.ta k = nI (g.ta k)) ∧ (∃ (c : Nat) (el : Nat → Nat), isLs T V x.ll x.la c g.nl el ∧ ∀ i, i < g.nl → isLaw P T V (el i) (g.lw i)) ∧ (∃ (c : Nat) (el : Nat → Nat), isLs T V x.pl x.pa c g.np el ∧ ∀ i, i < g.np → isPl P T V (el i) (g.pl i))
theorem cCf.n {P : Nat → Prop} {T : Tt} {V : Vt} {x : SH} {g : Cfg} (h__ : cCf P T V x g) : V.1 x.s 6 = nI g.n := h__.1
theorem cCf.nt {P : Nat → Prop} {T : Tt} {V : Vt} {x : SH} {g : Cfg} (h__ : cCf P T V x g) : V.1 x.s 7 = nI g.nt := h__.2.1
theorem cCf.co {P : Nat → Prop} {T : Tt} {V : Vt} {x : SH} {g : Cfg} (h__ : cCf P T V x g) : V.1 x.s 8 = nI g.co := h__.2.2.1
theorem cCf.mo {P : Nat → Prop} {T : Tt} {V : Vt} {x : SH} {g : Cfg} (h__ : cCf P T V x g) : V.1 x.s 9 = nI g.mo := h__.2.2.2.1
theorem cCf.pa {P : Nat → Prop} {T : Tt} {V : Vt} {x : SH} {g : Cfg} (h__ : cCf P T V x g) : V.1 x.s 10 = nI g.pa := h__.2.2.2.2.1
theorem cCf.fo {P : Nat → Prop} {T : Tt} {V : Vt} {x : SH} {g : Cfg} (h__ : cCf P T V x g) : V.1 x.s 11 = oI g.fo := h__.2.2.2.2.2.1
theorem cCf.ti {P : Nat → Prop} {T : Tt} {V : Vt} {x : SH} {g : Cfg} (h__ : cCf P T V x g) : ∀ c, c < g.n → V.1 x.ti c = nI (g.ti c) := h__.2.2.2.2.2.2.1
theorem cCf.sz {P : Nat → Prop} {T : Tt} {V : Vt} {x : SH} {g : Cfg} (h__ : cCf P T V x g) : ∀ c, c < g.n → V.1 x.sz c = nI (g.sz c) := h__.2.2.2.2.2.2.2.1
theorem cCf.ta {P : Nat → Prop} {T : Tt} {V : Vt} {x : SH} {g : Cfg} (h__ : cCf P T V x g) : ∀ k, k < 2 * g.nt → V.1 x.ta k = nI (g.ta k) := h__.2.2.2.2.2.2.2.2.1
theorem cCf.lw {P : Nat → Prop} {T : Tt} {V : Vt} {x : SH} {g : Cfg} (h__ : cCf P T V x g) : ∃ (c : Nat) (el : Nat → Nat), isLs T V x.ll x.la c g.nl el ∧ ∀ i, i < g.nl → isLaw P T V (el i) (g.lw i) := h__.2.2.2.2.2.2.2.2.2.1
theorem cCf.pl {P : Nat → Prop} {T : Tt} {V : Vt} {x : SH} {g : Cfg} (h__ : cCf P T V x g) : ∃ (c : Nat) (el : Nat → Nat), isLs T V x.pl x.pa c g.np el ∧ ∀ i, i < g.np → isPl P T V (el i) (g.pl i) := h__.2.2.2.2.2.2.2.2.2.2
abbrev cTb (T : Tt) (V : Vt) (t d : Nat) (b : Tab) : Prop := (isTb T V t d) ∧ (cD V d b.D) ∧ (V.1 t 1 = nI b.b) ∧ (V.1 t 2 = nI b.y)
theorem cTb.k {T : Tt} {V : Vt} {t d : Nat} {b : Tab} (h__ : cTb T V t d b) : isTb T V t d := h__.1
theorem cTb.D {T : Tt} {V : Vt} {t d : Nat} {b : Tab} (h__ : cTb T V t d b) : cD V d b.D := h__.2.1
theorem cTb.b {T : Tt} {V : Vt} {t d : Nat} {b : Tab} (h__ : cTb T V t d b) : V.1 t 1 = nI b.b := h__.2.2.1
theorem cTb.y {T : Tt} {V : Vt} {t d : Nat} {b : Tab} (h__ : cTb T V t d b) : V.1 t 2 = nI b.y := h__.2.2.2
/-- which of an order's sums the model keeps at which place -/
def slM (o : Od) (k : Nat) : Option Sm := if k = 0 then o.2.1 0 else if k = 1 then (if o.1 = 1 ∨ o.1 = 2 then o.2.1 1 else none) else if o.1 = 0 then o.2.1 1 else if o.1 = 1 then o.2.1 2 else none
def mOs (nc : Nat) (f : Nat → Int32) (C : Nat → Nat × Nat) (o : Od) : Prop := f 0 = nI o.1 ∧ f 9 = nI o.2.2.1 ∧
  (∀ k, k < 3 → ∃ a b, f (1 + 2 * k) = nI a ∧ f (2 + 2 * k) = nI b ∧ a ≤ nc ∧ b ≤ nc ∧ match slM o k with
    | none => a = b
    | some m => Ex true C a b m) ∧
  ∃ a b, f 7 = nI a ∧ f 8 = nI b ∧ a ≤ nc ∧ b ≤ nc ∧ match o.2.2.2 with
    | none => a = b
    | some t => Ex true C a b (tS t)
def mPl (V : Vt) (B : Nat) (p : Pl) : Prop := ∃ (nc : Nat) (C : Nat → Nat × Nat), nc ≤ 400 ∧ V.1 96 B = nI p.1 ∧ V.1 96 (B + 1) = nI nc ∧ (∀ k, k < nc → V.1 96 (B + 146 + 2 * k) = nI (C k).1 ∧ V.1 96 (B + 146 + 2 * k + 1) = nI (C k).2) ∧ ∀ i, i < p.1 → mOs nc (fun j => V.1 96 (B + 2 + 10 * i + j)) C (p.2 i)
abbrev mCf (V : Vt) (g : Cfg) : Prop := (V.1 96 0 = nI g.n) ∧ (V.1 96 1 = nI g.nt) ∧ (V.1 96 2 = nI g.nl) ∧ (V.1 96 3 = nI g.np) ∧ (V.1 96 4 = oI g.fo) ∧ (V.1 96 6 = nI g.co) ∧ (V.1 96 7 = nI g.mo) ∧ (V.1 96 8 = nI g.pa) ∧ (∀ c, c < g.n → V.1 96 (170 + c) = nI (g.ti c)) ∧ (∀ c, c < g.n → V.1 96 (178 + c) = nI (g.sz c)) ∧ (∀ k, k < 2 * g.nt → V.1 96 (186 + k) = nI (g.ta k)) ∧ (∀ i, i < g.np → mPl V (198 + 948 * i) (g.pl i)) ∧ (∀ i, i < g.nl → mLaw V (3990 + 900 * i) (g.lw i))
theorem mCf.n {V : Vt} {g : Cfg} (h__ : mCf V g) : V.1 96 0 = nI g.n := h__.1
theorem mCf.nt {V : Vt} {g : Cfg} (h__ : mCf V g) : V.1 96 1 = nI g.nt := h__.2.1
theorem mCf.nl {V : Vt} {g : Cfg} (h__ : mCf V g) : V.1 96 2 = nI g.nl := h__.2.2.1
theorem mCf.np {V : Vt} {g : Cfg} (h__ : mCf V g) : V.1 96 3 = nI g.np := h__.2.2.2.1
theorem mCf.fo {V : Vt} {g : Cfg} (h__ : mCf V g) : V.1 96 4 = oI g.fo := h__.2.2.2.2.1
theorem mCf.co {V : Vt} {g : Cfg} (h__ : mCf V g) : V.1 96 6 = nI g.co := h__.2.2.2.2.2.1
theorem mCf.mo {V : Vt} {g : Cfg} (h__ : mCf V g) : V.1 96 7 = nI g.mo := h__.2.2.2.2.2.2.1
theorem mCf.pa {V : Vt} {g : Cfg} (h__ : mCf V g) : V.1 96 8 = nI g.pa := h__.2.2.2.2.2.2.2.1
theorem mCf.ti {V : Vt} {g : Cfg} (h__ : mCf V g) : ∀ c, c < g.n → V.1 96 (170 + c) = nI (g.ti c) := h__.2.2.2.2.2.2.2.2.1
theorem mCf.sz {V : Vt} {g : Cfg} (h__ : mCf V g) : ∀ c, c < g.n → V.1 96 (178 + c) = nI (g.sz c) := h__.2.2.2.2.2.2.2.2.2.1
theorem mCf.ta {V : Vt} {g : Cfg} (h__ : mCf V g) : ∀ k, k < 2 * g.nt → V.1 96 (186 + k) = nI (g.ta k) := h__.2.2.2.2.2.2.2.2.2.2.1
theorem mCf.pl {V : Vt} {g : Cfg} (h__ : mCf V g) : ∀ i, i < g.np → mPl V (198 + 948 * i) (g.pl i) := h__.2.2.2.2.2.2.2.2.2.2.2.1
theorem mCf.lw {V : Vt} {g : Cfg} (h__ : mCf V g) : ∀ i, i < g.nl → mLaw V (3990 + 900 * i) (g.lw i) := h__.2.2.2.2.2.2.2.2.2.2.2.2
abbrev mTb (V : Vt) (b : Tab) : Prop := (mD V b.D) ∧ (V.1 96 9 = nI b.b) ∧ (V.1 96 5 = nI b.y)
theorem mTb.D {V : Vt} {b : Tab} (h__ : mTb V b) : mD V b.D := h__.1
theorem mTb.b {V : Vt} {b : Tab} (h__ : mTb V b) : V.1 96 9 = nI b.b := h__.2.1
theorem mTb.y {V : Vt} {b : Tab} (h__ : mTb V b) : V.1 96 5 = nI b.y := h__.2.2
/-- frames -/
abbrev nF (_ _ : Nat) : Prop := False
abbrev lC (h _j : Nat) : Prop := h = 24
abbrev cfgH (h : Nat) : Prop := h = 2 ∨ (5 ≤ h ∧ h ≤ 11) ∨ 120 ≤ h
theorem isSum.fr {B : Nat → Prop} {T : Tt} {V W : Vt} (e1 : ∀ h j, B h → W.1 h j = V.1 h j) (e2 : ∀ h j, B h → W.2.2 h j = V.2.2 h j) : ∀ {d h : Nat} {m : Sm}, isSum d B T V h m → isSum d B T W h m := by
  intro d
  induction d with
  | zero => intro h m q; exact q
  | succ d ih =>
    intro h m q
    obtain ⟨b, q⟩ := q
    refine ⟨b, ?_⟩
    rcases q with ⟨k, n, hn, e, r⟩ | ⟨k, w, hw, e, r⟩ | ⟨k, o, l, r, ml, mr, o1, o2, e, el, er, ql, qr, z⟩
    · exact Or.inl ⟨k, n, hn, (e1 _ _ b).trans e, r⟩
    · exact Or.inr (Or.inl ⟨k, w, hw, (e1 _ _ b).trans e, r⟩)
    · exact Or.inr (Or.inr ⟨k, o, l, r, ml, mr, o1, o2, (e1 _ _ b).trans e, (e2 _ _ b).trans el, (e2 _ _ b).trans er, ih ql, ih qr, z⟩)
theorem isLs.fr {T : Tt} {V W : Vt} {o a c n : Nat} {el : Nat → Nat} (h : isLs T V o a c n el) (e1 : ∀ j, W.1 o j = V.1 o j) (e2 : ∀ j, W.2.2 o j = V.2.2 o j) (e3 : ∀ j, W.2.2 a j = V.2.2 a j) : isLs T W o a c n el := by
  obtain ⟨h1, h2, h3, h4, h5, h6, h7, h8⟩ := h
  exact ⟨h1, (e2 _).trans h2, h3, h4, (e1 _).trans h5, h6, h7, fun i hi => (e3 _).trans (h8 i hi)⟩
theorem isTst.fr {B : Nat → Prop} {T : Tt} {V W : Vt} (e1 : ∀ h j, B h → W.1 h j = V.1 h j) (e2 : ∀ h j, B h → W.2.2 h j = V.2.2 h j) : ∀ {d h : Nat} {t : Ts}, isTst d B T V h t → isTst d B T W h t := by
  intro d
  induction d with
  | zero => intro h m q; exact q
  | succ d ih =>
    intro h m q
    obtain ⟨b, q⟩ := q
    refine ⟨b, ?_⟩
    rcases q with ⟨k, o, l, r, ml, mr, o1, o2, e, el, er, ql, qr, z⟩ | ⟨k, l, tl, e, q, z⟩ | ⟨k, al, ls, a, c, n, el, tl, e, e3, b1, b2, hl, hn, ht, z⟩
    · exact Or.inl ⟨k, o, l, r, ml, mr, o1, o2, (e1 _ _ b).trans e, (e2 _ _ b).trans el, (e2 _ _ b).trans er, ql.fr e1 e2, qr.fr e1 e2, z⟩
    · exact Or.inr (Or.inl ⟨k, l, tl, (e2 _ _ b).trans e, ih q, z⟩)
    · exact Or.inr (Or.inr ⟨k, al, ls, a, c, n, el, tl, (e1 _ _ b).trans e, (e2 _ _ b).trans e3, b1, b2, hl.fr (fun j => e1 _ j b1) (fun j => e2 _ j b1) (fun j => e2 _ j b2), hn, fun i hi => ih (ht i hi), z⟩)
theorem isCl.fr {B : Nat → Prop} {T : Tt} {V W : Vt} (e1 : ∀ h j, B h → W.1 h j = V.1 h j) (e2 : ∀ h j, B h → W.2.2 h j = V.2.2 h j) {h : Nat} {c : Clz} (q : isCl B T V h c) : isCl B T W h c := by
  obtain ⟨b, k, h0, h3, hs, ht⟩ := q
  refine ⟨b, k, (e1 _ _ b).trans h0, h3, ?_, ?_⟩
  · cases hc : c.2.1 with
    | none => rw [hc] at hs; exact (e2 _ _ b).trans hs
    | some m => rw [hc] at hs; obtain ⟨s, s1, s2⟩ := hs; exact ⟨s, (e2 _ _ b).trans s1, s2.fr e1 e2⟩
  · cases hc : c.2.2 with
    | none => rw [hc] at ht; exact (e2 _ _ b).trans ht
    | some m => rw [hc] at ht; obtain ⟨s, s1, s2⟩ := ht; exact ⟨s, (e2 _ _ b).trans s1, s2.fr e1 e2⟩
theorem isLaw.fr {B : Nat → Prop} {T : Tt} {V W : Vt} (e1 : ∀ h j, B h → W.1 h j = V.1 h j) (e2 : ∀ h j, B h → W.2.2 h j = V.2.2 h j) {h : Nat} {l : Lw} (q : isLaw B T V h l) : isLaw B T W h l := by
  obtain ⟨b, k, ls, a, c, el, e, b1, b2, hl, hc⟩ := q
  exact ⟨b, k, ls, a, c, el, (e2 _ _ b).trans e, b1, b2, hl.fr (fun j => e1 _ j b1) (fun j => e2 _ j b1) (fun j => e2 _ j b2), fun i hi => (hc i hi).fr e1 e2⟩
theorem isOd.fr {B : Nat → Prop} {T : Tt} {V W : Vt} (e1 : ∀ h j, B h → W.1 h j = V.1 h j) (e2 : ∀ h j, B h → W.2.2 h j = V.2.2 h j) {h : Nat} {o : Od} (q : isOd B T V h o) : isOd B T W h o := by
  obtain ⟨b, k, h0, h3, ⟨a, a1, a2, a3, a4, a5⟩, ht⟩ := q
  refine ⟨b, k, (e1 _ _ b).trans h0, (e1 _ _ b).trans h3, ⟨a, (e2 _ _ b).trans a1, a2, a3, a4, fun k hk => ?_⟩, ?_⟩
  · have hs := a5 k hk
    cases hc : o.2.1 k with
    | none => rw [hc] at hs; exact (e2 _ _ a2).trans hs
    | some m => rw [hc] at hs; obtain ⟨s, s1, s2⟩ := hs; exact ⟨s, (e2 _ _ a2).trans s1, s2.fr e1 e2⟩
  · cases hc : o.2.2.2 with
    | none => rw [hc] at ht; exact (e2 _ _ b).trans ht
    | some m => rw [hc] at ht; obtain ⟨s, s1, s2⟩ := ht; exact ⟨s, (e2 _ _ b).trans s1, s2.fr e1 e2⟩
theorem isPl.fr {B : Nat → Prop} {T : Tt} {V W : Vt} (e1 : ∀ h j, B h → W.1 h j = V.1 h j) (e2 : ∀ h j, B h → W.2.2 h j = V.2.2 h j) {h : Nat} {p : Pl} (q : isPl B T V h p) : isPl B T W h p := by
  obtain ⟨b, k, ls, a, c, el, e, b1, b2, hl, hc⟩ := q
  exact ⟨b, k, ls, a, c, el, (e2 _ _ b).trans e, b1, b2, hl.fr (fun j => e1 _ j b1) (fun j => e2 _ j b1) (fun j => e2 _ j b2), fun i hi => (hc i hi).fr e1 e2⟩
/-- the cells where what is told lies -/
def own (x : SH) (h : Nat) : Prop := h = x.s ∨ h = x.ti ∨ h = x.sz ∨ h = x.ta ∨ h = x.ll ∨ h = x.la ∨ h = x.pl ∨ h = x.pa
theorem cCf.fr {P : Nat → Prop} {T : Tt} {V W : Vt} {x : SH} {g : Cfg} (q : cCf P T V x g) (e1 : ∀ h j, P h ∨ own x h → W.1 h j = V.1 h j) (e2 : ∀ h j, P h ∨ own x h → W.2.2 h j = V.2.2 h j) : cCf P T W x g := by
  have o1 : own x x.s := Or.inl rfl
  have o2 : own x x.ti := Or.inr (Or.inl rfl)
  have o3 : own x x.sz := Or.inr (Or.inr (Or.inl rfl))
  have o4 : own x x.ta := Or.inr (Or.inr (Or.inr (Or.inl rfl)))
  have o5 : own x x.ll := Or.inr (Or.inr (Or.inr (Or.inr (Or.inl rfl))))
  have o6 : own x x.la := Or.inr (Or.inr (Or.inr (Or.inr (Or.inr (Or.inl rfl)))))
  have o7 : own x x.pl := Or.inr (Or.inr (Or.inr (Or.inr (Or.inr (Or.inr (Or.inl rfl))))))
  have o8 : own x x.pa := Or.inr (Or.inr (Or.inr (Or.inr (Or.inr (Or.inr (Or.inr rfl))))))
  have f1 := fun h j (b : P h) => e1 h j (Or.inl b)
  have f2 := fun h j (b : P h) => e2 h j (Or.inl b)
  refine ⟨(e1 _ _ (Or.inr o1)).trans q.n, (e1 _ _ (Or.inr o1)).trans q.nt, (e1 _ _ (Or.inr o1)).trans q.co, (e1 _ _ (Or.inr o1)).trans q.mo, (e1 _ _ (Or.inr o1)).trans q.pa, (e1 _ _ (Or.inr o1)).trans q.fo, fun c hc => (e1 _ _ (Or.inr o2)).trans (q.ti c hc), fun c hc => (e1 _ _ (Or.inr o3)).trans (q.sz c hc), fun c hc => (e1 _ _ (Or.inr o4)).trans (q.ta c hc), ?_, ?_⟩
  · obtain ⟨c, el, h1, h2⟩ := q.lw
    exact ⟨c, el, h1.fr (fun j => e1 _ j (Or.inr o5)) (fun j => e2 _ j (Or.inr o5)) (fun j => e2 _ j (Or.inr o6)), fun i hi => (h2 i hi).fr f1 f2⟩
  · obtain ⟨c, el, h1, h2⟩ := q.pl
    exact ⟨c, el, h1.fr (fun j => e1 _ j (Or.inr o7)) (fun j => e2 _ j (Or.inr o7)) (fun j => e2 _ j (Or.inr o8)), fun i hi => (h2 i hi).fr f1 f2⟩
/-- the main state's: arrays of its lists may be made anew -/
def okP' (P : Nat → Prop) (la pa : Nat) : Prop := (∀ h, P h → 120 ≤ h) ∧ (la = 9 ∨ 120 ≤ la) ∧ (pa = 11 ∨ 120 ≤ pa)
theorem cCf.fc {P : Nat → Prop} {T : Tt} {V W : Vt} {la pa : Nat} {g : Cfg} (hP : okP' P la pa) (q : cCf P T V (ms la pa) g) (e1 : ∀ h j, cfgH h → W.1 h j = V.1 h j) (e2 : ∀ h j, cfgH h → W.2.2 h j = V.2.2 h j) : cCf P T W (ms la pa) g := by
  have : ∀ h, P h ∨ own (ms la pa) h → cfgH h := by
    intro h w
    rcases w with w | w
    · exact Or.inr (Or.inr (hP.1 h w))
    · have h1 := hP.2.1
      have h2 := hP.2.2
      dsimp only [own, SH.s, SH.ti, SH.sz, SH.ta, SH.ll, SH.la, SH.pl, SH.pa] at w
      omega
  exact q.fr (fun h j w => e1 h j (this h w)) (fun h j w => e2 h j (this h w))
theorem mPl.fr {V W : Vt} {B : Nat} {p : Pl} (q : mPl V B p) (e : ∀ j, W.1 96 (B + j) = V.1 96 (B + j)) : mPl W B p := by
  have e0 := e 0
  unfold mPl mOs at *
  simp only [Nat.add_zero] at e0
  simp only [Nat.add_assoc] at *
  simp only [e, e0]
  exact q
theorem mLaw.fr5 {V W : Vt} {B : Nat} {l : Lw} (q : mLaw V B l) (e : ∀ j, W.1 96 (B + j) = V.1 96 (B + j)) : mLaw W B l := by
  unfold mLaw at *
  simp only [Nat.add_assoc] at *
  simp only [e]
  exact q
theorem mTb.fr4 {V W : Vt} {b : Tab} (h : mTb V b) (e : ∀ j, 5 ≤ j → W.1 96 j = V.1 96 j) : mTb W b := ⟨fun k hk => (e _ (by omega)).trans (h.D k hk), (e _ (by omega)).trans h.b, (e _ (by omega)).trans h.y⟩
theorem mCf.fr9 {V W : Vt} {g : Cfg} (q : mCf V g) (hg : okG g) (e : ∀ j, j < 9390 → j ≠ 5 → j ≠ 9 → ¬ (10 ≤ j ∧ j < 170) → W.1 96 j = V.1 96 j) : mCf W g := by
  have h8 := hg.n
  have h6 := hg.nt
  have h4 := hg.np
  refine ⟨(e _ (by omega) (by omega) (by omega) (by omega)).trans q.n, (e _ (by omega) (by omega) (by omega) (by omega)).trans q.nt, (e _ (by omega) (by omega) (by omega) (by omega)).trans q.nl, (e _ (by omega) (by omega) (by omega) (by omega)).trans q.np, (e _ (by omega) (by omega) (by omega) (by omega)).trans q.fo, (e _ (by omega) (by omega) (by omega) (by omega)).trans q.co, (e _ (by omega) (by omega) (by omega) (by omega)).trans q.mo, (e _ (by omega) (by omega) (by omega) (by omega)).trans q.pa, fun c hc => (e _ (by omega) (by omega) (by omega) (by omega)).trans (q.ti c hc), fun c hc => (e _ (by omega) (by omega) (by omega) (by omega)).trans (q.sz c hc), fun c hc => (e _ (by omega) (by omega) (by omega) (by omega)).trans (q.ta c hc), fun i hi => ?_, fun i hi => ?_⟩
  · obtain ⟨nc, C, h1, h2, h3, h4, h5⟩ := q.pl i hi
    have hp := (hg.pl i hi).1
    refine ⟨nc, C, h1, (e _ (by omega) (by omega) (by omega) (by omega)).trans h2, (e _ (by omega) (by omega) (by omega) (by omega)).trans h3, fun k hk => ⟨(e _ (by omega) (by omega) (by omega) (by omega)).trans (h4 k hk).1, (e _ (by omega) (by omega) (by omega) (by omega)).trans (h4 k hk).2⟩, fun k hk => ?_⟩
    obtain ⟨a1, a2, a3, a, b, a4, a5, a6⟩ := h5 k hk
    refine ⟨(e _ (by omega) (by omega) (by omega) (by omega)).trans a1, (e _ (by omega) (by omega) (by omega) (by omega)).trans a2, fun k' hk' => ?_, a, b, (e _ (by omega) (by omega) (by omega) (by omega)).trans a4, (e _ (by omega) (by omega) (by omega) (by omega)).trans a5, a6⟩
    obtain ⟨a, b, c1, c2, c3⟩ := a3 k' hk'
    exact ⟨a, b, (e _ (by omega) (by omega) (by omega) (by omega)).trans c1, (e _ (by omega) (by omega) (by omega) (by omega)).trans c2, c3⟩
  · obtain ⟨hB, a1, a2, C, a3, a4⟩ := q.lw i hi
    refine ⟨hB, a1, (e _ (by omega) (by omega) (by omega) (by omega)).trans a2, C, fun k hk => ⟨(e _ (by omega) (by omega) (by omega) (by omega)).trans (a3 k hk).1, (e _ (by omega) (by omega) (by omega) (by omega)).trans (a3 k hk).2⟩, fun k hk => ?_⟩
    obtain ⟨b1, b2, s0, s1, w0, w1, c1, c2, c3, c4, c5⟩ := a4 k hk
    exact ⟨b1, (e _ (by omega) (by omega) (by omega) (by omega)).trans b2, s0, s1, w0, w1, (e _ (by omega) (by omega) (by omega) (by omega)).trans c1, (e _ (by omega) (by omega) (by omega) (by omega)).trans c2, (e _ (by omega) (by omega) (by omega) (by omega)).trans c3, (e _ (by omega) (by omega) (by omega) (by omega)).trans c4, c5⟩
theorem mCf.fr {V W : Vt} {g : Cfg} (q : mCf V g) (hg : okG g) (e : ∀ j, j ≠ 5 → j ≠ 9 → ¬ (10 ≤ j ∧ j < 170) → W.1 96 j = V.1 96 j) : mCf W g := q.fr9 hg fun j _ => e j
