/-! 81: all that is told (St), as the component and the model keep it -/
set_option maxRecDepth 100000
abbrev St : Type := (Cfg) × (Tab) × (Un) × (Int32) × (Nat → Int32) × (Nat → Option (Cfg × Tab)) × (Nat) × (Nat → Nat) × (Int32) × (Int32) × (Int32) × (Option Nat) × (Nat → Nat)
abbrev St.g (x__ : St) : Cfg := x__.1
abbrev St.t (x__ : St) : Tab := x__.2.1
abbrev St.u (x__ : St) : Un := x__.2.2.1
abbrev St.st (x__ : St) : Int32 := x__.2.2.2.1
abbrev St.rf (x__ : St) : Nat → Int32 := x__.2.2.2.2.1
abbrev St.im (x__ : St) : Nat → Option (Cfg × Tab) := x__.2.2.2.2.2.1
abbrev St.tn (x__ : St) : Nat := x__.2.2.2.2.2.2.1
abbrev St.tp (x__ : St) : Nat → Nat := x__.2.2.2.2.2.2.2.1
abbrev St.fa (x__ : St) : Int32 := x__.2.2.2.2.2.2.2.2.1
abbrev St.le (x__ : St) : Int32 := x__.2.2.2.2.2.2.2.2.2.1
abbrev St.so (x__ : St) : Int32 := x__.2.2.2.2.2.2.2.2.2.2.1
abbrev St.dm (x__ : St) : Option Nat := x__.2.2.2.2.2.2.2.2.2.2.2.1
abbrev St.dd (x__ : St) : Nat → Nat := x__.2.2.2.2.2.2.2.2.2.2.2.2
/-- what always holds of it -/
abbrev OK.B (a : St) : Prop := (okG a.g) ∧ (okB a.g a.t) ∧ (a.t.y ≤ 999) ∧ (∀ k, k < a.u.n → okB a.g (a.u.s k) ∧ (a.u.s k).y ≤ 999 ∧ a.u.w k < 4) ∧ (a.u.n ≤ 16) ∧ (∀ k h b, k < 2 → a.im k = some (h, b) → okG h ∧ okB h b ∧ b.y ≤ 999) ∧ (a.tn ≤ 400) ∧ (∀ i, a.tp i < 256) ∧ (∀ m, a.dm = some m → m ≤ 8 ∧ ∀ c, c < m → tAll a.dd c ≤ 999000)
def OK (a : St) : Prop := OK.B a
theorem OK.mk {a : St} (h__ : OK.B a) : OK a := h__
theorem OK.g {a : St} (h__ : OK a) : okG a.g := h__.1
theorem OK.t {a : St} (h__ : OK a) : okB a.g a.t := h__.2.1
theorem OK.y {a : St} (h__ : OK a) : a.t.y ≤ 999 := h__.2.2.1
theorem OK.u {a : St} (h__ : OK a) : ∀ k, k < a.u.n → okB a.g (a.u.s k) ∧ (a.u.s k).y ≤ 999 ∧ a.u.w k < 4 := h__.2.2.2.1
theorem OK.ul {a : St} (h__ : OK a) : a.u.n ≤ 16 := h__.2.2.2.2.1
theorem OK.im {a : St} (h__ : OK a) : ∀ k h b, k < 2 → a.im k = some (h, b) → okG h ∧ okB h b ∧ b.y ≤ 999 := h__.2.2.2.2.2.1
theorem OK.tn {a : St} (h__ : OK a) : a.tn ≤ 400 := h__.2.2.2.2.2.2.1
theorem OK.tp {a : St} (h__ : OK a) : ∀ i, a.tp i < 256 := h__.2.2.2.2.2.2.2.1
theorem OK.dm {a : St} (h__ : OK a) : ∀ m, a.dm = some m → m ≤ 8 ∧ ∀ c, c < m → tAll a.dd c ≤ 999000 := h__.2.2.2.2.2.2.2.2
/-- a byte as it lies in the component's tape -/
def by8 (n : Nat) : Int32 := if n < 128 then nI n else -nI (256 - n)
/-- the component's cells: trees, owners of cells made later, lists' arrays, the order of undone tables, images -/
abbrev HS : Type := (Nat → Prop) × (Nat → Nat) × (Nat) × (Nat) × (Nat → Nat) × (Nat → SH)
abbrev HS.P (x__ : HS) : Nat → Prop := x__.1
abbrev HS.ow (x__ : HS) : Nat → Nat := x__.2.1
abbrev HS.la (x__ : HS) : Nat := x__.2.2.1
abbrev HS.pa (x__ : HS) : Nat := x__.2.2.2.1
abbrev HS.p (x__ : HS) : Nat → Nat := x__.2.2.2.2.1
abbrev HS.x (x__ : HS) : Nat → SH := x__.2.2.2.2.2
abbrev mH (h : Nat) : Prop := 94 ≤ h ∧ h < 120
abbrev new (T : Tt) (ow : Nat → Nat) (h w : Nat) : Prop := 120 ≤ h ∧ h < T.2.2 ∧ ow h = w
abbrev isIm (T : Tt) (V : Vt) (ow : Nat → Nat) (P : Nat → Prop) (b : Nat) (x : SH) (g : Cfg) (t : Tab) : Prop := (new T ow x.s b) ∧ (new T ow x.t (b + 1)) ∧ (new T ow x.d (b + 2)) ∧ (new T ow x.ti (b + 3)) ∧ (new T ow x.sz (b + 4)) ∧ (new T ow x.ta (b + 5)) ∧ (new T ow x.ll (b + 6)) ∧ (new T ow x.la (b + 7) ∧ 1 ≤ T.2.1 x.la) ∧ (new T ow x.pl (b + 8)) ∧ (new T ow x.pa (b + 9) ∧ 1 ≤ T.2.1 x.pa) ∧ (T.1 x.s = 2) ∧ ((T.1 x.ti = 100 ∧ T.2.1 x.ti = 8) ∧ (T.1 x.sz = 100 ∧ T.2.1 x.sz = 8) ∧ (T.1 x.ta = 100 ∧ T.2.1 x.ta = 12)) ∧ (V.2.2 x.s 0 = some x.t ∧ V.2.2 x.s 1 = some x.ti ∧ V.2.2 x.s 2 = some x.sz ∧ V.2.2 x.s 3 = some x.ta ∧ V.2.2 x.s 4 = some x.ll ∧ V.2.2 x.s 5 = some x.pl) ∧ (cCf P T V x g) ∧ (cTb T V x.t x.d t)
theorem isIm.s {T : Tt} {V : Vt} {ow : Nat → Nat} {P : Nat → Prop} {b : Nat} {x : SH} {g : Cfg} {t : Tab} (h__ : isIm T V ow P b x g t) : new T ow x.s b := h__.1
theorem isIm.t {T : Tt} {V : Vt} {ow : Nat → Nat} {P : Nat → Prop} {b : Nat} {x : SH} {g : Cfg} {t : Tab} (h__ : isIm T V ow P b x g t) : new T ow x.t (b + 1) := h__.2.1
theorem isIm.d {T : Tt} {V : Vt} {ow : Nat → Nat} {P : Nat → Prop} {b : Nat} {x : SH} {g : Cfg} {t : Tab} (h__ : isIm T V ow P b x g t) : new T ow x.d (b + 2) := h__.2.2.1
theorem isIm.ti {T : Tt} {V : Vt} {ow : Nat → Nat} {P : Nat → Prop} {b : Nat} {x : SH} {g : Cfg} {t : Tab} (h__ : isIm T V ow P b x g t) : new T ow x.ti (b + 3) := h__.2.2.2.1
theorem isIm.sz {T : Tt} {V : Vt} {ow : Nat → Nat} {P : Nat → Prop} {b : Nat} {x : SH} {g : Cfg} {t : Tab} (h__ : isIm T V ow P b x g t) : new T ow x.sz (b + 4) := h__.2.2.2.2.1
theorem isIm.ta {T : Tt} {V : Vt} {ow : Nat → Nat} {P : Nat → Prop} {b : Nat} {x : SH} {g : Cfg} {t : Tab} (h__ : isIm T V ow P b x g t) : new T ow x.ta (b + 5) := h__.2.2.2.2.2.1
theorem isIm.ll {T : Tt} {V : Vt} {ow : Nat → Nat} {P : Nat → Prop} {b : Nat} {x : SH} {g : Cfg} {t : Tab} (h__ : isIm T V ow P b x g t) : new T ow x.ll (b + 6) := h__.2.2.2.2.2.2.1
theorem isIm.la {T : Tt} {V : Vt} {ow : Nat → Nat} {P : Nat → Prop} {b : Nat} {x : SH} {g : Cfg} {t : Tab} (h__ : isIm T V ow P b x g t) : new T ow x.la (b + 7) ∧ 1 ≤ T.2.1 x.la := h__.2.2.2.2.2.2.2.1
theorem isIm.pl {T : Tt} {V : Vt} {ow : Nat → Nat} {P : Nat → Prop} {b : Nat} {x : SH} {g : Cfg} {t : Tab} (h__ : isIm T V ow P b x g t) : new T ow x.pl (b + 8) := h__.2.2.2.2.2.2.2.2.1
theorem isIm.pa {T : Tt} {V : Vt} {ow : Nat → Nat} {P : Nat → Prop} {b : Nat} {x : SH} {g : Cfg} {t : Tab} (h__ : isIm T V ow P b x g t) : new T ow x.pa (b + 9) ∧ 1 ≤ T.2.1 x.pa := h__.2.2.2.2.2.2.2.2.2.1
theorem isIm.ks {T : Tt} {V : Vt} {ow : Nat → Nat} {P : Nat → Prop} {b : Nat} {x : SH} {g : Cfg} {t : Tab} (h__ : isIm T V ow P b x g t) : T.1 x.s = 2 := h__.2.2.2.2.2.2.2.2.2.2.1
theorem isIm.k {T : Tt} {V : Vt} {ow : Nat → Nat} {P : Nat → Prop} {b : Nat} {x : SH} {g : Cfg} {t : Tab} (h__ : isIm T V ow P b x g t) : (T.1 x.ti = 100 ∧ T.2.1 x.ti = 8) ∧ (T.1 x.sz = 100 ∧ T.2.1 x.sz = 8) ∧ (T.1 x.ta = 100 ∧ T.2.1 x.ta = 12) := h__.2.2.2.2.2.2.2.2.2.2.2.1
theorem isIm.r {T : Tt} {V : Vt} {ow : Nat → Nat} {P : Nat → Prop} {b : Nat} {x : SH} {g : Cfg} {t : Tab} (h__ : isIm T V ow P b x g t) : V.2.2 x.s 0 = some x.t ∧ V.2.2 x.s 1 = some x.ti ∧ V.2.2 x.s 2 = some x.sz ∧ V.2.2 x.s 3 = some x.ta ∧ V.2.2 x.s 4 = some x.ll ∧ V.2.2 x.s 5 = some x.pl := h__.2.2.2.2.2.2.2.2.2.2.2.2.1
theorem isIm.cf {T : Tt} {V : Vt} {ow : Nat → Nat} {P : Nat → Prop} {b : Nat} {x : SH} {g : Cfg} {t : Tab} (h__ : isIm T V ow P b x g t) : cCf P T V x g := h__.2.2.2.2.2.2.2.2.2.2.2.2.2.1
theorem isIm.ct {T : Tt} {V : Vt} {ow : Nat → Nat} {P : Nat → Prop} {b : Nat} {x : SH} {g : Cfg} {t : Tab} (h__ : isIm T V ow P b x g t) : cTb T V x.t x.d t := h__.2.2.2.2.2.2.2.2.2.2.2.2.2.2
abbrev CR.B (T : Tt) (V : Vt) (x : HS) (a : St) : Prop := (CT T) ∧ (CV V) ∧ (120 ≤ T.2.2) ∧ (∀ h, x.P h → new T x.ow h 0) ∧ ((x.la = 9 ∨ new T x.ow x.la 1) ∧ 1 ≤ T.2.1 x.la) ∧ ((x.pa = 11 ∨ new T x.ow x.pa 2) ∧ 1 ≤ T.2.1 x.pa) ∧ (cCf x.P T V (ms x.la x.pa) a.g) ∧ (cTb T V 3 4 a.t) ∧ (cUn T V x.p a.u) ∧ (V.1 0 0 = a.st) ∧ (∀ i, i < 7 → V.1 1 i = a.rf i) ∧ (V.1 0 11 = nI a.tn) ∧ (∀ i, i < 400 → V.1 21 i = by8 (a.tp i)) ∧ (V.1 0 12 = a.fa) ∧ (V.1 0 13 = a.le) ∧ (V.1 0 14 = a.so) ∧ (V.1 0 24 = oI a.dm) ∧ (∀ i, i < 160 → a.dm ≠ none → V.1 29 i = nI (a.dd i)) ∧ (∀ k, k < 2 → match a.im k with | none => V.2.2 12 k = none | some gt => V.2.2 12 k = some (x.x k).s ∧ isIm T V x.ow x.P (10 + 10 * k) (x.x k) gt.1 gt.2)
def CR (T : Tt) (V : Vt) (x : HS) (a : St) : Prop := CR.B T V x a
theorem CR.mk {T : Tt} {V : Vt} {x : HS} {a : St} (h__ : CR.B T V x a) : CR T V x a := h__
theorem CR.hC {T : Tt} {V : Vt} {x : HS} {a : St} (h__ : CR T V x a) : CT T := h__.1
theorem CR.hU {T : Tt} {V : Vt} {x : HS} {a : St} (h__ : CR T V x a) : CV V := h__.2.1
theorem CR.nT {T : Tt} {V : Vt} {x : HS} {a : St} (h__ : CR T V x a) : 120 ≤ T.2.2 := h__.2.2.1
theorem CR.hP {T : Tt} {V : Vt} {x : HS} {a : St} (h__ : CR T V x a) : ∀ h, x.P h → new T x.ow h 0 := h__.2.2.2.1
theorem CR.la {T : Tt} {V : Vt} {x : HS} {a : St} (h__ : CR T V x a) : (x.la = 9 ∨ new T x.ow x.la 1) ∧ 1 ≤ T.2.1 x.la := h__.2.2.2.2.1
theorem CR.pa {T : Tt} {V : Vt} {x : HS} {a : St} (h__ : CR T V x a) : (x.pa = 11 ∨ new T x.ow x.pa 2) ∧ 1 ≤ T.2.1 x.pa := h__.2.2.2.2.2.1
theorem CR.cf {T : Tt} {V : Vt} {x : HS} {a : St} (h__ : CR T V x a) : cCf x.P T V (ms x.la x.pa) a.g := h__.2.2.2.2.2.2.1
theorem CR.ct {T : Tt} {V : Vt} {x : HS} {a : St} (h__ : CR T V x a) : cTb T V 3 4 a.t := h__.2.2.2.2.2.2.2.1
theorem CR.cu {T : Tt} {V : Vt} {x : HS} {a : St} (h__ : CR T V x a) : cUn T V x.p a.u := h__.2.2.2.2.2.2.2.2.1
theorem CR.st {T : Tt} {V : Vt} {x : HS} {a : St} (h__ : CR T V x a) : V.1 0 0 = a.st := h__.2.2.2.2.2.2.2.2.2.1
theorem CR.rf {T : Tt} {V : Vt} {x : HS} {a : St} (h__ : CR T V x a) : ∀ i, i < 7 → V.1 1 i = a.rf i := h__.2.2.2.2.2.2.2.2.2.2.1
theorem CR.tn {T : Tt} {V : Vt} {x : HS} {a : St} (h__ : CR T V x a) : V.1 0 11 = nI a.tn := h__.2.2.2.2.2.2.2.2.2.2.2.1
theorem CR.tp {T : Tt} {V : Vt} {x : HS} {a : St} (h__ : CR T V x a) : ∀ i, i < 400 → V.1 21 i = by8 (a.tp i) := h__.2.2.2.2.2.2.2.2.2.2.2.2.1
theorem CR.fa {T : Tt} {V : Vt} {x : HS} {a : St} (h__ : CR T V x a) : V.1 0 12 = a.fa := h__.2.2.2.2.2.2.2.2.2.2.2.2.2.1
theorem CR.le {T : Tt} {V : Vt} {x : HS} {a : St} (h__ : CR T V x a) : V.1 0 13 = a.le := h__.2.2.2.2.2.2.2.2.2.2.2.2.2.2.1
theorem CR.so {T : Tt} {V : Vt} {x : HS} {a : St} (h__ : CR T V x a) : V.1 0 14 = a.so := h__.2.2.2.2.2.2.2.2.2.2.2.2.2.2.2.1
theorem CR.dm {T : Tt} {V : Vt} {x : HS} {a : St} (h__ : CR T V x a) : V.1 0 24 = oI a.dm := h__.2.2.2.2.2.2.2.2.2.2.2.2.2.2.2.2.1
theorem CR.dd {T : Tt} {V : Vt} {x : HS} {a : St} (h__ : CR T V x a) : ∀ i, i < 160 → a.dm ≠ none → V.1 29 i = nI (a.dd i) := h__.2.2.2.2.2.2.2.2.2.2.2.2.2.2.2.2.2.1
theorem CR.im {T : Tt} {V : Vt} {x : HS} {a : St} (h__ : CR T V x a) : ∀ k, k < 2 → match a.im k with | none => V.2.2 12 k = none | some gt => V.2.2 12 k = some (x.x k).s ∧ isIm T V x.ow x.P (10 + 10 * k) (x.x k) gt.1 gt.2 := h__.2.2.2.2.2.2.2.2.2.2.2.2.2.2.2.2.2.2
/-- a row by itself -/
abbrev rowV (f : Nat → Int32) : Vt := (fun _ j => f j, fun _ _ => 0, fun _ _ => none)
/-- the model's words -/
abbrev mK (V : Vt) : Prop := (V.2.1 109 0 = 99947 ∧ V.2.1 109 1 = 664754 ∧ V.2.1 109 2 = 632645 ∧ V.2.1 109 3 = 218508 ∧ V.2.1 109 4 = 431150 ∧ V.2.1 109 5 = 824370 ∧ V.2.1 109 6 = 441828) ∧ (V.2.1 110 0 = 824370 ∧ V.2.1 110 1 = 146885 ∧ V.2.1 110 2 = 404362868 ∧ V.2.1 110 3 = 2672439460 ∧ V.2.1 110 4 = 218508 ∧ V.2.1 110 5 = 605677 ∧ V.2.1 110 6 = 431150) ∧ (V.2.1 111 0 = 13094067 ∧ V.2.1 111 1 = 848474259 ∧ V.2.1 111 2 = 67155) ∧ (V.2.1 116 0 = 540338 ∧ V.2.1 116 1 = 590955 ∧ V.2.1 116 2 = 83513733 ∧ V.2.1 116 3 = 525939)
theorem mK.w {V : Vt} (h__ : mK V) : V.2.1 109 0 = 99947 ∧ V.2.1 109 1 = 664754 ∧ V.2.1 109 2 = 632645 ∧ V.2.1 109 3 = 218508 ∧ V.2.1 109 4 = 431150 ∧ V.2.1 109 5 = 824370 ∧ V.2.1 109 6 = 441828 := h__.1
theorem mK.o {V : Vt} (h__ : mK V) : V.2.1 110 0 = 824370 ∧ V.2.1 110 1 = 146885 ∧ V.2.1 110 2 = 404362868 ∧ V.2.1 110 3 = 2672439460 ∧ V.2.1 110 4 = 218508 ∧ V.2.1 110 5 = 605677 ∧ V.2.1 110 6 = 431150 := h__.2.1
theorem mK.h {V : Vt} (h__ : mK V) : V.2.1 111 0 = 13094067 ∧ V.2.1 111 1 = 848474259 ∧ V.2.1 111 2 = 67155 := h__.2.2.1
theorem mK.a {V : Vt} (h__ : mK V) : V.2.1 116 0 = 540338 ∧ V.2.1 116 1 = 590955 ∧ V.2.1 116 2 = 83513733 ∧ V.2.1 116 3 = 525939 := h__.2.2.2
abbrev MR.B (V : Vt) (a : St) : Prop := (MV V) ∧ (mCf V a.g) ∧ (mTb V a.t) ∧ (mUn V a.g a.u) ∧ (V.1 94 1 = a.st) ∧ (∀ i, i < 7 → V.1 95 i = a.rf i) ∧ (V.1 94 20 = nI 0) ∧ (V.1 94 13 = nI a.tn) ∧ (∀ i, i < 400 → V.1 103 i = nI (a.tp i)) ∧ (V.1 94 18 = a.fa) ∧ (V.1 94 11 = a.le) ∧ (V.1 94 48 = a.so) ∧ (V.1 94 54 = oI a.dm) ∧ (∀ i, i < 160 → a.dm ≠ none → V.1 119 i = nI (a.dd i)) ∧ (∀ k, k < 2 → match a.im k with | none => V.1 98 k = nI 0 | some gt => V.1 98 k = nI 1 ∧ mCf (rowV fun j => V.1 97 (9390 * k + j)) gt.1 ∧ mTb (rowV fun j => V.1 97 (9390 * k + j)) gt.2) ∧ (mK V)
def MR (V : Vt) (a : St) : Prop := MR.B V a
theorem MR.mk {V : Vt} {a : St} (h__ : MR.B V a) : MR V a := h__
theorem MR.hV {V : Vt} {a : St} (h__ : MR V a) : MV V := h__.1
theorem MR.mf {V : Vt} {a : St} (h__ : MR V a) : mCf V a.g := h__.2.1
theorem MR.mt {V : Vt} {a : St} (h__ : MR V a) : mTb V a.t := h__.2.2.1
theorem MR.mu {V : Vt} {a : St} (h__ : MR V a) : mUn V a.g a.u := h__.2.2.2.1
theorem MR.st {V : Vt} {a : St} (h__ : MR V a) : V.1 94 1 = a.st := h__.2.2.2.2.1
theorem MR.rf {V : Vt} {a : St} (h__ : MR V a) : ∀ i, i < 7 → V.1 95 i = a.rf i := h__.2.2.2.2.2.1
theorem MR.od {V : Vt} {a : St} (h__ : MR V a) : V.1 94 20 = nI 0 := h__.2.2.2.2.2.2.1
theorem MR.tn {V : Vt} {a : St} (h__ : MR V a) : V.1 94 13 = nI a.tn := h__.2.2.2.2.2.2.2.1
theorem MR.tp {V : Vt} {a : St} (h__ : MR V a) : ∀ i, i < 400 → V.1 103 i = nI (a.tp i) := h__.2.2.2.2.2.2.2.2.1
theorem MR.fa {V : Vt} {a : St} (h__ : MR V a) : V.1 94 18 = a.fa := h__.2.2.2.2.2.2.2.2.2.1
theorem MR.le {V : Vt} {a : St} (h__ : MR V a) : V.1 94 11 = a.le := h__.2.2.2.2.2.2.2.2.2.2.1
theorem MR.so {V : Vt} {a : St} (h__ : MR V a) : V.1 94 48 = a.so := h__.2.2.2.2.2.2.2.2.2.2.2.1
theorem MR.dm {V : Vt} {a : St} (h__ : MR V a) : V.1 94 54 = oI a.dm := h__.2.2.2.2.2.2.2.2.2.2.2.2.1
theorem MR.dd {V : Vt} {a : St} (h__ : MR V a) : ∀ i, i < 160 → a.dm ≠ none → V.1 119 i = nI (a.dd i) := h__.2.2.2.2.2.2.2.2.2.2.2.2.2.1
theorem MR.im {V : Vt} {a : St} (h__ : MR V a) : ∀ k, k < 2 → match a.im k with | none => V.1 98 k = nI 0 | some gt => V.1 98 k = nI 1 ∧ mCf (rowV fun j => V.1 97 (9390 * k + j)) gt.1 ∧ mTb (rowV fun j => V.1 97 (9390 * k + j)) gt.2 := h__.2.2.2.2.2.2.2.2.2.2.2.2.2.2.1
theorem MR.kw {V : Vt} {a : St} (h__ : MR V a) : mK V := h__.2.2.2.2.2.2.2.2.2.2.2.2.2.2.2
/-- frames: the component's steps leave the model's cells, the model's steps leave all others -/
def cFr (V W : Vt) : Prop := (∀ h j, mH h → W.1 h j = V.1 h j) ∧ (∀ h j, mH h → W.2.1 h j = V.2.1 h j) ∧ ∀ h j, mH h → W.2.2 h j = V.2.2 h j
def mFr (V W : Vt) : Prop := (∀ h j, ¬ mH h → W.1 h j = V.1 h j) ∧ (∀ h j, ¬ mH h → W.2.1 h j = V.2.1 h j) ∧ W.2.2 = V.2.2
theorem cFr.rfl' {V : Vt} : cFr V V := ⟨fun _ _ _ => rfl, fun _ _ _ => rfl, fun _ _ _ => rfl⟩
theorem cFr.tr {V W U : Vt} (h : cFr V W) (g : cFr W U) : cFr V U := ⟨fun a j q => (g.1 a j q).trans (h.1 a j q), fun a j q => (g.2.1 a j q).trans (h.2.1 a j q), fun a j q => (g.2.2 a j q).trans (h.2.2 a j q)⟩
theorem mFr.rfl' {V : Vt} : mFr V V := ⟨fun _ _ _ => rfl, fun _ _ _ => rfl, rfl⟩
theorem mFr.tr {V W U : Vt} (h : mFr V W) (g : mFr W U) : mFr V U := ⟨fun a j q => (g.1 a j q).trans (h.1 a j q), fun a j q => (g.2.1 a j q).trans (h.2.1 a j q), g.2.2.trans h.2.2⟩
theorem MV.fr {V W : Vt} (h : MV V) (e : ∀ j, W.2.2 94 j = V.2.2 94 j) : MV W := by
  unfold MV at *
  simp only [e]
  exact h
theorem MR.fr {V W : Vt} {a : St} (h : MR V a) (ok : OK a) (f : cFr V W) : MR W a := by
  have e := f.1
  have h16 := h.mu.l
  have hg := ok.g
  refine MR.mk ⟨h.hV.fr fun j => f.2.2 _ _ (by omega), h.mf.fr hg fun j _ _ _ => e _ _ (by omega), h.mt.fr fun j => e _ _ (by omega), ⟨(e _ _ (by omega)).trans h.mu.n, h16, fun k hk i hi => (e _ _ (by omega)).trans (h.mu.s k hk i hi), fun k hk => (e _ _ (by omega)).trans (h.mu.w k hk)⟩, (e _ _ (by omega)).trans h.st, fun i hi => (e _ _ (by omega)).trans (h.rf i hi), (e _ _ (by omega)).trans h.od, (e _ _ (by omega)).trans h.tn, fun i hi => (e _ _ (by omega)).trans (h.tp i hi), (e _ _ (by omega)).trans h.fa, (e _ _ (by omega)).trans h.le, (e _ _ (by omega)).trans h.so, (e _ _ (by omega)).trans h.dm, fun i hi q => (e _ _ (by omega)).trans (h.dd i hi q), fun k hk => ?_, ?_⟩
  · have hi := h.im k hk
    have e1 : (fun j => W.1 97 (9390 * k + j)) = fun j => V.1 97 (9390 * k + j) := funext fun j => e _ _ (by omega)
    rw [e1, e _ _ (by omega)]
    exact hi
  · have el := f.2.1
    have e1 : ∀ j, W.2.1 109 j = V.2.1 109 j := fun j => el _ _ (by omega)
    have e2 : ∀ j, W.2.1 110 j = V.2.1 110 j := fun j => el _ _ (by omega)
    have e3 : ∀ j, W.2.1 111 j = V.2.1 111 j := fun j => el _ _ (by omega)
    have e4 : ∀ j, W.2.1 116 j = V.2.1 116 j := fun j => el _ _ (by omega)
    have hk := h.kw
    unfold mK at *
    simp only [e1, e2, e3, e4]
    exact hk
theorem CR.P' {T : Tt} {V : Vt} {x : HS} {a : St} (h : CR T V x a) : okP' x.P x.la x.pa := ⟨fun c q => (h.hP c q).1, h.la.1.imp id (fun q => q.1), h.pa.1.imp id (fun q => q.1)⟩
theorem isIm.fr {T : Tt} {V W : Vt} {ow : Nat → Nat} {P : Nat → Prop} {b : Nat} {x : SH} {g : Cfg} {t : Tab} (h : isIm T V ow P b x g t) (hP : ∀ c, P c → 120 ≤ c) (e1 : ∀ c j, 120 ≤ c → W.1 c j = V.1 c j) (e2 : ∀ c j, 120 ≤ c → W.2.2 c j = V.2.2 c j) : isIm T W ow P b x g t := by
  have ho : ∀ c, P c ∨ own x c → 120 ≤ c := by
    intro c q
    rcases q with q | q
    · exact hP c q
    · have h1 := h.s.1
      have h2 := h.ti.1
      have h3 := h.sz.1
      have h4 := h.ta.1
      have h5 := h.ll.1
      have h6 := h.la.1.1
      have h7 := h.pl.1
      have h8 := h.pa.1.1
      rcases q with q | q | q | q | q | q | q | q <;> omega
  have hs := h.s.1
  have hr := h.r
  refine ⟨h.s, h.t, h.d, h.ti, h.sz, h.ta, h.ll, h.la, h.pl, h.pa, h.ks, h.k, ?_, h.cf.fr (fun c j q => e1 c j (ho c q)) (fun c j q => e2 c j (ho c q)), h.ct.fr (fun j => e1 _ j h.t.1) (fun j => e1 _ j h.d.1) (fun j => e2 _ j h.t.1)⟩
  simp only [e2 _ _ hs]
  exact hr
theorem CR.fr {T : Tt} {V W : Vt} {x : HS} {a : St} (h : CR T V x a) (f : mFr V W) : CR T W x a := by
  have e := f.1
  have er := f.2.2
  have hc : ∀ c, cfgH c → ¬ mH c := fun c q => by omega
  refine CR.mk ⟨h.hC, h.hU.eq3 er, h.nT, h.hP, h.la, h.pa, h.cf.fc h.P' (fun c j q => e _ _ (hc c q)) (fun c j _ => by rw [er]), h.ct.fr (fun j => e _ _ (by omega)) (fun j => e _ _ (by omega)) (fun j => by rw [er]), ⟨(e _ _ (by omega)).trans h.cu.n, h.cu.l, h.cu.b, h.cu.i, fun k hk => by rw [er]; exact h.cu.r k hk, fun k hk => ?_, fun k hk => (e _ _ (by omega)).trans (h.cu.w k hk)⟩, (e _ _ (by omega)).trans h.st, fun i hi => (e _ _ (by omega)).trans (h.rf i hi), (e _ _ (by omega)).trans h.tn, fun i hi => (e _ _ (by omega)).trans (h.tp i hi), (e _ _ (by omega)).trans h.fa, (e _ _ (by omega)).trans h.le, (e _ _ (by omega)).trans h.so, (e _ _ (by omega)).trans h.dm, fun i hi q => (e _ _ (by omega)).trans (h.dd i hi q), fun k hk => ?_⟩
  · have := h.cu.l
    have := h.cu.b k (by omega)
    exact (h.cu.t k hk).fr (fun j => e _ _ (by omega)) (fun j => e _ _ (by omega)) (fun j => by rw [er])
  · have hi := h.im k hk
    rw [er]
    cases hm : a.im k with
    | none => rw [hm] at hi; exact hi
    | some gt =>
      rw [hm] at hi
      exact ⟨hi.1, hi.2.fr (fun c q => (h.hP c q).1) (fun c j q => e _ _ (by omega)) (fun c j q => by rw [er])⟩
