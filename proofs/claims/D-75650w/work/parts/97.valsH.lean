/-! 97: sums as both sides have them are alike where it counts; a year by a plan, on paper -/
set_option maxRecDepth 100000
def sN (x : Int32) : Prop := ∀ lo hi : Int, 0 ≤ lo → hi < 1000000 → iN x lo hi = false
def sim (a b : Int32) : Prop := a = b ∨ (sN a ∧ sN b)
theorem sim.sy {a b : Int32} (h : sim a b) : sim b a := h.elim (fun q => Or.inl q.symm) fun q => Or.inr ⟨q.2, q.1⟩
theorem sN_no {c : Nat} (h : c < 1000000) : ¬ sN (nI c) := fun w => by
  have := w 0 999999 (by omega) (by omega)
  rw [iN_nI (by omega)] at this
  have := of_decide_eq_false this
  omega
theorem sN_m : sN (-nI 1) := fun lo hi h1 h2 => by
  rw [iN, ngT (by omega)]
  exact decide_eq_false (by omega)
theorem b9_t {x : Int64} (h : b9 x) : -1000000000 ≤ x.toInt ∧ x.toInt ≤ 1000000000 := by
  have : ¬ (1000000000 < x ∨ x < -1000000000) := fun w => by
    rw [b9, bnd, if_pos w] at h
    cases h
  rw [Int64.lt_iff_toInt_lt, Int64.lt_iff_toInt_lt, show (1000000000 : Int64).toInt = 1000000000 by decide, show (-1000000000 : Int64).toInt = -1000000000 by decide] at this
  omega
theorem far_sim {x : Int64} (h : b9 x) : sim (far (some x)) x.toInt32 := by
  have hx := b9_t h
  have ht : x.toInt32.toInt = x.toInt := by
    rw [Int64.toInt_toInt32, Int.bmod]
    simp only [Int.reducePow, Nat.reducePow, Int.reduceAdd, Int.reduceDiv, Int.cast_ofNat_Int]
    split <;> omega
  have h0 : (0 : Int64).toInt = 0 := by decide
  have h1 : (1000000 : Int64).toInt = 1000000 := by decide
  rw [far]
  by_cases c1 : x < 0
  · rw [if_pos c1]
    rw [Int64.lt_iff_toInt_lt] at c1
    refine Or.inr ⟨sN_m, fun lo hi w1 w2 => ?_⟩
    rw [iN, ht]
    exact decide_eq_false (by omega)
  · rw [if_neg c1]
    by_cases c2 : x < 1000000
    · rw [if_pos c2]
      exact Or.inl rfl
    · rw [if_neg c2]
      rw [Int64.lt_iff_toInt_lt] at c2
      refine Or.inr ⟨sN_m, fun lo hi w1 w2 => ?_⟩
      rw [iN, ht]
      exact decide_eq_false (by omega)
theorem whyP_n {g : Cfg} (hg : okG g) {t : Tab} {c n : Int32} (h : whyP g t c n = 0) : ¬ sN c ∧ ¬ sN n := by
  obtain ⟨c', n', rfl, rfl, h1, h2, h3, -⟩ := whyP_0 hg h
  have := hg.n
  exact ⟨sN_no (by omega), sN_no (by omega)⟩
theorem whyB_n {g : Cfg} (hg : okG g) {t : Tab} {c n : Int32} (h : whyB g t c n = 0) : ¬ sN c ∧ ¬ sN n := by
  obtain ⟨c', n', rfl, rfl, h1, h2, h3, -⟩ := whyB_0 hg h
  have := hg.n
  exact ⟨sN_no (by omega), sN_no (by omega)⟩
theorem whyR_n {g : Cfg} (hg : okG g) {t : Tab} {c o n : Int32} (h : whyR g t c o n = 0) : ¬ sN c ∧ ¬ sN o ∧ ¬ sN n := by
  obtain ⟨c', o', n', rfl, rfl, rfl, h1, h2, h3, h4, -⟩ := whyR_0 hg h
  have := hg.n
  exact ⟨sN_no (by omega), sN_no (by omega), sN_no (by omega)⟩
theorem sim.e {a b : Int32} (h : sim a b) (q : ¬ sN a) : a = b := h.elim id fun w => absurd w.1 q
theorem whyP_s {g : Cfg} (hg : okG g) {t : Tab} {c n c' n' : Int32} (h1 : sim c c') (h2 : sim n n') (h : whyP g t c n = 0) : c = c' ∧ n = n' := ⟨h1.e (whyP_n hg h).1, h2.e (whyP_n hg h).2⟩
theorem whyB_s {g : Cfg} (hg : okG g) {t : Tab} {c n c' n' : Int32} (h1 : sim c c') (h2 : sim n n') (h : whyB g t c n = 0) : c = c' ∧ n = n' := ⟨h1.e (whyB_n hg h).1, h2.e (whyB_n hg h).2⟩
theorem whyR_s {g : Cfg} (hg : okG g) {t : Tab} {c o n c' o' n' : Int32} (h1 : sim c c') (h2 : sim o o') (h3 : sim n n') (h : whyR g t c o n = 0) : c = c' ∧ o = o' ∧ n = n' := ⟨h1.e (whyR_n hg h).1, h2.e (whyR_n hg h).2.1, h3.e (whyR_n hg h).2.2⟩
theorem whyP_ne {g : Cfg} (hg : okG g) {t : Tab} {c n c' n' : Int32} (h1 : sim c c') (h2 : sim n n') (h : ¬ whyP g t c n = 0) : ¬ whyP g t c' n' = 0 := fun w => by
  obtain ⟨rfl, rfl⟩ := whyP_s hg h1.sy h2.sy w
  exact h w
theorem whyB_ne {g : Cfg} (hg : okG g) {t : Tab} {c n c' n' : Int32} (h1 : sim c c') (h2 : sim n n') (h : ¬ whyB g t c n = 0) : ¬ whyB g t c' n' = 0 := fun w => by
  obtain ⟨rfl, rfl⟩ := whyB_s hg h1.sy h2.sy w
  exact h w
theorem whyR_ne {g : Cfg} (hg : okG g) {t : Tab} {c o n c' o' n' : Int32} (h1 : sim c c') (h2 : sim o o') (h3 : sim n n') (h : ¬ whyR g t c o n = 0) : ¬ whyR g t c' o' n' = 0 := fun w => by
  obtain ⟨rfl, rfl, rfl⟩ := whyR_s hg h1.sy h2.sy h3.sy w
  exact h w
/-- an order's sum, as the component has it -/
def sO (o : Od) (v : Vals) (k : Nat) : Int32 := match o.2.1 k with
  | none => -nI 1
  | some s => far (s v)
def whyO (g : Cfg) (b : Tab) (o : Od) (v : Vals) : Nat := if o.1 = 0 then whyP g b (sO o v 1) (sO o v 0) else if o.1 = 1 then whyR g b (sO o v 1) (sO o v 2) (sO o v 0) else whyB g b (sO o v 1) (sO o v 0)
theorem sM_sim {o : Od} (ok : okO o) {v : Vals} (hv : ∀ i, i < 28 → b9 (v i)) {k j : Nat} (hk : k < 3) (hs : hasS o.1 k = true) (e : slM o j = o.2.1 k) : (∀ x, sM o v j = some x → sim (sO o v k) x) ∧ (sM o v j = none → sN (sO o v k)) := by
  have hne := (ok.2.1 k hk).mp hs
  rw [sM, sO, e]
  cases hq : o.2.1 k with
  | none => exact absurd hq hne
  | some s =>
    have h9 := (ok.2.2.1 k s hk hq).2 v hv
    dsimp only
    cases hm : s v with
    | none => exact ⟨fun x q => (by cases q), fun _ => sN_m⟩
    | some y =>
      refine ⟨fun x q => ?_, fun q => by cases q⟩
      cases q
      exact far_sim (h9 y hm)
/-- of what is done on paper: the table, how much was done, the latest bottling, whether something was skipped, how much was bottled, the least mean -/
abbrev Pp : Type := (Tab) × (Nat) × (Int32) × (Bool) × (Int32) × (Option Nat)
abbrev Pp.b (x__ : Pp) : Tab := x__.1
abbrev Pp.dn (x__ : Pp) : Nat := x__.2.1
abbrev Pp.lt (x__ : Pp) : Int32 := x__.2.2.1
abbrev Pp.sk (x__ : Pp) : Bool := x__.2.2.2.1
abbrev Pp.yl (x__ : Pp) : Int32 := x__.2.2.2.2.1
abbrev Pp.lm (x__ : Pp) : Option Nat := x__.2.2.2.2.2
def mnN (l : Option Nat) (m : Nat) : Nat := match l with
  | none => m
  | some x => if m < x then m else x
def pAct (g : Cfg) (s : Pp) (o : Od) (v : Vals) : Pp :=
  if whyO g s.b o v = 0 then
    (if o.1 = 0 then ⟨tPour s.b (ixN (sO o v 1)) (ixN (sO o v 0)), s.dn + 1, s.lt, s.sk, s.yl, s.lm⟩
    else if o.1 = 1 then ⟨tRack s.b (ixN (sO o v 1)) (ixN (sO o v 2)) (ixN (sO o v 0)), s.dn + 1, s.lt, s.sk, s.yl, s.lm⟩
    else ⟨tBot s.b (ixN (sO o v 1)) (ixN (sO o v 0)), s.dn + 1, mnOf (outA (gC s.b.D (ixN (sO o v 1))) (ixN (sO o v 0))), s.sk, s.yl + sO o v 0, some (mnN s.lm (ixN (mnOf (outA (gC s.b.D (ixN (sO o v 1))) (ixN (sO o v 0))))))⟩)
  else ⟨s.b, s.dn, s.lt, true, s.yl, s.lm⟩
abbrev vP (g : Cfg) (s : Pp) : Vals := vO g s.b (nI s.dn) s.lt
def pOnce (g : Cfg) (s : Pp) (o : Od) : Pp := if nowO o (vP g s) = true then pAct g s o (vP g s) else s
def pIt (g : Cfg) (o : Od) (s : Pp) : Nat → Pp
  | 0 => s
  | n + 1 => pOnce g (pIt g o s n) o
def pOd (g : Cfg) (s : Pp) (o : Od) : Pp := if o.1 = 3 then s else pIt g o s o.2.2.1
def pYrI (g : Cfg) (p : Pl) (s : Pp) : Nat → Pp
  | 0 => s
  | i + 1 => pOd g (pYrI g p s i) (p.2 i)
def pNew (s : Pp) : Pp := ⟨s.b, 0, -nI 1, false, s.yl, s.lm⟩
def pEnd (g : Cfg) (s : Pp) : Pp := ⟨tEnd g s.b, s.dn, s.lt, s.sk, s.yl, s.lm⟩
def pYear (g : Cfg) (p : Pl) (s : Pp) : Pp := pEnd g (pYrI g p (pNew s) p.1)
def pYears (g : Cfg) (p : Pl) (s : Pp) : Nat → Pp
  | 0 => s
  | n + 1 => pYear g p (pYears g p s n)
def pBeg (t : Tab) : Pp := ⟨t, 0, -nI 1, false, nI 0, none⟩
abbrev okQ (g : Cfg) (s : Pp) (d e : Nat) : Prop := (okB g s.b) ∧ (s.b.y ≤ e) ∧ (s.dn ≤ d) ∧ (s.lt = -nI 1 ∨ ∃ k, k ≤ 19000 ∧ s.lt = nI k) ∧ (∀ m, s.lm = some m → m ≤ 19000)
theorem okQ.b {g : Cfg} {s : Pp} {d e : Nat} (h__ : okQ g s d e) : okB g s.b := h__.1
theorem okQ.y {g : Cfg} {s : Pp} {d e : Nat} (h__ : okQ g s d e) : s.b.y ≤ e := h__.2.1
theorem okQ.dn {g : Cfg} {s : Pp} {d e : Nat} (h__ : okQ g s d e) : s.dn ≤ d := h__.2.2.1
theorem okQ.lt {g : Cfg} {s : Pp} {d e : Nat} (h__ : okQ g s d e) : s.lt = -nI 1 ∨ ∃ k, k ≤ 19000 ∧ s.lt = nI k := h__.2.2.2.1
theorem okQ.lm {g : Cfg} {s : Pp} {d e : Nat} (h__ : okQ g s d e) : ∀ m, s.lm = some m → m ≤ 19000 := h__.2.2.2.2
theorem vO_b {g : Cfg} (hg : okG g) {b : Tab} (hb : okB g b) {dn : Nat} (hd : dn ≤ 1000000) {lt : Int32} (hl : lt = -nI 1 ∨ ∃ k, k ≤ 19000 ∧ lt = nI k) (i : Nat) : b9 (vO g b (nI dn) lt i) := by
  have hm : b9 (-1 : Int64) := by decide
  have h1 := hb.y
  have h2 := hb.b
  rw [vO]
  split
  · exact b9_lN (by omega)
  split
  · rw [nI_l (by omega)]
    exact b9_lN (by omega)
  split
  · rcases hl with rfl | ⟨k, hk, rfl⟩
    · exact b9_m
    · rw [nI_l (by omega)]
      exact b9_lN (by omega)
  split
  · exact b9_lN (by omega)
  split
  · split
    · rename_i q
      exact full_v (hb.a hg q)
    · exact hm
  split
  · split
    · rename_i q
      have := hg.sz _ q
      exact b9_lN (by omega)
    · exact hm
  · split
    · exact yrs_v
    · exact hm
theorem okQ.v {g : Cfg} (hg : okG g) {s : Pp} {d e : Nat} (h : okQ g s d e) (hd : d ≤ 1000000) : ∀ i, i < 28 → b9 (vP g s i) := fun i _ => vO_b hg h.b (Nat.le_trans h.dn hd) h.lt i
theorem mnN_le {l : Option Nat} {m : Nat} (h : m ≤ 19000) (h2 : ∀ k, l = some k → k ≤ 19000) : mnN l m ≤ 19000 := by
  cases l with
  | none => exact h
  | some k =>
    have := h2 k rfl
    show (if m < k then m else k) ≤ 19000
    split <;> omega
theorem okQ.act {g : Cfg} (hg : okG g) {s : Pp} {d e : Nat} (h : okQ g s d e) {o : Od} (h3 : o.1 < 3) {v : Vals} : okQ g (pAct g s o v) (d + 1) e := by
  have hd := h.dn
  have g8 := hg.n
  rw [pAct]
  split
  · rename_i w
    rw [whyO] at w
    split
    · rename_i q
      rw [if_pos q] at w
      obtain ⟨c', n', e1, e2, h1, h2, h3, h4⟩ := whyP_0 hg w
      rw [e1, e2, ix_nI (by omega), ix_nI (by omega)]
      exact ⟨ok_pour h.b h4, h.y, Nat.add_le_add_right hd 1, h.lt, h.lm⟩
    · rename_i q
      rw [if_neg q] at w
      split
      · rename_i q1
        rw [if_pos q1] at w
        obtain ⟨f', o', n', e1, e2, e3, h1, h2, h3, h4, h5, h6, h7⟩ := whyR_0 hg w
        rw [e1, e2, e3, ix_nI (by omega), ix_nI (by omega), ix_nI (by omega)]
        exact ⟨ok_rack h.b h5 h6 h7, h.y, Nat.add_le_add_right hd 1, h.lt, h.lm⟩
      · rename_i q1
        rw [if_neg q1] at w
        obtain ⟨c', n', e1, e2, h1, h2, h3, h4⟩ := whyB_0 hg w
        rw [e1, e2, ix_nI (by omega), ix_nI (by omega)]
        obtain ⟨k, k1, k2⟩ := mnO_pos (g := gC s.b.D c') (n := n') (by omega) (gvs_l h4)
        rw [k2, ix_nI (by omega)]
        refine ⟨ok_bot h.b h4, h.y, Nat.add_le_add_right hd 1, Or.inr ⟨k, k1, rfl⟩, fun m hm => ?_⟩
        cases hm
        exact mnN_le k1 h.lm
  · exact ⟨h.b, h.y, Nat.le_succ_of_le hd, h.lt, h.lm⟩
theorem okQ.mo {g : Cfg} {s : Pp} {d d' e : Nat} (h : okQ g s d e) (hd : d ≤ d') : okQ g s d' e := ⟨h.b, h.y, Nat.le_trans h.dn hd, h.lt, h.lm⟩
theorem okQ.once {g : Cfg} (hg : okG g) {s : Pp} {d e : Nat} (h : okQ g s d e) {o : Od} (h3 : o.1 < 3) : okQ g (pOnce g s o) (d + 1) e := by
  rw [pOnce]
  split
  · exact h.act hg h3
  · exact h.mo (Nat.le_succ d)
theorem okQ.it {g : Cfg} (hg : okG g) {s : Pp} {d e : Nat} (h : okQ g s d e) {o : Od} (h3 : o.1 < 3) : ∀ n, okQ g (pIt g o s n) (d + n) e := by
  intro n
  induction n with
  | zero => exact h
  | succ n ih => exact ih.once hg h3
theorem okQ.od {g : Cfg} (hg : okG g) {s : Pp} {d e : Nat} (h : okQ g s d e) {o : Od} (ho : okO o) : okQ g (pOd g s o) (d + 20) e := by
  have h20 := ho.2.2.2.2.1
  have h4 := ho.1
  rw [pOd]
  split
  · exact h.mo (by omega)
  · exact (h.it hg (by omega) _).mo (by omega)
theorem okQ.yrI {g : Cfg} (hg : okG g) {s : Pp} {d e : Nat} (h : okQ g s d e) {p : Pl} (hp : okP p) : ∀ i, i ≤ p.1 → okQ g (pYrI g p s i) (d + 20 * i) e := by
  intro i
  induction i with
  | zero => intro _; exact h
  | succ i ih =>
    intro hi
    exact ((ih (by omega)).od hg (hp.2 i (by omega))).mo (by omega)
theorem okQ.new {g : Cfg} {s : Pp} {d e : Nat} (h : okQ g s d e) : okQ g (pNew s) 0 e := ⟨h.b, h.y, Nat.le_refl _, Or.inl rfl, h.lm⟩
theorem okQ.year {g : Cfg} (hg : okG g) {s : Pp} {d e : Nat} (h : okQ g s d e) {p : Pl} (hp : okP p) (he : e < 5000) : okQ g (pYear g p s) 240 (e + 1) := by
  have q := h.new.yrI hg hp p.1 (Nat.le_refl _)
  have h12 := hp.1
  have qy := q.y
  exact ⟨ok_end q.b (by omega), Nat.add_le_add_right qy 1, Nat.le_trans q.dn (by omega), q.lt, q.lm⟩
theorem okQ.years {g : Cfg} (hg : okG g) {s : Pp} {e : Nat} (h : okQ g s 240 e) {p : Pl} (hp : okP p) : ∀ n, e + n ≤ 5000 → okQ g (pYears g p s n) 240 (e + n) := by
  intro n
  induction n with
  | zero => intro _; exact h
  | succ n ih =>
    intro hn
    exact (ih (by omega)).year hg hp (by omega)
theorem okQ.beg {g : Cfg} {t : Tab} (h : okB g t) (hy : t.y ≤ 999) : okQ g (pBeg t) 240 999 := ⟨h, hy, Nat.zero_le _, Or.inl rfl, fun m hm => by cases hm⟩
