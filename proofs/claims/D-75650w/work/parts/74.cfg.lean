/-! 74: what is told: casks, laws, plans, terms (Cfg); what years move (Tab); what laws say of them -/
set_option maxRecDepth 100000
/-- an order: its head, its sums, how often, its test; a plan: how many, which -/
abbrev Od : Type := Nat × (Nat → Option Sm) × Nat × Option Ts
abbrev Pl : Type := Nat × (Nat → Od)
abbrev Cfg : Type := (Nat) × (Nat → Nat) × (Nat → Nat) × (Nat) × (Nat → Nat) × (Nat) × (Nat → Lw) × (Nat) × (Nat → Pl) × (Option Nat) × (Nat) × (Nat) × (Nat)
abbrev Cfg.n (x__ : Cfg) : Nat := x__.1
abbrev Cfg.ti (x__ : Cfg) : Nat → Nat := x__.2.1
abbrev Cfg.sz (x__ : Cfg) : Nat → Nat := x__.2.2.1
abbrev Cfg.nt (x__ : Cfg) : Nat := x__.2.2.2.1
abbrev Cfg.ta (x__ : Cfg) : Nat → Nat := x__.2.2.2.2.1
abbrev Cfg.nl (x__ : Cfg) : Nat := x__.2.2.2.2.2.1
abbrev Cfg.lw (x__ : Cfg) : Nat → Lw := x__.2.2.2.2.2.2.1
abbrev Cfg.np (x__ : Cfg) : Nat := x__.2.2.2.2.2.2.2.1
abbrev Cfg.pl (x__ : Cfg) : Nat → Pl := x__.2.2.2.2.2.2.2.2.1
abbrev Cfg.fo (x__ : Cfg) : Option Nat := x__.2.2.2.2.2.2.2.2.2.1
abbrev Cfg.co (x__ : Cfg) : Nat := x__.2.2.2.2.2.2.2.2.2.2.1
abbrev Cfg.mo (x__ : Cfg) : Nat := x__.2.2.2.2.2.2.2.2.2.2.2.1
abbrev Cfg.pa (x__ : Cfg) : Nat := x__.2.2.2.2.2.2.2.2.2.2.2.2
abbrev Tab : Type := (Nat → Nat) × (Nat) × (Nat)
abbrev Tab.D (x__ : Tab) : Nat → Nat := x__.1
abbrev Tab.b (x__ : Tab) : Nat := x__.2.1
abbrev Tab.y (x__ : Tab) : Nat := x__.2.2
/-- within a thousand million -/
abbrev b9 (x : Int64) : Prop := bnd x = some x
/-- a sum, a test that looks at the first k values alone -/
def okS (k : Nat) (s : Sm) : Prop := (∀ v w : Vals, (∀ i, i < k → v i = w i) → s v = s w) ∧ ∀ v : Vals, (∀ i, i < k → b9 (v i)) → ∀ x, s v = some x → b9 x
def okT (k : Nat) (t : Ts) : Prop := ∀ v w : Vals, (∀ i, i < k → v i = w i) → t v = t w
def okL (l : Lw) : Prop := ∀ i, i < l.1 → (l.2 i).1 < 3 ∧ ((l.2 i).1 = 2 ↔ (l.2 i).2.1 = none) ∧ (∀ s, (l.2 i).2.1 = some s → okS 7 s) ∧ ∀ t, (l.2 i).2.2 = some t → okT 7 t
/-- which sums an order has, by its head -/
def hasS (h k : Nat) : Bool := decide ((k = 0 ∧ h ≠ 3) ∨ (k = 1 ∧ h ≠ 3) ∨ (k = 2 ∧ h = 1))
def okO (o : Od) : Prop := o.1 < 4 ∧ (∀ k, k < 3 → (hasS o.1 k = true ↔ o.2.1 k ≠ none)) ∧ (∀ k s, k < 3 → o.2.1 k = some s → okS 28 s) ∧ 1 ≤ o.2.2.1 ∧ o.2.2.1 ≤ 20 ∧ ∀ t, o.2.2.2 = some t → okT 28 t
def okP (p : Pl) : Prop := p.1 ≤ 12 ∧ ∀ i, i < p.1 → okO (p.2 i)
abbrev okG (g : Cfg) : Prop := (g.n ≤ 8) ∧ (∀ c, c < g.n → g.ti c < 5) ∧ (∀ c, c < g.n → 1 ≤ g.sz c ∧ g.sz c ≤ 999) ∧ (g.nt ≤ 6) ∧ (∀ k, k < g.nt → g.ta (2 * k) < 3 ∧ g.ta (2 * k + 1) ≤ 999) ∧ (g.nl ≤ 6) ∧ (∀ i, i < g.nl → okL (g.lw i)) ∧ (g.np ≤ 4) ∧ (∀ i, i < g.np → okP (g.pl i)) ∧ (∀ f, g.fo = some f → f < g.nl) ∧ (g.co ≤ 10) ∧ (g.mo ≤ 9) ∧ (1 ≤ g.pa ∧ g.pa ≤ 100)
theorem okG.n {g : Cfg} (h__ : okG g) : g.n ≤ 8 := h__.1
theorem okG.ti {g : Cfg} (h__ : okG g) : ∀ c, c < g.n → g.ti c < 5 := h__.2.1
theorem okG.sz {g : Cfg} (h__ : okG g) : ∀ c, c < g.n → 1 ≤ g.sz c ∧ g.sz c ≤ 999 := h__.2.2.1
theorem okG.nt {g : Cfg} (h__ : okG g) : g.nt ≤ 6 := h__.2.2.2.1
theorem okG.ta {g : Cfg} (h__ : okG g) : ∀ k, k < g.nt → g.ta (2 * k) < 3 ∧ g.ta (2 * k + 1) ≤ 999 := h__.2.2.2.2.1
theorem okG.nl {g : Cfg} (h__ : okG g) : g.nl ≤ 6 := h__.2.2.2.2.2.1
theorem okG.lw {g : Cfg} (h__ : okG g) : ∀ i, i < g.nl → okL (g.lw i) := h__.2.2.2.2.2.2.1
theorem okG.np {g : Cfg} (h__ : okG g) : g.np ≤ 4 := h__.2.2.2.2.2.2.2.1
theorem okG.pl {g : Cfg} (h__ : okG g) : ∀ i, i < g.np → okP (g.pl i) := h__.2.2.2.2.2.2.2.2.1
theorem okG.fo {g : Cfg} (h__ : okG g) : ∀ f, g.fo = some f → f < g.nl := h__.2.2.2.2.2.2.2.2.2.1
theorem okG.co {g : Cfg} (h__ : okG g) : g.co ≤ 10 := h__.2.2.2.2.2.2.2.2.2.2.1
theorem okG.mo {g : Cfg} (h__ : okG g) : g.mo ≤ 9 := h__.2.2.2.2.2.2.2.2.2.2.2.1
theorem okG.pa {g : Cfg} (h__ : okG g) : 1 ≤ g.pa ∧ g.pa ≤ 100 := h__.2.2.2.2.2.2.2.2.2.2.2.2
abbrev okB (g : Cfg) (t : Tab) : Prop := (∀ c, c < g.n → tAll t.D c ≤ 1000 * g.sz c) ∧ (t.b ≤ 999999) ∧ (t.y ≤ 5000)
theorem okB.D {g : Cfg} {t : Tab} (h__ : okB g t) : ∀ c, c < g.n → tAll t.D c ≤ 1000 * g.sz c := h__.1
theorem okB.b {g : Cfg} {t : Tab} (h__ : okB g t) : t.b ≤ 999999 := h__.2.1
theorem okB.y {g : Cfg} {t : Tab} (h__ : okB g t) : t.y ≤ 5000 := h__.2.2
theorem okB.a {g : Cfg} {t : Tab} (h : okB g t) (hg : okG g) {c : Nat} (hc : c < g.n) : tAll t.D c ≤ 999000 := by
  have h1 := h.D c hc
  have h2 := hg.sz c hc
  omega
/-- what the law in force says under a head -/
def vC (g : Cfg) (t : Tab) (c : Nat) : Vals := vL (g.ti c) (g.sz c) t.D c t.y g.mo
def sai (g : Cfg) (t : Tab) (head c : Nat) : Option Int64 := match g.fo with
  | none => none
  | some f => tld (g.lw f) head (vC g t c) (g.lw f).1
def bdN (x : Int64) (h : Nat) : Nat := if x < 0 then 0 else if lN h < x then h else x.toInt.toNat
def los (g : Cfg) (t : Tab) (c : Nat) : Nat := match sai g t 0 c with
  | none => 0
  | some x => bdN x 99
def yil (g : Cfg) (t : Tab) (c : Nat) : Nat := match sai g t 1 c with
  | none => 999
  | some x => bdN x 999
def bar (g : Cfg) (t : Tab) (c : Nat) : Bool := (sai g t 2 c).isSome
theorem cS_c {c : Clz} (h : ∀ s, c.2.1 = some s → okS 7 s) {v w : Vals} (e : ∀ i, i < 7 → v i = w i) : cS c v = cS c w := by
  rw [cS, cS]
  cases hs : c.2.1 with
  | none => rfl
  | some s => exact (h s hs).1 v w e
theorem cT_c {c : Clz} (h : ∀ s, c.2.1 = some s → okS 7 s) (h2 : ∀ t, c.2.2 = some t → okT 7 t) {v w : Vals} (e : ∀ i, i < 7 → v i = w i) : cT c v = cT c w := by
  rw [cT, cT]
  cases ht : c.2.2 with
  | none => exact cS_c h e
  | some t => dsimp only; rw [h2 t ht v w e, cS_c h e]
theorem tld_c {l : Lw} (h : okL l) {v w : Vals} (e : ∀ i, i < 7 → v i = w i) {head : Nat} : ∀ i, i ≤ l.1 → tld l head v i = tld l head w i := by
  intro i
  induction i with
  | zero => intro _; rfl
  | succ i ih =>
    intro hi
    have hl := h i (by omega)
    rw [tld, tld, cT_c hl.2.2.1 hl.2.2.2 e, ih (by omega)]
theorem cT_v {c : Clz} (h : ∀ s, c.2.1 = some s → okS 7 s) {v : Vals} (e : ∀ i, i < 7 → b9 (v i)) {x : Int64} (hx : cT c v = some x) : b9 x := by
  have h1 : cS c v = some x → b9 x := by
    intro h2
    rw [cS] at h2
    cases hs : c.2.1 with
    | none => rw [hs] at h2; cases h2; rfl
    | some s => rw [hs] at h2; exact (h s hs).2 v e x h2
  rw [cT] at hx
  cases ht : c.2.2 with
  | none => rw [ht] at hx; exact h1 hx
  | some t =>
    rw [ht] at hx
    dsimp only at hx
    split at hx
    · exact h1 hx
    · cases hx
theorem b9_n {x : Int64} (h : b9 x) : x ≠ -4000000000 := fun e => by
  rw [e] at h
  exact absurd h (by decide)
theorem okL_v {l : Lw} (h : okL l) {v : Vals} (e : ∀ i, i < 7 → b9 (v i)) : okV l v := fun i hi x hx => b9_n (cT_v (h i hi).2.2.1 e hx)
theorem b9_lN {n : Nat} (h : n ≤ 1000000000) : b9 (lN n) := by
  rw [b9, bnd, if_neg]
  intro w
  rcases w with w | w
  · rw [show (1000000000 : Int64) = lN 1000000000 from rfl, pk_lLT (by omega) (by omega)] at w
    omega
  · rw [Int64.lt_iff_toInt_lt, pk_lT (by omega), show (-1000000000 : Int64).toInt = -1000000000 by decide] at w
    omega
theorem b9_m : b9 (-nI 1 : Int32).toInt64 := by decide
theorem yrs_v {D : Nat → Nat} {c : Nat} : b9 (tYrs D c).toInt64 := by
  rw [tYrs]
  split
  · exact b9_m
  · rename_i h
    have := mean_b h
    rw [nI_l (by omega)]
    exact b9_lN (by omega)
theorem full_v {D : Nat → Nat} {c : Nat} (h : tAll D c ≤ 999000) : b9 (tFull D c).toInt64 := by
  rw [tFull, nI_l (by omega)]
  exact b9_lN (by omega)
theorem vC_b {g : Cfg} {t : Tab} (hg : okG g) (ht : okB g t) {c : Nat} (hc : c < g.n) : ∀ i, i < 7 → b9 (vC g t c i) := by
  intro i hi
  have h1 := hg.ti c hc
  have h2 := hg.sz c hc
  have h3 := hg.mo
  have h4 := ht.y
  have h5 := hg.n
  have : i = 0 ∨ i = 1 ∨ i = 2 ∨ i = 3 ∨ i = 4 ∨ i = 5 ∨ i = 6 := by omega
  rcases this with h | h | h | h | h | h | h <;> subst h
  · exact b9_lN (by omega)
  · exact b9_lN (by omega)
  · exact b9_lN (by omega)
  · exact full_v (ht.a hg hc)
  · exact yrs_v
  · exact b9_lN (by omega)
  · exact b9_lN (by omega)
theorem sai_v {g : Cfg} {t : Tab} (hg : okG g) (ht : okB g t) {c head : Nat} (hc : c < g.n) {x : Int64} (hx : sai g t head c = some x) : b9 x ∧ (head = 2 → x = 1) := by
  rw [sai] at hx
  cases hf : g.fo with
  | none => rw [hf] at hx; cases hx
  | some f =>
    rw [hf] at hx
    dsimp only at hx
    have hl := hg.lw f (hg.fo f hf)
    have : ∀ i, i ≤ (g.lw f).1 → ∀ x, tld (g.lw f) head (vC g t c) i = some x → b9 x ∧ (head = 2 → x = 1) := by
      intro i
      induction i with
      | zero => intro _ x h; cases h
      | succ i ih =>
        intro hi x h
        rw [tld] at h
        split at h
        · rename_i e
          cases hq : cT ((g.lw f).2 i) (vC g t c) with
          | none => rw [hq] at h; exact ih (by omega) x h
          | some y =>
            rw [hq] at h
            cases h
            refine ⟨cT_v (hl i (by omega)).2.2.1 (vC_b hg ht hc) hq, fun e2 => ?_⟩
            have hn := (hl i (by omega)).2.1.mp (e.trans e2)
            have hs : ∀ v, cS ((g.lw f).2 i) v = some 1 := fun v => by rw [cS, hn]
            rw [cT] at hq
            cases ht : ((g.lw f).2 i).2.2 with
            | none => rw [ht] at hq; exact (Option.some.inj ((hs _).symm.trans hq)).symm
            | some t =>
              rw [ht] at hq
              dsimp only at hq
              split at hq
              · exact (Option.some.inj ((hs _).symm.trans hq)).symm
              · cases hq
        · exact ih (by omega) x h
    exact this _ (Nat.le_refl _) x hx
theorem bdN_le {x : Int64} {h : Nat} (hh : h < 2 ^ 31) : bdN x h ≤ h := by
  rw [bdN]
  split
  · omega
  · rename_i q
    split
    · omega
    · rename_i q2
      obtain ⟨k, hk, rfl⟩ := pk_lOf q
      rw [pk_lLT (by omega) hk] at q2
      rw [pk_lT hk]
      omega
theorem los_le {g : Cfg} {t : Tab} {c : Nat} : los g t c ≤ 99 := by
  rw [los]
  split
  · omega
  · exact bdN_le (by omega)
theorem yil_le {g : Cfg} {t : Tab} {c : Nat} : yil g t c ≤ 999 := by
  rw [yil]
  split
  · omega
  · exact bdN_le (by omega)
theorem c_within {T : Tt} {V : Vt} {x : Int64} {h : Nat} (hh : h < 2 ^ 31) : f_X0_within T V x (nI h) = some (nI (bdN x h)) := by
  rw [f_X0_within, bdN, nI_l hh]
  congr 1
  by_cases q : x < 0
  · have h1 : x < lN h := by
      rw [Int64.lt_iff_toInt_lt] at *
      rw [pk_lT (by omega)]
      have : (0 : Int64).toInt = 0 := rfl
      omega
    rw [if_pos q, if_pos h1, if_pos q]
    rfl
  · rw [if_neg q]
    obtain ⟨k, hk, rfl⟩ := pk_lOf q
    simp only [pk_lLT hk (show h < 2 ^ 63 by omega), pk_lLT (show h < 2 ^ 63 by omega) hk, pk_lT hk]
    by_cases w : k < h
    · rw [if_pos w, if_neg q, if_neg (by omega), lN_i]
      rfl
    · rw [if_neg w, if_neg (by rw [show (0 : Int64) = lN 0 from rfl, pk_lLT (by omega) (by omega)]; omega), lN_i]
      by_cases w2 : h < k
      · rw [if_pos w2]
      · rw [if_neg w2, show k = h by omega]
        rfl
theorem m_bounded {T : Tt} {V : Vt} {x : Int64} {h : Nat} (hh : h < 2 ^ 31) : f_X5_bounded T V x 0 (nI h) = some (nI (bdN x h)) := by
  rw [f_X5_bounded, bdN, nI_l hh, show (0 : Int32).toInt64 = (0 : Int64) from rfl]
  simp only [lgc_ge0, lgc_le0]
  by_cases q : x < 0
  · rw [if_neg (not_not_intro q), if_pos q]
    rfl
  · rw [if_pos q, if_neg q]
    obtain ⟨k, hk, rfl⟩ := pk_lOf q
    by_cases w : lN h < lN k
    · rw [if_neg (not_not_intro w), if_pos w]
    · rw [if_pos w, if_neg w, lN_i, pk_lT hk]
      rfl
