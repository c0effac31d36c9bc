/-! 83: acts that are kept, on both sides -/
set_option maxRecDepth 100000
abbrev HS.wp (x : HS) (q : Nat → Nat) : HS := ⟨x.P, x.ow, x.la, x.pa, q, x.x⟩
def nP (a : St) (c n : Int32) : St := if whyP a.g a.t c n = 0 then (a.wu (keepU a.u a.t 0)).wt (tPour a.t (ixN c) (ixN n)) else a
def rP (a : St) (c n : Int32) : Int32 := if whyP a.g a.t c n = 0 then tFull (tPour a.t (ixN c) (ixN n)).D (ixN c) else -nI (whyP a.g a.t c n)
def nR (a : St) (f o n : Int32) : St := if whyR a.g a.t f o n = 0 then (a.wu (keepU a.u a.t 1)).wt (tRack a.t (ixN f) (ixN o) (ixN n)) else a
def rR (a : St) (f o n : Int32) : Int32 := if whyR a.g a.t f o n = 0 then tMean (tRack a.t (ixN f) (ixN o) (ixN n)).D (ixN o) else -nI (whyR a.g a.t f o n)
def nB (a : St) (c n : Int32) : St := if whyB a.g a.t c n = 0 then (a.wu (keepU a.u a.t 2)).wt (tBot a.t (ixN c) (ixN n)) else a
def rB (a : St) (c n : Int32) : Int32 := if whyB a.g a.t c n = 0 then mnOf (outA (gC a.t.D (ixN c)) (ixN n)) else -nI (whyB a.g a.t c n)
def nY (a : St) : St := if a.t.y = 999 then a else (a.wu (keepU a.u a.t 3)).wt (tEnd a.g a.t)
def rY (a : St) : Int32 := if a.t.y = 999 then -nI 3 else nI (nE a.g a.t a.g.n)
/-- what acts touch -/
abbrev sK (h j : Nat) : Prop := h = 15 ∨ (h = 0 ∧ j = 15) ∨ uH h ∨ h = 3 ∨ h = 4 ∨ h = 25 ∨ h = 26
def cKp (V W : Vt) : Prop := (∀ h j, ¬ sK h j → W.1 h j = V.1 h j) ∧ (∀ h j, h ≠ 24 → W.2.1 h j = V.2.1 h j) ∧ ∀ h j, h ≠ 13 → W.2.2 h j = V.2.2 h j
theorem cKp.rfl' {V : Vt} : cKp V V := ⟨fun _ _ _ => rfl, fun _ _ _ => rfl, fun _ _ _ => rfl⟩
theorem cKp.tr {V W U : Vt} (h : cKp V W) (g : cKp W U) : cKp V U := ⟨fun a j q => (g.1 a j q).trans (h.1 a j q), fun a j q => (g.2.1 a j q).trans (h.2.1 a j q), fun a j q => (g.2.2 a j q).trans (h.2.2 a j q)⟩
theorem cKp.c {V W : Vt} (h : cKp V W) : cFr V W := ⟨fun a j q => h.1 a j (by omega), fun a j q => h.2.1 a j (by omega), fun a j q => h.2.2 a j (by omega)⟩
theorem cKp.m {S : Nat → Nat → Prop} {V W : Vt} (h : frM S lC V W) (hS : ∀ a j, S a j → sK a j) : cKp V W := ⟨fun a j q => h.1 a j fun w => q (hS a j w), fun a j q => h.2.1 a j q, fun a j _ => by rw [h.2.2]⟩
theorem cKp.k {V W : Vt} (h : kpF V W) : cKp V W := ⟨fun a j q => h.1 a j (by omega), fun a j _ => by rw [h.2.1], fun a j q => h.2.2 a j q⟩
abbrev kOp (f : Option (Int32 × Vt)) (T : Tt) (V : Vt) (x : HS) (r : Int32) (b : St) : Prop := Ret f fun p => p.1 = r ∧ (∃ q, CR T p.2 (x.wp q) b) ∧ cKp V p.2
theorem kOp.fr {f : Option (Int32 × Vt)} {T : Tt} {V W : Vt} {x : HS} {r : Int32} {b : St} (g : cKp V W) (h : kOp f T W x r b) : kOp f T V x r b := h.im fun _ q => ⟨q.1, q.2.1, g.tr q.2.2⟩
theorem kOp.c {f : Option (Int32 × Vt)} {T : Tt} {V : Vt} {x : HS} {r : Int32} {b : St} (h : kOp f T V x r b) : cOp f T V r b := h.im fun _ q => ⟨q.1, ⟨_, q.2.1.choose_spec⟩, q.2.2.c⟩
/-- a state with another table, other undone ones, by what an act touches -/
theorem CR.kp {T : Tt} {V W : Vt} {x : HS} {a : St} (h : CR T V x a) (f : cKp V W) {q : Nat → Nat} {u : Un} {t : Tab} (cu : cUn T W q u) (ct : cTb T W 3 4 t) : CR T W (x.wp q) ((a.wu u).wt t) := by
  have e := f.1
  have er := f.2.2
  exact h.up q (fun c j w => e _ _ (by omega)) er rfl (h.cf.fc h.P' (fun c j q => e _ _ (by omega)) (fun c j q => er _ _ (by omega))) ct cu ((e _ _ (by omega)).trans h.st) (fun i hi => (e _ _ (by omega)).trans (h.rf i hi)) ((e _ _ (by omega)).trans h.tn) (fun i hi => (e _ _ (by omega)).trans (h.tp i hi)) ((e _ _ (by omega)).trans h.fa) ((e _ _ (by omega)).trans h.le) ((e _ _ (by omega)).trans h.so) ((e _ _ (by omega)).trans h.dm) (fun i hi q => (e _ _ (by omega)).trans (h.dd i hi q))
theorem CR.fk {T : Tt} {V W : Vt} {x : HS} {a : St} (h : CR T V x a) (f : frM nF lC V W) : CR T W x a := by
  have e := fun c j => f.1 c j id
  have er : ∀ c j, W.2.2 c j = V.2.2 c j := fun c j => by rw [f.2.2]
  exact h.ups (fun c j _ => e _ _) er rfl (h.cf.fc h.P' (fun c j _ => e _ _) (fun c j _ => er _ _)) (h.ct.fr (fun j => e _ _) (fun j => e _ _) (fun j => er _ _)) (h.cu.fr (fun c j _ => e _ _) er) ((e _ _).trans h.st) (fun i hi => (e _ _).trans (h.rf i hi)) ((e _ _).trans h.tn) (fun i hi => (e _ _).trans (h.tp i hi)) ((e _ _).trans h.fa) ((e _ _).trans h.le) ((e _ _).trans h.so) ((e _ _).trans h.dm) (fun i hi q => (e _ _).trans (h.dd i hi q))
/-- keep, then act on the table -/
theorem c_act {T : Tt} {V : Vt} {x : HS} {a : St} (h : CR T V x a) {w : Nat} {S : Nat → Nat → Prop} (hS : ∀ c j, S c j → c = 4 ∨ c = 25 ∨ c = 26 ∨ (c = 3 ∧ (j = 1 ∨ j = 2))) {t : Tab} {r wi : Int32} (hw : wi = nI w) {F : Vt → Nat → Option (Int32 × Vt)}
    (hF : ∀ W, CV W → cCf x.P T W (ms x.la x.pa) a.g → cTb T W 3 4 a.t → Ret (F W 3) fun p => p.1 = r ∧ frM S lC W p.2 ∧ cTb T p.2 3 4 t) :
    kOp (pcl (f_X0_keeps T V 0 wi) fun U => pcl (f_X0_table T U 0) fun y => cal (F U y) fun z X => some (z, X)) T V x r ((a.wu (keepU a.u a.t w)).wt t) := by
  subst hw
  refine Ret.p (c_keeps h.hC h.hU h.cu h.ct) ?_
  intro W ⟨⟨q, cu⟩, f⟩
  have hU := h.hU.e13 f.2.2
  have ct : cTb T W 3 4 a.t := h.ct.fr (fun j => f.1 _ _ (by omega)) (fun j => f.1 _ _ (by omega)) (fun j => f.2.2 _ _ (by omega))
  have cf := h.cf.fc h.P' (W := W) (fun c j w => f.1 _ _ (by omega)) (fun c j w => f.2.2 _ _ (by omega))
  rw [pc (c_table h.hC hU), cal_id]
  refine (hF W hU cf ct).im fun p ⟨e, g1, g2⟩ => ?_
  have k2 : cKp V p.2 := (cKp.k f).tr (cKp.m g1 fun c j w => by have := hS c j w; omega)
  refine ⟨e, ⟨q, h.kp k2 ?_ g2⟩, k2⟩
  exact cu.fr (fun c j w => g1.1 _ _ fun w2 => by have := hS c j w2; omega) (fun c j => by rw [g1.2.2])
theorem whyP_0 {g : Cfg} (hg : okG g) {t : Tab} {c n : Int32} (h : whyP g t c n = 0) : ∃ c' n' : Nat, c = nI c' ∧ n = nI n' ∧ c' < g.n ∧ 1 ≤ n' ∧ n' ≤ 999 ∧ roo g t c' n' = true := by
  have h8 := hg.n
  rw [whyP] at h
  split at h
  · rename_i q
    obtain ⟨c', n', rfl, rfl, h1, h2, h3⟩ := chk_0 q
    split at h
    · rename_i q2
      rw [ix_nI (by omega), ix_nI (by omega)] at q2
      exact ⟨c', n', rfl, rfl, h1, h2, h3, q2⟩
    · omega
  · contradiction
theorem whyB_0 {g : Cfg} (hg : okG g) {t : Tab} {c n : Int32} (h : whyB g t c n = 0) : ∃ c' n' : Nat, c = nI c' ∧ n = nI n' ∧ c' < g.n ∧ 1 ≤ n' ∧ n' ≤ 999 ∧ gvs g t c' n' = true := by
  have h8 := hg.n
  rw [whyB] at h
  split at h
  · rename_i q
    obtain ⟨c', n', rfl, rfl, h1, h2, h3⟩ := chk_0 q
    split at h
    · rename_i q2
      rw [ix_nI (by omega), ix_nI (by omega), Bool.and_eq_true] at q2
      exact ⟨c', n', rfl, rfl, h1, h2, h3, q2.2⟩
    · omega
  · contradiction
theorem whyR_0 {g : Cfg} (hg : okG g) {t : Tab} {f o n : Int32} (h : whyR g t f o n = 0) : ∃ f' o' n' : Nat, f = nI f' ∧ o = nI o' ∧ n = nI n' ∧ f' < g.n ∧ o' < g.n ∧ 1 ≤ n' ∧ n' ≤ 999 ∧ f' ≠ o' ∧ gvs g t f' n' = true ∧ roo g t o' n' = true := by
  have h8 := hg.n
  rw [whyR] at h
  split at h
  · rename_i q
    obtain ⟨f', n', rfl, rfl, h1, h2, h3⟩ := chk_0 q
    split at h
    · rename_i q1
      obtain ⟨o', rfl, h4⟩ := isKa_of q1
      split at h
      · rename_i q2
        rw [ix_nI (by omega), ix_nI (by omega), ix_nI (by omega)] at q2
        simp only [Bool.and_eq_true] at q2
        obtain ⟨⟨⟨q3, q4⟩, q5⟩, q6⟩ := q2
        have q3 := of_decide_eq_true q3
        exact ⟨f', o', n', rfl, rfl, rfl, h1, h4, h2, h3, fun e => by rw [e] at q3; omega, q4, q6⟩
      · omega
    · omega
  · contradiction
theorem ng_r {w : Nat} (h : w ≤ 100) (h0 : ¬ w = 0) {α : Type} {a b : α} : (if 0 ≤ (-nI w : Int32) then a else b) = b := if_neg (by rw [ng_0 h]; exact h0)
theorem ng_p {w : Nat} (h0 : w = 0) {α : Type} {a b : α} : (if 0 ≤ (-nI w : Int32) then a else b) = a := if_pos (by rw [h0]; decide)
theorem c_poursKept {T : Tt} {V : Vt} {x : HS} {a : St} (h : CR T V x a) (ok : OK a) {c n : Int32} : kOp (f_X0_poursKept T V 0 c n) T V x (rP a c n) (nP a c n) := by
  have hl := whyP_le (g := a.g) (t := a.t) (c := c) (n := n)
  rw [f_X0_poursKept, rq h.hC.k0, pc (c_table h.hC h.hU), pc (c_canPour h.hC h.hU ok.g h.cf ok.t h.ct), rP, nP]
  by_cases w : whyP a.g a.t c n = 0
  · rw [ng_p w, if_pos w, if_pos w]
    obtain ⟨c', n', rfl, rfl, h1, h2, h3, h4⟩ := whyP_0 ok.g w
    have h8 := ok.g.n
    have hs := ok.g.sz c' h1
    have h5 := of_decide_eq_true h4
    rw [ix_nI (by omega), ix_nI (by omega)]
    refine c_act (w := 0) (F := fun U y => f_X0_pours T U 0 y (nI c') (nI n')) (S := fun h _ => h = 4) h (hw := rfl) (fun c j q => by omega) fun W hU cf ct => ?_
    exact (c_pours h.hC (by omega) ct (by omega) (by omega)).im fun p ⟨e1, e2, e3⟩ => ⟨e1, e2.mono (fun _ _ q => q) (fun _ _ q => absurd q id), e3⟩
  · rw [ng_r (by omega) w, if_neg w, if_neg w]
    exact Ret.ok ⟨rfl, ⟨x.p, h⟩, cKp.rfl'⟩
theorem c_racksKept {T : Tt} {V : Vt} {x : HS} {a : St} (h : CR T V x a) (ok : OK a) {f o n : Int32} : kOp (f_X0_racksKept T V 0 f o n) T V x (rR a f o n) (nR a f o n) := by
  have hl := whyR_le (g := a.g) (t := a.t) (f := f) (o := o) (n := n)
  rw [f_X0_racksKept, rq h.hC.k0, pc (c_table h.hC h.hU), rR, nR]
  refine Ret.c (c_canRack h.hC h.hU h.P' ok.g h.cf ok.t h.ct) ?_
  intro z W ⟨e, fr⟩
  dsimp only at e fr
  subst e
  have h' := h.fk fr
  have k1 : cKp V W := cKp.m fr fun _ _ q => absurd q id
  by_cases w : whyR a.g a.t f o n = 0
  · rw [ng_p w, if_pos w, if_pos w]
    obtain ⟨f', o', n', rfl, rfl, rfl, h1, h2, h3, h4, h5, h6, h7⟩ := whyR_0 ok.g w
    have h8 := ok.g.n
    have hs := ok.g.sz o' h2
    have hr := of_decide_eq_true h7
    rw [ix_nI (by omega), ix_nI (by omega), ix_nI (by omega)]
    refine kOp.fr k1 (c_act (w := 1) (F := fun U y => f_X0_racks T U 0 y (nI f') (nI o') (nI n')) (S := fun h _ => h = 4 ∨ h = 25) h' (hw := rfl) (fun c j q => by omega) fun W hU cf ct => ?_)
    exact (c_racks h.hC hU (by omega) ct (by omega) (by omega) h5 (by omega) h4 (gvs_l h6) (ok.t.a ok.g h1) (by omega)).im fun p ⟨e1, e2, e3⟩ => ⟨e1, e2.mono (fun _ _ q => q) (fun _ _ q => absurd q id), e3⟩
  · rw [ng_r (by omega) w, if_neg w, if_neg w]
    exact Ret.ok ⟨rfl, ⟨x.p, h'⟩, k1⟩
theorem c_bottlesKept {T : Tt} {V : Vt} {x : HS} {a : St} (h : CR T V x a) (ok : OK a) {c n : Int32} : kOp (f_X0_bottlesKept T V 0 c n) T V x (rB a c n) (nB a c n) := by
  have hl := whyB_le (g := a.g) (t := a.t) (c := c) (n := n)
  rw [f_X0_bottlesKept, rq h.hC.k0, pc (c_table h.hC h.hU), rB, nB]
  refine Ret.c (c_canBottle h.hC h.hU h.P' ok.g h.cf ok.t h.ct) ?_
  intro z W ⟨e, fr⟩
  dsimp only at e fr
  subst e
  have h' := h.fk fr
  have k1 : cKp V W := cKp.m fr fun _ _ q => absurd q id
  by_cases w : whyB a.g a.t c n = 0
  · rw [ng_p w, if_pos w, if_pos w]
    obtain ⟨c', n', rfl, rfl, h1, h3, h4, h6⟩ := whyB_0 ok.g w
    have h8 := ok.g.n
    rw [ix_nI (by omega), ix_nI (by omega)]
    refine kOp.fr k1 (c_act (w := 2) (F := fun U y => f_X0_bottles T U 0 y (nI c') (nI n')) (S := fun h j => h = 4 ∨ h = 25 ∨ (h = 3 ∧ j = 1)) h' (hw := rfl) (fun c j q => by omega) fun W hU cf ct => ?_)
    exact (c_bottles h.hC hU (by omega) ct ok.t.b (by omega) (by omega) h4 (gvs_l h6) (ok.t.a ok.g h1)).im fun p ⟨e1, e2, e3⟩ => ⟨e1, e2.mono (fun _ _ q => q) (fun _ _ q => absurd q id), e3⟩
  · rw [ng_r (by omega) w, if_neg w, if_neg w]
    exact Ret.ok ⟨rfl, ⟨x.p, h'⟩, k1⟩
theorem c_passesKept {T : Tt} {V : Vt} {x : HS} {a : St} (h : CR T V x a) (ok : OK a) : kOp (f_X0_passesKept T V 0) T V x (rY a) (nY a) := by
  have hy := ok.y
  rw [f_X0_passesKept, rq h.hC.k0, pc (c_table h.hC h.hU), rq h.hC.k3, h.ct.y, rY, nY]
  by_cases w : a.t.y = 999
  · rw [if_pos (by rw [w]; rfl), if_pos w, if_pos w]
    exact Ret.ok ⟨rfl, ⟨x.p, h⟩, cKp.rfl'⟩
  · rw [if_neg (by rw [l999, nI_eq (by omega) (by omega)]; exact w), if_neg w, if_neg w]
    refine c_act (w := 3) (F := fun U y => f_X0_ends T U 0 y) (S := sEn 3 4) h (hw := rfl) (fun c j q => by omega) fun W hU cf ct => ?_
    exact c_ends h.hC hU h.P' ok.g cf (by omega) ok.t ct
/-- it stays as it must -/
theorem OK.kp {a : St} (ok : OK a) {w : Nat} (hw : w < 4) {t : Tab} (ht : okB a.g t) (hy : t.y ≤ 999) : OK ((a.wu (keepU a.u a.t w)).wt t) := by
  refine OK.mk ⟨ok.g, ht, hy, fun k hk => ?_, keepU_n ok.ul, ok.im, ok.tn, ok.tp, ok.dm⟩
  have hn := shU_n ok.ul
  have hk : k < (shU a.u).n + 1 := hk
  show okB a.g (if k = (shU a.u).n then a.t else (shU a.u).s k) ∧ (if k = (shU a.u).n then a.t else (shU a.u).s k).y ≤ 999 ∧ (if k = (shU a.u).n then w else (shU a.u).w k) < 4
  by_cases e : k = (shU a.u).n
  · rw [if_pos e, if_pos e]
    exact ⟨ok.t, ok.y, hw⟩
  · rw [if_neg e, if_neg e]
    have hk : k < (shU a.u).n := by omega
    rw [shU] at hk ⊢
    by_cases e2 : a.u.n = 16
    · rw [if_pos e2] at hk ⊢
      have hk : k < 15 := hk
      exact ok.u (k + 1) (by omega)
    · rw [if_neg e2] at hk ⊢
      exact ok.u k hk
theorem OK.nP {a : St} (ok : OK a) {c n : Int32} : OK (nP a c n) := by
  rw [nP.eq_1]
  split
  · rename_i w
    obtain ⟨c', n', rfl, rfl, h1, h2, h3, h4⟩ := whyP_0 ok.g w
    have h8 := ok.g.n
    rw [ix_nI (by omega), ix_nI (by omega)]
    exact ok.kp (by omega) (ok_pour ok.t h4) ok.y
  · exact ok
