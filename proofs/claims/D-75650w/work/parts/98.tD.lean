/-! 98: the component's reader: rules, leaves, numbers, values -/
set_option maxRecDepth 100000
theorem mul_sp {r a b c : Nat} (h1 : a ≤ b) (h2 : b ≤ c) : r * (c - a) = r * (b - a) + r * (c - b) := by
  rw [← Nat.mul_add]
  congr 1
  omega
theorem rOk.w {α β : Type} {o : Nat} {tp : Nat → Nat} {n fb : Nat} {T T1 : Tt} {V V1 : Vt} {s s1 : Sg} {rc rk e c0 k0 c1 k1 a b : Nat} {good : α → β → Sg → Tt → Vt → Prop} {sp : Rs α} {q : ((β ⊕ Nat) × Vt × Tt) × Nat × Nat} (h : rOk o tp n fb T1 V1 s1 rc rk e c1 k1 good sp q) (ex : exT T T1) (fr : frO (fun h => h = o) fb V V1) (so : sO2 o V V1) (hs : s.fr ≤ s1.fr) (hc : c1 + a ≤ c0 + rc * (s1.fr - s.fr)) (hk : k1 + b ≤ k0 + rk * (s1.fr - s.fr)) : rOk o tp n fb T V s rc rk e c0 k0 good sp (q.1, q.2.1 + a, q.2.2 + b) := by
  cases sp with
  | inl p =>
    obtain ⟨⟨f, f1, f2, f3, f4, f5, f6, f7⟩, h1, h2, h3, h4⟩ := h
    have e1 := ex.1
    have m1 := mul_sp (r := rc) hs h1
    have m2 := mul_sp (r := rk) hs h1
    refine ⟨⟨f, f1, f2, f3, ex.tr f4, fr.tr f5 (Nat.le_refl _), f6, by omega⟩, by omega, h2, ?_, ?_⟩
    · show q.2.1 + a ≤ _
      omega
    · show q.2.2 + b ≤ _
      omega
  | inr z =>
    obtain ⟨x, s'⟩ := z
    obtain ⟨r, h1, h2, h3, h4, h5, h6, h7, h8, h9, h10⟩ := h
    have m1 := mul_sp (r := rc) hs h8
    have m2 := mul_sp (r := rk) hs h8
    refine ⟨r, h1, h2, h3, h4, ex.tr h5, fr.tr h6 (Nat.le_refl _), so.tr h7, by omega, ?_, ?_⟩
    · show q.2.1 + a ≤ _
      omega
    · show q.2.2 + b ≤ _
      omega
/-- one behind another; what the first makes is c0 at most besides what its text pays -/
theorem rOk.bindG {α β γ δ : Type} {o : Nat} {tp : Nat → Nat} {n fb fb0 : Nat} {T : Tt} {V : Vt} {s : Sg} {rc0 rk0 e0 rc rk e ca ka c0 k0 : Nat} {good : α → β → Sg → Tt → Vt → Prop} {good2 : γ → δ → Sg → Tt → Vt → Prop} {x : Rs α} {g : α → Sg → Rs γ} {f : Option (((β ⊕ Nat) × Vt × Tt) × Nat × Nat)} {k : β → Vt → Tt → Option (((δ ⊕ Nat) × Vt × Tt) × Nat × Nat)} (h : Ret f (rOk o tp n fb0 T V s rc0 rk0 e0 ca ka good x)) (hfb : fb ≤ fb0) (hrc : rc0 ≤ rc) (hrk : rk0 ≤ rk) (he : e0 ≤ e) (hca : ca ≤ c0) (hka : ka ≤ k0) (hk : ∀ a s' r V' T', x = .inr (a, s') → rdR T' V' o tp n s' → good a r s' T' V' → okR tp n s' → exT T T' → frO (fun h => h = o) fb0 V V' → sO2 o V V' → s.fr ≤ s'.fr → ∃ c1 k1, Ret (k r V' T') (rOk o tp n fb T' V' s' rc rk e c1 k1 good2 (g a s')) ∧ c1 + (ca + rc0 * (s'.fr - s.fr)) ≤ c0 + rc * (s'.fr - s.fr) ∧ k1 + (ka + rk0 * (s'.fr - s.fr)) ≤ k0 + rk * (s'.fr - s.fr)) : Ret (dxl f k) (rOk o tp n fb T V s rc rk e c0 k0 good2 (rb x g)) := by
  refine Ret.dx h ?_ ?_
  · intro r V' T' a b hr
    cases x with
    | inl p =>
      obtain ⟨⟨f, f1, _⟩, _⟩ := hr
      cases f1
    | inr z =>
      obtain ⟨y, s'⟩ := z
      obtain ⟨r', h1, h2, h3, h4, h5, h6, h7, h8, h9, h10⟩ := hr
      cases h1
      obtain ⟨c1, k1, w1, w2, w3⟩ := hk y s' r V' T' rfl h2 h3 h4 h5 h6 h7 h8
      exact w1.im fun q hq => hq.w h5 (h6.mo hfb fun _ _ w => w) h7 h8 (by have : a ≤ _ := h9; omega) (by have : b ≤ _ := h10; omega)
  · intro q V' T' a b hr
    cases x with
    | inl p =>
      obtain ⟨⟨f, f1, f2, f3, f4, f5, f6, f7⟩, h1, h2, h3, h4⟩ := hr
      cases f1
      have m1 : rc0 * (p - s.fr) ≤ rc * (p - s.fr) := Nat.mul_le_mul_right _ hrc
      have m2 : rk0 * (p - s.fr) ≤ rk * (p - s.fr) := Nat.mul_le_mul_right _ hrk
      refine ⟨⟨q, rfl, f2, f3, f4, f5.mo hfb fun _ _ w => w, f6, f7⟩, h1, h2, ?_, ?_⟩
      · have : a ≤ _ := h3
        show a ≤ _
        omega
      · have : b ≤ _ := h4
        show b ≤ _
        omega
    | inr z =>
      obtain ⟨y, s'⟩ := z
      obtain ⟨r', h1, _⟩ := hr
      cases h1
theorem rOk.bind {α β γ δ : Type} {o : Nat} {tp : Nat → Nat} {n fb fb0 : Nat} {T : Tt} {V : Vt} {s : Sg} {rc rk e c0 k0 c1 k1 : Nat} {good : α → β → Sg → Tt → Vt → Prop} {good2 : γ → δ → Sg → Tt → Vt → Prop} {x : Rs α} {g : α → Sg → Rs γ} {f : Option (((β ⊕ Nat) × Vt × Tt) × Nat × Nat)} {k : β → Vt → Tt → Option (((δ ⊕ Nat) × Vt × Tt) × Nat × Nat)} (h : Ret f (rOk o tp n fb0 T V s rc rk e c0 k0 good x)) (hfb : fb ≤ fb0) (hk : ∀ a s' r V' T', x = .inr (a, s') → rdR T' V' o tp n s' → good a r s' T' V' → okR tp n s' → exT T T' → frO (fun h => h = o) fb0 V V' → sO2 o V V' → s.fr ≤ s'.fr → Ret (k r V' T') (rOk o tp n fb T' V' s' rc rk e c1 k1 good2 (g a s'))) : Ret (dxl f k) (rOk o tp n fb T V s rc rk e (c0 + c1) (k0 + k1) good2 (rb x g)) :=
  rOk.bindG h hfb (Nat.le_refl _) (Nat.le_refl _) (Nat.le_refl _) (Nat.le_add_right _ _) (Nat.le_add_right _ _) fun a s' r V' T' h1 h2 h3 h4 h5 h6 h7 h8 => ⟨c1, k1, hk a s' r V' T' h1 h2 h3 h4 h5 h6 h7 h8, by omega, by omega⟩
theorem rOk.ok {α β : Type} {o : Nat} {tp : Nat → Nat} {n fb : Nat} {T : Tt} {V W : Vt} {s s' : Sg} {good : α → β → Sg → Tt → Vt → Prop} {a : α} {r : β} {S : Nat → Nat → Prop} (h : rdR T W o tp n s') (g : good a r s' T W) (hs : okR tp n s') (f : frI S V W) (hS : ∀ c j, S c j → c = o ∧ j ≠ 2) (hl : s.fr ≤ s'.fr) {rc rk e c0 k0 : Nat} : rOk o tp n fb T V s rc rk e c0 k0 good (.inr (a, s')) ((.inl r, W, T), 0, 0) :=
  ⟨r, rfl, h, g, hs, exT.rfl', frI_o f fun c j q => (hS c j q).1, sO2_f f fun q => (hS _ _ q).2 rfl, hl, Nat.zero_le _, Nat.zero_le _⟩
theorem rOk.flt {α β : Type} {o : Nat} {tp : Nat → Nat} {n fb : Nat} {T : Tt} {V : Vt} {s : Sg} {good : α → β → Sg → Tt → Vt → Prop} (h : rdR T V o tp n s) (hs : okR tp n s) (ho : o < T.2.2) {rc rk e c0 k0 : Nat} (he : 1 ≤ e) (hfb : fb ≤ T.2.2) : Ret (inc 1 7 (stp T.2.2 (fun q5 => stp (zV V q5) (fun U6 => stp (aT T 8 0) (fun T7 => req (isRd T7 o) (pcl (f_X8_init T7 U6 q5 (U6.1 o 3)) (fun U11 => req (T7.1 q5 = 8) (some (((.inr q5 : β ⊕ Nat), U11, T7), 0, 0)))))))) ) (rOk o tp n fb T V s rc rk e c0 k0 good (.inl s.fr : Rs α)) :=
  (c_fault' h.t.ko ho h.fr hfb).im fun q ⟨h1, h2, h3⟩ => ⟨h1, Nat.le_refl _, hs.n, by omega, by omega⟩
theorem rOk.pay {α β : Type} {o : Nat} {tp : Nat → Nat} {n fb : Nat} {T : Tt} {V : Vt} {s : Sg} {rc rk e e' c0 k0 c1 k1 : Nat} {good : α → β → Sg → Tt → Vt → Prop} {sp : Rs α} {q : ((β ⊕ Nat) × Vt × Tt) × Nat × Nat} (h : rOk o tp n fb T V s 0 0 e c0 k0 good sp q) (hs : ∀ a s', sp = .inr (a, s') → s.fr < s'.fr) (h1 : c0 ≤ c1 + rc) (h2 : k0 ≤ k1 + rk) (h3 : e + c0 ≤ c1 + e') (h4 : 10 * e + k0 ≤ k1 + 10 * e') : rOk o tp n fb T V s rc rk e' c1 k1 good sp q := by
  cases sp with
  | inl p =>
    obtain ⟨f, l1, l2, l3, l4⟩ := h
    refine ⟨f, l1, l2, ?_, ?_⟩
    · have := Nat.zero_le (rc * (p - s.fr))
      omega
    · have := Nat.zero_le (rk * (p - s.fr))
      omega
  | inr z =>
    obtain ⟨x, s'⟩ := z
    obtain ⟨r, z1, z2, z3, z4, z5, z6, z7, z8, z9, z10⟩ := h
    have hlt := hs x s' rfl
    have m1 : rc * 1 ≤ rc * (s'.fr - s.fr) := Nat.mul_le_mul_left _ (by omega)
    have m2 : rk * 1 ≤ rk * (s'.fr - s.fr) := Nat.mul_le_mul_left _ (by omega)
    exact ⟨r, z1, z2, z3, z4, z5, z6, z7, z8, by omega, by omega⟩
/-- nothing is known of what comes -/
abbrev gU {α β : Type} : α → β → Sg → Tt → Vt → Prop := fun _ _ _ _ _ => True
abbrev gN : Nat → Int32 → Sg → Tt → Vt → Prop := fun a r _ _ _ => r = nI a
def spLeaf (s : Sg) : Rs Unit := if s.lv = 50 then .inl s.fr else .inr ((), s.wl)
theorem okR.wl {tp : Nat → Nat} {n : Nat} {s : Sg} (h : okR tp n s) (q : ¬ s.lv = 50) : okR tp n s.wl := ⟨h.n, h.t, by have := h.l; show s.lv + 1 ≤ 50; omega, h.d⟩
theorem okR.up {tp : Nat → Nat} {n : Nat} {s : Sg} (h : okR tp n s) (q : ¬ s.dp = 8) : okR tp n s.up := ⟨h.n, h.t, h.l, by have := h.d; show s.dp + 1 ≤ 8; omega⟩
theorem okR.dn {tp : Nat → Nat} {n : Nat} {s : Sg} (h : okR tp n s) : okR tp n s.dn := ⟨h.n, h.t, h.l, by have := h.d; show s.dp - 1 ≤ 8; omega⟩
theorem nx_le {tp : Nat → Nat} {n : Nat} {s : Sg} (h : okR tp n s) : s.fr ≤ (nx tp n s).fr := by
  have h2 : s.to ≤ (nx tp n s).fr := ovr_le
  have h3 : s.fr ≤ s.to := by rw [h.t]; exact tkE_le
  omega
theorem rdR.w {T : Tt} {V : Vt} {o : Nat} {tp : Nat → Nat} {n : Nat} {s : Sg} (h : rdR T V o tp n s) {j v : Nat} (hj : j = 5 ∨ j = 6) : tpe T (uI V o j (nI v)) o tp n ∧ (uI V o j (nI v)).1 o 3 = nI s.fr ∧ (uI V o j (nI v)).1 o 4 = nI s.to := by
  have ho := h.t.o
  refine ⟨h.t.fr (by rw [uI1, if_neg (by omega)]) (fun i => by rw [uI1, if_neg (fun z => ho z.1.symm)]) rfl, ?_, ?_⟩
  · rw [uI1, if_neg (by omega)]
    exact h.fr
  · rw [uI1, if_neg (by omega)]
    exact h.to
theorem c_leaf {T : Tt} {V : Vt} {o : Nat} {tp : Nat → Nat} {n : Nat} {s : Sg} (h : rdR T V o tp n s) (hs : okR tp n s) (ho : o < T.2.2) : Ret (f_X6_leaf T V o) (rOk o tp n T.2.2 T V s 0 0 1 0 0 gU (spLeaf s)) := by
  have hl := hs.l
  rw [f_X6_leaf, rq h.t.ko, h.lv, spLeaf]
  by_cases q : s.lv = 50
  · rw [if_pos (by rw [q]; rfl), if_pos q]
    exact rOk.flt h hs ho (Nat.le_refl _) (Nat.le_refl _)
  · rw [if_neg (by rw [l50, nI_eq (by omega) (by omega)]; exact q), if_neg q, show nI s.lv + (1 : Int32) = nI (s.lv + 1) from nI_add _ _, sp]
    have w := h.w (j := 5) (v := s.lv + 1) (by omega)
    have h1 : rdR T (uI V o 5 (nI (s.lv + 1))) o tp n s.wl := ⟨w.1, w.2.1, w.2.2, by rw [uI1, if_pos ⟨rfl, rfl⟩]; rfl, by rw [uI1, if_neg (by omega)]; exact h.dp⟩
    refine Ret.ok (rOk.ok (V := V) (s := s) (e := 1) (good := gU) (S := fun c j => c = o ∧ j = 5) h1 trivial (hs.wl q) (frI.mk (fun c j z => by rw [uI1, if_neg z]) rfl) (fun c j z => by omega) (show s.fr ≤ s.fr from Nat.le_refl s.fr))
theorem frI.tr {S : Nat → Nat → Prop} {V W U : Vt} (h : frI S V W) (g : frI S W U) : frI S V U := frI.mk (fun c j z => (g.1 c j z).trans (h.1 c j z)) (g.2.trans h.2)
def spOpen (tp : Nat → Nat) (n : Nat) (s : Sg) : Rs Unit := if s.dp = 8 then .inl s.fr else .inr ((), nx tp n s.up)
theorem c_opens {T : Tt} {V : Vt} {o : Nat} {tp : Nat → Nat} {n : Nat} {s : Sg} (h : rdR T V o tp n s) (hs : okR tp n s) (ho : o < T.2.2) : Ret (f_X6_opens T V o) (rOk o tp n T.2.2 T V s 0 0 1 0 0 gU (spOpen tp n s)) := by
  have hl := hs.d
  rw [f_X6_opens, rq h.t.ko, h.dp, spOpen]
  by_cases q : s.dp = 8
  · rw [if_pos (by rw [q]; rfl), if_pos q]
    exact rOk.flt h hs ho (Nat.le_refl _) (Nat.le_refl _)
  · rw [if_neg (by rw [l8, nI_eq (by omega) (by omega)]; exact q), if_neg q, show nI s.dp + (1 : Int32) = nI (s.dp + 1) from nI_add _ _, sp]
    have w := h.w (j := 6) (v := s.dp + 1) (by omega)
    have h1 : rdR T (uI V o 6 (nI (s.dp + 1))) o tp n s.up := ⟨w.1, w.2.1, w.2.2, by rw [uI1, if_neg (by omega)]; exact h.lv, by rw [uI1, if_pos ⟨rfl, rfl⟩]; rfl⟩
    refine Ret.p (c_next h1 hs.to) ?_
    intro W ⟨w1, w2⟩
    refine Ret.ok (rOk.ok (s := s) (e := 1) (S := fun c j => c = o ∧ (j = 3 ∨ j = 4 ∨ j = 6)) w1 trivial (hs.up q).nx (frI.mk (fun c j z => by rw [w2.1 _ _ (by omega), uI1, if_neg (by omega)]) (by rw [w2.2]; rfl)) (fun c j z => by omega) (nx_le (s := s.up) (hs.up q) : s.up.fr ≤ (nx tp n s.up).fr))
def spNeed (tp : Nat → Nat) (n : Nat) (w : List Nat) (s : Sg) : Rs Unit := if tkw tp s w = true then .inr ((), nx tp n s) else .inl s.fr
theorem c_need {T : Tt} {V : Vt} {o : Nat} {tp : Nat → Nat} {n : Nat} {s : Sg} (h : rdR T V o tp n s) (hs : okR tp n s) (ho : o < T.2.2) {k : Nat} {w : List Nat} (hw : sB k = w.map nI) (hk : k < 42) (hl : w.length ≤ 10) (hb : ∀ c, c ∈ w → c < 128) : Ret (f_X6_need T V o k) (rOk o tp n T.2.2 T V s 0 0 1 0 0 gU (spNeed tp n w s)) := by
  rw [f_X6_need, rq h.t.ko, spNeed]
  refine Ret.c (c_takesW h hs hw hk hl hb) ?_
  intro z W ⟨e1, e2, e3⟩
  dsimp only at e1 e2 e3
  subst e1
  simp only [b1_0]
  cases q : tkw tp s w with
  | false =>
    rw [q, if_neg (by decide)] at e2
    rw [if_pos rfl, if_neg (by decide)]
    exact (rOk.flt (rc := 0) (rk := 0) (e := 1) (c0 := 0) (k0 := 0) e2 hs ho (Nat.le_refl _) (Nat.le_refl _)).im fun q hq => hq.w (a := 0) (b := 0) exT.rfl' (frI_o e3 fun c j z => z.1) (sO2_f e3 (by omega)) (Nat.le_refl _) (Nat.zero_le _) (Nat.zero_le _)
  | true =>
    rw [q, if_pos rfl] at e2
    rw [if_neg (by decide), if_pos rfl]
    exact Ret.ok (rOk.ok e2 trivial hs.nx e3 (fun c j z => by omega) (nx_le hs))
theorem dvN_mono {tp : Nat → Nat} {f : Nat} : ∀ j i, dvN tp f i ≤ dvN tp f (i + j) := by
  intro j
  induction j with
  | zero => intro i; exact Nat.le_refl _
  | succ j ih =>
    intro i
    have := ih i
    rw [← Nat.add_assoc, dvN]
    omega
theorem dg_all {tp : Nat → Nat} {n : Nat} {s : Sg} (hs : okR tp n s) (q : dg tp n s = true) {i : Nat} (h : s.fr + i < s.to) : 48 ≤ tp (s.fr + i) ∧ tp (s.fr + i) ≤ 57 := by
  rw [dg, Bool.and_eq_true] at q
  have q1 := of_decide_eq_true q.1
  have hnl : ¬ isL (tp s.fr) = true := fun z => by
    have a1 := of_decide_eq_true z
    have a2 := of_decide_eq_true q.2
    omega
  have e := hs.t
  rw [tkE, if_pos q1, if_neg hnl, if_pos q.2] at e
  rw [e] at h
  exact of_decide_eq_true (ovr_all (P := isD) (by omega) h)
theorem c_numL {T : Tt} {V : Vt} {o : Nat} {tp : Nat → Nat} {n : Nat} {s : Sg} (h : rdR T V o tp n s) (hs : okR tp n s) (q : dg tp n s = true) {hi : Nat} (hh : hi ≤ 1000) {lo' : Int32} {kx : Int32 → Option (((Int32 ⊕ Nat) × Vt × Tt) × Nat × Nat)} {R : ((Int32 ⊕ Nat) × Vt × Tt) × Nat × Nat → Prop}
    (hR : ∀ v, v ≤ 100000 → (v ≤ hi → v = dvN tp s.fr (s.to - s.fr)) → (hi < v → hi < dvN tp s.fr (s.to - s.fr)) → Ret (kx (nI v)) R) : ∀ m i N, i + m = s.to - s.fr → m < N → dvN tp s.fr i ≤ 100000 → Ret (f_X6_number_L35 T V o lo' (nI hi) kx N (nI (dvN tp s.fr i)) (nI (s.fr + i))) R := by
  have hn := h.t.n
  have ht := hs.to
  have hle : s.fr ≤ s.to := by rw [hs.t]; exact tkE_le
  intro m
  induction m with
  | zero =>
    intro i N hi' hN hb
    obtain ⟨N, rfl⟩ : ∃ n, N = n + 1 := ⟨N - 1, by omega⟩
    rw [f_X6_number_L35, rq h.t.ko, h.to, if_pos (nI_le (by omega) (by omega))]
    obtain rfl : i = s.to - s.fr := by omega
    exact hR _ hb (fun _ => rfl) fun w => w
  | succ m ih =>
    intro i N hi' hN hb
    obtain ⟨N, rfl⟩ : ∃ n, N = n + 1 := ⟨N - 1, by omega⟩
    rw [f_X6_number_L35, rq h.t.ko, h.to, if_neg (nI_ge (by omega) (by omega))]
    by_cases w : hi < dvN tp s.fr i
    · rw [if_pos (by rw [nI_ltI (by omega) (by omega)]; exact w)]
      refine hR _ hb (fun z => absurd z (by omega)) fun _ => ?_
      have := dvN_mono (tp := tp) (f := s.fr) (m + 1) i
      rw [show i + (m + 1) = s.to - s.fr by omega] at this
      omega
    · have hd := dg_all hs q (i := i) (by omega)
      have q1 : aIn T 21 2 (nI (s.fr + i)) := aIn_nI h.t.k.1 (by rw [h.t.k.2]; omega) (by omega)
      have et : V.1 21 (ixN (nI (s.fr + i))) = nI (tp (s.fr + i)) := by rw [ix_nI (by omega), h.t.t _ (by omega), by8, if_pos (by omega)]
      rw [if_neg (by rw [nI_ltI (by omega) (by omega)]; exact w), dr h.t.r0, rq q1, et, l10, pk_mul, nI_add, l48, pk_sub (by omega), sp, show nI (s.fr + i) + (1 : Int32) = nI (s.fr + (i + 1)) from nI_add _ _, sp]
      have e : 10 * dvN tp s.fr i + tp (s.fr + i) - 48 = dvN tp s.fr (i + 1) := by rw [dvN]; omega
      rw [e]
      exact ih (i + 1) N (by omega) (by omega) (by rw [← e]; omega)
theorem c_number {T : Tt} {V : Vt} {o : Nat} {tp : Nat → Nat} {n : Nat} {s : Sg} (h : rdR T V o tp n s) (hs : okR tp n s) (ho : o < T.2.2) {lo hi : Nat} (hh : hi ≤ 1000) (hlo : lo ≤ hi) : Ret (f_X6_number T V o (nI lo) (nI hi)) (rOk o tp n T.2.2 T V s 0 0 1 0 0 gN (spN tp n lo hi s)) := by
  have hn := h.t.n
  have hfn := hs.n
  rw [f_X6_number, rq h.t.ko, h.fr, show (48 : Int32) = nI 48 from rfl, show (57 : Int32) = nI 57 from rfl, pc (c_isIn h.t (by omega) (by omega) (by omega)), spN]
  by_cases q : dg tp n s = true
  · have q' := q
    rw [dg, Bool.and_eq_true] at q'
    rw [decide_eq_true ⟨of_decide_eq_true q'.1, of_decide_eq_true q'.2⟩, if_neg (by decide), sp]
    have := c_numL h hs q hh (lo' := nI lo) (kx := fun z12 => f_X6_number_J71 T V o (nI lo) (nI hi) z12) (R := rOk o tp n T.2.2 T V s 0 0 1 0 0 gN (if dg tp n s = true ∧ lo ≤ dvN tp s.fr (s.to - s.fr) ∧ dvN tp s.fr (s.to - s.fr) ≤ hi then .inr (dvN tp s.fr (s.to - s.fr), nx tp n s) else .inl s.fr)) (fun v v1 v2 v3 => ?_) (s.to - s.fr) 0 fuel (by omega) (Nat.lt_of_le_of_lt (show s.to - s.fr ≤ 400 by have := hs.to; omega) (by decide)) (Nat.zero_le _)
    · exact this
    · rw [f_X6_number_J71]
      by_cases w1 : v < lo
      · rw [if_pos (by rw [nI_ltI (by omega) (by omega)]; exact w1), if_neg (fun z => by have := v2 (by omega); omega)]
        exact rOk.flt h hs ho (Nat.le_refl _) (Nat.le_refl _)
      · rw [if_neg (by rw [nI_ltI (by omega) (by omega)]; exact w1)]
        by_cases w2 : v ≤ hi
        · have ev := v2 w2
          rw [if_pos (nI_le w2 (by omega)), if_pos ⟨q, by omega, by omega⟩]
          refine Ret.p (c_next h hs.to) ?_
          intro W ⟨x1, x2⟩
          exact Ret.ok (rOk.ok x1 (by rw [ev]) hs.nx x2 (fun c j z => by omega) (nx_le hs))
        · rw [if_neg (nI_ge (by omega) (by omega)), if_neg (fun z => by have := v3 (by omega); omega)]
          exact rOk.flt h hs ho (Nat.le_refl _) (Nat.le_refl _)
  · have q' : ¬ (s.fr < n ∧ 48 ≤ tp s.fr ∧ tp s.fr ≤ 57) := fun z => q (by rw [dg, Bool.and_eq_true]; exact ⟨decide_eq_true z.1, decide_eq_true z.2⟩)
    rw [decide_eq_false q', if_pos (by decide), if_neg (fun z => q z.1)]
    exact rOk.flt h hs ho (Nat.le_refl _) (Nat.le_refl _)
