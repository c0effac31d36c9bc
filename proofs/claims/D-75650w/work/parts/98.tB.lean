/-! 98: the component's reader: tokens -/
set_option maxRecDepth 100000
/-- the tape, as a reader has it -/
abbrev tpe (T : Tt) (V : Vt) (o : Nat) (tp : Nat → Nat) (n : Nat) : Prop := (isRd T o) ∧ (V.2.2 o 0 = some 21) ∧ (V.1 o 1 = nI n) ∧ (T.1 21 = 102 ∧ T.2.1 21 = 400) ∧ (∀ i, i < 400 → V.1 21 i = by8 (tp i)) ∧ (∀ i, tp i < 256) ∧ (n ≤ 400) ∧ (o ≠ 21)
theorem tpe.ko {T : Tt} {V : Vt} {o : Nat} {tp : Nat → Nat} {n : Nat} (h__ : tpe T V o tp n) : isRd T o := h__.1
theorem tpe.r0 {T : Tt} {V : Vt} {o : Nat} {tp : Nat → Nat} {n : Nat} (h__ : tpe T V o tp n) : V.2.2 o 0 = some 21 := h__.2.1
theorem tpe.n1 {T : Tt} {V : Vt} {o : Nat} {tp : Nat → Nat} {n : Nat} (h__ : tpe T V o tp n) : V.1 o 1 = nI n := h__.2.2.1
theorem tpe.k {T : Tt} {V : Vt} {o : Nat} {tp : Nat → Nat} {n : Nat} (h__ : tpe T V o tp n) : T.1 21 = 102 ∧ T.2.1 21 = 400 := h__.2.2.2.1
theorem tpe.t {T : Tt} {V : Vt} {o : Nat} {tp : Nat → Nat} {n : Nat} (h__ : tpe T V o tp n) : ∀ i, i < 400 → V.1 21 i = by8 (tp i) := h__.2.2.2.2.1
theorem tpe.b {T : Tt} {V : Vt} {o : Nat} {tp : Nat → Nat} {n : Nat} (h__ : tpe T V o tp n) : ∀ i, tp i < 256 := h__.2.2.2.2.2.1
theorem tpe.n {T : Tt} {V : Vt} {o : Nat} {tp : Nat → Nat} {n : Nat} (h__ : tpe T V o tp n) : n ≤ 400 := h__.2.2.2.2.2.2.1
theorem tpe.o {T : Tt} {V : Vt} {o : Nat} {tp : Nat → Nat} {n : Nat} (h__ : tpe T V o tp n) : o ≠ 21 := h__.2.2.2.2.2.2.2
abbrev rdR (T : Tt) (V : Vt) (o : Nat) (tp : Nat → Nat) (n : Nat) (s : Sg) : Prop := (tpe T V o tp n) ∧ (V.1 o 3 = nI s.fr) ∧ (V.1 o 4 = nI s.to) ∧ (V.1 o 5 = nI s.lv) ∧ (V.1 o 6 = nI s.dp)
theorem rdR.t {T : Tt} {V : Vt} {o : Nat} {tp : Nat → Nat} {n : Nat} {s : Sg} (h__ : rdR T V o tp n s) : tpe T V o tp n := h__.1
theorem rdR.fr {T : Tt} {V : Vt} {o : Nat} {tp : Nat → Nat} {n : Nat} {s : Sg} (h__ : rdR T V o tp n s) : V.1 o 3 = nI s.fr := h__.2.1
theorem rdR.to {T : Tt} {V : Vt} {o : Nat} {tp : Nat → Nat} {n : Nat} {s : Sg} (h__ : rdR T V o tp n s) : V.1 o 4 = nI s.to := h__.2.2.1
theorem rdR.lv {T : Tt} {V : Vt} {o : Nat} {tp : Nat → Nat} {n : Nat} {s : Sg} (h__ : rdR T V o tp n s) : V.1 o 5 = nI s.lv := h__.2.2.2.1
theorem rdR.dp {T : Tt} {V : Vt} {o : Nat} {tp : Nat → Nat} {n : Nat} {s : Sg} (h__ : rdR T V o tp n s) : V.1 o 6 = nI s.dp := h__.2.2.2.2
theorem tpe.fr {T : Tt} {V W : Vt} {o : Nat} {tp : Nat → Nat} {n : Nat} (h : tpe T V o tp n) (e1 : W.1 o 1 = V.1 o 1) (e2 : ∀ j, W.1 21 j = V.1 21 j) (e3 : W.2.2 o 0 = V.2.2 o 0) : tpe T W o tp n := ⟨h.ko, e3.trans h.r0, e1.trans h.n1, h.k, fun i hi => (e2 i).trans (h.t i hi), h.b, h.n, h.o⟩
theorem by8_lo {b lo : Nat} (hb : b < 256) (h : lo ≤ 128) : (by8 b < nI lo) = (b < lo ∨ 128 ≤ b) := by
  rw [Int32.lt_iff_toInt_lt, by8_t hb, nI_toInt (by omega)]
  apply propext
  split <;> omega
theorem by8_hi {b hi : Nat} (hb : b < 256) (h : hi ≤ 128) : (nI hi < by8 b) = (hi < b ∧ b < 128) := by
  rw [Int32.lt_iff_toInt_lt, by8_t hb, nI_toInt (by omega)]
  apply propext
  split <;> omega
theorem by8_eq {b c : Nat} (hb : b < 256) (h : c < 128) : (by8 b = nI c) = (b = c) := by
  apply propext
  constructor
  · intro e
    have e := congrArg Int32.toInt e
    rw [by8_t hb, nI_toInt (by omega)] at e
    split at e <;> omega
  · intro e
    rw [e, by8, if_pos h]
theorem c_isIn {T : Tt} {V : Vt} {o : Nat} {tp : Nat → Nat} {n : Nat} (h : tpe T V o tp n) {p lo hi : Nat} (hp : p ≤ 400) (hl : lo ≤ 128) (hh : hi < 128) : f_X6_isIn T V o (nI p) (nI lo) (nI hi) = some (b1 (decide (p < n ∧ lo ≤ tp p ∧ tp p ≤ hi))) := by
  have hn := h.n
  have hb := h.b p
  rw [f_X6_isIn, rq h.ko, h.n1]
  by_cases q : n ≤ p
  · rw [if_pos (nI_le q (by omega)), decide_eq_false (by omega)]
    rfl
  · have q1 : aIn T 21 2 (nI p) := aIn_nI h.k.1 (by rw [h.k.2]; omega) (by omega)
    have et : V.1 21 (ixN (nI p)) = by8 (tp p) := by rw [ix_nI (by omega)]; exact h.t p (by omega)
    rw [if_neg (nI_ge (by omega) (by omega)), dr h.r0, rq q1, et]
    by_cases q2 : tp p < lo ∨ 128 ≤ tp p
    · rw [if_pos (by rw [by8_lo hb hl]; exact q2), decide_eq_false (by omega)]
      rfl
    · rw [if_neg (by rw [by8_lo hb hl]; exact q2), dr h.r0, rq q1, et]
      by_cases q3 : hi < tp p
      · rw [if_pos (by rw [by8_hi hb (by omega)]; exact ⟨q3, by omega⟩), decide_eq_false (by omega)]
        rfl
      · rw [if_neg (by rw [by8_hi hb (by omega)]; exact fun w => q3 w.1), decide_eq_true (by omega)]
        rfl
theorem rn_loop {T : Tt} {o : Nat} {tp : Nat → Nat} {n : Nat} {F : Nat → Vt → Option Vt} {kx : Vt → Option Vt} {f lo hi : Nat} (hF : ∀ N W, F (N + 1) W = pcl (f_X6_isIn T W o (W.1 o f) (nI lo) (nI hi)) (fun z => if z = 0 then kx W else stp (uI W o f ((W.1 o f) + (1 : Int32))) (fun U => F N U))) {P : Nat → Bool} (hP : ∀ b, P b = decide (lo ≤ b ∧ b ≤ hi)) (hl : lo ≤ 128) (hh : hi < 128) (hf : f ≠ 1) {R : Vt → Prop} : ∀ k p N W, n - p ≤ k → k < N → p ≤ n → tpe T W o tp n → W.1 o f = nI p → (∀ U, U.1 o f = nI (ovr P tp n p) → frI (fun c j => c = o ∧ j = f) W U → Ret (kx U) R) → Ret (F N W) R := by
  intro k
  induction k with
  | zero =>
    intro p N W h1 h2 h3 ht hw hR
    obtain ⟨N, rfl⟩ : ∃ n, N = n + 1 := ⟨N - 1, by omega⟩
    have hn := ht.n
    rw [hF, hw, pc (c_isIn ht (by omega) hl hh), decide_eq_false (by omega), if_pos (by decide)]
    refine hR W ?_ (frI.mk (fun _ _ _ => rfl) rfl)
    rw [ovr_e (by omega)]
    exact hw
  | succ k ih =>
    intro p N W h1 h2 h3 ht hw hR
    obtain ⟨N, rfl⟩ : ∃ n, N = n + 1 := ⟨N - 1, by omega⟩
    have hn := ht.n
    rw [hF, hw, pc (c_isIn ht (by omega) hl hh)]
    by_cases q : p < n ∧ lo ≤ tp p ∧ tp p ≤ hi
    · have ho : ovr P tp n p = ovr P tp n (p + 1) := ovr_s q.1 (by rw [hP]; exact decide_eq_true q.2)
      rw [decide_eq_true q, if_neg (by decide), show nI p + (1 : Int32) = nI (p + 1) from nI_add _ _, sp]
      refine ih (p + 1) N (uI W o f (nI (p + 1))) (by omega) (by omega) (by omega) (ht.fr (by rw [uI1, if_neg (by omega)]) (fun j => by rw [uI1, if_neg (fun z => ht.o z.1.symm)]) rfl) (by rw [uI1, if_pos ⟨rfl, rfl⟩]) fun U u1 u2 => ?_
      rw [← ho] at u1
      exact hR U u1 (frI.mk (fun c j z => by rw [u2.1 _ _ z, uI1, if_neg z]) (by rw [u2.2]; rfl))
    · rw [decide_eq_false q, if_pos (by decide)]
      refine hR W ?_ (frI.mk (fun _ _ _ => rfl) rfl)
      rw [ovr_e (fun z => q ⟨z.1, by have := z.2; rw [hP] at this; exact of_decide_eq_true this⟩)]
      exact hw
abbrev sNx (o c j : Nat) : Prop := c = o ∧ (j = 3 ∨ j = 4)
/-- the next token -/
theorem c_next {T : Tt} {V : Vt} {o : Nat} {tp : Nat → Nat} {n : Nat} {s : Sg} (h : rdR T V o tp n s) (ht : s.to ≤ n) : Ret (f_X6_next T V o) fun W => rdR T W o tp n (nx tp n s) ∧ frI (sNx o) V W := by
  have hn := h.t.n
  have ho := h.t.o
  have fin : ∀ W, tpe T W o tp n → W.1 o 3 = nI (skp tp n s.to) → frI (sNx o) V W → W.1 o 4 = nI (tkE tp n (skp tp n s.to)) → rdR T W o tp n (nx tp n s) ∧ frI (sNx o) V W := fun W w1 w2 w3 w4 => ⟨⟨w1, w2, w4, (w3.1 _ _ (by omega)).trans h.lv, (w3.1 _ _ (by omega)).trans h.dp⟩, w3⟩
  rw [f_X6_next, rq h.t.ko, h.to, sp]
  have t1 : tpe T (uI V o 3 (nI s.to)) o tp n := h.t.fr (by rw [uI1, if_neg (by omega)]) (fun j => by rw [uI1, if_neg (fun z => ho z.1.symm)]) rfl
  refine rn_loop (F := f_X6_next_L8 T o _) (f := 3) (lo := 32) (hi := 32) (P := isW) (fun N W => by rw [f_X6_next_L8]; rfl) (fun b => by rw [isW]; congr 1; exact propext ⟨fun w => by omega, fun w => by omega⟩) (by omega) (by omega) (by omega) 400 s.to fuel _ (by omega) (by decide) ht t1 (by rw [uI1, if_pos ⟨rfl, rfl⟩]) fun U u1 u2 => ?_
  have u1 : U.1 o 3 = nI (skp tp n s.to) := u1
  have hk : skp tp n s.to ≤ n := ovr_n ht
  rw [u1, sp]
  have fU : frI (sNx o) V (uI U o 4 (nI (skp tp n s.to))) := frI.mk (fun c j z => by rw [uI1, if_neg (by omega), u2.1 _ _ (by omega), uI1, if_neg (by omega)]) (by rw [uI2, u2.2]; rfl)
  have u3 : (uI U o 4 (nI (skp tp n s.to))).1 o 3 = nI (skp tp n s.to) := by rw [uI1, if_neg (by omega)]; exact u1
  have u4 : (uI U o 4 (nI (skp tp n s.to))).1 o 4 = nI (skp tp n s.to) := by rw [uI1, if_pos ⟨rfl, rfl⟩]
  have tU : tpe T (uI U o 4 (nI (skp tp n s.to))) o tp n := h.t.fr (fU.1 _ _ (by omega)) (fun j => fU.1 _ _ (by omega)) (by rw [fU.2])
  generalize uI U o 4 (nI (skp tp n s.to)) = X at fU u3 u4 tU ⊢
  generalize skp tp n s.to = p at hk u1 u3 u4 fin ⊢
  have mono : ∀ W, frI (fun c j => c = o ∧ j = 4) X W → tpe T W o tp n ∧ W.1 o 3 = nI p ∧ frI (sNx o) V W := fun W f => ⟨tU.fr (f.1 _ _ (by omega)) (fun j => f.1 _ _ (by omega)) (by rw [f.2]), (f.1 _ _ (by omega)).trans u3, frI.mk (fun c j z => by rw [f.1 _ _ (by omega), fU.1 _ _ z]) (f.2.trans fU.2)⟩
  rw [u3, show (97 : Int32) = nI 97 from rfl, show (122 : Int32) = nI 122 from rfl, pc (c_isIn tU (by omega) (by omega) (by omega))]
  by_cases q : p < n ∧ 97 ≤ tp p ∧ tp p ≤ 122
  · have eE : tkE tp n p = ovr isL tp n p := by rw [tkE, if_pos q.1, if_pos (show isL (tp p) = true from decide_eq_true q.2)]
    rw [decide_eq_true q, if_neg (by decide)]
    refine rn_loop (F := f_X6_next_L59 T o _) (f := 4) (lo := 97) (hi := 122) (P := isL) (fun N W => by rw [f_X6_next_L59]; rfl) (fun b => rfl) (by omega) (by omega) (by omega) 400 p fuel _ (by omega) (by decide) hk tU u4 fun W w1 w2 => ?_
    obtain ⟨m1, m2, m3⟩ := mono W w2
    exact Ret.ok (fin W m1 m2 m3 (by rw [eE]; exact w1))
  · rw [decide_eq_false q, if_pos (by decide), show (48 : Int32) = nI 48 from rfl, show (57 : Int32) = nI 57 from rfl, pc (c_isIn tU (by omega) (by omega) (by omega))]
    by_cases q2 : p < n ∧ 48 ≤ tp p ∧ tp p ≤ 57
    · have eE : tkE tp n p = ovr isD tp n p := by rw [tkE, if_pos q2.1, if_neg (fun z : isL (tp p) = true => q ⟨q2.1, of_decide_eq_true z⟩), if_pos (show isD (tp p) = true from decide_eq_true q2.2)]
      rw [decide_eq_true q2, if_neg (by decide)]
      refine rn_loop (F := f_X6_next_L102 T o _) (f := 4) (lo := 48) (hi := 57) (P := isD) (fun N W => by rw [f_X6_next_L102]; rfl) (fun b => rfl) (by omega) (by omega) (by omega) 400 p fuel _ (by omega) (by decide) hk tU u4 fun W w1 w2 => ?_
      obtain ⟨m1, m2, m3⟩ := mono W w2
      exact Ret.ok (fin W m1 m2 m3 (by rw [eE]; exact w1))
    · rw [decide_eq_false q2, if_pos (by decide), tU.n1]
      by_cases q3 : n ≤ p
      · have eE : tkE tp n p = p := by rw [tkE, if_neg (by omega)]
        rw [if_pos (nI_le q3 (by omega))]
        exact Ret.ok (fin X tU u3 fU (by rw [eE]; exact u4))
      · have eE : tkE tp n p = p + 1 := by rw [tkE, if_pos (by omega), if_neg (fun z : isL (tp p) = true => q ⟨by omega, of_decide_eq_true z⟩), if_neg (fun z : isD (tp p) = true => q2 ⟨by omega, of_decide_eq_true z⟩)]
        rw [if_neg (nI_ge (by omega) (by omega)), u4, show nI p + (1 : Int32) = nI (p + 1) from nI_add _ _, sp]
        obtain ⟨m1, m2, m3⟩ := mono (uI X o 4 (nI (p + 1))) (frI.mk (fun c j z => by rw [uI1, if_neg z]) rfl)
        exact Ret.ok (fin _ m1 m2 m3 (by rw [eE, uI1, if_pos ⟨rfl, rfl⟩]))
