/-! 98: the component's reader: words, numbers, faults -/
set_option maxRecDepth 100000
theorem cN_b : ∀ c, c < 128 → cN (nI c &&& (255 : Int32)) = nI c := by decide +kernel
theorem c_isL {T : Tt} {V : Vt} {o : Nat} {tp : Nat → Nat} {n : Nat} {s : Sg} (h : rdR T V o tp n s) {k : Nat} (hk : k < 42) {w : List Nat} (hw : sB k = w.map nI) (hl : w.length ≤ 10) (hb : ∀ c, c ∈ w → c < 128) (hx : s.fr + w.length ≤ 400) : ∀ m i N, i + m = w.length → m < N → f_X6_is_L20 T V o k (some (0 : Int32)) (some (1 : Int32)) N (nI i) = some (b1 (eqA tp (s.fr + i) (w.drop i))) := by
  have hlen : (sB k).length = w.length := by rw [hw, List.length_map]
  intro m
  induction m with
  | zero =>
    intro i N hi hN
    obtain ⟨N, rfl⟩ : ∃ n, N = n + 1 := ⟨N - 1, by omega⟩
    rw [f_X6_is_L20, f_J8_length, rq hk, hlen, pcs, if_pos (nI_le (by omega) (by omega)), List.drop_eq_nil_of_le (by omega)]
    rfl
  | succ m ih =>
    intro i N hi hN
    obtain ⟨N, rfl⟩ : ∃ n, N = n + 1 := ⟨N - 1, by omega⟩
    have hi' : i < w.length := by omega
    have ec : (sB k).getD i 0 = nI (w[i]) := by
      rw [hw, List.getD_eq_getElem?_getD, List.getElem?_map, List.getElem?_eq_getElem hi']
      rfl
    have hc := hb w[i] (List.getElem_mem hi')
    have q1 : aIn T 21 2 (nI (s.fr + i)) := aIn_nI h.t.k.1 (by rw [h.t.k.2]; omega) (by omega)
    have et : V.1 21 (ixN (nI (s.fr + i))) = by8 (tp (s.fr + i)) := by rw [ix_nI (by omega)]; exact h.t.t _ (by omega)
    rw [f_X6_is_L20, f_J8_length, rq hk, hlen, pcs, if_neg (nI_ge hi' (by omega)), dr h.t.r0, h.fr, nI_add, rq q1, f_J8_charAt, rq hk, rq ⟨nI_pos (by omega), by rw [ix_nI (by omega), hlen]; exact hi'⟩, ix_nI (show i < 2 ^ 31 by omega), ec, cN_b _ hc, pcs, et]
    rw [List.drop_eq_getElem_cons hi', eqA]
    by_cases q : tp (s.fr + i) = w[i]
    · rw [if_pos (by rw [by8_eq (h.t.b _) hc]; exact q), show nI i + (1 : Int32) = nI (i + 1) from nI_add _ _, sp, ih (i + 1) N (by omega) (by omega), decide_eq_true q, Bool.true_and]
      rfl
    · rw [if_neg (by rw [by8_eq (h.t.b _) hc]; exact q), decide_eq_false q]
      rfl
theorem c_is {T : Tt} {V : Vt} {o : Nat} {tp : Nat → Nat} {n : Nat} {s : Sg} (h : rdR T V o tp n s) (hs : okR tp n s) {k : Nat} {w : List Nat} (hw : sB k = w.map nI) (hk : k < 42) (hl : w.length ≤ 10) (hb : ∀ c, c ∈ w → c < 128) : f_X6_is T V o k = some (b1 (tkw tp s w)) := by
  have hlen : (sB k).length = w.length := by rw [hw, List.length_map]
  have hn := h.t.n
  have ht := hs.to
  have hle : s.fr ≤ s.to := by rw [hs.t]; exact tkE_le
  rw [f_X6_is, rq h.t.ko, f_J8_length, rq hk, hlen, pcs, h.to, h.fr, pk_sub hle, tkw]
  by_cases q : s.to = s.fr + w.length
  · rw [if_pos (by rw [show s.to - s.fr = w.length by omega]), decide_eq_true q, Bool.true_and]
    have := c_isL h hk hw hl hb (by omega) w.length 0 fuel (by omega) (Nat.lt_of_le_of_lt hl (by decide))
    rw [Nat.add_zero, List.drop_zero] at this
    exact this
  · rw [if_neg (by rw [nI_eq (by omega) (by omega)]; omega), decide_eq_false q]
    rfl
theorem c_takesW {T : Tt} {V : Vt} {o : Nat} {tp : Nat → Nat} {n : Nat} {s : Sg} (h : rdR T V o tp n s) (hs : okR tp n s) {k : Nat} {w : List Nat} (hw : sB k = w.map nI) (hk : k < 42) (hl : w.length ≤ 10) (hb : ∀ c, c ∈ w → c < 128) : Ret (f_X6_takes T V o k) fun q => q.1 = b1 (tkw tp s w) ∧ rdR T q.2 o tp n (if tkw tp s w = true then nx tp n s else s) ∧ frI (sNx o) V q.2 := by
  rw [f_X6_takes, rq h.t.ko, pc (c_is h hs hw hk hl hb)]
  simp only [b1_0]
  cases q : tkw tp s w with
  | false =>
    rw [if_pos rfl, rq (b1_B _)]
    exact Ret.ok ⟨rfl, by rw [if_neg (by decide)]; exact h, frI.mk (fun _ _ _ => rfl) rfl⟩
  | true =>
    rw [if_neg (by decide)]
    refine Ret.p (c_next h hs.to) ?_
    intro W ⟨w1, w2⟩
    rw [rq (b1_B _)]
    exact Ret.ok ⟨rfl, by rw [if_pos rfl]; exact w1, w2⟩
/-- a fault is thrown -/
abbrev rFt {α : Type} (o fb : Nat) (T : Tt) (V : Vt) (p : Nat) (q : ((α ⊕ Nat) × Vt × Tt) × Nat × Nat) : Prop := ∃ f, q.1.1 = .inr f ∧ q.1.2.2.1 f = 8 ∧ q.1.2.1.1 f 6 = nI p ∧ exT T q.1.2.2 ∧ frO (fun h => h = o) fb V q.1.2.1 ∧ f < q.1.2.2.2.2 ∧ T.2.2 ≤ f
theorem isRd.ex {T T' : Tt} {o : Nat} (h : isRd T o) (ho : o < T.2.2) (e : exT T T') : isRd T' o := by
  unfold isRd at *
  rw [(e.2 o ho).1]
  exact h
theorem c_fault' {α : Type} {T : Tt} {V : Vt} {o p : Nat} (ko : isRd T o) (ho : o < T.2.2) (h3 : V.1 o 3 = nI p) {fb : Nat} (hfb : fb ≤ T.2.2) : Ret (inc 1 7 (stp T.2.2 (fun q5 => stp (zV V q5) (fun U6 => stp (aT T 8 0) (fun T7 => req (isRd T7 o) (pcl (f_X8_init T7 U6 q5 (U6.1 o 3)) (fun U11 => req (T7.1 q5 = 8) (some (((.inr q5 : α ⊕ Nat), U11, T7), 0, 0)))))))) ) fun q => rFt o fb T V p q ∧ q.2.1 ≤ 1 ∧ q.2.2 ≤ 7 := by
  have x1 : exT T (aT T 8 0) := aT_ex
  have k1 : (aT T 8 0).1 T.2.2 = 8 := aT_k
  have z3 : (zV V T.2.2).1 o 3 = nI p := by rw [zV1, if_neg (by omega)]; exact h3
  refine Ret.i ?_
  rw [sp, sp, sp, rq (ko.ex ho x1), z3, f_X8_init, rq k1, f_J4_init, rq (Or.inr k1), rq ⟨rfl, rfl⟩, pcs, sp, pcs, rq k1]
  refine Ret.ok ⟨⟨T.2.2, rfl, k1, ?_, x1, ?_, Nat.lt_succ_self _, Nat.le_refl _⟩, by show 0 + 1 ≤ 1; omega, by show 0 + 7 ≤ 7; omega⟩
  · show (uI _ T.2.2 6 (nI p)).1 T.2.2 6 = _
    rw [uI1, if_pos ⟨rfl, rfl⟩]
  · intro c j w _
    exact ⟨by show (uI _ T.2.2 6 (nI p)).1 c j = _; rw [uI1, if_neg (by omega), zV1, if_neg (by omega)], by show (zV V T.2.2).2.1 c j = _; rw [zV2, if_neg (by omega)], by show (zV V T.2.2).2.2 c j = _; rw [zV3, if_neg (by omega)]⟩
/-- the reader's cell: what parsing leaves alone -/
def sO2 (o : Nat) (V W : Vt) : Prop := (∀ j, W.2.2 o j = V.2.2 o j) ∧ W.1 o 2 = V.1 o 2
theorem sO2.tr {o : Nat} {V W U : Vt} (h : sO2 o V W) (g : sO2 o W U) : sO2 o V U := ⟨fun j => (g.1 j).trans (h.1 j), g.2.trans h.2⟩
theorem sO2.rfl' {o : Nat} {V : Vt} : sO2 o V V := ⟨fun _ => rfl, rfl⟩
/-- what a parsing step comes to -/
def rOk {α β : Type} (o : Nat) (tp : Nat → Nat) (n fb : Nat) (T : Tt) (V : Vt) (s : Sg) (rc rk e c0 k0 : Nat) (good : α → β → Sg → Tt → Vt → Prop) (sp : Rs α) (q : ((β ⊕ Nat) × Vt × Tt) × Nat × Nat) : Prop := match sp with
  | .inl p => rFt o fb T V p q ∧ s.fr ≤ p ∧ p ≤ n ∧ q.2.1 ≤ c0 + rc * (p - s.fr) + e ∧ q.2.2 ≤ k0 + rk * (p - s.fr) + 10 * e
  | .inr (a, s') => ∃ r, q.1.1 = .inl r ∧ rdR q.1.2.2 q.1.2.1 o tp n s' ∧ good a r s' q.1.2.2 q.1.2.1 ∧ okR tp n s' ∧ exT T q.1.2.2 ∧ frO (fun h => h = o) fb V q.1.2.1 ∧ sO2 o V q.1.2.1 ∧ s.fr ≤ s'.fr ∧ q.2.1 ≤ c0 + rc * (s'.fr - s.fr) ∧ q.2.2 ≤ k0 + rk * (s'.fr - s.fr)
theorem frI_o {o n : Nat} {V W : Vt} {S : Nat → Nat → Prop} (f : frI S V W) (h : ∀ a j, S a j → a = o) : frO (fun h => h = o) n V W := frO_f f fun a j _ q => h a j q
theorem sO2_f {o : Nat} {V W : Vt} {S : Nat → Nat → Prop} (f : frI S V W) (h : ¬ S o 2) : sO2 o V W := ⟨fun j => by rw [f.2], f.1 _ _ h⟩
