/-! 98: orders that are run: what they come to -/
set_option maxRecDepth 100000
abbrev Os : Type := (St) × (Nat) × (Int32)
abbrev Os.a (x__ : Os) : St := x__.1
abbrev Os.dn (x__ : Os) : Nat := x__.2.1
abbrev Os.lt (x__ : Os) : Int32 := x__.2.2
abbrev vS (s : Os) : Vals := vO s.a.g s.a.t (nI s.dn) s.lt
def actW (a : St) (o : Od) (v : Vals) : Nat := if o.1 = 3 then (if a.t.y = 999 then 3 else 0) else whyO a.g a.t o v
def actN (a : St) (o : Od) (v : Vals) : St := if o.1 = 3 then nY a else if o.1 = 0 then nP a (sO o v 1) (sO o v 0) else if o.1 = 1 then nR a (sO o v 1) (sO o v 2) (sO o v 0) else nB a (sO o v 1) (sO o v 0)
def actR (a : St) (o : Od) (v : Vals) : Int32 := if o.1 = 3 then rY a else if o.1 = 0 then rP a (sO o v 1) (sO o v 0) else if o.1 = 1 then rR a (sO o v 1) (sO o v 2) (sO o v 0) else rB a (sO o v 1) (sO o v 0)
theorem whyO_le {g : Cfg} {b : Tab} {o : Od} {v : Vals} : whyO g b o v ≤ 3 := by
  rw [whyO]
  split
  · exact whyP_le
  · split
    · exact whyR_le
    · exact whyB_le
theorem actR_pos {a : St} (ok : OK a) {o : Od} {v : Vals} (w : actW a o v = 0) : 0 ≤ actR a o v := by
  rw [actW] at w
  rw [actR]
  by_cases q3 : o.1 = 3
  · rw [if_pos q3] at w ⊢
    exact rY_pos ok (fun e => by rw [if_pos e] at w; cases w)
  · rw [if_neg q3] at w ⊢
    rw [whyO] at w
    by_cases q : o.1 = 0
    · rw [if_pos q] at w ⊢
      exact rP_pos ok w
    · rw [if_neg q] at w ⊢
      by_cases q1 : o.1 = 1
      · rw [if_pos q1] at w ⊢
        exact rR_pos ok w
      · rw [if_neg q1] at w ⊢
        exact rB_pos ok w
theorem act_no {a : St} {o : Od} {v : Vals} (w : ¬ actW a o v = 0) : ¬ 0 ≤ actR a o v ∧ actN a o v = a := by
  have hng : ∀ w, ¬ w = 0 → w ≤ 3 → ¬ 0 ≤ (-nI w : Int32) := fun w w1 w2 => by
    rw [ng_0 (by omega)]
    exact w1
  rw [actW] at w
  rw [actR, actN]
  by_cases q3 : o.1 = 3
  · rw [if_pos q3] at w ⊢
    have e : a.t.y = 999 := by
      by_cases e : a.t.y = 999
      · exact e
      · rw [if_neg e] at w
        exact absurd rfl w
    rw [if_pos q3, rY, nY, if_pos e, if_pos e]
    exact ⟨hng 3 (by omega) (by omega), rfl⟩
  · rw [if_neg q3] at w ⊢
    rw [if_neg q3]
    rw [whyO] at w
    by_cases q : o.1 = 0
    · rw [if_pos q] at w ⊢
      rw [if_pos q, rP, nP, if_neg w, if_neg w]
      exact ⟨hng _ w whyP_le, rfl⟩
    · rw [if_neg q] at w ⊢
      rw [if_neg q]
      by_cases q1 : o.1 = 1
      · rw [if_pos q1] at w ⊢
        rw [if_pos q1, rR, nR, if_neg w, if_neg w]
        exact ⟨hng _ w whyR_le, rfl⟩
      · rw [if_neg q1] at w ⊢
        rw [if_neg q1, rB, nB, if_neg w, if_neg w]
        exact ⟨hng _ w whyB_le, rfl⟩
theorem actN_ok {a : St} (ok : OK a) {o : Od} {v : Vals} : OK (actN a o v) := by
  rw [actN]
  split
  · exact ok.nY
  · split
    · exact ok.nP
    · split
      · exact ok.nR
      · exact ok.nB
/-- only what years move, what can be undone, is another -/
def alik (a b : St) : Prop := ∃ u t, b = (a.wu u).wt t
theorem alik.rfl' {a : St} : alik a a := ⟨a.u, a.t, rfl⟩
theorem alik.tr {a b c : St} (h : alik a b) (g : alik b c) : alik a c := by
  obtain ⟨u, t, rfl⟩ := h
  obtain ⟨u', t', rfl⟩ := g
  exact ⟨u', t', rfl⟩
theorem actN_al {a : St} {o : Od} {v : Vals} : alik a (actN a o v) := by
  have k : ∀ u t, alik a ((a.wu u).wt t) := fun u t => ⟨u, t, rfl⟩
  rw [actN]
  split
  · rw [nY]
    split
    · exact alik.rfl'
    · exact k _ _
  · split
    · rw [nP]
      split
      · exact k _ _
      · exact alik.rfl'
    · split
      · rw [nR]
        split
        · exact k _ _
        · exact alik.rfl'
      · rw [nB]
        split
        · exact k _ _
        · exact alik.rfl'
def oOnce (s : Os) (o : Od) : Option Os := if nowO o (vS s) = true then (if actW s.a o (vS s) = 0 then some ⟨actN s.a o (vS s), s.dn + 1, if o.1 = 2 then actR s.a o (vS s) else s.lt⟩ else none) else some s
def oIt (o : Od) (s : Os) : Nat → Option Os
  | 0 => some s
  | n + 1 => (oIt o s n).bind fun s => oOnce s o
def oSeq (p : Pl) (s : Os) : Nat → Nat ⊕ Os
  | 0 => .inr s
  | i + 1 => match oSeq p s i with
    | .inl k => .inl k
    | .inr s => match oIt (p.2 i) s (p.2 i).2.2.1 with
      | none => .inl i
      | some s => .inr s
theorem oIt_no {o : Od} {s : Os} {i : Nat} (h : oIt o s i = none) : ∀ j, oIt o s (i + j) = none := by
  intro j
  induction j with
  | zero => exact h
  | succ j ih => rw [← Nat.add_assoc, oIt, ih]; rfl
theorem oSeq_no {p : Pl} {s : Os} {i k : Nat} (h : oSeq p s i = .inl k) : ∀ j, oSeq p s (i + j) = .inl k := by
  intro j
  induction j with
  | zero => exact h
  | succ j ih => rw [← Nat.add_assoc, oSeq, ih]
abbrev okE (a : St) (s : Os) (d : Nat) : Prop := (OK s.a) ∧ (alik a s.a) ∧ (s.dn ≤ d) ∧ (s.lt = -nI 1 ∨ ∃ k, k ≤ 19000 ∧ s.lt = nI k)
theorem okE.ok {a : St} {s : Os} {d : Nat} (h__ : okE a s d) : OK s.a := h__.1
theorem okE.al {a : St} {s : Os} {d : Nat} (h__ : okE a s d) : alik a s.a := h__.2.1
theorem okE.dn {a : St} {s : Os} {d : Nat} (h__ : okE a s d) : s.dn ≤ d := h__.2.2.1
theorem okE.lt {a : St} {s : Os} {d : Nat} (h__ : okE a s d) : s.lt = -nI 1 ∨ ∃ k, k ≤ 19000 ∧ s.lt = nI k := h__.2.2.2
theorem alik.g {a b : St} (h : alik a b) : b.g = a.g := by
  obtain ⟨u, t, rfl⟩ := h
  rfl
theorem okE.v {a : St} {s : Os} {d : Nat} (h : okE a s d) (hd : d ≤ 1000000) (i : Nat) (_ : i < 28) : b9 (vS s i) := vO_b h.ok.g h.ok.t (Nat.le_trans h.dn hd) h.lt i
theorem rB_lt {a : St} (ok : OK a) {c n : Int32} (w : whyB a.g a.t c n = 0) : ∃ k, k ≤ 19000 ∧ rB a c n = nI k := by
  have g8 := ok.g.n
  obtain ⟨c', n', rfl, rfl, h1, h3, h4, h6⟩ := whyB_0 ok.g w
  obtain ⟨k, k1, k2⟩ := mnO_pos (g := gC a.t.D c') (n := n') (by omega) (gvs_l h6)
  exact ⟨k, k1, by rw [rB, if_pos w, ix_nI (by omega), ix_nI (by omega), k2]⟩
theorem okE.once {a : St} {s s' : Os} {d : Nat} (h : okE a s d) {o : Od} (e : oOnce s o = some s') : okE a s' (d + 1) := by
  have hd := h.dn
  rw [oOnce] at e
  split at e
  · split at e
    · rename_i w
      cases e
      refine ⟨actN_ok h.ok, h.al.tr actN_al, Nat.add_le_add_right hd 1, ?_⟩
      show (if o.1 = 2 then _ else _) = _ ∨ ∃ k, _ ∧ (if o.1 = 2 then _ else _) = _
      by_cases q : o.1 = 2
      · rw [if_pos q]
        rw [actW, if_neg (by omega), whyO, if_neg (by omega), if_neg (by omega)] at w
        obtain ⟨k, k1, k2⟩ := rB_lt h.ok w
        refine Or.inr ⟨k, k1, ?_⟩
        rw [actR, if_neg (by omega), if_neg (by omega), if_neg (by omega)]
        exact k2
      · rw [if_neg q]
        exact h.lt
    · cases e
  · cases e
    exact ⟨h.ok, h.al, Nat.le_succ_of_le hd, h.lt⟩
theorem okE.mo {a : St} {s : Os} {d d' : Nat} (h : okE a s d) (hd : d ≤ d') : okE a s d' := ⟨h.ok, h.al, Nat.le_trans h.dn hd, h.lt⟩
theorem okE.it {a : St} {s : Os} {d : Nat} (h : okE a s d) {o : Od} : ∀ n s', oIt o s n = some s' → okE a s' (d + n) := by
  intro n
  induction n with
  | zero =>
    intro s' e
    cases e
    exact h
  | succ n ih =>
    intro s' e
    rw [oIt] at e
    cases hq : oIt o s n with
    | none => rw [hq] at e; cases e
    | some s1 =>
      rw [hq] at e
      exact (ih s1 hq).once e
theorem okE.seq {a : St} {s : Os} {d : Nat} (h : okE a s d) {p : Pl} (hp : okP p) : ∀ i s', i ≤ p.1 → oSeq p s i = .inr s' → okE a s' (d + 20 * i) := by
  intro i
  induction i with
  | zero =>
    intro s' _ e
    cases e
    exact h
  | succ i ih =>
    intro s' hi e
    have h20 := (hp.2 i (by omega)).2.2.2.2.1
    rw [oSeq] at e
    cases hq : oSeq p s i with
    | inl k => rw [hq] at e; cases e
    | inr s1 =>
      rw [hq] at e
      dsimp only at e
      cases hz : oIt (p.2 i) s1 (p.2 i).2.2.1 with
      | none => rw [hz] at e; cases e
      | some s2 =>
        rw [hz] at e
        cases e
        exact ((ih s1 (by omega) hq).it _ _ hz).mo (by omega)
