/-! 98: a state takes over another's -/
set_option maxRecDepth 100000
theorem isSum.ft {B : Nat → Prop} {T T' : Tt} {V : Vt} (e : ∀ h, B h → T'.1 h = T.1 h) : ∀ {d h : Nat} {m : Sm}, isSum d B T V h m → isSum d B T' V h m := by
  intro d
  induction d with
  | zero => intro h m q; exact q
  | succ d ih =>
    intro h m q
    obtain ⟨b, q⟩ := q
    refine ⟨b, ?_⟩
    rcases q with ⟨k, r⟩ | ⟨k, r⟩ | ⟨k, o, l, r, ml, mr, o1, o2, e0, el, er, ql, qr, z⟩
    · exact Or.inl ⟨(e _ b).trans k, r⟩
    · exact Or.inr (Or.inl ⟨(e _ b).trans k, r⟩)
    · exact Or.inr (Or.inr ⟨(e _ b).trans k, o, l, r, ml, mr, o1, o2, e0, el, er, ih ql, ih qr, z⟩)
theorem isTst.ft {B : Nat → Prop} {T T' : Tt} {V : Vt} (e : ∀ h, B h → T'.1 h = T.1 h) (e2 : ∀ h, B h → T'.2.1 h = T.2.1 h) : ∀ {d h : Nat} {t : Ts}, isTst d B T V h t → isTst d B T' V h t := by
  intro d
  induction d with
  | zero => intro h m q; exact q
  | succ d ih =>
    intro h m q
    obtain ⟨b, q⟩ := q
    refine ⟨b, ?_⟩
    rcases q with ⟨k, o, l, r, ml, mr, o1, o2, e0, el, er, ql, qr, z⟩ | ⟨k, l, tl, e0, q, z⟩ | ⟨k, al, ls, a, c, n, el, tl, e0, e3, b1, b2, hl, hn, ht, z⟩
    · exact Or.inl ⟨(e _ b).trans k, o, l, r, ml, mr, o1, o2, e0, el, er, ql.ft e, qr.ft e, z⟩
    · exact Or.inr (Or.inl ⟨(e _ b).trans k, l, tl, e0, ih q, z⟩)
    · exact Or.inr (Or.inr ⟨(e _ b).trans k, al, ls, a, c, n, el, tl, e0, e3, b1, b2, hl.ft (e _ b1) (e _ b2) (e2 _ b2), hn, fun i hi => ih (ht i hi), z⟩)
theorem isCl.ft {B : Nat → Prop} {T T' : Tt} {V : Vt} (e : ∀ h, B h → T'.1 h = T.1 h) (e2 : ∀ h, B h → T'.2.1 h = T.2.1 h) {h : Nat} {c : Clz} (q : isCl B T V h c) : isCl B T' V h c := by
  obtain ⟨b, k, h0, h3, hs, ht⟩ := q
  refine ⟨b, (e _ b).trans k, h0, h3, ?_, ?_⟩
  · cases hc : c.2.1 with
    | none => rw [hc] at hs; exact hs
    | some m => rw [hc] at hs; obtain ⟨s, s1, s2⟩ := hs; exact ⟨s, s1, s2.ft e⟩
  · cases hc : c.2.2 with
    | none => rw [hc] at ht; exact ht
    | some m => rw [hc] at ht; obtain ⟨s, s1, s2⟩ := ht; exact ⟨s, s1, s2.ft e e2⟩
theorem isLaw.ft {B : Nat → Prop} {T T' : Tt} {V : Vt} (e : ∀ h, B h → T'.1 h = T.1 h) (e2 : ∀ h, B h → T'.2.1 h = T.2.1 h) {h : Nat} {l : Lw} (q : isLaw B T V h l) : isLaw B T' V h l := by
  obtain ⟨b, k, ls, a, c, el, e0, b1, b2, hl, hc⟩ := q
  exact ⟨b, (e _ b).trans k, ls, a, c, el, e0, b1, b2, hl.ft (e _ b1) (e _ b2) (e2 _ b2), fun i hi => (hc i hi).ft e e2⟩
theorem isOd.ft {B : Nat → Prop} {T T' : Tt} {V : Vt} (e : ∀ h, B h → T'.1 h = T.1 h) (e2 : ∀ h, B h → T'.2.1 h = T.2.1 h) {h : Nat} {o : Od} (q : isOd B T V h o) : isOd B T' V h o := by
  obtain ⟨b, k, h0, h3, ⟨a, a1, a2, a3, a4, a5⟩, ht⟩ := q
  refine ⟨b, (e _ b).trans k, h0, h3, ⟨a, a1, a2, (e _ a2).trans a3, (e2 _ a2).trans a4, fun k hk => ?_⟩, ?_⟩
  · have hs := a5 k hk
    cases hc : o.2.1 k with
    | none => rw [hc] at hs; exact hs
    | some m => rw [hc] at hs; obtain ⟨s, s1, s2⟩ := hs; exact ⟨s, s1, s2.ft e⟩
  · cases hc : o.2.2.2 with
    | none => rw [hc] at ht; exact ht
    | some m => rw [hc] at ht; obtain ⟨s, s1, s2⟩ := ht; exact ⟨s, s1, s2.ft e e2⟩
theorem isPl.ft {B : Nat → Prop} {T T' : Tt} {V : Vt} (e : ∀ h, B h → T'.1 h = T.1 h) (e2 : ∀ h, B h → T'.2.1 h = T.2.1 h) {h : Nat} {p : Pl} (q : isPl B T V h p) : isPl B T' V h p := by
  obtain ⟨b, k, ls, a, c, el, e0, b1, b2, hl, hc⟩ := q
  exact ⟨b, (e _ b).trans k, ls, a, c, el, e0, b1, b2, hl.ft (e _ b1) (e _ b2) (e2 _ b2), fun i hi => (hc i hi).ft e e2⟩
theorem cl_ne {cl : Nat → Nat} {a b i j : Nat} (h1 : cl a = i) (h2 : cl b = j) (h : i ≠ j) : a ≠ b := fun e => h (by rw [← h1, ← h2, e])
/-- the cells of a state, by classes from b on -/
abbrev isSh (T : Tt) (V : Vt) (cl : Nat → Nat) (b : Nat) (x : SH) : Prop := (cl x.s = b ∧ x.s < T.2.2 ∧ T.1 x.s = 2) ∧ (cl x.t = b + 1 ∧ x.t < T.2.2) ∧ (cl x.d = b + 2 ∧ x.d < T.2.2) ∧ (cl x.ti = b + 3 ∧ x.ti < T.2.2 ∧ T.1 x.ti = 100 ∧ T.2.1 x.ti = 8) ∧ (cl x.sz = b + 4 ∧ x.sz < T.2.2 ∧ T.1 x.sz = 100 ∧ T.2.1 x.sz = 8) ∧ (cl x.ta = b + 5 ∧ x.ta < T.2.2 ∧ T.1 x.ta = 100 ∧ T.2.1 x.ta = 12) ∧ (cl x.ll = b + 6 ∧ x.ll < T.2.2) ∧ (cl x.la = b + 7 ∧ x.la < T.2.2 ∧ 1 ≤ T.2.1 x.la) ∧ (cl x.pl = b + 8 ∧ x.pl < T.2.2) ∧ (cl x.pa = b + 9 ∧ x.pa < T.2.2 ∧ 1 ≤ T.2.1 x.pa) ∧ (V.2.2 x.s 0 = some x.t ∧ V.2.2 x.s 1 = some x.ti ∧ V.2.2 x.s 2 = some x.sz ∧ V.2.2 x.s 3 = some x.ta ∧ V.2.2 x.s 4 = some x.ll ∧ V.2.2 x.s 5 = some x.pl)
theorem isSh.s {T : Tt} {V : Vt} {cl : Nat → Nat} {b : Nat} {x : SH} (h__ : isSh T V cl b x) : cl x.s = b ∧ x.s < T.2.2 ∧ T.1 x.s = 2 := h__.1
theorem isSh.t {T : Tt} {V : Vt} {cl : Nat → Nat} {b : Nat} {x : SH} (h__ : isSh T V cl b x) : cl x.t = b + 1 ∧ x.t < T.2.2 := h__.2.1
theorem isSh.d {T : Tt} {V : Vt} {cl : Nat → Nat} {b : Nat} {x : SH} (h__ : isSh T V cl b x) : cl x.d = b + 2 ∧ x.d < T.2.2 := h__.2.2.1
theorem isSh.ti {T : Tt} {V : Vt} {cl : Nat → Nat} {b : Nat} {x : SH} (h__ : isSh T V cl b x) : cl x.ti = b + 3 ∧ x.ti < T.2.2 ∧ T.1 x.ti = 100 ∧ T.2.1 x.ti = 8 := h__.2.2.2.1
theorem isSh.sz {T : Tt} {V : Vt} {cl : Nat → Nat} {b : Nat} {x : SH} (h__ : isSh T V cl b x) : cl x.sz = b + 4 ∧ x.sz < T.2.2 ∧ T.1 x.sz = 100 ∧ T.2.1 x.sz = 8 := h__.2.2.2.2.1
theorem isSh.ta {T : Tt} {V : Vt} {cl : Nat → Nat} {b : Nat} {x : SH} (h__ : isSh T V cl b x) : cl x.ta = b + 5 ∧ x.ta < T.2.2 ∧ T.1 x.ta = 100 ∧ T.2.1 x.ta = 12 := h__.2.2.2.2.2.1
theorem isSh.ll {T : Tt} {V : Vt} {cl : Nat → Nat} {b : Nat} {x : SH} (h__ : isSh T V cl b x) : cl x.ll = b + 6 ∧ x.ll < T.2.2 := h__.2.2.2.2.2.2.1
theorem isSh.la {T : Tt} {V : Vt} {cl : Nat → Nat} {b : Nat} {x : SH} (h__ : isSh T V cl b x) : cl x.la = b + 7 ∧ x.la < T.2.2 ∧ 1 ≤ T.2.1 x.la := h__.2.2.2.2.2.2.2.1
theorem isSh.pl {T : Tt} {V : Vt} {cl : Nat → Nat} {b : Nat} {x : SH} (h__ : isSh T V cl b x) : cl x.pl = b + 8 ∧ x.pl < T.2.2 := h__.2.2.2.2.2.2.2.2.1
theorem isSh.pa {T : Tt} {V : Vt} {cl : Nat → Nat} {b : Nat} {x : SH} (h__ : isSh T V cl b x) : cl x.pa = b + 9 ∧ x.pa < T.2.2 ∧ 1 ≤ T.2.1 x.pa := h__.2.2.2.2.2.2.2.2.2.1
theorem isSh.r {T : Tt} {V : Vt} {cl : Nat → Nat} {b : Nat} {x : SH} (h__ : isSh T V cl b x) : V.2.2 x.s 0 = some x.t ∧ V.2.2 x.s 1 = some x.ti ∧ V.2.2 x.s 2 = some x.sz ∧ V.2.2 x.s 3 = some x.ta ∧ V.2.2 x.s 4 = some x.ll ∧ V.2.2 x.s 5 = some x.pl := h__.2.2.2.2.2.2.2.2.2.2
def oS (x : SH) (h : Nat) : Prop := h = x.s ∨ h = x.t ∨ h = x.d ∨ h = x.ti ∨ h = x.sz ∨ h = x.ta ∨ h = x.ll ∨ h = x.la ∨ h = x.pl ∨ h = x.pa
theorem isSh.cl' {T : Tt} {V : Vt} {cl : Nat → Nat} {b : Nat} {x : SH} (h : isSh T V cl b x) {c : Nat} (q : oS x c) : b ≤ cl c ∧ cl c < b + 10 := by
  rcases q with q | q | q | q | q | q | q | q | q | q <;> subst q
  · rw [h.s.1]; omega
  · rw [h.t.1]; omega
  · rw [h.d.1]; omega
  · rw [h.ti.1]; omega
  · rw [h.sz.1]; omega
  · rw [h.ta.1]; omega
  · rw [h.ll.1]; omega
  · rw [h.la.1]; omega
  · rw [h.pl.1]; omega
  · rw [h.pa.1]; omega
theorem oS.s {x : SH} : oS x x.s := Or.inl rfl
theorem oS.t {x : SH} : oS x x.t := Or.inr (Or.inl rfl)
theorem oS.d {x : SH} : oS x x.d := Or.inr (Or.inr (Or.inl rfl))
theorem oS.ti {x : SH} : oS x x.ti := Or.inr (Or.inr (Or.inr (Or.inl rfl)))
theorem oS.sz {x : SH} : oS x x.sz := Or.inr (Or.inr (Or.inr (Or.inr (Or.inl rfl))))
theorem oS.ta {x : SH} : oS x x.ta := Or.inr (Or.inr (Or.inr (Or.inr (Or.inr (Or.inl rfl)))))
theorem oS.ll {x : SH} : oS x x.ll := Or.inr (Or.inr (Or.inr (Or.inr (Or.inr (Or.inr (Or.inl rfl))))))
theorem oS.la {x : SH} : oS x x.la := Or.inr (Or.inr (Or.inr (Or.inr (Or.inr (Or.inr (Or.inr (Or.inl rfl)))))))
theorem oS.pl {x : SH} : oS x x.pl := Or.inr (Or.inr (Or.inr (Or.inr (Or.inr (Or.inr (Or.inr (Or.inr (Or.inl rfl))))))))
theorem oS.pa {x : SH} : oS x x.pa := Or.inr (Or.inr (Or.inr (Or.inr (Or.inr (Or.inr (Or.inr (Or.inr (Or.inr rfl))))))))
theorem frO_c {S : Nat → Prop} {n : Nat} {V : Vt} {a b k : Nat} (h : b < n → S b) : frO S n V (cpI V a 0 b 0 k) := fun c j w z => ⟨by rw [cp_u, if_neg (fun y => frO_ne h w z y.1)], by rw [cp_2], by rw [cp_2]⟩
theorem frO_f {S : Nat → Prop} {n : Nat} {S' : Nat → Nat → Prop} {V W : Vt} (f : frI S' V W) (h : ∀ a j, a < n → S' a j → S a) : frO S n V W := fun c j w z => ⟨f.1 _ _ fun y => z (h c j w y), by rw [f.2], by rw [f.2]⟩
abbrev SH.wl (x : SH) (la pa : Nat) : SH := ⟨x.s, x.t, x.d, x.ti, x.sz, x.ta, x.ll, la, x.pl, pa⟩
