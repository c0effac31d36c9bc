/-! what the generated walks use beside the rows: kinds, nulls, new objects by class -/
set_option maxRecDepth 100000
abbrev isRd (T : Tt) (a : Nat) : Prop := T.1 a = 7 ∨ T.1 a = 18
abbrev isSm (T : Tt) (a : Nat) : Prop := T.1 a = 10 ∨ T.1 a = 11 ∨ T.1 a = 12
abbrev isTs (T : Tt) (a : Nat) : Prop := T.1 a = 13 ∨ T.1 a = 14 ∨ T.1 a = 15
abbrev isC (x : Int32) : Prop := vp_nar .char x = x ∧ fits .char (.int x) = true
theorem nar_c {x : Int32} (h : isC x) : narrow .char (.int x) = .int x := by
  have h1 := h.1
  show Value.int (vp_nar .char x) = .int x
  rw [h1]
theorem fit_c {x : Int32} (h : isC x) : fits .char (.int x) = true := h.2
def xV (r : Unit ⊕ Nat) : Option Value ⊕ Nat := match r with
  | .inl _ => .inl none
  | .inr q => .inr q
def xI (r : Int32 ⊕ Nat) : Option Value ⊕ Nat := match r with
  | .inl x => .inl (some (.int x))
  | .inr q => .inr q
def xL (r : Int64 ⊕ Nat) : Option Value ⊕ Nat := match r with
  | .inl x => .inl (some (.long x))
  | .inr q => .inr q
def xR (G : gG) (r : Nat ⊕ Nat) : Option Value ⊕ Nat := match r with
  | .inl x => .inl (some (.ref (gb G + x)))
  | .inr q => .inr q
abbrev fuel : Nat := 100000
theorem add_r {c n m n' a : Nat} (hn : c + n = m) (en : n = n' + a) : c + a + n' = m := by omega
section ROWS4
variable {p : Program} {l : Launch} {e : Env} {R : Room} {s : State} {m : MethodId} {args : Array Value} {below : List Frame} {meth : Method} {c : Code} {H : Heap} {locs : List Loc} {cells slots : Nat} {Q : State → Prop}
variable {cc : ByteArray} {pc : Nat} {ls : Array Slot} {rest : List Value} {G : gG} {V V' : Vt} {T T' : Tt} {own : String} {nL a : Nat}
theorem w_topN {b : Nat} {x : Option Nat} (h : x = none) (k : W p l e R s m args below meth c H locs cells slots Q (F0 m pc ls (.null :: rest))) : W p l e R s m args below meth c H locs cells slots Q (F0 m pc ls (rfv b x :: rest)) := by subst h; exact k
theorem w_topS {b : Nat} {x : Option Nat} (h : ¬ x = none) (k : ∀ r, W p l e R s m args below meth c H locs cells slots Q (F0 m pc ls (.ref (b + r) :: rest))) : W p l e R s m args below meth c H locs cells slots Q (F0 m pc ls (rfv b x :: rest)) := by
  cases x with
  | none => exact absurd rfl h
  | some r => exact k r
abbrev stK4 (T : Tt) (v : Nat) : Prop := isO T v
abbrev stK5 (T : Tt) (v : Nat) : Prop := T.1 v = 3
abbrev stK6 (T : Tt) (v : Nat) : Prop := T.1 v = 2
abbrev stK7 (T : Tt) (v : Nat) : Prop := isSm T v
theorem clAt {ci : Nat} (h : ci < 20) : ∃ q : vw_C, vwCl[ci]? = some q := ⟨_, List.getElem?_eq_getElem (show ci < vwCl.length from h)⟩
theorem w_aast4 (C : Cx G p s m args meth c cc own nL) (hw : wS G V T H locs) {v : Nat} {i : Int32} (hi : aIn T a 4 i) (hv : stK4 T v) (eV : V' = uR V a (ixN i) (some v)) (hdg : decode cc pc = .ok (.aastore, 1))
    (kk : ∀ (H1 : Heap) (locs1 : List Loc), wS G V' T H1 locs1 → W p l e R s m args below meth c H1 locs1 cells slots Q (F0 m (pc + 1) ls rest)) : W p l e R s m args below meth c H locs cells slots Q (F0 m pc ls (.ref (gb G + v) :: .int i :: .ref (gb G + a) :: rest)) := by
  obtain ⟨h1, h2⟩ := hv
  obtain ⟨ci, hci⟩ : ∃ ci, T.1 v = ci + 1 := ⟨T.1 v - 1, by omega⟩
  obtain ⟨⟨C0, Tb, N⟩, hq⟩ := clAt (ci := ci) (by omega)
  exact w_aast (t := 4) C hw (by decide) (by decide) rfl hi hq (by omega) hci (Or.inr (castO ci (by omega) _ hq)) eV hdg kk
theorem w_aast5 (C : Cx G p s m args meth c cc own nL) (hw : wS G V T H locs) {v : Nat} {i : Int32} (hi : aIn T a 5 i) (hv : stK5 T v) (eV : V' = uR V a (ixN i) (some v)) (hdg : decode cc pc = .ok (.aastore, 1))
    (kk : ∀ (H1 : Heap) (locs1 : List Loc), wS G V' T H1 locs1 → W p l e R s m args below meth c H1 locs1 cells slots Q (F0 m (pc + 1) ls rest)) : W p l e R s m args below meth c H locs cells slots Q (F0 m pc ls (.ref (gb G + v) :: .int i :: .ref (gb G + a) :: rest)) :=
  w_aast (t := 5) (ci := 2) C hw (by decide) (by decide) rfl hi rfl (by decide) hv (Or.inl rfl) eV hdg kk
theorem w_aast6 (C : Cx G p s m args meth c cc own nL) (hw : wS G V T H locs) {v : Nat} {i : Int32} (hi : aIn T a 6 i) (hv : stK6 T v) (eV : V' = uR V a (ixN i) (some v)) (hdg : decode cc pc = .ok (.aastore, 1))
    (kk : ∀ (H1 : Heap) (locs1 : List Loc), wS G V' T H1 locs1 → W p l e R s m args below meth c H1 locs1 cells slots Q (F0 m (pc + 1) ls rest)) : W p l e R s m args below meth c H locs cells slots Q (F0 m pc ls (.ref (gb G + v) :: .int i :: .ref (gb G + a) :: rest)) :=
  w_aast (t := 6) (ci := 1) C hw (by decide) (by decide) rfl hi rfl (by decide) hv (Or.inl rfl) eV hdg kk
theorem w_aast7 (C : Cx G p s m args meth c cc own nL) (hw : wS G V T H locs) {v : Nat} {i : Int32} (hi : aIn T a 7 i) (hv : stK7 T v) (eV : V' = uR V a (ixN i) (some v)) (hdg : decode cc pc = .ok (.aastore, 1))
    (kk : ∀ (H1 : Heap) (locs1 : List Loc), wS G V' T H1 locs1 → W p l e R s m args below meth c H1 locs1 cells slots Q (F0 m (pc + 1) ls rest)) : W p l e R s m args below meth c H locs cells slots Q (F0 m pc ls (.ref (gb G + v) :: .int i :: .ref (gb G + a) :: rest)) := by
  rcases hv with hv | hv | hv
  · exact w_aast (t := 7) (ci := 9) C hw (by decide) (by decide) rfl hi rfl (by decide) hv (Or.inr q2267) eV hdg kk
  · exact w_aast (t := 7) (ci := 10) C hw (by decide) (by decide) rfl hi rfl (by decide) hv (Or.inr q2268) eV hdg kk
  · exact w_aast (t := 7) (ci := 11) C hw (by decide) (by decide) rfl hi rfl (by decide) hv (Or.inr q2269) eV hdg kk
theorem w_castTest (C : Cx G p s m args meth c cc own nL) (hw : wS G V T H locs) {index : Nat} (ha : isTs T a) (hlink : Cond.classLink own index "SoleraCellar$Test" ∈ lw_all) (hdg : decode cc pc = .ok (.checkcast index, 3))
    (kk : W p l e R s m args below meth c H locs cells slots Q (F0 m (pc + 3) ls (.ref (gb G + a) :: rest))) : W p l e R s m args below meth c H locs cells slots Q (F0 m pc ls (.ref (gb G + a) :: rest)) := by
  rcases ha with ha | ha | ha
  · exact w_castY (ci := 12) C hw rfl (by decide) ha hlink q2241 hdg kk
  · exact w_castY (ci := 13) C hw rfl (by decide) ha hlink q2242 hdg kk
  · exact w_castY (ci := 14) C hw rfl (by decide) ha hlink q2243 hdg kk
theorem nw_X1 (C : Cx G p s m args meth c cc own nL) (hw : wS G V T H locs) {index : Nat} (hcl : Cond.classLink own index RX1 ∈ lw_all) (hcells : cells + 1 ≤ R.cells) (hslots : slots + 12 ≤ R.slots) {q : Nat} (eq : q = T.2.2) (eV : V' = zV V q) (eT : T' = aT T 2 0) (hdg : decode cc pc = .ok (.new index, 3))
    (kk : ∀ (H1 : Heap), wS G V' T' H1 locs → W p l e R s m args below meth c H1 locs (cells + 1) (slots + 12) Q (F0 m (pc + 3) ls (.ref (gb G + q) :: rest))) : W p l e R s m args below meth c H locs cells slots Q (F0 m pc ls rest) :=
  w_new (ci := 1) C hw rfl (by decide) in_X1 tyX1 tyX1_ok (by decide +kernel) hcl q177 q133 hcells hslots eq eV eT hdg kk
theorem nw_X2 (C : Cx G p s m args meth c cc own nL) (hw : wS G V T H locs) {index : Nat} (hcl : Cond.classLink own index RX2 ∈ lw_all) (hcells : cells + 1 ≤ R.cells) (hslots : slots + 3 ≤ R.slots) {q : Nat} (eq : q = T.2.2) (eV : V' = zV V q) (eT : T' = aT T 3 0) (hdg : decode cc pc = .ok (.new index, 3))
    (kk : ∀ (H1 : Heap), wS G V' T' H1 locs → W p l e R s m args below meth c H1 locs (cells + 1) (slots + 3) Q (F0 m (pc + 3) ls (.ref (gb G + q) :: rest))) : W p l e R s m args below meth c H locs cells slots Q (F0 m pc ls rest) :=
  w_new (ci := 2) C hw rfl (by decide) in_X2 tyX2 tyX2_ok (by decide +kernel) hcl q183 q134 hcells hslots eq eV eT hdg kk
theorem nw_X3 (C : Cx G p s m args meth c cc own nL) (hw : wS G V T H locs) {index : Nat} (hcl : Cond.classLink own index RX3 ∈ lw_all) (hcells : cells + 1 ≤ R.cells) (hslots : slots + 2 ≤ R.slots) {q : Nat} (eq : q = T.2.2) (eV : V' = zV V q) (eT : T' = aT T 4 0) (hdg : decode cc pc = .ok (.new index, 3))
    (kk : ∀ (H1 : Heap), wS G V' T' H1 locs → W p l e R s m args below meth c H1 locs (cells + 1) (slots + 2) Q (F0 m (pc + 3) ls (.ref (gb G + q) :: rest))) : W p l e R s m args below meth c H locs cells slots Q (F0 m pc ls rest) :=
  w_new (ci := 3) C hw rfl (by decide) in_X3 tyX3 tyX3_ok (by decide +kernel) hcl q284 q138 hcells hslots eq eV eT hdg kk
theorem nw_X4 (C : Cx G p s m args meth c cc own nL) (hw : wS G V T H locs) {index : Nat} (hcl : Cond.classLink own index RX4 ∈ lw_all) (hcells : cells + 1 ≤ R.cells) (hslots : slots + 6 ≤ R.slots) {q : Nat} (eq : q = T.2.2) (eV : V' = zV V q) (eT : T' = aT T 5 0) (hdg : decode cc pc = .ok (.new index, 3))
    (kk : ∀ (H1 : Heap), wS G V' T' H1 locs → W p l e R s m args below meth c H1 locs (cells + 1) (slots + 6) Q (F0 m (pc + 3) ls (.ref (gb G + q) :: rest))) : W p l e R s m args below meth c H locs cells slots Q (F0 m pc ls rest) :=
  w_new (ci := 4) C hw rfl (by decide) in_X4 tyX4 tyX4_ok (by decide +kernel) hcl q290 q141 hcells hslots eq eV eT hdg kk
theorem nw_X7 (C : Cx G p s m args meth c cc own nL) (hw : wS G V T H locs) {index : Nat} (hcl : Cond.classLink own index RX7 ∈ lw_all) (hcells : cells + 1 ≤ R.cells) (hslots : slots + 8 ≤ R.slots) {q : Nat} (eq : q = T.2.2) (eV : V' = zV V q) (eT : T' = aT T 7 0) (hdg : decode cc pc = .ok (.new index, 3))
    (kk : ∀ (H1 : Heap), wS G V' T' H1 locs → W p l e R s m args below meth c H1 locs (cells + 1) (slots + 8) Q (F0 m (pc + 3) ls (.ref (gb G + q) :: rest))) : W p l e R s m args below meth c H locs cells slots Q (F0 m pc ls rest) :=
  w_new (ci := 6) C hw rfl (by decide) in_X7 tyX7 tyX7_ok (by decide +kernel) hcl q736 q147 hcells hslots eq eV eT hdg kk
theorem nw_X8 (C : Cx G p s m args meth c cc own nL) (hw : wS G V T H locs) {index : Nat} (hcl : Cond.classLink own index RX8 ∈ lw_all) (hcells : cells + 1 ≤ R.cells) (hslots : slots + 7 ≤ R.slots) {q : Nat} (eq : q = T.2.2) (eV : V' = zV V q) (eT : T' = aT T 8 0) (hdg : decode cc pc = .ok (.new index, 3))
    (kk : ∀ (H1 : Heap), wS G V' T' H1 locs → W p l e R s m args below meth c H1 locs (cells + 1) (slots + 7) Q (F0 m (pc + 3) ls (.ref (gb G + q) :: rest))) : W p l e R s m args below meth c H locs cells slots Q (F0 m pc ls rest) :=
  w_new (ci := 7) C hw rfl (by decide) in_X8 tyX8 tyX8_ok (by decide +kernel) hcl q863 q151 hcells hslots eq eV eT hdg kk
theorem nw_X9 (C : Cx G p s m args meth c cc own nL) (hw : wS G V T H locs) {index : Nat} (hcl : Cond.classLink own index RX9 ∈ lw_all) (hcells : cells + 1 ≤ R.cells) (hslots : slots + 3 ≤ R.slots) {q : Nat} (eq : q = T.2.2) (eV : V' = zV V q) (eT : T' = aT T 9 0) (hdg : decode cc pc = .ok (.new index, 3))
    (kk : ∀ (H1 : Heap), wS G V' T' H1 locs → W p l e R s m args below meth c H1 locs (cells + 1) (slots + 3) Q (F0 m (pc + 3) ls (.ref (gb G + q) :: rest))) : W p l e R s m args below meth c H locs cells slots Q (F0 m pc ls rest) :=
  w_new (ci := 8) C hw rfl (by decide) in_X9 tyX9 tyX9_ok (by decide +kernel) hcl q886 q152 hcells hslots eq eV eT hdg kk
theorem nw_X11 (C : Cx G p s m args meth c cc own nL) (hw : wS G V T H locs) {index : Nat} (hcl : Cond.classLink own index RX11 ∈ lw_all) (hcells : cells + 1 ≤ R.cells) (hslots : slots + 1 ≤ R.slots) {q : Nat} (eq : q = T.2.2) (eV : V' = zV V q) (eT : T' = aT T 10 0) (hdg : decode cc pc = .ok (.new index, 3))
    (kk : ∀ (H1 : Heap), wS G V' T' H1 locs → W p l e R s m args below meth c H1 locs (cells + 1) (slots + 1) Q (F0 m (pc + 3) ls (.ref (gb G + q) :: rest))) : W p l e R s m args below meth c H locs cells slots Q (F0 m pc ls rest) :=
  w_new (ci := 9) C hw rfl (by decide) in_X11 tyX11 tyX11_ok (by decide +kernel) hcl q951 q154 hcells hslots eq eV eT hdg kk
theorem nw_X12 (C : Cx G p s m args meth c cc own nL) (hw : wS G V T H locs) {index : Nat} (hcl : Cond.classLink own index RX12 ∈ lw_all) (hcells : cells + 1 ≤ R.cells) (hslots : slots + 1 ≤ R.slots) {q : Nat} (eq : q = T.2.2) (eV : V' = zV V q) (eT : T' = aT T 11 0) (hdg : decode cc pc = .ok (.new index, 3))
    (kk : ∀ (H1 : Heap), wS G V' T' H1 locs → W p l e R s m args below meth c H1 locs (cells + 1) (slots + 1) Q (F0 m (pc + 3) ls (.ref (gb G + q) :: rest))) : W p l e R s m args below meth c H locs cells slots Q (F0 m pc ls rest) :=
  w_new (ci := 10) C hw rfl (by decide) in_X12 tyX12 tyX12_ok (by decide +kernel) hcl q1006 q155 hcells hslots eq eV eT hdg kk
theorem nw_X13 (C : Cx G p s m args meth c cc own nL) (hw : wS G V T H locs) {index : Nat} (hcl : Cond.classLink own index RX13 ∈ lw_all) (hcells : cells + 1 ≤ R.cells) (hslots : slots + 3 ≤ R.slots) {q : Nat} (eq : q = T.2.2) (eV : V' = zV V q) (eT : T' = aT T 12 0) (hdg : decode cc pc = .ok (.new index, 3))
    (kk : ∀ (H1 : Heap), wS G V' T' H1 locs → W p l e R s m args below meth c H1 locs (cells + 1) (slots + 3) Q (F0 m (pc + 3) ls (.ref (gb G + q) :: rest))) : W p l e R s m args below meth c H locs cells slots Q (F0 m pc ls rest) :=
  w_new (ci := 11) C hw rfl (by decide) in_X13 tyX13 tyX13_ok (by decide +kernel) hcl q1019 q156 hcells hslots eq eV eT hdg kk
theorem nw_X15 (C : Cx G p s m args meth c cc own nL) (hw : wS G V T H locs) {index : Nat} (hcl : Cond.classLink own index RX15 ∈ lw_all) (hcells : cells + 1 ≤ R.cells) (hslots : slots + 3 ≤ R.slots) {q : Nat} (eq : q = T.2.2) (eV : V' = zV V q) (eT : T' = aT T 13 0) (hdg : decode cc pc = .ok (.new index, 3))
    (kk : ∀ (H1 : Heap), wS G V' T' H1 locs → W p l e R s m args below meth c H1 locs (cells + 1) (slots + 3) Q (F0 m (pc + 3) ls (.ref (gb G + q) :: rest))) : W p l e R s m args below meth c H locs cells slots Q (F0 m pc ls rest) :=
  w_new (ci := 12) C hw rfl (by decide) in_X15 tyX15 tyX15_ok (by decide +kernel) hcl q1073 q158 hcells hslots eq eV eT hdg kk
theorem nw_X16 (C : Cx G p s m args meth c cc own nL) (hw : wS G V T H locs) {index : Nat} (hcl : Cond.classLink own index RX16 ∈ lw_all) (hcells : cells + 1 ≤ R.cells) (hslots : slots + 1 ≤ R.slots) {q : Nat} (eq : q = T.2.2) (eV : V' = zV V q) (eT : T' = aT T 14 0) (hdg : decode cc pc = .ok (.new index, 3))
    (kk : ∀ (H1 : Heap), wS G V' T' H1 locs → W p l e R s m args below meth c H1 locs (cells + 1) (slots + 1) Q (F0 m (pc + 3) ls (.ref (gb G + q) :: rest))) : W p l e R s m args below meth c H locs cells slots Q (F0 m pc ls rest) :=
  w_new (ci := 13) C hw rfl (by decide) in_X16 tyX16 tyX16_ok (by decide +kernel) hcl q1092 q159 hcells hslots eq eV eT hdg kk
theorem nw_X17 (C : Cx G p s m args meth c cc own nL) (hw : wS G V T H locs) {index : Nat} (hcl : Cond.classLink own index RX17 ∈ lw_all) (hcells : cells + 1 ≤ R.cells) (hslots : slots + 2 ≤ R.slots) {q : Nat} (eq : q = T.2.2) (eV : V' = zV V q) (eT : T' = aT T 15 0) (hdg : decode cc pc = .ok (.new index, 3))
    (kk : ∀ (H1 : Heap), wS G V' T' H1 locs → W p l e R s m args below meth c H1 locs (cells + 1) (slots + 2) Q (F0 m (pc + 3) ls (.ref (gb G + q) :: rest))) : W p l e R s m args below meth c H locs cells slots Q (F0 m pc ls rest) :=
  w_new (ci := 14) C hw rfl (by decide) in_X17 tyX17 tyX17_ok (by decide +kernel) hcl q1103 q160 hcells hslots eq eV eT hdg kk
theorem nw_X18 (C : Cx G p s m args meth c cc own nL) (hw : wS G V T H locs) {index : Nat} (hcl : Cond.classLink own index RX18 ∈ lw_all) (hcells : cells + 1 ≤ R.cells) (hslots : slots + 4 ≤ R.slots) {q : Nat} (eq : q = T.2.2) (eV : V' = zV V q) (eT : T' = aT T 16 0) (hdg : decode cc pc = .ok (.new index, 3))
    (kk : ∀ (H1 : Heap), wS G V' T' H1 locs → W p l e R s m args below meth c H1 locs (cells + 1) (slots + 4) Q (F0 m (pc + 3) ls (.ref (gb G + q) :: rest))) : W p l e R s m args below meth c H locs cells slots Q (F0 m pc ls rest) :=
  w_new (ci := 15) C hw rfl (by decide) in_X18 tyX18 tyX18_ok (by decide +kernel) hcl q1149 q164 hcells hslots eq eV eT hdg kk
theorem nw_X19 (C : Cx G p s m args meth c cc own nL) (hw : wS G V T H locs) {index : Nat} (hcl : Cond.classLink own index RX19 ∈ lw_all) (hcells : cells + 1 ≤ R.cells) (hslots : slots + 1 ≤ R.slots) {q : Nat} (eq : q = T.2.2) (eV : V' = zV V q) (eT : T' = aT T 17 0) (hdg : decode cc pc = .ok (.new index, 3))
    (kk : ∀ (H1 : Heap), wS G V' T' H1 locs → W p l e R s m args below meth c H1 locs (cells + 1) (slots + 1) Q (F0 m (pc + 3) ls (.ref (gb G + q) :: rest))) : W p l e R s m args below meth c H locs cells slots Q (F0 m pc ls rest) :=
  w_new (ci := 16) C hw rfl (by decide) in_X19 tyX19 tyX19_ok (by decide +kernel) hcl q1195 q165 hcells hslots eq eV eT hdg kk
theorem nw_X20 (C : Cx G p s m args meth c cc own nL) (hw : wS G V T H locs) {index : Nat} (hcl : Cond.classLink own index RX20 ∈ lw_all) (hcells : cells + 1 ≤ R.cells) (hslots : slots + 8 ≤ R.slots) {q : Nat} (eq : q = T.2.2) (eV : V' = zV V q) (eT : T' = aT T 18 0) (hdg : decode cc pc = .ok (.new index, 3))
    (kk : ∀ (H1 : Heap), wS G V' T' H1 locs → W p l e R s m args below meth c H1 locs (cells + 1) (slots + 8) Q (F0 m (pc + 3) ls (.ref (gb G + q) :: rest))) : W p l e R s m args below meth c H locs cells slots Q (F0 m pc ls rest) :=
  w_new (ci := 17) C hw rfl (by decide) in_X20 tyX20 tyX20_ok (by decide +kernel) hcl q1210 q166 hcells hslots eq eV eT hdg kk
theorem nw_X21 (C : Cx G p s m args meth c cc own nL) (hw : wS G V T H locs) {index : Nat} (hcl : Cond.classLink own index RX21 ∈ lw_all) (hcells : cells + 1 ≤ R.cells) (hslots : slots + 1 ≤ R.slots) {q : Nat} (eq : q = T.2.2) (eV : V' = zV V q) (eT : T' = aT T 19 0) (hdg : decode cc pc = .ok (.new index, 3))
    (kk : ∀ (H1 : Heap), wS G V' T' H1 locs → W p l e R s m args below meth c H1 locs (cells + 1) (slots + 1) Q (F0 m (pc + 3) ls (.ref (gb G + q) :: rest))) : W p l e R s m args below meth c H locs cells slots Q (F0 m pc ls rest) :=
  w_new (ci := 18) C hw rfl (by decide) in_X21 tyX21 tyX21_ok (by decide +kernel) hcl q1230 q167 hcells hslots eq eV eT hdg kk
theorem nw_J2 (C : Cx G p s m args meth c cc own nL) (hw : wS G V T H locs) {index : Nat} (hcl : Cond.classLink own index RJ2 ∈ lw_all) (hcells : cells + 1 ≤ R.cells) (hslots : slots + 3 ≤ R.slots) {q : Nat} (eq : q = T.2.2) (eV : V' = zV V q) (eT : T' = aT T 20 0) (hdg : decode cc pc = .ok (.new index, 3))
    (kk : ∀ (H1 : Heap), wS G V' T' H1 locs → W p l e R s m args below meth c H1 locs (cells + 1) (slots + 3) Q (F0 m (pc + 3) ls (.ref (gb G + q) :: rest))) : W p l e R s m args below meth c H locs cells slots Q (F0 m pc ls rest) :=
  w_new (ci := 19) C hw rfl (by decide) in_J2 tyJ2 tyJ2_ok (by decide +kernel) hcl q203 q137 hcells hslots eq eV eT hdg kk
theorem nw_X0 (C : Cx G p s m args meth c cc own nL) (hw : wS G V T H locs) {index : Nat} (hcl : Cond.classLink own index RX0 ∈ lw_all) (hcells : cells + 1 ≤ R.cells) (hslots : slots + 26 ≤ R.slots) {q : Nat} (eq : q = T.2.2) (eV : V' = zV V q) (eT : T' = aT T 1 0) (hdg : decode cc pc = .ok (.new index, 3))
    (kk : ∀ (H1 : Heap), wS G V' T' H1 locs → W p l e R s m args below meth c H1 locs (cells + 1) (slots + 26) Q (F0 m (pc + 3) ls (.ref (gb G + q) :: rest))) : W p l e R s m args below meth c H locs cells slots Q (F0 m pc ls rest) :=
  w_new (ci := 0) C hw rfl (by decide) in_X0 tyX0 tyX0_ok (by decide +kernel) hcl q169 q132 hcells hslots eq eV eT hdg kk
theorem nw_X5 (C : Cx G p s m args meth c cc own nL) (hw : wS G V T H locs) {index : Nat} (hcl : Cond.classLink own index RX5 ∈ lw_all) (hcells : cells + 1 ≤ R.cells) (hslots : slots + 55 ≤ R.slots) {q : Nat} (eq : q = T.2.2) (eV : V' = zV V q) (eT : T' = aT T 6 0) (hdg : decode cc pc = .ok (.new index, 3))
    (kk : ∀ (H1 : Heap), wS G V' T' H1 locs → W p l e R s m args below meth c H1 locs (cells + 1) (slots + 55) Q (F0 m (pc + 3) ls (.ref (gb G + q) :: rest))) : W p l e R s m args below meth c H locs cells slots Q (F0 m pc ls rest) :=
  w_new (ci := 5) C hw rfl (by decide) in_X5 tyX5 tyX5_ok (by decide +kernel) hcl q1503 q142 hcells hslots eq eV eT hdg kk
end ROWS4
