/-! System.arraycopy over the pure memory; every object can stand where an Object is asked -/
set_option maxRecDepth 100000
def cpI (V : Vt) (a0 sp a dp n : Nat) : Vt := (up V.1 a (va_cpy (V.1 a0) (V.1 a) sp dp n), V.2)
def cpR (V : Vt) (a0 sp a dp n : Nat) : Vt := (V.1, V.2.1, up V.2.2 a (va_cpy (V.2.2 a0) (V.2.2 a) sp dp n))
abbrev cpIn (T : Tt) (t a0 a : Nat) (sp dp n : Int32) : Prop := T.1 a0 = 100 + t ∧ T.1 a = 100 + t ∧ ¬ sp < 0 ∧ ¬ dp < 0 ∧ ¬ n < 0 ∧ ixN sp + ixN n ≤ T.2.1 a0 ∧ ixN dp + ixN n ≤ T.2.1 a
/-- an object of ours -/
abbrev isO (T : Tt) (h : Nat) : Prop := 1 ≤ T.1 h ∧ T.1 h ≤ 20
def okEl (V : Vt) (T : Tt) (a sp n : Nat) : Bool := (List.range n).all fun i => match V.2.2 a (sp + i) with
  | none => true
  | some h => decide (isO T h)
theorem okEl_of {V : Vt} {T : Tt} {a sp n : Nat} (h : okEl V T a sp n = true) {i y : Nat} (hi : i < n) (hy : V.2.2 a (sp + i) = some y) : isO T y := by
  have h1 := List.all_eq_true.mp h i (List.mem_range.mpr hi)
  rw [hy] at h1
  exact of_decide_eq_true h1
theorem castO : ∀ ci, ci < 20 → ∀ q : vw_C, vwCl[ci]? = some q → Cond.castable q.1 "java/lang/Object" ∈ lw_tbl := by
  intro ci hci q hq
  rcases ci with _ | _ | _ | _ | _ | _ | _ | _ | _ | _ | _ | _ | _ | _ | _ | _ | _ | _ | _ | _ | ci
  · cases hq; exact q2247
  · cases hq; exact q2244
  · cases hq; exact q2245
  · cases hq; exact q2249
  · cases hq; exact q2250
  · cases hq; exact q2251
  · cases hq; exact q2252
  · cases hq; exact q2253
  · cases hq; exact q2254
  · cases hq; exact q2255
  · cases hq; exact q2256
  · cases hq; exact q2257
  · cases hq; exact q2258
  · cases hq; exact q2259
  · cases hq; exact q2260
  · cases hq; exact q2264
  · cases hq; exact q2261
  · cases hq; exact q2262
  · cases hq; exact q2263
  · cases hq; exact q2248
  · omega
section WCOPY
variable {p : Program} {l : Launch} {e : Env} {R : Room} {s : State} {m : MethodId} {args : Array Value} {below : List Frame} {meth : Method} {c : Code} {H : Heap} {locs : List Loc} {cells slots : Nat} {Q : State → Prop}
variable {cc : ByteArray} {pc : Nat} {ls : Array Slot} {rest : List Value} {G : gG} {V V' : Vt} {T T' : Tt} {own : String} {nL a a0 : Nat}
theorem nnI (z : Int32) (hz : ¬ z < 0) : z.toInt = (z.toNatClampNeg : Int) := by
  have hz0 : (0 : Int) ≤ z.toInt := by
    have := Int32.not_lt.mp hz
    simpa using Int32.le_iff_toInt_le.mp this
  show z.toInt = ((z.toInt.toNat : Nat) : Int)
  omega
theorem w_copyI (C : Cx G p s m args meth c cc own nL) (hsz : ls.size = nL) (hw : wS G V T H locs) {index : Nat} (hlink : Cond.methodLink own index arraycopyName ∈ lw_all) {sp dp n : Int32} (hi : cpIn T 0 a0 a sp dp n)
    (hframes : 1 ≤ R.frames) (hlocals : (rest.map fun v => v.category).sum + (nativeFrameWords "java/lang/System" "arraycopy" 5 + 11) ≤ R.locals) (eV : V' = cpI V a0 (ixN sp) a (ixN dp) (ixN n)) (hdg : decode cc pc = .ok (.invokestatic index, 3))
    (kk : ∀ (H1 : Heap) (locs1 : List Loc), wS G V' T H1 locs1 → W p l e R s m args below meth c H1 locs1 cells slots Q (F0 m (pc + 3) ls rest)) : W p l e R s m args below meth c H locs cells slots Q (F0 m pc ls (.int n :: .int dp :: .ref (gb G + a) :: .int sp :: .ref (gb G + a0) :: rest)) := by
  subst eV
  obtain ⟨hx, hb, hml, hown, hts, hK, -, hKX⟩ := id C
  obtain ⟨k0', k1', h1, h2, h3, h4, h5⟩ := hi
  intro X hT S
  have hc0 := wP_arr hw k0'
  have hc1 := wP_arr hw k1'
  obtain ⟨-, k0, hk0, cm0, hkk0⟩ := wP_K C (t := 0) (by decide) (T.2.1 a0) (fun j => fv (gb G) V a0 j (aEl 0))
  obtain ⟨-, k1, hk1, cm1, hkk1⟩ := wP_K C (t := 0) (by decide) (T.2.1 a) (fun j => fv (gb G) V a j (aEl 0))
  obtain ⟨vm', S', step⟩ := S.arraycopy hx hown (hts _ hlink) (hts _ q461) (hts _ q460) (hts _ q163) (src := gb G + a0) (dst := gb G + a) (cs := arrV (G.2.1 0) (T.2.1 a0) (fun j => fv (gb G) V a0 j (aEl 0))) (cd := arrV (G.2.1 0) (T.2.1 a) (fun j => fv (gb G) V a j (aEl 0))) (srcPos := sp) (destPos := dp) (n := n) (by rw [hT]; exact hc0) (by rw [hT]; exact hc1)
    (fun _ h => by cases h) (fun _ h => by cases h) (fun h => by cases h) (fun h => by cases h) hk0 hk1 hkk0 hkk1 (by rfl) h1 h2 h3
    (by rw [nnI sp h1, nnI n h3, arrV_size]; have h4 : sp.toNatClampNeg + n.toNatClampNeg ≤ _ := h4; omega)
    (by rw [nnI dp h2, nnI n h3, arrV_size]; have h5 : dp.toNatClampNeg + n.toNatClampNeg ≤ _ := h5; omega)
    (fun vm₁ _ i hi => by
      have e : (arrV (G.2.1 0) (T.2.1 a0) (fun j => fv (gb G) V a0 j (aEl 0))).slots.getD (sp.toNatClampNeg + i) .null = .int (V.1 a0 (sp.toNatClampNeg + i)) := by
        have h4 : sp.toNatClampNeg + n.toNatClampNeg ≤ _ := h4
        rw [Array.getD_eq_getD_getElem?, arrV_read _ _ (by omega)]
        rfl
      rw [e]
      exact ⟨rfl, trivial⟩)
    (g := F0 m pc ls (.int n :: .int dp :: .ref (gb G + a) :: .int sp :: .ref (gb G + a0) :: rest)) rfl (by rw [hml]; exact hsz) (rest := rest) rfl (by rw [hb]; exact hdg) hframes (by show 2 * 0 + _ + _ ≤ _; omega)
  have e1 : copied (arrV (G.2.1 0) (T.2.1 a0) (fun j => fv (gb G) V a0 j (aEl 0))) (arrV (G.2.1 0) (T.2.1 a) (fun j => fv (gb G) V a j (aEl 0))) sp dp n = arrV (G.2.1 0) (T.2.1 a) (fun j => fv (gb G) (cpI V a0 (ixN sp) a (ixN dp) (ixN n)) a j (aEl 0)) := by
    refine Eq.trans (va_copied (fun z => Value.int z) (G.2.1 0) (G.2.1 0) (V.1 a0) (V.1 a) h4) ?_
    congr 1
    funext j
    show Value.int _ = Value.int ((up V.1 a _) a j)
    rw [up_s]
  rw [e1] at S' step
  have hl : gb G + a < H.size := (Array.getElem?_eq_some_iff.mp hc1).1
  have oq : ∀ (x : Cell) (q : Nat), q ≠ gb G + a → (H.setIfInBounds (gb G + a) x)[q]? = H[q]? := fun x q hq => by simp [Array.getElem?_setIfInBounds, Ne.symm hq]
  obtain ⟨t, a1, b1⟩ := kk (H.setIfInBounds (gb G + a) (arrV (G.2.1 0) (T.2.1 a) (fun j => fv (gb G) (cpI V a0 (ixN sp) a (ixN dp) (ixN n)) a j (aEl 0)))) _ ⟨hw.1.put (by simp) (oq _) (fun k hk => ⟨up_n hk, rfl, rfl⟩) (cAt_arr k1' (by simp [Array.getElem?_setIfInBounds, hl])), fun q hq => by
      rcases List.mem_append.mp hq with h | h
      · exact hw.2 q h
      · obtain ⟨z, -, hz⟩ := List.mem_map.mp h
        rw [← hz]
        exact Nat.le_add_right _ _⟩ _ (by rw [← hT]; rfl) S'
  exact ⟨t, step t a1, b1⟩
theorem w_copyR (C : Cx G p s m args meth c cc own nL) (hsz : ls.size = nL) (hw : wS G V T H locs) {index : Nat} (hlink : Cond.methodLink own index arraycopyName ∈ lw_all) {sp dp n : Int32} (hi : cpIn T 4 a0 a sp dp n) (hel : okEl V T a0 (ixN sp) (ixN n) = true)
    (hframes : 1 ≤ R.frames) (hlocals : (rest.map fun v => v.category).sum + (nativeFrameWords "java/lang/System" "arraycopy" 5 + 11) ≤ R.locals) (eV : V' = cpR V a0 (ixN sp) a (ixN dp) (ixN n)) (hdg : decode cc pc = .ok (.invokestatic index, 3))
    (kk : ∀ (H1 : Heap) (locs1 : List Loc), wS G V' T H1 locs1 → W p l e R s m args below meth c H1 locs1 cells slots Q (F0 m (pc + 3) ls rest)) : W p l e R s m args below meth c H locs cells slots Q (F0 m pc ls (.int n :: .int dp :: .ref (gb G + a) :: .int sp :: .ref (gb G + a0) :: rest)) := by
  subst eV
  obtain ⟨hx, hb, hml, hown, hts, hK, -, hKX⟩ := id C
  obtain ⟨k0', k1', h1, h2, h3, h4, h5⟩ := hi
  intro X hT S
  have hc0 := wP_arr hw k0'
  have hc1 := wP_arr hw k1'
  obtain ⟨-, k0, hk0, cm0, hkk0⟩ := wP_K C (t := 4) (by decide) (T.2.1 a0) (fun j => fv (gb G) V a0 j (aEl 4))
  obtain ⟨-, k1, hk1, cm1, hkk1⟩ := wP_K C (t := 4) (by decide) (T.2.1 a) (fun j => fv (gb G) V a j (aEl 4))
  have hra : va_RA s (G.2.1 4) (.object "java/lang/Object") := (hK.2 4 _ (tysG_at G (by decide))).2
  obtain ⟨vm', S', step⟩ := S.arraycopy hx hown (hts _ hlink) (hts _ q461) (hts _ q460) (hts _ q163) (src := gb G + a0) (dst := gb G + a) (cs := arrV (G.2.1 4) (T.2.1 a0) (fun j => fv (gb G) V a0 j (aEl 4))) (cd := arrV (G.2.1 4) (T.2.1 a) (fun j => fv (gb G) V a j (aEl 4))) (srcPos := sp) (destPos := dp) (n := n) (by rw [hT]; exact hc0) (by rw [hT]; exact hc1)
    (fun _ h => by cases h) (fun _ h => by cases h) (fun h => by cases h) (fun h => by cases h) hk0 hk1 hkk0 hkk1 (by rfl) h1 h2 h3
    (by rw [nnI sp h1, nnI n h3, arrV_size]; have h4 : sp.toNatClampNeg + n.toNatClampNeg ≤ _ := h4; omega)
    (by rw [nnI dp h2, nnI n h3, arrV_size]; have h5 : dp.toNatClampNeg + n.toNatClampNeg ≤ _ := h5; omega)
    (fun vm₁ hal i hi => by
      have e : (arrV (G.2.1 4) (T.2.1 a0) (fun j => fv (gb G) V a0 j (aEl 4))).slots.getD (sp.toNatClampNeg + i) .null = rfv (gb G) (V.2.2 a0 (sp.toNatClampNeg + i)) := by
        have h4 : sp.toNatClampNeg + n.toNatClampNeg ≤ _ := h4
        rw [Array.getD_eq_getD_getElem?, arrV_read _ _ (by omega)]
        rfl
      rw [e]
      cases hy : V.2.2 a0 (sp.toNatClampNeg + i) with
      | none => exact ⟨rfl, trivial⟩
      | some y =>
        have ho := okEl_of hel hi hy
        obtain ⟨ci, hci⟩ : ∃ ci, T.1 y = ci + 1 := ⟨T.1 y - 1, by omega⟩
        obtain ⟨-, hcA⟩ := hw.1.2.2 y (by omega)
        obtain ⟨r, F, hr, hF, cell, q1, q2, q3, q4⟩ := hcA.1 ci hci (by omega)
        have hcls := (hK.1 ci r hr).2
        obtain ⟨c0, t0, f1, f2, f3⟩ := Cond.castable_spec (va_Nw.use (A := args) rfl (hKX.nc (castO ci (by omega) r hr)))
        obtain ⟨kA, comp, r1, r2, r3, -⟩ := hra
        have ek : k1 = kA := Option.some.inj (hk1.symm.trans r1)
        subst ek
        have ec : cm1 = comp := by
          have := hkk1.symm.trans r2
          simp at this
          exact this.1
        subst ec
        have e1 : c0 = G.1.1 ci := Option.some.inj (f1.symm.trans hcls.1)
        have e2 : t0 = cm1 := Option.some.inj (f2.symm.trans r3)
        subst e1; subst e2
        obtain ⟨kC, hkC⟩ := Vm.classAt_of_findClass f1
        obtain ⟨kE, hkE⟩ := Vm.classAt_of_findClass f2
        obtain ⟨kC', hkC', -⟩ := hal.2.2 _ _ hkC
        obtain ⟨kE', hkE', -⟩ := hal.2.2 _ _ hkE
        refine ⟨rfl, cell, (show X.heap[gb G + y]? = some cell by rw [hT]; exact q1), (fun q h => by rw [q3] at h; cases h), ⟨kC', by rw [q2]; exact hkC'⟩, ⟨kE', hkE'⟩, ?_⟩
        show vm₁.assignable _ _ = true
        rw [hal.assignable, q2]
        exact f3)
    (g := F0 m pc ls (.int n :: .int dp :: .ref (gb G + a) :: .int sp :: .ref (gb G + a0) :: rest)) rfl (by rw [hml]; exact hsz) (rest := rest) rfl (by rw [hb]; exact hdg) hframes (by show 2 * 0 + _ + _ ≤ _; omega)
  have e1 : copied (arrV (G.2.1 4) (T.2.1 a0) (fun j => fv (gb G) V a0 j (aEl 4))) (arrV (G.2.1 4) (T.2.1 a) (fun j => fv (gb G) V a j (aEl 4))) sp dp n = arrV (G.2.1 4) (T.2.1 a) (fun j => fv (gb G) (cpR V a0 (ixN sp) a (ixN dp) (ixN n)) a j (aEl 4)) := by
    refine Eq.trans (va_copied (fun z => rfv (gb G) z) (G.2.1 4) (G.2.1 4) (V.2.2 a0) (V.2.2 a) h4) ?_
    congr 1
    funext j
    show rfv _ _ = rfv _ ((up V.2.2 a _) a j)
    rw [up_s]
  rw [e1] at S' step
  have hl : gb G + a < H.size := (Array.getElem?_eq_some_iff.mp hc1).1
  have oq : ∀ (x : Cell) (q : Nat), q ≠ gb G + a → (H.setIfInBounds (gb G + a) x)[q]? = H[q]? := fun x q hq => by simp [Array.getElem?_setIfInBounds, Ne.symm hq]
  obtain ⟨t, a1, b1⟩ := kk (H.setIfInBounds (gb G + a) (arrV (G.2.1 4) (T.2.1 a) (fun j => fv (gb G) (cpR V a0 (ixN sp) a (ixN dp) (ixN n)) a j (aEl 4)))) _ ⟨hw.1.put (by simp) (oq _) (fun k hk => ⟨rfl, rfl, up_n hk⟩) (cAt_arr k1' (by simp [Array.getElem?_setIfInBounds, hl])), fun q hq => by
      rcases List.mem_append.mp hq with h | h
      · exact hw.2 q h
      · obtain ⟨z, -, hz⟩ := List.mem_map.mp h
        rw [← hz]
        exact Nat.le_add_right _ _⟩ _ (by rw [← hT]; rfl) S'
  exact ⟨t, step t a1, b1⟩
end WCOPY
