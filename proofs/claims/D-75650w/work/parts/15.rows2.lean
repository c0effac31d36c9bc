/-! more rows: nest mates, references, new cells, calls of every kind, copies -/
set_option maxRecDepth 100000
theorem KX.nf {G : gG} {s : State} (h : KX G s) {a b n d hh : String} {i : Nat} (hm : Cond.fieldLinkNest a i b n d hh ∈ lw_tbl) (A : Array Value) : (Cond.fieldLinkNest a i b n d hh).before A s = true := by
  obtain ⟨b0, h1, -⟩ := h.1.2
  exact va_Nw.use rfl (va_Nw.warmF h.2 (va_Nw.of rfl (h1 _ hm)))
theorem KX.nm {G : gG} {s : State} (h : KX G s) {a hh : String} {i : Nat} {x : MethodName} (hm : Cond.methodLinkNest a i x hh ∈ lw_tbl) : va_Nw (.methodLinkNest a i x hh) s := by
  obtain ⟨b0, h1, -⟩ := h.1.2
  exact va_Nw.warmM h.2 (va_Nw.of rfl (h1 _ hm))
theorem KX.nc {G : gG} {s : State} (h : KX G s) {C T : String} (hm : Cond.castable C T ∈ lw_tbl) : va_Nw (.castable C T) s := by
  obtain ⟨b0, h1, -⟩ := h.1.2
  exact va_Nw.warmC h.2 (va_Nw.of rfl (h1 _ hm))
theorem KX.nd {G : gG} {s : State} (h : KX G s) {x : MethodName} (hm : Cond.declares x ∈ lw_tbl) : va_Nw (.declares x) s := by
  obtain ⟨b0, h1, -⟩ := h.1.2
  exact va_Nw.warmD h.2 (va_Nw.of rfl (h1 _ hm))
theorem KX.na {G : gG} {s : State} (h : KX G s) {C : String} (hm : Cond.arrayOver (.object C) ∈ lw_tbl) (A : Array Value) : (Cond.arrayOver (.object C)).before A s = true := by
  obtain ⟨b0, h1, -⟩ := h.1.2
  exact va_AO.use (va_AO.moved h.2.alike (va_AO.of (h1 _ hm)))
/-- a new cell of kind k and length n, at the next handle -/
def aT (T : Tt) (k n : Nat) : Tt := (up T.1 T.2.2 k, up T.2.1 T.2.2 n, T.2.2 + 1)
def zV (V : Vt) (q : Nat) : Vt := (up V.1 q (fun _ => 0), up V.2.1 q (fun _ => 0), up V.2.2 q (fun _ => none))
def dV (t : Nat) : Value := if t = 0 then .int 0 else if t = 1 then .long 0 else .null
theorem fv_z {b : Nat} {V : Vt} {q j t : Nat} : fv b (zV V q) q j t = dV t := by
  unfold fv dV zV
  simp only [up, if_true]
  rfl
theorem cAt.on {G : gG} {V V' : Vt} {T T' : Tt} {k : Nat} {H : Heap} (h : cAt G V T k H) (h0 : T'.1 k = T.1 k) (h00 : T'.2.1 k = T.2.1 k) (h1 : V'.1 k = V.1 k) (h2 : V'.2.1 k = V.2.1 k) (h3 : V'.2.2 k = V.2.2 k) : cAt G V' T' k H := by
  have g := h.eq (V' := V') h1 h2 h3
  refine ⟨fun c q1 q2 => g.1 c (by rw [← h0]; exact q1) q2, fun t ht => ?_⟩
  rw [h00]
  exact g.2 t (by rw [← h0]; exact ht)
theorem wld.push {G : gG} {V : Vt} {T : Tt} {H H1 : Heap} {k n : Nat} (h : wld G V T H) (hz : H1.size = H.size + 1) (ho : ∀ q, q < H.size → H1[q]? = H[q]?) (ha : cAt G (zV V T.2.2) (aT T k n) T.2.2 H1) : wld G (zV V T.2.2) (aT T k n) H1 := by
  refine ⟨by rw [hz, h.1]; rfl, fun q hq => ?_, fun j hj => ?_⟩
  · rw [ho q (by have := h.1; omega)]
    exact h.2.1 q hq
  · by_cases e : j = T.2.2
    · subst e
      exact ⟨Nat.lt_succ_self _, ha⟩
    · have e1 : (aT T k n).1 j = T.1 j := up_n e
      rw [e1] at hj
      obtain ⟨h1, h2⟩ := h.2.2 j hj
      refine ⟨Nat.lt_succ_of_lt h1, (h2.kept (ho _ (by have := h.1; omega))).on e1 (up_n e) (up_n e) (up_n e) (up_n e)⟩
section WROWS3
variable {p : Program} {l : Launch} {e : Env} {R : Room} {s : State} {m : MethodId} {args : Array Value} {below : List Frame} {meth : Method} {c : Code} {H : Heap} {locs : List Loc} {cells slots : Nat} {Q : State → Prop}
variable {cc : ByteArray} {pc : Nat} {ls : Array Slot} {rest : List Value} {G : gG} {V V' : Vt} {T T' : Tt} {own : String} {nL a : Nat}
theorem w_getN (C : Cx G p s m args meth c cc own nL) (hw : wS G V T H locs) {ci index k : Nat} {Cn ref hh : String} {Tb : u_T} {N : Nat} (hc : vwCl[ci]? = some (Cn, Tb, N)) (h9 : ci < 99) (hk : k < N) (hin : ∀ w ∈ u_ws Cn Tb N, w ∈ lw_all) (hlink : Cond.fieldLinkNest own index ref (Tb k).2.1 (Tb k).2.2.1 hh ∈ lw_tbl) (hsame : ∀ x, s.fieldFound? (Tb k).1 (Tb k).2.1 (Tb k).2.2.1 = some x → s.fieldFound? ref (Tb k).2.1 (Tb k).2.2.1 = some x)
    (ha : T.1 a = ci + 1) {v : Value} (hv : fv (gb G) V a k (layF ci k) = v) (hdg : decode cc pc = .ok (.getfield index, 3))
    (kk : W p l e R s m args below meth c H locs cells slots Q (F0 m (pc + 3) ls (v :: rest))) (htag : layF ci k ≠ 3 := by decide) : W p l e R s m args below meth c H locs cells slots Q (F0 m pc ls (.ref (gb G + a) :: rest)) := by
  obtain ⟨hx, hb, -, hown, hts, hK, -, hKX⟩ := C
  obtain ⟨F, hF, cell, q1, q2, q3, q4⟩ := wP_obj hw hc ha h9
  obtain ⟨hS, hfc, kC, hkC, hkind⟩ := hK.1 ci _ hc
  obtain ⟨cf, kf, fi, f, hi, hsl⟩ := hS k hk
  refine va_Wgetf hx hb hown (hKX.nf hlink args) (hsame _ hi) (u_facts hfc hkC (u_lays hts hin hk) hi).1 q1 (by rw [q3]; exact fun h => by cases h) (v := v) ?_ rfl rfl hdg kk
  rw [hsl, q4 k hk]
  exact congrArg some ((hF k hk htag).trans hv)
theorem w_putN (C : Cx G p s m args meth c cc own nL) (hw : wS G V T H locs) {ci index k : Nat} {Cn ref hh : String} {Tb : u_T} {N : Nat} (hc : vwCl[ci]? = some (Cn, Tb, N)) (h9 : ci < 99) (hk : k < N) (hin : ∀ w ∈ u_ws Cn Tb N, w ∈ lw_all) (ty0 : Nat → FieldType) (hty : ∀ k, k < N → parseFieldDescriptor (Tb k).2.2.1 = some (ty0 k)) (hnm : ∀ a, a < N → ∀ b, b < N → a ≠ b → (Tb a).2.1 ≠ (Tb b).2.1) (hlink : Cond.fieldLinkNest own index ref (Tb k).2.1 (Tb k).2.2.1 hh ∈ lw_tbl) (hsame : ∀ x, s.fieldFound? (Tb k).1 (Tb k).2.1 (Tb k).2.2.1 = some x → s.fieldFound? ref (Tb k).2.1 (Tb k).2.2.1 = some x)
    (hfin : (Tb k).2.2.2 = false) {v : Value} (hn : narrow (ty0 k) v = v) (hfit : fits (ty0 k) v = true)
    (ha : T.1 a = ci + 1) (hV : ∀ k, k ≠ a → V'.1 k = V.1 k ∧ V'.2.1 k = V.2.1 k ∧ V'.2.2 k = V.2.2 k) (hv : ∀ j, j < N → fv (gb G) V' a j (layF ci j) = if j = k then v else fv (gb G) V a j (layF ci j)) (hdg : decode cc pc = .ok (.putfield index, 3))
    (kk : ∀ (H1 : Heap) (locs1 : List Loc), wS G V' T H1 locs1 → W p l e R s m args below meth c H1 locs1 cells slots Q (F0 m (pc + 3) ls rest)) : W p l e R s m args below meth c H locs cells slots Q (F0 m pc ls (v :: .ref (gb G + a) :: rest)) := by
  obtain ⟨hx, hb, -, hown, hts, hK, -, hKX⟩ := C
  have hap := va_apart (own := own) hts hin ty0 hty hnm hK hc
  obtain ⟨F, hF, cell, q1, q2, q3, q4⟩ := wP_obj hw hc ha h9
  obtain ⟨hS, hfc, kC, hkC, hkind⟩ := hK.1 ci _ hc
  obtain ⟨cf, kf, fi, f, hi, hsl⟩ := hS k hk
  have hlay := hts _ (hin _ (u_in_lay hk))
  unfold u_lay at hlay
  rw [if_neg (by rw [hfin]; decide)] at hlay
  have hst := (u_facts hfc hkC (u_lays hts hin hk) hi).1
  have h6 := u_store hfc hkC hkind hlay hi (hty k hk) hn hfit
  refine va_WputK hx hb (f := f) hown (hKX.nf hlink args) (hsame _ hi) hst (by rw [q2]; exact h6) q1 q3 (by rw [hsl]; exact k2_hasslot (q4 k hk)) rfl rfl hdg fun H' e1 e2 e3 => ?_
  rw [hsl] at e1 ⊢
  refine kk H' _ (hw.locs (hw.1.put e2 e3 hV ⟨fun c' g1 g2 => ?_, fun t ht => by omega⟩))
  obtain rfl : c' = ci := by omega
  refine ⟨_, updV F k v, hc, fun j hj ht => ?_, ⟨_, e1, q2, q3, t_set q4 hap hk v⟩⟩
  rw [hv j hj]
  by_cases ej : j = k
  · rw [if_pos ej]; simp [updV, ej]
  · rw [if_neg ej, ← hF j hj ht]; simp [updV, ej]
/-- a final field, in its own class's constructor -/
theorem w_putF (C : Cx G p s m args meth c cc own nL) (hw : wS G V T H locs) {ci index k : Nat} {Cn ref : String} {Tb : u_T} {N : Nat} (hc : vwCl[ci]? = some (Cn, Tb, N)) (h9 : ci < 99) (hk : k < N) (hin : ∀ w ∈ u_ws Cn Tb N, w ∈ lw_all) (ty0 : Nat → FieldType) (hty : ∀ k, k < N → parseFieldDescriptor (Tb k).2.2.1 = some (ty0 k)) (hnm : ∀ a, a < N → ∀ b, b < N → a ≠ b → (Tb a).2.1 ≠ (Tb b).2.1) (hlink : Cond.fieldLink own index ref (Tb k).2.1 (Tb k).2.2.1 ∈ lw_all) (hsame : ∀ x, s.fieldFound? (Tb k).1 (Tb k).2.1 (Tb k).2.2.1 = some x → s.fieldFound? ref (Tb k).2.1 (Tb k).2.2.1 = some x)
    (hfin : (Tb k).2.2.2 = true) (hin2 : meth.name = "<init>") (hdecl : (Tb k).1 = own) {v : Value} (hn : narrow (ty0 k) v = v) (hfit : fits (ty0 k) v = true)
    (ha : T.1 a = ci + 1) (hV : ∀ k, k ≠ a → V'.1 k = V.1 k ∧ V'.2.1 k = V.2.1 k ∧ V'.2.2 k = V.2.2 k) (hv : ∀ j, j < N → fv (gb G) V' a j (layF ci j) = if j = k then v else fv (gb G) V a j (layF ci j)) (hdg : decode cc pc = .ok (.putfield index, 3))
    (kk : ∀ (H1 : Heap) (locs1 : List Loc), wS G V' T H1 locs1 → W p l e R s m args below meth c H1 locs1 cells slots Q (F0 m (pc + 3) ls rest)) : W p l e R s m args below meth c H locs cells slots Q (F0 m pc ls (v :: .ref (gb G + a) :: rest)) := by
  obtain ⟨hx, hb, -, hown, hts, hK, -, hKX⟩ := C
  have hap := va_apart (own := own) hts hin ty0 hty hnm hK hc
  obtain ⟨F, hF, cell, q1, q2, q3, q4⟩ := wP_obj hw hc ha h9
  obtain ⟨hS, hfc, kC, hkC, hkind⟩ := hK.1 ci _ hc
  obtain ⟨cf, kf, fi, f, hi, hsl⟩ := hS k hk
  have hlay := hts _ (hin _ (u_in_lay hk))
  unfold u_lay at hlay
  rw [if_pos hfin] at hlay
  have hst := (u_facts hfc hkC (u_lays hts hin hk) hi).1
  have hcf : m.cls = cf := by
    obtain ⟨_, _, c', _, _, _, -, -, hf', -, -, -, hown2, -⟩ := Cond.laysFinal_spec hlay
    have e1 : c' = cf := by have := hi.symm.trans hf'; simp at this; exact this.1.symm
    rw [hdecl] at hown2
    rw [← e1]; exact Option.some.inj (hown.symm.trans hown2)
  have h6 := u_fits hfc hkC hkind (Or.inr hlay) hi (hty k hk) hn hfit
  refine W.putFinK hx hb hown (hts _ hlink) (hsame _ hi) hst hcf hin2 (by rw [q2]; exact h6) q1 q3 (by rw [hsl]; exact k2_hasslot (q4 k hk)) rfl rfl hdg fun H' e1 e2 e3 => ?_
  rw [hsl] at e1 ⊢
  refine kk H' _ (hw.locs (hw.1.put e2 e3 hV ⟨fun c' g1 g2 => ?_, fun t ht => by omega⟩))
  obtain rfl : c' = ci := by omega
  refine ⟨_, updV F k v, hc, fun j hj ht => ?_, ⟨_, e1, q2, q3, t_set q4 hap hk v⟩⟩
  rw [hv j hj]
  by_cases ej : j = k
  · rw [if_pos ej]; simp [updV, ej]
  · rw [if_neg ej, ← hF j hj ht]; simp [updV, ej]
theorem aTy_ref {t : Nat} (h : 4 ≤ t) : (aTy t).isReference = true ∧ aEl t = 2 ∧ ∃ C, aTy t = .object C := by
  rcases t with _ | _ | _ | _ | _ | _ | _ | t
  · omega
  · omega
  · omega
  · omega
  · exact ⟨rfl, rfl, _, rfl⟩
  · exact ⟨rfl, rfl, _, rfl⟩
  · exact ⟨rfl, rfl, _, rfl⟩
  · exact ⟨rfl, rfl, _, rfl⟩
theorem fv_r {b : Nat} {V : Vt} {a k t : Nat} (h : t = 2) : fv b V a k t = rfv b (V.2.2 a k) := by subst h; rfl
theorem w_aald (C : Cx G p s m args meth c cc own nL) (hw : wS G V T H locs) {t : Nat} {i : Int32} {v : Value} (h4 : 4 ≤ t) (h8 : t < 8) (hi : aIn T a t i) (ev : rfv (gb G) (V.2.2 a (ixN i)) = v) (hdg : decode cc pc = .ok (.aaload, 1))
    (kk : W p l e R s m args below meth c H locs cells slots Q (F0 m (pc + 1) ls (v :: rest))) : W p l e R s m args below meth c H locs cells slots Q (F0 m pc ls (.int i :: .ref (gb G + a) :: rest)) := by
  subst ev
  exact W.aald C.1 C.2.1 (wP_arr hw hi.1) (wP_K C (t := t) h8 _ _) (aTy_ref h4).1 (fun q => by cases q) (aIn_o hi) ((arrV_at hi.2.2).trans (by rw [fv_r (aTy_ref h4).2.1])) rfl rfl hdg kk
/-- a cell's class can be stored where C is asked -/
def stOk (C0 C1 : String) : Prop := C0 = C1 ∨ Cond.castable C0 C1 ∈ lw_tbl
theorem w_aast (C : Cx G p s m args meth c cc own nL) (hw : wS G V T H locs) {t ci v N : Nat} {i : Int32} {C0 C1 : String} {Tb : u_T} (h4 : 4 ≤ t) (h8 : t < 8) (ht : aTy t = .object C1) (hi : aIn T a t i) (hc : vwCl[ci]? = some (C0, Tb, N)) (h9 : ci < 99) (hv : T.1 v = ci + 1) (hok : stOk C0 C1) (eV : V' = uR V a (ixN i) (some v)) (hdg : decode cc pc = .ok (.aastore, 1))
    (kk : ∀ (H1 : Heap) (locs1 : List Loc), wS G V' T H1 locs1 → W p l e R s m args below meth c H1 locs1 cells slots Q (F0 m (pc + 1) ls rest)) : W p l e R s m args below meth c H locs cells slots Q (F0 m pc ls (.ref (gb G + v) :: .int i :: .ref (gb G + a) :: rest)) := by
  subst eV
  obtain ⟨F, hF, cell, q1, q2, q3, q4⟩ := wP_obj hw hc hv h9
  obtain ⟨hx, hb, -, hown, hts, hK, -, hKX⟩ := id C
  have hcls := (hK.1 ci _ hc).2
  have hra := (hK.2 t _ (tysG_at G h8)).2
  have hra : va_RA s (G.2.1 t) (aTy t) := hra
  rw [ht] at hra
  obtain ⟨kA, comp, k1, k2, k3, -⟩ := hra
  obtain ⟨kC, hkC, -⟩ := id hcls.2
  have has : s.vm.assignable cell.cls comp = true ∧ ∃ kc : Class, s.vm.classes[comp]? = some kc := by
    rcases hok with rfl | hm
    · have hcomp : comp = G.1.1 ci := Option.some.inj (k3.symm.trans hcls.1)
      rw [q2, hcomp]
      exact ⟨va_assign hcls, kC, hkC⟩
    · obtain ⟨c0, t0, f1, f2, f3⟩ := Cond.castable_spec (va_Nw.use (A := args) rfl (hKX.nc hm))
      have e1 : c0 = G.1.1 ci := Option.some.inj (f1.symm.trans hcls.1)
      have e2 : t0 = comp := Option.some.inj (f2.symm.trans k3)
      subst e1; subst e2
      rw [q2]
      exact ⟨f3, Vm.classAt_of_findClass k3⟩
  obtain ⟨has1, kc, hkc⟩ := has
  refine W.aast hx hb (wP_arr hw hi.1) (fun q h => by cases h) (fun h => by cases h) k1 k2 rfl hkc ⟨hi.2.1, by rw [arrV_size]; exact hi.2.2⟩ q1 (fun q h => by rw [q3] at h; cases h) (by rw [q2]; exact hkC) has1 rfl rfl hdg fun H' e1 e2 e3 => ?_
  refine kk H' _ (hw.locs (hw.1.put e2 e3 uR_o (cAt_arr hi.1 ?_)))
  rw [e1, arrV_upd (x := .ref (gb G + v)) (fun j => (uR_f (V := V) (x := some v) (L := fun _ => aEl t) (aTy_ref h4).2.1 j))]
theorem w_aastN (C : Cx G p s m args meth c cc own nL) (hw : wS G V T H locs) {t : Nat} {i : Int32} (h4 : 4 ≤ t) (h8 : t < 8) (hi : aIn T a t i) (eV : V' = uR V a (ixN i) none) (hdg : decode cc pc = .ok (.aastore, 1))
    (kk : ∀ (H1 : Heap) (locs1 : List Loc), wS G V' T H1 locs1 → W p l e R s m args below meth c H1 locs1 cells slots Q (F0 m (pc + 1) ls rest)) : W p l e R s m args below meth c H locs cells slots Q (F0 m pc ls (.null :: .int i :: .ref (gb G + a) :: rest)) := by
  subst eV
  obtain ⟨C1, ht⟩ := (aTy_ref h4).2.2
  have hK := wP_K C (t := t) h8 (T.2.1 a) (fun j => fv (gb G) V a j (aEl t))
  rw [ht] at hK
  refine va_WaastN (C := C1) C.1 C.2.1 (wP_arr hw hi.1) hK (fun h => by cases h) (aIn_o hi) rfl rfl hdg fun H' e1 e2 e3 => ?_
  refine kk H' _ (hw.locs (hw.1.put e2 e3 uR_o (cAt_arr hi.1 ?_)))
  rw [e1, arrV_upd (x := .null) (fun j => (uR_f (V := V) (x := none) (L := fun _ => aEl t) (aTy_ref h4).2.1 j))]
theorem w_alen (C : Cx G p s m args meth c cc own nL) (hw : wS G V T H locs) {t : Nat} (h8 : t < 8) (ha : T.1 a = 100 + t) (hdg : decode cc pc = .ok (.arraylength, 1))
    (kk : W p l e R s m args below meth c H locs cells slots Q (F0 m (pc + 1) ls (.int (nI (T.2.1 a)) :: rest))) : W p l e R s m args below meth c H locs cells slots Q (F0 m pc ls (.ref (gb G + a) :: rest)) :=
  W.alen C.1 C.2.1 (wP_arr hw ha) (wP_K C (t := t) h8 _ _) (by rw [arrV_size]; rfl) rfl rfl hdg kk
theorem w_aret {v : Value} {rt : FieldType} (C : Cx G p s m args meth c cc own nL) (hr : meth.sig.returnType = some rt) (hrt : (∃ n, rt = .object n) ∨ ∃ t, rt = .array t) (hv : v = .null ∨ ∃ a, v = .ref a) (hw : wS G V T H locs) (hdg : decode cc pc = .ok (.areturn, 1)) : W p l e R s m args below meth c H locs cells slots (eQ G below (some v) V T args s cells slots) (F0 m pc ls [v]) :=
  W.aret C.1 C.2.1 hr hrt hv (fun t ht _ => ⟨rfl, by rw [ht]; exact hw.1⟩) hw.2 hdg C.2.2.2.2.2.2.1
theorem w_recv (C : Cx G p s m args meth c cc own nL) (hw : wS G V T H locs) {ci N : Nat} {Cn : String} {Tb : u_T} (hc : vwCl[ci]? = some (Cn, Tb, N)) (h9 : ci < 99) (ha : T.1 a = ci + 1) : ∃ cell : Cell, H[gb G + a]? = some cell ∧ cell.vm.isStatics = false ∧ s.vm.findClass Cn = some cell.cls := by
  obtain ⟨F, hF, cell, q1, q2, q3, q4⟩ := wP_obj hw hc ha h9
  exact ⟨cell, q1, by rw [q3]; rfl, by rw [q2]; exact (C.2.2.2.2.2.1.1 ci _ hc).2.1⟩
/-- checkcast to the cell's own class, or to one that the tables say it can be cast to -/
theorem w_castS (C : Cx G p s m args meth c cc own nL) (hw : wS G V T H locs) {ci N index : Nat} {Cn : String} {Tb : u_T} (hc : vwCl[ci]? = some (Cn, Tb, N)) (h9 : ci < 99) (ha : T.1 a = ci + 1) (hlink : Cond.classLink own index Cn ∈ lw_all) (hdg : decode cc pc = .ok (.checkcast index, 3))
    (kk : W p l e R s m args below meth c H locs cells slots Q (F0 m (pc + 3) ls (.ref (gb G + a) :: rest))) : W p l e R s m args below meth c H locs cells slots Q (F0 m pc ls (.ref (gb G + a) :: rest)) := by
  obtain ⟨F, hF, cell, q1, q2, q3, q4⟩ := wP_obj hw hc ha h9
  exact va_castS C.1 C.2.1 C.2.2.2.1 (C.2.2.2.2.1 _ hlink) (C.2.2.2.2.2.1.1 ci _ hc).2 (w_recv C hw hc h9 ha) hdg kk
theorem w_castY (C : Cx G p s m args meth c cc own nL) (hw : wS G V T H locs) {ci N index : Nat} {Cn C1 : String} {Tb : u_T} (hc : vwCl[ci]? = some (Cn, Tb, N)) (h9 : ci < 99) (ha : T.1 a = ci + 1) (hlink : Cond.classLink own index C1 ∈ lw_all) (hy : Cond.castable Cn C1 ∈ lw_tbl) (hdg : decode cc pc = .ok (.checkcast index, 3))
    (kk : W p l e R s m args below meth c H locs cells slots Q (F0 m (pc + 3) ls (.ref (gb G + a) :: rest))) : W p l e R s m args below meth c H locs cells slots Q (F0 m pc ls (.ref (gb G + a) :: rest)) :=
  va_castY C.1 C.2.1 C.2.2.2.1 (C.2.2.2.2.1 _ hlink) (C.2.2.2.2.2.2.2.nc hy) (w_recv C hw hc h9 ha) hdg kk
theorem w_new (C : Cx G p s m args meth c cc own nL) (hw : wS G V T H locs) {ci index N Ni : Nat} {Cn : String} {Tb : u_T} (hc : vwCl[ci]? = some (Cn, Tb, N)) (h9 : ci < 99) (hin : ∀ w ∈ u_ws Cn Tb N, w ∈ lw_all) (ty0 : Nat → FieldType) (hty : ∀ k, k < N → parseFieldDescriptor (Tb k).2.2.1 = some (ty0 k)) (hdf : ∀ j, j < N → layF ci j ≠ 3 → defaultValue (ty0 j) = dV (layF ci j))
    (hcl : Cond.classLink own index Cn ∈ lw_all) (hinst : Cond.instantiable Cn Ni ∈ lw_all) (hini : Cond.initialized Cn ∈ lw_all) (hcells : cells + 1 ≤ R.cells) (hslots : slots + Ni ≤ R.slots) {q : Nat} (eq : q = T.2.2) (eV : V' = zV V q) (eT : T' = aT T (ci + 1) 0) (hdg : decode cc pc = .ok (.new index, 3))
    (kk : ∀ (H1 : Heap), wS G V' T' H1 locs → W p l e R s m args below meth c H1 locs (cells + 1) (slots + Ni) Q (F0 m (pc + 3) ls (.ref (gb G + q) :: rest))) : W p l e R s m args below meth c H locs cells slots Q (F0 m pc ls rest) := by
  subst eq; subst eV; subst eT
  obtain ⟨hx, hb, -, hown, hts, hK, -, hKX⟩ := id C
  have hKn := hK.1 ci _ hc
  refine W.newcK hx hb hown (hts _ hcl) (hts _ hinst) (hts _ hini) rfl hdg hcells hslots hKn.2.1 hw.1.1 fun H1 kC hkC e1 z1 o1 => ?_
  refine kk H1 ⟨hw.1.push (by rw [z1, hw.1.1]) (fun q hq => o1 q (by rw [← hw.1.1]; exact hq)) ⟨fun c' g1 g2 => ?_, fun t ht => ?_⟩, hw.2⟩
  · have g1 : up T.1 T.2.2 (ci + 1) T.2.2 = c' + 1 := g1
    rw [up_s] at g1
    obtain rfl : c' = ci := by omega
    exact ⟨_, _, hc, fun j hj ht => by rw [fv_z]; exact hdf j hj ht, u_born ty0 hts hin hKn hkC e1 hty⟩
  · have ht : up T.1 T.2.2 (ci + 1) T.2.2 = 100 + t := ht
    rw [up_s] at ht
    omega
theorem dV_a (t : Nat) : defaultValue (aTy t) = dV (aEl t) := by
  rcases t with _ | _ | _ | _ | _ | _ | _ | t <;> rfl
theorem w_newa (C : Cx G p s m args meth c cc own nL) (hw : wS G V T H locs) {atype : ArrayType} {t : Nat} (h4 : t < 4) (hat : newarray.typeOf atype = aTy t) (harr : Cond.arrayClass (aTy t) ∈ lw_all) {n : Int32} (hn : ¬ n < 0) (hN : ixN n ≤ 100000) (hcells : cells + 1 ≤ R.cells) (hslots : slots + ixN n ≤ R.slots) {q : Nat} (eq : q = T.2.2) (eV : V' = zV V q) (eT : T' = aT T (100 + t) (ixN n)) (hdg : decode cc pc = .ok (.newarray atype, 2))
    (kk : ∀ (H1 : Heap), wS G V' T' H1 locs → W p l e R s m args below meth c H1 locs (cells + 1) (slots + ixN n) Q (F0 m (pc + 2) ls (.ref (gb G + q) :: rest))) : W p l e R s m args below meth c H locs cells slots Q (F0 m pc ls (.int n :: rest)) := by
  subst eq; subst eV; subst eT
  obtain ⟨hx, hb, -, hown, hts, hK, -, hKX⟩ := id C
  have hcb : componentBytes (newarray.typeOf atype) ≤ 8 := by
    rw [hat]
    rcases t with _ | _ | _ | _ | t
    · decide
    · decide
    · decide
    · decide
    · omega
  refine va_newaK hx hb (by rw [hat]; exact hts _ harr) rfl hdg rfl hn rfl (by have : n.toNatClampNeg * componentBytes (newarray.typeOf atype) ≤ 100000 * 8 := Nat.mul_le_mul hN hcb; omega) hcells hslots hw.1.1 fun H1 cA e1 z1 o1 hAr hNm => ?_
  have hra : va_RA s (G.2.1 t) (aTy t) := (hK.2 t _ (tysG_at G (by omega))).2
  have hcA : cA = G.2.1 t := by
    rw [hat] at hNm
    have : s.vm.findClass ("[" ++ (aTy t).toString) = some (G.2.1 t) := by
      rcases t with _ | _ | _ | _ | t
      · exact hra
      · exact hra
      · exact hra
      · exact hra
      · omega
    exact Option.some.inj (hNm.symm.trans this)
  refine kk H1 ⟨hw.1.push (by rw [z1, hw.1.1]) (fun q hq => o1 q (by rw [← hw.1.1]; exact hq)) (cAt_arr (t := t) up_s ?_), hw.2⟩
  rw [e1, hcA, show (aT T (100 + t) (ixN n)).2.1 T.2.2 = ixN n from up_s]
  congr 2
  funext j
  rw [fv_z, hat, dV_a]
theorem w_anew (C : Cx G p s m args meth c cc own nL) (hw : wS G V T H locs) {t index : Nat} {C1 : String} (h4 : 4 ≤ t) (h8 : t < 8) (ht : aTy t = .object C1) (hcl : Cond.classLink own index C1 ∈ lw_all) (hov : Cond.arrayOver (.object C1) ∈ lw_tbl) {n : Int32} (hn : ¬ n < 0) (hN : ixN n ≤ 100000) (hcells : cells + 1 ≤ R.cells) (hslots : slots + ixN n ≤ R.slots) {q : Nat} (eq : q = T.2.2) (eV : V' = zV V q) (eT : T' = aT T (100 + t) (ixN n)) (hdg : decode cc pc = .ok (.anewarray index, 3))
    (kk : ∀ (H1 : Heap), wS G V' T' H1 locs → W p l e R s m args below meth c H1 locs (cells + 1) (slots + ixN n) Q (F0 m (pc + 3) ls (.ref (gb G + q) :: rest))) : W p l e R s m args below meth c H locs cells slots Q (F0 m pc ls (.int n :: rest)) := by
  subst eq; subst eV; subst eT
  obtain ⟨hx, hb, -, hown, hts, hK, -, hKX⟩ := id C
  refine W.anew hx hb hown (hts _ hcl) (hKX.na hov args) rfl hdg rfl hn (by have hN : n.toNatClampNeg ≤ 100000 := hN; omega) hcells hslots fun cA kA comp h1 h2 h3 h5 => ?_
  have hra : va_RA s (G.2.1 t) (aTy t) := (hK.2 t _ (tysG_at G h8)).2
  rw [ht] at hra
  have hcA : cA = G.2.1 t := by
    obtain ⟨_, _, _, _, _, h9⟩ := hra
    exact Option.some.inj (h1.symm.trans h9)
  have hz := hw.1.1
  refine W.eq (g2 := F0 m (pc + 3) ls (.ref (gb G + T.2.2) :: rest)) (by rw [hz]) ?_
  refine kk _ ⟨hw.1.push (by simp) (fun q hq => by rw [Array.getElem?_push, if_neg (Nat.ne_of_lt hq)]) (cAt_arr (t := t) up_s ?_), hw.2⟩
  rw [← hz, show (aT T (100 + t) (ixN n)).2.1 T.2.2 = ixN n from up_s, Array.getElem?_push, if_pos rfl, arrV_new, hcA]
  congr 2
  funext j
  rw [fv_z, (aTy_ref h4).2.1]
  rfl
end WROWS3
