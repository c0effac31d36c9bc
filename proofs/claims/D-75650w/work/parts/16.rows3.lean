/-! calls of every kind, what is made, what is thrown -/
set_option maxRecDepth 100000
section WROWS4
variable {p : Program} {l : Launch} {e : Env} {R : Room} {s : State} {m : MethodId} {args : Array Value} {below : List Frame} {meth : Method} {c : Code} {H : Heap} {locs : List Loc} {cells slots : Nat} {Q : State → Prop}
variable {cc : ByteArray} {pc : Nat} {ls : Array Slot} {rest : List Value} {G : gG} {V V' : Vt} {T T' : Tt} {own : String} {nL a : Nat}
variable {y x : MethodName} {code : ByteArray} {maxL lev mc ms ci index n N : Nat} {ret : Option FieldType} {rv : Option Value} {As st0 : List Value} {Cn owner host : String} {Tb : u_T}
abbrev wRun (p : Program) (l : Launch) (e : Env) (R : Room) (s : State) (m : MethodId) (args : Array Value) (below : List Frame) (meth : Method) (c : Code) (H : Heap) (locs : List Loc) (cells slots mc ms : Nat) (g : JFrame) (rest : List Value) (G : gG) (rv : Option Value) (V' : Vt) (T' : Tt) : Prop :=
  va_Run p l e R s m args below meth c H locs cells slots mc ms g rest (fun _ oc t => oc = .returned rv ∧ wld G V' T' t.heap) (fun q => gb G ≤ q)
theorem w_rV (C : Cx G p s m args meth c cc own nL) (hw : wS G V T H locs) (hM : okM l G y code maxL ret lev (.ref (gb G + a) :: As) V T rv V' T' mc ms)
    (cw : CallW R s args own Cn index y code maxL ret (ws_ y code maxL ret) (rmL lev mc ms) mc ms n) (hc : vwCl[ci]? = some (Cn, Tb, N)) (h9 : ci < 99) (ha : T.1 a = ci + 1) (hn : As.length = n) (hsz : ls.size = nL) (hst : st0 = As.reverse ++ .ref (gb G + a) :: rest) (hW : (rest.map fun v => v.category).sum ≤ 8) (hf : cells + mc ≤ R.cells ∧ slots + ms ≤ R.slots) (hdg : decode cc pc = .ok (.invokevirtual index, 3)) :
    wRun p l e R s m args below meth c H locs cells slots mc ms (F0 m pc ls st0) rest G rv V' T' :=
  va_runV (Ts := lw_all) ⟨C.1, C.2.1, C.2.2.1, C.2.2.2.1, C.2.2.2.2.1⟩ hM cw ⟨pc_blind, w_recv C hw hc h9 ha, fun U hU hWU => ⟨rfl, by rw [hU]; exact hw.1, C.2.2.2.2.2.2.2.on hWU⟩⟩ rfl hn hsz hst (lv_room hW) hdg hf
theorem w_rU (C : Cx G p s m args meth c cc own nL) (hw : wS G V T H locs) (hM : okM l G y code maxL ret lev (.ref (gb G + a) :: As) V T rv V' T' mc ms)
    (cw : va_CU R s args own Cn owner index x y code maxL ret (ws_ y code maxL ret) (rmL lev mc ms) mc ms n) (hc : vwCl[ci]? = some (Cn, Tb, N)) (h9 : ci < 99) (ha : T.1 a = ci + 1) (hn : As.length = n) (hsz : ls.size = nL) (hst : st0 = As.reverse ++ .ref (gb G + a) :: rest) (hW : (rest.map fun v => v.category).sum ≤ 8) (hf : cells + mc ≤ R.cells ∧ slots + ms ≤ R.slots) (hdg : decode cc pc = .ok (.invokevirtual index, 3)) :
    wRun p l e R s m args below meth c H locs cells slots mc ms (F0 m pc ls st0) rest G rv V' T' :=
  va_runU (Ts := lw_all) ⟨C.1, C.2.1, C.2.2.1, C.2.2.2.1, C.2.2.2.2.1⟩ hM cw ⟨pc_blind, w_recv C hw hc h9 ha, fun U hU hWU => ⟨rfl, by rw [hU]; exact hw.1, C.2.2.2.2.2.2.2.on hWU⟩⟩ rfl hn hsz hst (lv_room hW) hdg hf
theorem w_rS (C : Cx G p s m args meth c cc own nL) (hw : wS G V T H locs) (hM : okM l G y code maxL ret lev As V T rv V' T' mc ms)
    (cw : CallB R s args own index y code maxL ret (ws_ y code maxL ret) (rmL lev mc ms) mc ms n ∧ (Cond.static y).before args s = true) (hn : As.length = n) (hsz : ls.size = nL) (hst : st0 = As.reverse ++ rest) (hW : (rest.map fun v => v.category).sum ≤ 8) (hf : cells + mc ≤ R.cells ∧ slots + ms ≤ R.slots) (hdg : decode cc pc = .ok (.invokestatic index, 3)) :
    wRun p l e R s m args below meth c H locs cells slots mc ms (F0 m pc ls st0) rest G rv V' T' :=
  va_runS (Ts := lw_all) ⟨C.1, C.2.1, C.2.2.1, C.2.2.2.1, C.2.2.2.2.1⟩ hM cw ⟨pc_blind, fun U hU hWU => ⟨rfl, by rw [hU]; exact hw.1, C.2.2.2.2.2.2.2.on hWU⟩⟩ rfl hn hsz hst (lv_room hW) hdg hf
theorem w_rSN (C : Cx G p s m args meth c cc own nL) (hw : wS G V T H locs) (hM : okM l G y code maxL ret lev As V T rv V' T' mc ms)
    (cw : va_CN R s args own index y host code maxL ret (ws_ y code maxL ret) (rmL lev mc ms) mc ms n ∧ (Cond.static y).before args s = true ∧ True) (hn : As.length = n) (hsz : ls.size = nL) (hst : st0 = As.reverse ++ rest) (hW : (rest.map fun v => v.category).sum ≤ 8) (hf : cells + mc ≤ R.cells ∧ slots + ms ≤ R.slots) (hdg : decode cc pc = .ok (.invokestatic index, 3)) :
    wRun p l e R s m args below meth c H locs cells slots mc ms (F0 m pc ls st0) rest G rv V' T' :=
  va_runSN (Ts := lw_all) ⟨C.1, C.2.1, C.2.2.1, C.2.2.2.1, C.2.2.2.2.1⟩ hM cw ⟨pc_blind, fun U hU hWU => ⟨rfl, by rw [hU]; exact hw.1, C.2.2.2.2.2.2.2.on hWU⟩⟩ rfl hn hsz hst (lv_room hW) hdg hf
theorem w_rI (C : Cx G p s m args meth c cc own nL) (hw : wS G V T H locs) (hM : okM l G y code maxL none lev (.ref (gb G + a) :: As) V T none V' T' mc ms)
    (cw : CallB R s args own index y code maxL none (ws_ y code maxL none) (rmL lev mc ms) mc ms n ∧ y.name = "<init>" ∧ (Cond.instanceMethod y).before args s = true) (hn : As.length = n) (hsz : ls.size = nL) (hst : st0 = As.reverse ++ .ref (gb G + a) :: rest) (hW : (rest.map fun v => v.category).sum ≤ 8) (hf : cells + mc ≤ R.cells ∧ slots + ms ≤ R.slots) (hdg : decode cc pc = .ok (.invokespecial index, 3)) :
    wRun p l e R s m args below meth c H locs cells slots mc ms (F0 m pc ls st0) rest G none V' T' :=
  va_runI (Ts := lw_all) ⟨C.1, C.2.1, C.2.2.1, C.2.2.2.1, C.2.2.2.2.1⟩ hM cw ⟨pc_blind, fun U hU hWU => ⟨rfl, by rw [hU]; exact hw.1, C.2.2.2.2.2.2.2.on hWU⟩⟩ rfl hn hsz hst (lv_room hW) hdg hf
theorem w_rIN (C : Cx G p s m args meth c cc own nL) (hw : wS G V T H locs) (hM : okM l G y code maxL none lev (.ref (gb G + a) :: As) V T none V' T' mc ms)
    (cw : va_CN R s args own index y host code maxL none (ws_ y code maxL none) (rmL lev mc ms) mc ms n ∧ y.name = "<init>" ∧ (Cond.instanceMethod y).before args s = true) (hn : As.length = n) (hsz : ls.size = nL) (hst : st0 = As.reverse ++ .ref (gb G + a) :: rest) (hW : (rest.map fun v => v.category).sum ≤ 8) (hf : cells + mc ≤ R.cells ∧ slots + ms ≤ R.slots) (hdg : decode cc pc = .ok (.invokespecial index, 3)) :
    wRun p l e R s m args below meth c H locs cells slots mc ms (F0 m pc ls st0) rest G none V' T' :=
  va_runIN (Ts := lw_all) ⟨C.1, C.2.1, C.2.2.1, C.2.2.2.1, C.2.2.2.2.1⟩ hM cw ⟨pc_blind, fun U hU hWU => ⟨rfl, by rw [hU]; exact hw.1, C.2.2.2.2.2.2.2.on hWU⟩⟩ rfl hn hsz hst (lv_room hW) hdg hf
theorem w_afi {r : Int32} (hw : wS G V T H locs) (hr : wRun p l e R s m args below meth c H locs cells slots mc ms (F0 m pc ls st0) rest G (some (.int r)) V' T')
    (kk : ∀ (H1 : Heap) (locs1 : List Loc), wS G V' T' H1 locs1 → W p l e R s m args below meth c H1 locs1 (cells + mc) (slots + ms) Q (F0 m (pc + 3) ls (.int r :: rest))) : W p l e R s m args below meth c H locs cells slots Q (F0 m pc ls st0) := w_after hw hr kk
theorem w_afl {r : Int64} (hw : wS G V T H locs) (hr : wRun p l e R s m args below meth c H locs cells slots mc ms (F0 m pc ls st0) rest G (some (.long r)) V' T')
    (kk : ∀ (H1 : Heap) (locs1 : List Loc), wS G V' T' H1 locs1 → W p l e R s m args below meth c H1 locs1 (cells + mc) (slots + ms) Q (F0 m (pc + 3) ls (.long r :: rest))) : W p l e R s m args below meth c H locs cells slots Q (F0 m pc ls st0) := w_after hw hr kk
theorem w_afr {r : Nat} (hw : wS G V T H locs) (hr : wRun p l e R s m args below meth c H locs cells slots mc ms (F0 m pc ls st0) rest G (some (.ref (gb G + r))) V' T')
    (kk : ∀ (H1 : Heap) (locs1 : List Loc), wS G V' T' H1 locs1 → W p l e R s m args below meth c H1 locs1 (cells + mc) (slots + ms) Q (F0 m (pc + 3) ls (.ref (gb G + r) :: rest))) : W p l e R s m args below meth c H locs cells slots Q (F0 m pc ls st0) := w_after hw hr kk
theorem w_afv (hw : wS G V T H locs) (hr : wRun p l e R s m args below meth c H locs cells slots mc ms (F0 m pc ls st0) rest G none V' T')
    (kk : ∀ (H1 : Heap) (locs1 : List Loc), wS G V' T' H1 locs1 → W p l e R s m args below meth c H1 locs1 (cells + mc) (slots + ms) Q (F0 m (pc + 3) ls rest)) : W p l e R s m args below meth c H locs cells slots Q (F0 m pc ls st0) := w_after hw hr kk
/-! what may throw: res tells which -/
abbrev xQc (G : gG) (res : Option Value ⊕ Nat) (V' : Vt) (T' : Tt) : Array Value → State → Outcome → State → Prop := fun _ _ oc t => ∃ rv, res = .inl rv ∧ oc = .returned rv ∧ wld G V' T' t.heap
abbrev xXc (G : gG) (E : String) (res : Option Value ⊕ Nat) (V' : Vt) (T' : Tt) : Addr → String → State → State → Prop := fun q E' _ t => ∃ h, res = .inr h ∧ q = gb G + h ∧ E' = E ∧ wld G V' T' t.heap
def okX (l : Launch) (G : gG) (E : String) (y : MethodName) (code : ByteArray) (nL : Nat) (ret : Option FieldType) (lev : Nat) (av : List Value) (V : Vt) (T : Tt) (res : Option Value ⊕ Nat) (V' : Vt) (T' : Tt) (mc ms : Nat) : Prop :=
  vx_Met l y (ws_ y code nL ret) (rmL lev mc ms) (va_Pc av (fun U => wld G V T U.heap ∧ KX G U)) (xQc G res V' T') (xXc G E res V' T') mc ms (fun q => gb G ≤ q)
/-- a method with handlers that throws nothing -/
def okH (l : Launch) (G : gG) (y : MethodName) (code : ByteArray) (nL : Nat) (ret : Option FieldType) (hh : List (Nat × Nat × Nat × Nat)) (lev : Nat) (av : List Value) (V : Vt) (T : Tt) (rv : Option Value) (V' : Vt) (T' : Tt) (mc ms : Nat) : Prop :=
  vx_Met l y (wsW_ y code nL ret hh) (rmL lev mc ms) (va_Pc av (fun U => wld G V T U.heap ∧ KX G U)) (fun _ _ oc t => oc = .returned rv ∧ wld G V' T' t.heap) (fun _ _ _ _ => False) mc ms (fun q => gb G ≤ q)
abbrev xQ (G : gG) (E : String) (below : List Frame) (res : Option Value ⊕ Nat) (V' : Vt) (T' : Tt) (args : Array Value) (s : State) (mc ms : Nat) : State → Prop := vx_MQ below (xQc G res V' T') (xXc G E res V' T') args s mc ms (fun q => gb G ≤ q)
abbrev hQ (G : gG) (below : List Frame) (rv : Option Value) (V' : Vt) (T' : Tt) (args : Array Value) (s : State) (mc ms : Nat) : State → Prop := vx_MQ below (fun _ _ oc t => oc = .returned rv ∧ wld G V' T' t.heap) (fun _ _ _ _ => False) args s mc ms (fun q => gb G ≤ q)
theorem okX_intro {E : String} {av : List Value} {res : Option Value ⊕ Nat} (hy : plainName y.cls = true) (hlen : (lg_sl av).length ≤ maxL)
    (body : ∀ (p : Program) (e : Env) (s : State) (m : MethodId) (below : List Frame) (meth : Method) (c : Code) (ls : Array Slot), Cx G p s m av.toArray meth c code y.cls maxL → meth.sig.returnType = ret → (∀ z ∈ c.exceptionTable.toList, False) → wS G V T s.heap [] → lv_has ls maxL (lv_args 0 av) →
      W p l e (rmL lev mc ms) s m av.toArray below meth c s.heap [] 0 0 (xQ G E below res V' T' av.toArray s mc ms) (F0 m 0 ls [])) : okX l G E y code maxL ret lev av V T res V' T' mc ms := by
  refine vx_ofW (cc := code) (maxL := maxL) (ret := ret) hy rfl ?_
  intro p e s m args below meth c s₁ B hml hno hv
  obtain ⟨rfl, hw, hK⟩ := hv
  have hts := atoms_spec (ws := ws_ y code maxL ret) B.pre
  have hl := lv_entry av (n := maxL) hlen
  rw [lg_entry_eq]
  exact body p e s m below meth c _ ⟨B.exec, B.bytes, hml, findClass_of_methodNamed B.named, fun w h => hts w (List.mem_cons_of_mem _ h), hK.K, B.notSynchronized, hK⟩ B.returns hno ⟨hw, fun q h => by cases h⟩ hl
theorem okH_intro {hh : List (Nat × Nat × Nat × Nat)} {av : List Value} (hy : plainName y.cls = true) (hlen : (lg_sl av).length ≤ maxL)
    (body : ∀ (p : Program) (e : Env) (s : State) (m : MethodId) (below : List Frame) (meth : Method) (c : Code) (ls : Array Slot), Cx G p s m av.toArray meth c code y.cls maxL → meth.sig.returnType = ret → c.exceptionTable.toList = tableOf hh → wS G V T s.heap [] → lv_has ls maxL (lv_args 0 av) →
      W p l e (rmL lev mc ms) s m av.toArray below meth c s.heap [] 0 0 (hQ G below rv V' T' av.toArray s mc ms) (F0 m 0 ls [])) : okH l G y code maxL ret hh lev av V T rv V' T' mc ms := by
  refine vx_ofWH (cc := code) (maxL := maxL) (ret := ret) hy rfl ?_
  intro p e s m args below meth c s₁ B hml hv
  obtain ⟨rfl, hw, hK⟩ := hv
  have hts := atoms_spec (ws := wsW_ y code maxL ret hh) B.pre
  have hl := lv_entry av (n := maxL) hlen
  rw [lg_entry_eq]
  exact body p e s m below meth c _ ⟨B.exec, B.bytes, hml, findClass_of_methodNamed B.named, fun w h => hts w (List.mem_cons_of_mem _ h), hK.K, B.notSynchronized, hK⟩ B.returns (vx_table (x := y) B (hts _ List.mem_cons_self)) ⟨hw, fun q h => by cases h⟩ hl
abbrev xRun (p : Program) (l : Launch) (e : Env) (R : Room) (s : State) (m : MethodId) (args : Array Value) (below : List Frame) (meth : Method) (c : Code) (H : Heap) (locs : List Loc) (cells slots mc ms : Nat) (g : JFrame) (rest : List Value) (G : gG) (E : String) (res : Option Value ⊕ Nat) (V' : Vt) (T' : Tt) : Prop :=
  vx_Run p l e R s m args below meth c H locs cells slots mc ms g rest (xQc G res V' T' #[]) (xXc G E res V' T') (fun q => gb G ≤ q)
theorem x_rU {E : String} {res : Option Value ⊕ Nat} (C : Cx G p s m args meth c cc own nL) (hw : wS G V T H locs) (hM : okX l G E y code maxL ret lev (.ref (gb G + a) :: As) V T res V' T' mc ms)
    (cw : va_CU R s args own Cn owner index x y code maxL ret (ws_ y code maxL ret) (rmL lev mc ms) mc ms n) (hc : vwCl[ci]? = some (Cn, Tb, N)) (h9 : ci < 99) (ha : T.1 a = ci + 1) (hn : As.length = n) (hsz : ls.size = nL) (hst : st0 = As.reverse ++ .ref (gb G + a) :: rest) (hW : (rest.map fun v => v.category).sum ≤ 8) (hf : cells + mc ≤ R.cells ∧ slots + ms ≤ R.slots) (hdg : decode cc pc = .ok (.invokevirtual index, 3)) :
    xRun p l e R s m args below meth c H locs cells slots mc ms (F0 m pc ls st0) rest G E res V' T' :=
  vx_runU (Ts := lw_all) ⟨C.1, C.2.1, C.2.2.1, C.2.2.2.1, C.2.2.2.2.1⟩ hM cw ⟨pc_blind, w_recv C hw hc h9 ha, fun U hU hWU => ⟨rfl, by rw [hU]; exact hw.1, C.2.2.2.2.2.2.2.on hWU⟩⟩ rfl hn hsz hst (lv_room hW) hdg hf
theorem x_rV {E : String} {res : Option Value ⊕ Nat} (C : Cx G p s m args meth c cc own nL) (hw : wS G V T H locs) (hM : okX l G E y code maxL ret lev (.ref (gb G + a) :: As) V T res V' T' mc ms)
    (cw : CallW R s args own Cn index y code maxL ret (ws_ y code maxL ret) (rmL lev mc ms) mc ms n) (hc : vwCl[ci]? = some (Cn, Tb, N)) (h9 : ci < 99) (ha : T.1 a = ci + 1) (hn : As.length = n) (hsz : ls.size = nL) (hst : st0 = As.reverse ++ .ref (gb G + a) :: rest) (hW : (rest.map fun v => v.category).sum ≤ 8) (hf : cells + mc ≤ R.cells ∧ slots + ms ≤ R.slots) (hdg : decode cc pc = .ok (.invokevirtual index, 3)) :
    xRun p l e R s m args below meth c H locs cells slots mc ms (F0 m pc ls st0) rest G E res V' T' :=
  vx_runV (Ts := lw_all) ⟨C.1, C.2.1, C.2.2.1, C.2.2.2.1, C.2.2.2.2.1⟩ hM cw ⟨pc_blind, w_recv C hw hc h9 ha, fun U hU hWU => ⟨rfl, by rw [hU]; exact hw.1, C.2.2.2.2.2.2.2.on hWU⟩⟩ rfl hn hsz hst (lv_room hW) hdg hf
/-- it returned -/
theorem x_in {E : String} (hw : wS G V T H locs) (hr : xRun p l e R s m args below meth c H locs cells slots mc ms (F0 m pc ls st0) rest G E (.inl rv) V' T')
    (kk : ∀ (H1 : Heap) (locs1 : List Loc), wS G V' T' H1 locs1 → W p l e R s m args below meth c H1 locs1 (cells + mc) (slots + ms) Q (F0 m (pc + 3) ls (rv.toList ++ rest))) : W p l e R s m args below meth c H locs cells slots Q (F0 m pc ls st0) := by
  intro X hX hX'
  rcases hr X hX hX' with ⟨v, st₀, t, T1, L, h0, X', hL, e1, e2, ⟨rv', hres, hv, hw1⟩, st⟩ | ⟨q, st₀, t, T1, L, E1, ce, h0, X', hL, e1, e2, ⟨h, hres, -⟩, -⟩
  · cases hres
    cases hv
    obtain ⟨t2, a1, b1⟩ := kk T1.heap (locs ++ L) ⟨by rw [e1]; exact hw1, fun q hq => by
      rcases List.mem_append.mp hq with h | h
      · exact hw.2 q h
      · exact hL q h⟩ T1 rfl X'
    exact ⟨t2, st t2 a1, b1⟩
  · cases hres
/-- it threw -/
theorem x_out {E : String} {h : Nat} (hw : wS G V T H locs) (hr : xRun p l e R s m args below meth c H locs cells slots mc ms (F0 m pc ls st0) rest G E (.inr h) V' T')
    (kk : ∀ (H1 : Heap) (locs1 : List Loc) (ce : Cell), wS G V' T' H1 locs1 → H1[gb G + h]? = some ce → ce.vm = .none → s.vm.findClass E = some ce.cls → vx_W p l e R s m args below meth c H1 locs1 (cells + mc) (slots + ms) Q (F0 m pc ls rest) (gb G + h)) : W p l e R s m args below meth c H locs cells slots Q (F0 m pc ls st0) := by
  intro X hX hX'
  rcases hr X hX hX' with ⟨v, st₀, t, T1, L, h0, X', hL, e1, e2, ⟨rv', hres, hv, hw1⟩, st⟩ | ⟨q, st₀, t, T1, L, E1, ce, h0, X', hL, e1, e2, ⟨h, hres, hq, hE, hw1⟩, hce, hvm, hcl, st⟩
  · cases hres
  · cases hres
    subst hq; subst hE
    obtain ⟨t2, a1, b1⟩ := kk T1.heap (locs ++ L) ce ⟨by rw [e1]; exact hw1, fun q hq => by
      rcases List.mem_append.mp hq with h | h
      · exact hw.2 q h
      · exact hL q h⟩ (by rw [e1]; exact hce) hvm hcl T1 rfl X'
    exact ⟨t2, Steps.trans st a1, b1⟩
/-- a thrown cell goes on to the caller -/
theorem x_up {E : String} {h : Nat} {ce : Cell} (C : Cx G p s m args meth c cc own nL) (hno : ∀ z ∈ c.exceptionTable.toList, False) (hw : wS G V T H locs) (hce : H[gb G + h]? = some ce) (hv : ce.vm = .none) (hcl : s.vm.findClass E = some ce.cls) : vx_W p l e R s m args below meth c H locs cells slots (xQ G E below (.inr h) V T args s cells slots) (F0 m pc ls rest) (gb G + h) :=
  vx_out (fun z hz => (hno z hz).elim) C.2.2.2.2.2.2.1 hce hv hcl (fun t ht _ => ⟨h, rfl, rfl, rfl, by rw [ht]; exact hw.1⟩) hw.2 (Nat.le_refl _) (Nat.le_refl _)
/-- throw of a cell of a class -/
theorem x_throw {ci h N : Nat} {E : String} {Tb : u_T} (C : Cx G p s m args meth c cc own nL) (hno : ∀ z ∈ c.exceptionTable.toList, False) (hw : wS G V T H locs) (hc : vwCl[ci]? = some (E, Tb, N)) (h9 : ci < 99) (ha : T.1 h = ci + 1) (hdg : decode cc pc = .ok (.athrow, 1)) : W p l e R s m args below meth c H locs cells slots (xQ G E below (.inr h) V T args s cells slots) (F0 m pc ls (.ref (gb G + h) :: rest)) := by
  obtain ⟨F, hF, cell, q1, q2, q3, q4⟩ := wP_obj hw hc ha h9
  exact vx_athrow C.1 C.2.1 hdg (x_up C hno hw q1 q3 (by rw [q2]; exact (C.2.2.2.2.2.1.1 ci _ hc).2.1))
theorem x_ret {E : String} {g : JFrame} (k : W p l e R s m args below meth c H locs cells slots (eQ G below rv V' T' args s mc ms) g) : W p l e R s m args below meth c H locs cells slots (xQ G E below (.inl rv) V' T' args s mc ms) g := by
  intro X hX hX'
  obtain ⟨t, a1, o, b1, b2, ⟨b3, b3'⟩, b4⟩ := k X hX hX'
  exact ⟨t, a1, o, b1, b2, Or.inl ⟨⟨rv, rfl, b3, b3'⟩, b4⟩⟩
theorem h_ret {g : JFrame} (k : W p l e R s m args below meth c H locs cells slots (eQ G below rv V' T' args s mc ms) g) : W p l e R s m args below meth c H locs cells slots (hQ G below rv V' T' args s mc ms) g := vx_ret k
/-- a handler of the class E: its table's only row -/
theorem h_catch {E : String} {h : Nat} {ce : Cell} {lo hi hp ct : Nat} (C : Cx G p s m args meth c cc own nL) (htab : c.exceptionTable.toList = tableOf [(lo, hi, hp, ct)]) (hlo : lo ≤ pc) (hhi : pc < hi) (h0 : ct ≠ 0) (hlink : Cond.classLink own ct E ∈ lw_all) (hcast : Cond.castable E E ∈ lw_tbl) (hce : H[gb G + h]? = some ce) (hv : ce.vm = .none) (hcl : s.vm.findClass E = some ce.cls)
    (kk : W p l e R s m args below meth c H locs cells slots Q (F0 m hp ls [.ref (gb G + h)])) : vx_W p l e R s m args below meth c H locs cells slots Q (F0 m pc ls rest) (gb G + h) := by
  refine vx_catch C.2.2.2.1 [] _ [] htab (fun z hz => by cases hz) ?_ h0 (C.2.2.2.2.1 _ hlink) (va_Nw.use rfl (C.2.2.2.2.2.2.2.nc hcast)) hce hv hcl kk
  simp [covers, hlo, hhi]
theorem w_rH {hh : List (Nat × Nat × Nat × Nat)} (C : Cx G p s m args meth c cc own nL) (hw : wS G V T H locs) (hM : okH l G y code maxL ret hh lev (.ref (gb G + a) :: As) V T rv V' T' mc ms)
    (cw : vx_CVW R s args own Cn index y code maxL ret hh (wsW_ y code maxL ret hh) (rmL lev mc ms) mc ms n) (hc : vwCl[ci]? = some (Cn, Tb, N)) (h9 : ci < 99) (ha : T.1 a = ci + 1) (hn : As.length = n) (hsz : ls.size = nL) (hst : st0 = As.reverse ++ .ref (gb G + a) :: rest) (hW : (rest.map fun v => v.category).sum ≤ 8) (hf : cells + mc ≤ R.cells ∧ slots + ms ≤ R.slots) (hdg : decode cc pc = .ok (.invokevirtual index, 3)) :
    wRun p l e R s m args below meth c H locs cells slots mc ms (F0 m pc ls st0) rest G rv V' T' := by
  have h := vx_runVX (Ts := lw_all) (cells := cells) (slots := slots) (locs := locs) (g := F0 m pc ls st0) (below := below) (e := e) (meth := meth) (p := p) (R := R) (rest := rest) ⟨C.1, C.2.1, C.2.2.1, C.2.2.2.1, C.2.2.2.2.1⟩ hM cw ⟨pc_blind, w_recv C hw hc h9 ha, fun U hU hWU => ⟨rfl, by rw [hU]; exact hw.1, C.2.2.2.2.2.2.2.on hWU⟩⟩ rfl hn hsz hst (lv_room hW) hdg hf
  intro X hX hX'
  rcases h X hX hX' with h | ⟨_, _, _, _, _, _, _, _, _, _, _, _, h, _⟩
  · exact h
  · exact h.elim
end WROWS4
/-! functions that make cells: the answer comes with how many cells and slots were made -/
def inc {ρ : Type} (a b : Nat) (x : Option (ρ × Nat × Nat)) : Option (ρ × Nat × Nat) := match x with
  | none => none
  | some (z, n, k) => some (z, n + a, k + b)
theorem of_inc {ρ : Type} {a b n k : Nat} {x : Option (ρ × Nat × Nat)} {z : ρ} (h : inc a b x = some (z, n, k)) : ∃ n' k', x = some (z, n', k') ∧ n = n' + a ∧ k = k' + b := by
  cases x with
  | none => cases h
  | some w => cases h; exact ⟨_, _, rfl, rfl, rfl⟩
def dcl {α ρ : Type} (f : Option ((α × Vt × Tt) × Nat × Nat)) (k : α → Vt → Tt → Option (ρ × Nat × Nat)) : Option (ρ × Nat × Nat) := match f with
  | none => none
  | some ((x, V, T), a, b) => inc a b (k x V T)
theorem of_dcl {α ρ : Type} {f : Option ((α × Vt × Tt) × Nat × Nat)} {k : α → Vt → Tt → Option (ρ × Nat × Nat)} {z : ρ} {n j : Nat} (h : dcl f k = some (z, n, j)) : ∃ x V T a b n' j', f = some ((x, V, T), a, b) ∧ k x V T = some (z, n', j') ∧ n = n' + a ∧ j = j' + b := by
  cases f with
  | none => cases h
  | some w =>
    obtain ⟨n', j', h1, h2, h3⟩ := of_inc (show inc w.2.1 w.2.2 (k w.1.1 w.1.2.1 w.1.2.2) = _ from h)
    exact ⟨_, _, _, _, _, n', j', rfl, h1, h2, h3⟩
def dcv {ρ : Type} (f : Option ((Vt × Tt) × Nat × Nat)) (k : Vt → Tt → Option (ρ × Nat × Nat)) : Option (ρ × Nat × Nat) := match f with
  | none => none
  | some ((V, T), a, b) => inc a b (k V T)
theorem of_dcv {ρ : Type} {f : Option ((Vt × Tt) × Nat × Nat)} {k : Vt → Tt → Option (ρ × Nat × Nat)} {z : ρ} {n j : Nat} (h : dcv f k = some (z, n, j)) : ∃ V T a b n' j', f = some ((V, T), a, b) ∧ k V T = some (z, n', j') ∧ n = n' + a ∧ j = j' + b := by
  cases f with
  | none => cases h
  | some w =>
    obtain ⟨n', j', h1, h2, h3⟩ := of_inc (show inc w.2.1 w.2.2 (k w.1.1 w.1.2) = _ from h)
    exact ⟨_, _, _, _, n', j', rfl, h1, h2, h3⟩
/-- a call that may throw, from code that doesn't catch; hxl: from code that does -/
def xcl {α γ : Type} (f : Option (α ⊕ Nat)) (k : α → Option (γ ⊕ Nat)) : Option (γ ⊕ Nat) := match f with
  | none => none
  | some (.inl x) => k x
  | some (.inr q) => some (.inr q)
theorem of_xcl {α γ : Type} {f : Option (α ⊕ Nat)} {k : α → Option (γ ⊕ Nat)} {z : γ ⊕ Nat} (h : xcl f k = some z) : (∃ x, f = some (.inl x) ∧ k x = some z) ∨ ∃ q, f = some (.inr q) ∧ z = .inr q := by
  cases f with
  | none => cases h
  | some w => cases w with
    | inl x => exact Or.inl ⟨x, rfl, h⟩
    | inr q => cases h; exact Or.inr ⟨q, rfl, rfl⟩
def hxl {α β : Type} (f : Option (α ⊕ Nat)) (k : α → Option β) (kh : Nat → Option β) : Option β := match f with
  | none => none
  | some (.inl x) => k x
  | some (.inr q) => kh q
theorem of_hxl {α β : Type} {f : Option (α ⊕ Nat)} {k : α → Option β} {kh : Nat → Option β} {z : β} (h : hxl f k kh = some z) : (∃ x, f = some (.inl x) ∧ k x = some z) ∨ ∃ q, f = some (.inr q) ∧ kh q = some z := by
  cases f with
  | none => cases h
  | some w => cases w with
    | inl x => exact Or.inl ⟨x, rfl, h⟩
    | inr q => exact Or.inr ⟨q, rfl, h⟩
def dxl {α γ : Type} (f : Option (((α ⊕ Nat) × Vt × Tt) × Nat × Nat)) (k : α → Vt → Tt → Option (((γ ⊕ Nat) × Vt × Tt) × Nat × Nat)) : Option (((γ ⊕ Nat) × Vt × Tt) × Nat × Nat) := match f with
  | none => none
  | some ((.inl x, V, T), a, b) => inc a b (k x V T)
  | some ((.inr q, V, T), a, b) => some ((.inr q, V, T), a, b)
theorem of_dxl {α γ : Type} {f : Option (((α ⊕ Nat) × Vt × Tt) × Nat × Nat)} {k : α → Vt → Tt → Option (((γ ⊕ Nat) × Vt × Tt) × Nat × Nat)} {z : (γ ⊕ Nat) × Vt × Tt} {n j : Nat} (h : dxl f k = some (z, n, j)) :
    (∃ x V T a b n' j', f = some ((.inl x, V, T), a, b) ∧ k x V T = some (z, n', j') ∧ n = n' + a ∧ j = j' + b) ∨ ∃ q V T, f = some ((.inr q, V, T), n, j) ∧ z = (.inr q, V, T) := by
  cases f with
  | none => cases h
  | some w =>
    obtain ⟨⟨r, V, T⟩, a, b⟩ := w
    cases r with
    | inl x =>
      obtain ⟨n', j', h1, h2, h3⟩ := of_inc (show inc a b (k x V T) = _ from h)
      exact Or.inl ⟨x, V, T, a, b, n', j', rfl, h1, h2, h3⟩
    | inr q => cases h; exact Or.inr ⟨q, V, T, rfl, rfl⟩
def dhl {α ρ : Type} (f : Option (((α ⊕ Nat) × Vt × Tt) × Nat × Nat)) (k : α → Vt → Tt → Option (ρ × Nat × Nat)) (kh : Nat → Vt → Tt → Option (ρ × Nat × Nat)) : Option (ρ × Nat × Nat) := match f with
  | none => none
  | some ((.inl x, V, T), a, b) => inc a b (k x V T)
  | some ((.inr q, V, T), a, b) => inc a b (kh q V T)
theorem of_dhl {α ρ : Type} {f : Option (((α ⊕ Nat) × Vt × Tt) × Nat × Nat)} {k : α → Vt → Tt → Option (ρ × Nat × Nat)} {kh : Nat → Vt → Tt → Option (ρ × Nat × Nat)} {z : ρ} {n j : Nat} (h : dhl f k kh = some (z, n, j)) :
    (∃ x V T a b n' j', f = some ((.inl x, V, T), a, b) ∧ k x V T = some (z, n', j') ∧ n = n' + a ∧ j = j' + b) ∨ ∃ q V T a b n' j', f = some ((.inr q, V, T), a, b) ∧ kh q V T = some (z, n', j') ∧ n = n' + a ∧ j = j' + b := by
  cases f with
  | none => cases h
  | some w =>
    obtain ⟨⟨r, V, T⟩, a, b⟩ := w
    cases r with
    | inl x =>
      obtain ⟨n', j', h1, h2, h3⟩ := of_inc (show inc a b (k x V T) = _ from h)
      exact Or.inl ⟨x, V, T, a, b, n', j', rfl, h1, h2, h3⟩
    | inr q =>
      obtain ⟨n', j', h1, h2, h3⟩ := of_inc (show inc a b (kh q V T) = _ from h)
      exact Or.inr ⟨q, V, T, a, b, n', j', rfl, h1, h2, h3⟩
