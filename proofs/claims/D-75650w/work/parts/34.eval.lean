set_option maxRecDepth 100000
/-- what a sum's or a test's method meets, by its class; fuelE: how deep trees may be -/
def vSum (l : Launch) (G : gG) (lv : Nat) (T : Tt) (V : Vt) (a st : Nat) (r : Int64 ⊕ Nat) : Prop := ∃ v, v ≤ lv ∧ ((T.1 a = 10 ∧ okX l G RX4 yX11_of cX11_of 2 (some .long) v [.ref (gb G + a), .ref (gb G + st)] V T (xL r) V T 0 0) ∨ (T.1 a = 11 ∧ okX l G RX4 yX12_of cX12_of 2 (some .long) v [.ref (gb G + a), .ref (gb G + st)] V T (xL r) V T 0 0) ∨ (T.1 a = 12 ∧ okX l G RX4 yX13_of cX13_of 8 (some .long) v [.ref (gb G + a), .ref (gb G + st)] V T (xL r) V T 0 0))
def vTest (l : Launch) (G : gG) (lv : Nat) (T : Tt) (V : Vt) (a st : Nat) (r : Int32 ⊕ Nat) : Prop := ∃ v, v ≤ lv ∧ ((T.1 a = 13 ∧ okX l G RX4 yX15_is cX15_is 6 (some .boolean) v [.ref (gb G + a), .ref (gb G + st)] V T (xI r) V T 0 0) ∨ (T.1 a = 14 ∧ okX l G RX4 yX16_is cX16_is 2 (some .boolean) v [.ref (gb G + a), .ref (gb G + st)] V T (xI r) V T 0 0) ∨ (T.1 a = 15 ∧ okX l G RX4 yX17_is cX17_is 3 (some .boolean) v [.ref (gb G + a), .ref (gb G + st)] V T (xI r) V T 0 0))
abbrev fuelE : Nat := 200
theorem xv_X13_22 {p : Program} {l : Launch} {e : Env} {R : Room} {s : State} {m : MethodId} {args : Array Value} {below : List Frame} {meth : Method} {c : Code} {H : Heap} {locs : List Loc} {cells slots : Nat} {cc : ByteArray} {pc : Nat} {ls : Array Slot} {rest : List Value} {G : gG} {V : Vt} {T : Tt} {nL a lv : Nat} {st : Nat} {st0 : List Value} {f : Tt → Vt → Nat → Nat → Option (Int64 ⊕ Nat)} {r : Int64 ⊕ Nat} (C : Cx G p s m args meth c cc RX13 nL) (hw : wS G V T H locs) (h1 : lv + 1 ≤ R.frames) (h2 : 8 + (12 + 11) + 64 * lv ≤ R.locals) (hrec : ∀ (T : Tt) (V : Vt) (a st : Nat) (r : Int64 ⊕ Nat), f T V a st = some r → vSum l G lv T V a st r) (hf : f T V a st = some r) (hsz : ls.size = nL) (hst : st0 = [Value.ref (gb G + st)].reverse ++ .ref (gb G + a) :: rest) (hW : (rest.map fun v => v.category).sum ≤ 8) (hfz : cells + 0 ≤ R.cells ∧ slots + 0 ≤ R.slots) (hdg : decode cc pc = .ok (.invokevirtual 22, 3)) : xRun p l e R s m args below meth c H locs cells slots 0 0 (F0 m pc ls st0) rest G RX4 (xL r) V T := by
  obtain ⟨v, hv, ⟨k, hM⟩ | ⟨k, hM⟩ | ⟨k, hM⟩⟩ := hrec _ _ _ _ _ hf
  · exact x_rU (As := [.ref (gb G + st)]) (ci := 9) C hw hM (va_cwA 1 C.2.2.2.2.1 (lw_U q656 q649 q650 q651 q154 q652) rfl rfl rfl (C.2.2.2.2.2.2.2.nd q648) (by decide +kernel) ⟨by show v + 1 ≤ _; omega, by show 8 + (2 + 11) + 64 * v ≤ _; omega⟩) rfl (by decide) k rfl hsz hst hW hfz hdg
  · exact x_rU (As := [.ref (gb G + st)]) (ci := 10) C hw hM (va_cwA 1 C.2.2.2.2.1 (lw_U q656 q649 q661 q657 q155 q658) rfl rfl rfl (C.2.2.2.2.2.2.2.nd q648) (by decide +kernel) ⟨by show v + 1 ≤ _; omega, by show 8 + (2 + 11) + 64 * v ≤ _; omega⟩) rfl (by decide) k rfl hsz hst hW hfz hdg
  · exact x_rU (As := [.ref (gb G + st)]) (ci := 11) C hw hM (va_cwA 1 C.2.2.2.2.1 (lw_U q656 q649 q653 q654 q156 q655) rfl rfl rfl (C.2.2.2.2.2.2.2.nd q648) (by decide +kernel) ⟨by show v + 1 ≤ _; omega, by show 8 + (8 + 11) + 64 * v ≤ _; omega⟩) rfl (by decide) k rfl hsz hst hW hfz hdg
theorem xv_X15_20 {p : Program} {l : Launch} {e : Env} {R : Room} {s : State} {m : MethodId} {args : Array Value} {below : List Frame} {meth : Method} {c : Code} {H : Heap} {locs : List Loc} {cells slots : Nat} {cc : ByteArray} {pc : Nat} {ls : Array Slot} {rest : List Value} {G : gG} {V : Vt} {T : Tt} {nL a lv : Nat} {st : Nat} {st0 : List Value} {f : Tt → Vt → Nat → Nat → Option (Int64 ⊕ Nat)} {r : Int64 ⊕ Nat} (C : Cx G p s m args meth c cc RX15 nL) (hw : wS G V T H locs) (h1 : lv + 1 ≤ R.frames) (h2 : 8 + (12 + 11) + 64 * lv ≤ R.locals) (hrec : ∀ (T : Tt) (V : Vt) (a st : Nat) (r : Int64 ⊕ Nat), f T V a st = some r → vSum l G lv T V a st r) (hf : f T V a st = some r) (hsz : ls.size = nL) (hst : st0 = [Value.ref (gb G + st)].reverse ++ .ref (gb G + a) :: rest) (hW : (rest.map fun v => v.category).sum ≤ 8) (hfz : cells + 0 ≤ R.cells ∧ slots + 0 ≤ R.slots) (hdg : decode cc pc = .ok (.invokevirtual 20, 3)) : xRun p l e R s m args below meth c H locs cells slots 0 0 (F0 m pc ls st0) rest G RX4 (xL r) V T := by
  obtain ⟨v, hv, ⟨k, hM⟩ | ⟨k, hM⟩ | ⟨k, hM⟩⟩ := hrec _ _ _ _ _ hf
  · exact x_rU (As := [.ref (gb G + st)]) (ci := 9) C hw hM (va_cwA 1 C.2.2.2.2.1 (lw_U q647 q649 q650 q651 q154 q652) rfl rfl rfl (C.2.2.2.2.2.2.2.nd q648) (by decide +kernel) ⟨by show v + 1 ≤ _; omega, by show 8 + (2 + 11) + 64 * v ≤ _; omega⟩) rfl (by decide) k rfl hsz hst hW hfz hdg
  · exact x_rU (As := [.ref (gb G + st)]) (ci := 10) C hw hM (va_cwA 1 C.2.2.2.2.1 (lw_U q647 q649 q661 q657 q155 q658) rfl rfl rfl (C.2.2.2.2.2.2.2.nd q648) (by decide +kernel) ⟨by show v + 1 ≤ _; omega, by show 8 + (2 + 11) + 64 * v ≤ _; omega⟩) rfl (by decide) k rfl hsz hst hW hfz hdg
  · exact x_rU (As := [.ref (gb G + st)]) (ci := 11) C hw hM (va_cwA 1 C.2.2.2.2.1 (lw_U q647 q649 q653 q654 q156 q655) rfl rfl rfl (C.2.2.2.2.2.2.2.nd q648) (by decide +kernel) ⟨by show v + 1 ≤ _; omega, by show 8 + (8 + 11) + 64 * v ≤ _; omega⟩) rfl (by decide) k rfl hsz hst hW hfz hdg
theorem xv_X16_13 {p : Program} {l : Launch} {e : Env} {R : Room} {s : State} {m : MethodId} {args : Array Value} {below : List Frame} {meth : Method} {c : Code} {H : Heap} {locs : List Loc} {cells slots : Nat} {cc : ByteArray} {pc : Nat} {ls : Array Slot} {rest : List Value} {G : gG} {V : Vt} {T : Tt} {nL a lv : Nat} {st : Nat} {st0 : List Value} {f : Tt → Vt → Nat → Nat → Option (Int32 ⊕ Nat)} {r : Int32 ⊕ Nat} (C : Cx G p s m args meth c cc RX16 nL) (hw : wS G V T H locs) (h1 : lv + 1 ≤ R.frames) (h2 : 8 + (12 + 11) + 64 * lv ≤ R.locals) (hrec : ∀ (T : Tt) (V : Vt) (a st : Nat) (r : Int32 ⊕ Nat), f T V a st = some r → vTest l G lv T V a st r) (hf : f T V a st = some r) (hsz : ls.size = nL) (hst : st0 = [Value.ref (gb G + st)].reverse ++ .ref (gb G + a) :: rest) (hW : (rest.map fun v => v.category).sum ≤ 8) (hfz : cells + 0 ≤ R.cells ∧ slots + 0 ≤ R.slots) (hdg : decode cc pc = .ok (.invokevirtual 13, 3)) : xRun p l e R s m args below meth c H locs cells slots 0 0 (F0 m pc ls st0) rest G RX4 (xI r) V T := by
  obtain ⟨v, hv, ⟨k, hM⟩ | ⟨k, hM⟩ | ⟨k, hM⟩⟩ := hrec _ _ _ _ _ hf
  · exact x_rU (As := [.ref (gb G + st)]) (ci := 12) C hw hM (va_cwA 1 C.2.2.2.2.1 (lw_U q665 q643 q644 q645 q158 q646) rfl rfl rfl (C.2.2.2.2.2.2.2.nd q642) (by decide +kernel) ⟨by show v + 1 ≤ _; omega, by show 8 + (6 + 11) + 64 * v ≤ _; omega⟩) rfl (by decide) k rfl hsz hst hW hfz hdg
  · exact x_rU (As := [.ref (gb G + st)]) (ci := 13) C hw hM (va_cwA 1 C.2.2.2.2.1 (lw_U q665 q643 q662 q663 q159 q664) rfl rfl rfl (C.2.2.2.2.2.2.2.nd q642) (by decide +kernel) ⟨by show v + 1 ≤ _; omega, by show 8 + (2 + 11) + 64 * v ≤ _; omega⟩) rfl (by decide) k rfl hsz hst hW hfz hdg
  · exact x_rU (As := [.ref (gb G + st)]) (ci := 14) C hw hM (va_cwA 1 C.2.2.2.2.1 (lw_U q665 q643 q672 q666 q160 q667) rfl rfl rfl (C.2.2.2.2.2.2.2.nd q642) (by decide +kernel) ⟨by show v + 1 ≤ _; omega, by show 8 + (3 + 11) + 64 * v ≤ _; omega⟩) rfl (by decide) k rfl hsz hst hW hfz hdg
theorem xv_X17_30 {p : Program} {l : Launch} {e : Env} {R : Room} {s : State} {m : MethodId} {args : Array Value} {below : List Frame} {meth : Method} {c : Code} {H : Heap} {locs : List Loc} {cells slots : Nat} {cc : ByteArray} {pc : Nat} {ls : Array Slot} {rest : List Value} {G : gG} {V : Vt} {T : Tt} {nL a lv : Nat} {st : Nat} {st0 : List Value} {f : Tt → Vt → Nat → Nat → Option (Int32 ⊕ Nat)} {r : Int32 ⊕ Nat} (C : Cx G p s m args meth c cc RX17 nL) (hw : wS G V T H locs) (h1 : lv + 1 ≤ R.frames) (h2 : 8 + (12 + 11) + 64 * lv ≤ R.locals) (hrec : ∀ (T : Tt) (V : Vt) (a st : Nat) (r : Int32 ⊕ Nat), f T V a st = some r → vTest l G lv T V a st r) (hf : f T V a st = some r) (hsz : ls.size = nL) (hst : st0 = [Value.ref (gb G + st)].reverse ++ .ref (gb G + a) :: rest) (hW : (rest.map fun v => v.category).sum ≤ 8) (hfz : cells + 0 ≤ R.cells ∧ slots + 0 ≤ R.slots) (hdg : decode cc pc = .ok (.invokevirtual 30, 3)) : xRun p l e R s m args below meth c H locs cells slots 0 0 (F0 m pc ls st0) rest G RX4 (xI r) V T := by
  obtain ⟨v, hv, ⟨k, hM⟩ | ⟨k, hM⟩ | ⟨k, hM⟩⟩ := hrec _ _ _ _ _ hf
  · exact x_rU (As := [.ref (gb G + st)]) (ci := 12) C hw hM (va_cwA 1 C.2.2.2.2.1 (lw_U q671 q643 q644 q645 q158 q646) rfl rfl rfl (C.2.2.2.2.2.2.2.nd q642) (by decide +kernel) ⟨by show v + 1 ≤ _; omega, by show 8 + (6 + 11) + 64 * v ≤ _; omega⟩) rfl (by decide) k rfl hsz hst hW hfz hdg
  · exact x_rU (As := [.ref (gb G + st)]) (ci := 13) C hw hM (va_cwA 1 C.2.2.2.2.1 (lw_U q671 q643 q662 q663 q159 q664) rfl rfl rfl (C.2.2.2.2.2.2.2.nd q642) (by decide +kernel) ⟨by show v + 1 ≤ _; omega, by show 8 + (2 + 11) + 64 * v ≤ _; omega⟩) rfl (by decide) k rfl hsz hst hW hfz hdg
  · exact x_rU (As := [.ref (gb G + st)]) (ci := 14) C hw hM (va_cwA 1 C.2.2.2.2.1 (lw_U q671 q643 q672 q666 q160 q667) rfl rfl rfl (C.2.2.2.2.2.2.2.nd q642) (by decide +kernel) ⟨by show v + 1 ≤ _; omega, by show 8 + (3 + 11) + 64 * v ≤ _; omega⟩) rfl (by decide) k rfl hsz hst hW hfz hdg
theorem xv_X9_19 {p : Program} {l : Launch} {e : Env} {R : Room} {s : State} {m : MethodId} {args : Array Value} {below : List Frame} {meth : Method} {c : Code} {H : Heap} {locs : List Loc} {cells slots : Nat} {cc : ByteArray} {pc : Nat} {ls : Array Slot} {rest : List Value} {G : gG} {V : Vt} {T : Tt} {nL a lv : Nat} {st : Nat} {st0 : List Value} {f : Tt → Vt → Nat → Nat → Option (Int32 ⊕ Nat)} {r : Int32 ⊕ Nat} (C : Cx G p s m args meth c cc RX9 nL) (hw : wS G V T H locs) (h1 : lv + 1 ≤ R.frames) (h2 : 8 + (12 + 11) + 64 * lv ≤ R.locals) (hrec : ∀ (T : Tt) (V : Vt) (a st : Nat) (r : Int32 ⊕ Nat), f T V a st = some r → vTest l G lv T V a st r) (hf : f T V a st = some r) (hsz : ls.size = nL) (hst : st0 = [Value.ref (gb G + st)].reverse ++ .ref (gb G + a) :: rest) (hW : (rest.map fun v => v.category).sum ≤ 8) (hfz : cells + 0 ≤ R.cells ∧ slots + 0 ≤ R.slots) (hdg : decode cc pc = .ok (.invokevirtual 19, 3)) : xRun p l e R s m args below meth c H locs cells slots 0 0 (F0 m pc ls st0) rest G RX4 (xI r) V T := by
  obtain ⟨v, hv, ⟨k, hM⟩ | ⟨k, hM⟩ | ⟨k, hM⟩⟩ := hrec _ _ _ _ _ hf
  · exact x_rU (As := [.ref (gb G + st)]) (ci := 12) C hw hM (va_cwA 1 C.2.2.2.2.1 (lw_U q641 q643 q644 q645 q158 q646) rfl rfl rfl (C.2.2.2.2.2.2.2.nd q642) (by decide +kernel) ⟨by show v + 1 ≤ _; omega, by show 8 + (6 + 11) + 64 * v ≤ _; omega⟩) rfl (by decide) k rfl hsz hst hW hfz hdg
  · exact x_rU (As := [.ref (gb G + st)]) (ci := 13) C hw hM (va_cwA 1 C.2.2.2.2.1 (lw_U q641 q643 q662 q663 q159 q664) rfl rfl rfl (C.2.2.2.2.2.2.2.nd q642) (by decide +kernel) ⟨by show v + 1 ≤ _; omega, by show 8 + (2 + 11) + 64 * v ≤ _; omega⟩) rfl (by decide) k rfl hsz hst hW hfz hdg
  · exact x_rU (As := [.ref (gb G + st)]) (ci := 14) C hw hM (va_cwA 1 C.2.2.2.2.1 (lw_U q641 q643 q672 q666 q160 q667) rfl rfl rfl (C.2.2.2.2.2.2.2.nd q642) (by decide +kernel) ⟨by show v + 1 ≤ _; omega, by show 8 + (3 + 11) + 64 * v ≤ _; omega⟩) rfl (by decide) k rfl hsz hst hW hfz hdg
theorem xv_X9_31 {p : Program} {l : Launch} {e : Env} {R : Room} {s : State} {m : MethodId} {args : Array Value} {below : List Frame} {meth : Method} {c : Code} {H : Heap} {locs : List Loc} {cells slots : Nat} {cc : ByteArray} {pc : Nat} {ls : Array Slot} {rest : List Value} {G : gG} {V : Vt} {T : Tt} {nL a lv : Nat} {st : Nat} {st0 : List Value} {f : Tt → Vt → Nat → Nat → Option (Int64 ⊕ Nat)} {r : Int64 ⊕ Nat} (C : Cx G p s m args meth c cc RX9 nL) (hw : wS G V T H locs) (h1 : lv + 1 ≤ R.frames) (h2 : 8 + (12 + 11) + 64 * lv ≤ R.locals) (hrec : ∀ (T : Tt) (V : Vt) (a st : Nat) (r : Int64 ⊕ Nat), f T V a st = some r → vSum l G lv T V a st r) (hf : f T V a st = some r) (hsz : ls.size = nL) (hst : st0 = [Value.ref (gb G + st)].reverse ++ .ref (gb G + a) :: rest) (hW : (rest.map fun v => v.category).sum ≤ 8) (hfz : cells + 0 ≤ R.cells ∧ slots + 0 ≤ R.slots) (hdg : decode cc pc = .ok (.invokevirtual 31, 3)) : xRun p l e R s m args below meth c H locs cells slots 0 0 (F0 m pc ls st0) rest G RX4 (xL r) V T := by
  obtain ⟨v, hv, ⟨k, hM⟩ | ⟨k, hM⟩ | ⟨k, hM⟩⟩ := hrec _ _ _ _ _ hf
  · exact x_rU (As := [.ref (gb G + st)]) (ci := 9) C hw hM (va_cwA 1 C.2.2.2.2.1 (lw_U q674 q649 q650 q651 q154 q652) rfl rfl rfl (C.2.2.2.2.2.2.2.nd q648) (by decide +kernel) ⟨by show v + 1 ≤ _; omega, by show 8 + (2 + 11) + 64 * v ≤ _; omega⟩) rfl (by decide) k rfl hsz hst hW hfz hdg
  · exact x_rU (As := [.ref (gb G + st)]) (ci := 10) C hw hM (va_cwA 1 C.2.2.2.2.1 (lw_U q674 q649 q661 q657 q155 q658) rfl rfl rfl (C.2.2.2.2.2.2.2.nd q648) (by decide +kernel) ⟨by show v + 1 ≤ _; omega, by show 8 + (2 + 11) + 64 * v ≤ _; omega⟩) rfl (by decide) k rfl hsz hst hW hfz hdg
  · exact x_rU (As := [.ref (gb G + st)]) (ci := 11) C hw hM (va_cwA 1 C.2.2.2.2.1 (lw_U q674 q649 q653 q654 q156 q655) rfl rfl rfl (C.2.2.2.2.2.2.2.nd q648) (by decide +kernel) ⟨by show v + 1 ≤ _; omega, by show 8 + (8 + 11) + 64 * v ≤ _; omega⟩) rfl (by decide) k rfl hsz hst hW hfz hdg
theorem xv_X18_28 {p : Program} {l : Launch} {e : Env} {R : Room} {s : State} {m : MethodId} {args : Array Value} {below : List Frame} {meth : Method} {c : Code} {H : Heap} {locs : List Loc} {cells slots : Nat} {cc : ByteArray} {pc : Nat} {ls : Array Slot} {rest : List Value} {G : gG} {V : Vt} {T : Tt} {nL a lv : Nat} {st : Nat} {st0 : List Value} {f : Tt → Vt → Nat → Nat → Option (Int32 ⊕ Nat)} {r : Int32 ⊕ Nat} (C : Cx G p s m args meth c cc RX18 nL) (hw : wS G V T H locs) (h1 : lv + 1 ≤ R.frames) (h2 : 8 + (12 + 11) + 64 * lv ≤ R.locals) (hrec : ∀ (T : Tt) (V : Vt) (a st : Nat) (r : Int32 ⊕ Nat), f T V a st = some r → vTest l G lv T V a st r) (hf : f T V a st = some r) (hsz : ls.size = nL) (hst : st0 = [Value.ref (gb G + st)].reverse ++ .ref (gb G + a) :: rest) (hW : (rest.map fun v => v.category).sum ≤ 8) (hfz : cells + 0 ≤ R.cells ∧ slots + 0 ≤ R.slots) (hdg : decode cc pc = .ok (.invokevirtual 28, 3)) : xRun p l e R s m args below meth c H locs cells slots 0 0 (F0 m pc ls st0) rest G RX4 (xI r) V T := by
  obtain ⟨v, hv, ⟨k, hM⟩ | ⟨k, hM⟩ | ⟨k, hM⟩⟩ := hrec _ _ _ _ _ hf
  · exact x_rU (As := [.ref (gb G + st)]) (ci := 12) C hw hM (va_cwA 1 C.2.2.2.2.1 (lw_U q1372 q643 q644 q645 q158 q646) rfl rfl rfl (C.2.2.2.2.2.2.2.nd q642) (by decide +kernel) ⟨by show v + 1 ≤ _; omega, by show 8 + (6 + 11) + 64 * v ≤ _; omega⟩) rfl (by decide) k rfl hsz hst hW hfz hdg
  · exact x_rU (As := [.ref (gb G + st)]) (ci := 13) C hw hM (va_cwA 1 C.2.2.2.2.1 (lw_U q1372 q643 q662 q663 q159 q664) rfl rfl rfl (C.2.2.2.2.2.2.2.nd q642) (by decide +kernel) ⟨by show v + 1 ≤ _; omega, by show 8 + (2 + 11) + 64 * v ≤ _; omega⟩) rfl (by decide) k rfl hsz hst hW hfz hdg
  · exact x_rU (As := [.ref (gb G + st)]) (ci := 14) C hw hM (va_cwA 1 C.2.2.2.2.1 (lw_U q1372 q643 q672 q666 q160 q667) rfl rfl rfl (C.2.2.2.2.2.2.2.nd q642) (by decide +kernel) ⟨by show v + 1 ≤ _; omega, by show 8 + (3 + 11) + 64 * v ≤ _; omega⟩) rfl (by decide) k rfl hsz hst hW hfz hdg
theorem xv_X18_36 {p : Program} {l : Launch} {e : Env} {R : Room} {s : State} {m : MethodId} {args : Array Value} {below : List Frame} {meth : Method} {c : Code} {H : Heap} {locs : List Loc} {cells slots : Nat} {cc : ByteArray} {pc : Nat} {ls : Array Slot} {rest : List Value} {G : gG} {V : Vt} {T : Tt} {nL a lv : Nat} {st : Nat} {st0 : List Value} {f : Tt → Vt → Nat → Nat → Option (Int64 ⊕ Nat)} {r : Int64 ⊕ Nat} (C : Cx G p s m args meth c cc RX18 nL) (hw : wS G V T H locs) (h1 : lv + 1 ≤ R.frames) (h2 : 8 + (12 + 11) + 64 * lv ≤ R.locals) (hrec : ∀ (T : Tt) (V : Vt) (a st : Nat) (r : Int64 ⊕ Nat), f T V a st = some r → vSum l G lv T V a st r) (hf : f T V a st = some r) (hsz : ls.size = nL) (hst : st0 = [Value.ref (gb G + st)].reverse ++ .ref (gb G + a) :: rest) (hW : (rest.map fun v => v.category).sum ≤ 8) (hfz : cells + 0 ≤ R.cells ∧ slots + 0 ≤ R.slots) (hdg : decode cc pc = .ok (.invokevirtual 36, 3)) : xRun p l e R s m args below meth c H locs cells slots 0 0 (F0 m pc ls st0) rest G RX4 (xL r) V T := by
  obtain ⟨v, hv, ⟨k, hM⟩ | ⟨k, hM⟩ | ⟨k, hM⟩⟩ := hrec _ _ _ _ _ hf
  · exact x_rU (As := [.ref (gb G + st)]) (ci := 9) C hw hM (va_cwA 1 C.2.2.2.2.1 (lw_U q1381 q649 q650 q651 q154 q652) rfl rfl rfl (C.2.2.2.2.2.2.2.nd q648) (by decide +kernel) ⟨by show v + 1 ≤ _; omega, by show 8 + (2 + 11) + 64 * v ≤ _; omega⟩) rfl (by decide) k rfl hsz hst hW hfz hdg
  · exact x_rU (As := [.ref (gb G + st)]) (ci := 10) C hw hM (va_cwA 1 C.2.2.2.2.1 (lw_U q1381 q649 q661 q657 q155 q658) rfl rfl rfl (C.2.2.2.2.2.2.2.nd q648) (by decide +kernel) ⟨by show v + 1 ≤ _; omega, by show 8 + (2 + 11) + 64 * v ≤ _; omega⟩) rfl (by decide) k rfl hsz hst hW hfz hdg
  · exact x_rU (As := [.ref (gb G + st)]) (ci := 11) C hw hM (va_cwA 1 C.2.2.2.2.1 (lw_U q1381 q649 q653 q654 q156 q655) rfl rfl rfl (C.2.2.2.2.2.2.2.nd q648) (by decide +kernel) ⟨by show v + 1 ≤ _; omega, by show 8 + (8 + 11) + 64 * v ≤ _; omega⟩) rfl (by decide) k rfl hsz hst hW hfz hdg
def f_X11_of (T : Tt) (V0 : Vt) (o : Nat) (a0 : Nat) : Option ((Int64 ⊕ Nat)) :=
  req (T.1 o = 10) (some (.inl (Int32.toInt64 (V0.1 o 0))))
def f_X12_of (T : Tt) (V0 : Vt) (o : Nat) (a0 : Nat) : Option ((Int64 ⊕ Nat)) :=
  req (T.1 o = 11) (req (T.1 a0 = 4) (drf (V0.2.2 a0 1) (fun r2 => req (aIn T r2 1 (V0.1 o 0)) (some (.inl (V0.2.1 r2 (ixN (V0.1 o 0))))))))
def f_X13_of_J137 (sumOf : Tt → Vt → Nat → Nat → Option (Int64 ⊕ Nat)) (T : Tt) (V0 : Vt) (x1 : Nat) : Option ((Int64 ⊕ Nat)) :=
  req (T.1 x1 = 4) (drf (V0.2.2 x1 0) (fun r16 => req (T.1 r16 = 5) (some (.inr r16))))
def f_X13_of_J117 (sumOf : Tt → Vt → Nat → Nat → Option (Int64 ⊕ Nat)) (T : Tt) (V0 : Vt) (x1 : Nat) (s0 : Int64) : Option ((Int64 ⊕ Nat)) :=
  if 0 < (lg_cmp s0 (1000000000 : Int64)) then (f_X13_of_J137 sumOf T V0 x1) else (if 0 ≤ (lg_cmp s0 ((-1000000000) : Int64)) then (some (.inl s0)) else (f_X13_of_J137 sumOf T V0 x1))
def f_X13_of_J49 (sumOf : Tt → Vt → Nat → Nat → Option (Int64 ⊕ Nat)) (T : Tt) (V0 : Vt) (x0 : Nat) (x1 : Nat) (x2 : Int64) (x4 : Int64) : Option ((Int64 ⊕ Nat)) :=
  if (V0.1 x0 0) = (43 : Int32) then (f_X13_of_J117 sumOf T V0 x1 (x2 + x4)) else (if (V0.1 x0 0) = (45 : Int32) then (f_X13_of_J117 sumOf T V0 x1 (x2 - x4)) else (if (V0.1 x0 0) = (42 : Int32) then (f_X13_of_J117 sumOf T V0 x1 (x2 * x4)) else (if (V0.1 x0 0) = (47 : Int32) then (req (¬ x4 = 0) (f_X13_of_J117 sumOf T V0 x1 (x2 / x4))) else (req (¬ x4 = 0) (f_X13_of_J117 sumOf T V0 x1 (x2 - (x2 / x4) * x4))))))
def f_X13_of_J37 (sumOf : Tt → Vt → Nat → Nat → Option (Int64 ⊕ Nat)) (T : Tt) (V0 : Vt) (x0 : Nat) (x1 : Nat) (x2 : Int64) (x4 : Int64) : Option ((Int64 ⊕ Nat)) :=
  if (lg_cmp x4 (0 : Int64)) = 0 then (req (T.1 x1 = 4) (drf (V0.2.2 x1 0) (fun r21 => req (T.1 r21 = 5) (some (.inr r21))))) else (f_X13_of_J49 sumOf T V0 x0 x1 x2 x4)
def f_X13_of (sumOf : Tt → Vt → Nat → Nat → Option (Int64 ⊕ Nat)) (T : Tt) (V0 : Vt) (o : Nat) (a0 : Nat) : Option ((Int64 ⊕ Nat)) :=
  req (T.1 o = 12) (drf (V0.2.2 o 1) (fun r1 => xcl (sumOf T V0 r1 a0) (fun z3 => drf (V0.2.2 o 2) (fun r4 => xcl (sumOf T V0 r4 a0) (fun z6 => if (V0.1 o 0) = (47 : Int32) then (f_X13_of_J37 sumOf T V0 o a0 z3 z6) else (if (V0.1 o 0) = (37 : Int32) then (f_X13_of_J37 sumOf T V0 o a0 z3 z6) else (f_X13_of_J49 sumOf T V0 o a0 z3 z6)))))))
set_option maxHeartbeats 4000000 in
theorem ok_X11_of {l : Launch} {G : gG} {T : Tt} {V0 : Vt} {o : Nat} {a0 : Nat} {r : (Int64 ⊕ Nat)} (hf : f_X11_of T V0 o a0 = some r) : okX l G RX4 yX11_of cX11_of 2 (some .long) 0 [.ref (gb G + o), .ref (gb G + a0)] V0 T (xL r) V0 T 0 0 := by
  refine okX_intro (by decide) (Nat.le_of_ble_eq_true rfl) ?_
  intro p e s m below meth c ls C hr hno hw hl
  have hx := C.1
  have hb := C.2.1
  have hown := C.2.2.2.1
  have hts := C.2.2.2.2.1
  have hl : lv_has ls 2 [(0, .ref (gb G + o)), (1, .ref (gb G + a0))] := hl
  unfold f_X11_of at hf
  revert hf
  refine k_req (fun k0 hf => ?_)
  refine lv_aload_n hx hb dX11_of_0 rfl (lv_at hl 0 rfl) ?_
  refine gf_X11_7 C hw k0 dX11_of_1 ?_
  refine lv_i2l hx hb dX11_of_4 rfl ?_
  cases hf
  exact x_ret (w_lret C hr hw dX11_of_5)
set_option maxHeartbeats 4000000 in
theorem ok_X12_of {l : Launch} {G : gG} {T : Tt} {V0 : Vt} {o : Nat} {a0 : Nat} {r : (Int64 ⊕ Nat)} (hf : f_X12_of T V0 o a0 = some r) : okX l G RX4 yX12_of cX12_of 2 (some .long) 0 [.ref (gb G + o), .ref (gb G + a0)] V0 T (xL r) V0 T 0 0 := by
  refine okX_intro (by decide) (Nat.le_of_ble_eq_true rfl) ?_
  intro p e s m below meth c ls C hr hno hw hl
  have hx := C.1
  have hb := C.2.1
  have hown := C.2.2.2.1
  have hts := C.2.2.2.2.1
  have hl : lv_has ls 2 [(0, .ref (gb G + o)), (1, .ref (gb G + a0))] := hl
  unfold f_X12_of at hf
  revert hf
  refine k_req (fun k0 hf => ?_)
  refine lv_aload_n hx hb dX12_of_0 rfl (lv_at hl 1 rfl) ?_
  revert hf
  refine k_req (fun k1 hf => ?_)
  revert hf
  refine k_drf (fun r2 er2 hf => ?_)
  refine gf_X12_13 C hw k1 er2 dX12_of_1 ?_
  refine lv_aload_n hx hb dX12_of_4 rfl (lv_at hl 0 rfl) ?_
  refine gf_X12_7 C hw k0 dX12_of_5 ?_
  revert hf
  refine k_req (fun h3 hf => ?_)
  refine w_lald C hw h3 rfl dX12_of_8 ?_
  cases hf
  exact x_ret (w_lret C hr hw dX12_of_9)
set_option maxHeartbeats 4000000 in
theorem jk_X13_of_137 {l : Launch} {G : gG} {p : Program} {e : Env} {s : State} {m : MethodId} {args : Array Value} {below : List Frame} {meth : Method} {c : Code} {T : Tt} {V0 : Vt} {r : (Int64 ⊕ Nat)} {sumOf : Tt → Vt → Nat → Nat → Option (Int64 ⊕ Nat)} (C : Cx G p s m args meth c cX13_of RX13 8) (hr : meth.sig.returnType = (some .long)) (hno : ∀ z ∈ c.exceptionTable.toList, False) {lv : Nat} (hlv : 20 ≤ lv) (hsumOf : ∀ (T : Tt) (V : Vt) (a st : Nat) (r : Int64 ⊕ Nat), sumOf T V a st = some r → vSum l G lv T V a st r) {x1 : Nat} {H : Heap} {locs : List Loc} {ls : Array Slot} (hf : f_X13_of_J137 sumOf T V0 x1 = some r) (hw : wS G V0 T H locs) (hl : lv_has ls 8 [(1, .ref (gb G + x1))]) : W p l e (rmL (lv + 1) 0 0) s m args below meth c H locs 0 0 (xQ G RX4 below (xL r) V0 T args s 0 0) (F0 m 137 ls []) := by
  have hx := C.1
  have hb := C.2.1
  have hown := C.2.2.2.1
  have hts := C.2.2.2.2.1
  unfold f_X13_of_J137 at hf
  refine lv_aload_n hx hb dX13_of_137 rfl (lv_at hl 0 rfl) ?_
  revert hf
  refine k_req (fun k15 hf => ?_)
  revert hf
  refine k_drf (fun r16 er16 hf => ?_)
  refine gf_X13_26 C hw k15 er16 dX13_of_138 ?_
  revert hf
  refine k_req (fun k17 hf => ?_)
  cases hf
  exact x_throw (ci := 4) C hno hw rfl (by decide) k17 dX13_of_141
set_option maxHeartbeats 4000000 in
theorem jk_X13_of_117 {l : Launch} {G : gG} {p : Program} {e : Env} {s : State} {m : MethodId} {args : Array Value} {below : List Frame} {meth : Method} {c : Code} {T : Tt} {V0 : Vt} {r : (Int64 ⊕ Nat)} {sumOf : Tt → Vt → Nat → Nat → Option (Int64 ⊕ Nat)} (C : Cx G p s m args meth c cX13_of RX13 8) (hr : meth.sig.returnType = (some .long)) (hno : ∀ z ∈ c.exceptionTable.toList, False) {lv : Nat} (hlv : 20 ≤ lv) (hsumOf : ∀ (T : Tt) (V : Vt) (a st : Nat) (r : Int64 ⊕ Nat), sumOf T V a st = some r → vSum l G lv T V a st r) {x1 : Nat} {s0 : Int64} {H : Heap} {locs : List Loc} {ls : Array Slot} (hf : f_X13_of_J117 sumOf T V0 x1 s0 = some r) (hw : wS G V0 T H locs) (hl : lv_has ls 8 [(1, .ref (gb G + x1))]) : W p l e (rmL (lv + 1) 0 0) s m args below meth c H locs 0 0 (xQ G RX4 below (xL r) V0 T args s 0 0) (F0 m 117 ls [.long s0]) := by
  have hx := C.1
  have hb := C.2.1
  have hown := C.2.2.2.1
  have hts := C.2.2.2.2.1
  unfold f_X13_of_J117 at hf
  refine lv_lstore (lv' := [(6, .long s0), (1, .ref (gb G + x1))]) hx hb dX13_of_117 hl (by decide) rfl (fun ls hl => ?_)
  refine lv_lload hx hb dX13_of_119 (lv_at hl 0 rfl) ?_
  refine lv_ldc2 (v := (1000000000 : Int64)) hx hb hown (hts _ q659) dX13_of_121 ?_
  refine W.lcmp hx hb dX13_of_124 ?_
  refine lv_if_gt (tgt := 137) hx hb dX13_of_125 (by decide) (fun c14 => ?_) (fun c14 => ?_)
  · replace hf := ite_t c14 hf
    exact jk_X13_of_137 C hr hno hlv hsumOf hf hw (lv_sub hl [1] rfl)
  · replace hf := ite_f c14 hf
    refine lv_lload hx hb dX13_of_128 (lv_at hl 0 rfl) ?_
    refine lv_ldc2 (v := ((-1000000000) : Int64)) hx hb hown (hts _ q660) dX13_of_130 ?_
    refine W.lcmp hx hb dX13_of_133 ?_
    refine lv_if_ge (tgt := 142) hx hb dX13_of_134 (by decide) (fun c18 => ?_) (fun c18 => ?_)
    · replace hf := ite_t c18 hf
      refine lv_lload hx hb dX13_of_142 (lv_at hl 0 rfl) ?_
      cases hf
      exact x_ret (w_lret C hr hw dX13_of_144)
    · replace hf := ite_f c18 hf
      exact jk_X13_of_137 C hr hno hlv hsumOf hf hw (lv_sub hl [1] rfl)
set_option maxHeartbeats 4000000 in
theorem jk_X13_of_49 {l : Launch} {G : gG} {p : Program} {e : Env} {s : State} {m : MethodId} {args : Array Value} {below : List Frame} {meth : Method} {c : Code} {T : Tt} {V0 : Vt} {r : (Int64 ⊕ Nat)} {sumOf : Tt → Vt → Nat → Nat → Option (Int64 ⊕ Nat)} (C : Cx G p s m args meth c cX13_of RX13 8) (hr : meth.sig.returnType = (some .long)) (hno : ∀ z ∈ c.exceptionTable.toList, False) {lv : Nat} (hlv : 20 ≤ lv) (hsumOf : ∀ (T : Tt) (V : Vt) (a st : Nat) (r : Int64 ⊕ Nat), sumOf T V a st = some r → vSum l G lv T V a st r) {x0 : Nat} {x1 : Nat} {x2 : Int64} {x4 : Int64} {H : Heap} {locs : List Loc} {ls : Array Slot} (k0 : T.1 x0 = 12) (hf : f_X13_of_J49 sumOf T V0 x0 x1 x2 x4 = some r) (hw : wS G V0 T H locs) (hl : lv_has ls 8 [(0, .ref (gb G + x0)), (1, .ref (gb G + x1)), (2, .long x2), (4, .long x4)]) : W p l e (rmL (lv + 1) 0 0) s m args below meth c H locs 0 0 (xQ G RX4 below (xL r) V0 T args s 0 0) (F0 m 49 ls []) := by
  have hx := C.1
  have hb := C.2.1
  have hown := C.2.2.2.1
  have hts := C.2.2.2.2.1
  unfold f_X13_of_J49 at hf
  refine lv_aload_n hx hb dX13_of_49 rfl (lv_at hl 0 rfl) ?_
  refine gf_X13_9 C hw k0 dX13_of_50 ?_
  refine lv_bipush (v := (43 : Int32)) hx hb dX13_of_53 (by decide) ?_
  refine lv_icmp_ne (tgt := 65) hx hb dX13_of_55 (by decide) (fun c9 => ?_) (fun c9 => ?_)
  · replace hf := ite_f c9 hf
    refine lv_aload_n hx hb dX13_of_65 rfl (lv_at hl 0 rfl) ?_
    refine gf_X13_9 C hw k0 dX13_of_66 ?_
    refine lv_bipush (v := (45 : Int32)) hx hb dX13_of_69 (by decide) ?_
    refine lv_icmp_ne (tgt := 81) hx hb dX13_of_71 (by decide) (fun c10 => ?_) (fun c10 => ?_)
    · replace hf := ite_f c10 hf
      refine lv_aload_n hx hb dX13_of_81 rfl (lv_at hl 0 rfl) ?_
      refine gf_X13_9 C hw k0 dX13_of_82 ?_
      refine lv_bipush (v := (42 : Int32)) hx hb dX13_of_85 (by decide) ?_
      refine lv_icmp_ne (tgt := 97) hx hb dX13_of_87 (by decide) (fun c11 => ?_) (fun c11 => ?_)
      · replace hf := ite_f c11 hf
        refine lv_aload_n hx hb dX13_of_97 rfl (lv_at hl 0 rfl) ?_
        refine gf_X13_9 C hw k0 dX13_of_98 ?_
        refine lv_bipush (v := (47 : Int32)) hx hb dX13_of_101 (by decide) ?_
        refine lv_icmp_ne (tgt := 113) hx hb dX13_of_103 (by decide) (fun c12 => ?_) (fun c12 => ?_)
        · replace hf := ite_f c12 hf
          refine lv_lload_n hx hb dX13_of_113 rfl (lv_at hl 2 rfl) ?_
          refine lv_lload hx hb dX13_of_114 (lv_at hl 3 rfl) ?_
          revert hf
          refine k_req (fun h13 hf => ?_)
          refine lv_lrem hx hb dX13_of_116 h13 ?_
          exact jk_X13_of_117 C hr hno hlv hsumOf hf hw (lv_sub hl [1] rfl)
        · replace hf := ite_t c12 hf
          refine lv_lload_n hx hb dX13_of_106 rfl (lv_at hl 2 rfl) ?_
          refine lv_lload hx hb dX13_of_107 (lv_at hl 3 rfl) ?_
          revert hf
          refine k_req (fun h19 hf => ?_)
          refine lv_ldiv hx hb dX13_of_109 h19 ?_
          refine lv_goto (tgt := 117) hx hb dX13_of_110 (by decide) ?_
          exact jk_X13_of_117 C hr hno hlv hsumOf hf hw (lv_sub hl [1] rfl)
      · replace hf := ite_t c11 hf
        refine lv_lload_n hx hb dX13_of_90 rfl (lv_at hl 2 rfl) ?_
        refine lv_lload hx hb dX13_of_91 (lv_at hl 3 rfl) ?_
        refine lv_lmul hx hb dX13_of_93 ?_
        refine lv_goto (tgt := 117) hx hb dX13_of_94 (by decide) ?_
        exact jk_X13_of_117 C hr hno hlv hsumOf hf hw (lv_sub hl [1] rfl)
    · replace hf := ite_t c10 hf
      refine lv_lload_n hx hb dX13_of_74 rfl (lv_at hl 2 rfl) ?_
      refine lv_lload hx hb dX13_of_75 (lv_at hl 3 rfl) ?_
      refine lv_lsub hx hb dX13_of_77 ?_
      refine lv_goto (tgt := 117) hx hb dX13_of_78 (by decide) ?_
      exact jk_X13_of_117 C hr hno hlv hsumOf hf hw (lv_sub hl [1] rfl)
  · replace hf := ite_t c9 hf
    refine lv_lload_n hx hb dX13_of_58 rfl (lv_at hl 2 rfl) ?_
    refine lv_lload hx hb dX13_of_59 (lv_at hl 3 rfl) ?_
    refine lv_ladd hx hb dX13_of_61 ?_
    refine lv_goto (tgt := 117) hx hb dX13_of_62 (by decide) ?_
    exact jk_X13_of_117 C hr hno hlv hsumOf hf hw (lv_sub hl [1] rfl)
set_option maxHeartbeats 4000000 in
theorem jk_X13_of_37 {l : Launch} {G : gG} {p : Program} {e : Env} {s : State} {m : MethodId} {args : Array Value} {below : List Frame} {meth : Method} {c : Code} {T : Tt} {V0 : Vt} {r : (Int64 ⊕ Nat)} {sumOf : Tt → Vt → Nat → Nat → Option (Int64 ⊕ Nat)} (C : Cx G p s m args meth c cX13_of RX13 8) (hr : meth.sig.returnType = (some .long)) (hno : ∀ z ∈ c.exceptionTable.toList, False) {lv : Nat} (hlv : 20 ≤ lv) (hsumOf : ∀ (T : Tt) (V : Vt) (a st : Nat) (r : Int64 ⊕ Nat), sumOf T V a st = some r → vSum l G lv T V a st r) {x0 : Nat} {x1 : Nat} {x2 : Int64} {x4 : Int64} {H : Heap} {locs : List Loc} {ls : Array Slot} (k0 : T.1 x0 = 12) (hf : f_X13_of_J37 sumOf T V0 x0 x1 x2 x4 = some r) (hw : wS G V0 T H locs) (hl : lv_has ls 8 [(0, .ref (gb G + x0)), (1, .ref (gb G + x1)), (2, .long x2), (4, .long x4)]) : W p l e (rmL (lv + 1) 0 0) s m args below meth c H locs 0 0 (xQ G RX4 below (xL r) V0 T args s 0 0) (F0 m 37 ls []) := by
  have hx := C.1
  have hb := C.2.1
  have hown := C.2.2.2.1
  have hts := C.2.2.2.2.1
  unfold f_X13_of_J37 at hf
  refine lv_lload hx hb dX13_of_37 (lv_at hl 3 rfl) ?_
  refine lv_lconst (v := (0 : Int64)) hx hb dX13_of_39 (by decide) ?_
  refine W.lcmp hx hb dX13_of_40 ?_
  refine lv_if_ne (tgt := 49) hx hb dX13_of_41 (by decide) (fun c8 => ?_) (fun c8 => ?_)
  · replace hf := ite_f c8 hf
    exact jk_X13_of_49 C hr hno hlv hsumOf k0 hf hw (lv_sub hl [0, 1, 2, 3] rfl)
  · replace hf := ite_t c8 hf
    refine lv_aload_n hx hb dX13_of_44 rfl (lv_at hl 1 rfl) ?_
    revert hf
    refine k_req (fun k20 hf => ?_)
    revert hf
    refine k_drf (fun r21 er21 hf => ?_)
    refine gf_X13_26 C hw k20 er21 dX13_of_45 ?_
    revert hf
    refine k_req (fun k22 hf => ?_)
    cases hf
    exact x_throw (ci := 4) C hno hw rfl (by decide) k22 dX13_of_48
set_option maxHeartbeats 4000000 in
theorem ok_X13_of {l : Launch} {G : gG} {T : Tt} {V0 : Vt} {o : Nat} {a0 : Nat} {r : (Int64 ⊕ Nat)} {sumOf : Tt → Vt → Nat → Nat → Option (Int64 ⊕ Nat)} {lv : Nat} (hlv : 20 ≤ lv) (hsumOf : ∀ (T : Tt) (V : Vt) (a st : Nat) (r : Int64 ⊕ Nat), sumOf T V a st = some r → vSum l G lv T V a st r) (hf : f_X13_of sumOf T V0 o a0 = some r) : okX l G RX4 yX13_of cX13_of 8 (some .long) (lv + 1) [.ref (gb G + o), .ref (gb G + a0)] V0 T (xL r) V0 T 0 0 := by
  refine okX_intro (by decide) (Nat.le_of_ble_eq_true rfl) ?_
  intro p e s m below meth c ls C hr hno hw hl
  have hx := C.1
  have hb := C.2.1
  have hown := C.2.2.2.1
  have hts := C.2.2.2.2.1
  have hl : lv_has ls 8 [(0, .ref (gb G + o)), (1, .ref (gb G + a0))] := hl
  unfold f_X13_of at hf
  revert hf
  refine k_req (fun k0 hf => ?_)
  refine lv_aload_n hx hb dX13_of_0 rfl (lv_at hl 0 rfl) ?_
  revert hf
  refine k_drf (fun r1 er1 hf => ?_)
  refine gf_X13_15 C hw k0 er1 dX13_of_1 ?_
  refine lv_aload_n hx hb dX13_of_4 rfl (lv_at hl 1 rfl) ?_
  rcases of_xcl hf with ⟨z3, h2, hf⟩ | ⟨z3, h2, hf⟩
  · refine x_in hw (xv_X13_22 C hw (by show _ ≤ (lv + 1); omega) (by show _ ≤ 64 * (lv + 1); omega) hsumOf h2 hl.1 rfl (Nat.le_of_ble_eq_true rfl) ⟨Nat.zero_le _, Nat.zero_le _⟩ dX13_of_5) (fun H locs hw => ?_)
    refine W.eq (g2 := F0 m 8 ls [.long z3]) rfl ?_
    refine lv_lstore_n (lv' := [(2, .long z3), (0, .ref (gb G + o)), (1, .ref (gb G + a0))]) hx hb dX13_of_8 rfl hl (by decide) rfl (fun ls hl => ?_)
    refine lv_aload_n hx hb dX13_of_9 rfl (lv_at hl 1 rfl) ?_
    revert hf
    refine k_drf (fun r4 er4 hf => ?_)
    refine gf_X13_19 C hw k0 er4 dX13_of_10 ?_
    refine lv_aload_n hx hb dX13_of_13 rfl (lv_at hl 2 rfl) ?_
    rcases of_xcl hf with ⟨z6, h5, hf⟩ | ⟨z6, h5, hf⟩
    · refine x_in hw (xv_X13_22 C hw (by show _ ≤ (lv + 1); omega) (by show _ ≤ 64 * (lv + 1); omega) hsumOf h5 hl.1 rfl (Nat.le_of_ble_eq_true rfl) ⟨Nat.zero_le _, Nat.zero_le _⟩ dX13_of_14) (fun H locs hw => ?_)
      refine W.eq (g2 := F0 m 17 ls [.long z6]) rfl ?_
      refine lv_lstore (lv' := [(4, .long z6), (2, .long z3), (0, .ref (gb G + o)), (1, .ref (gb G + a0))]) hx hb dX13_of_17 hl (by decide) rfl (fun ls hl => ?_)
      refine lv_aload_n hx hb dX13_of_19 rfl (lv_at hl 2 rfl) ?_
      refine gf_X13_9 C hw k0 dX13_of_20 ?_
      refine lv_bipush (v := (47 : Int32)) hx hb dX13_of_23 (by decide) ?_
      refine lv_icmp_eq (tgt := 37) hx hb dX13_of_25 (by decide) (fun c7 => ?_) (fun c7 => ?_)
      · replace hf := ite_t c7 hf
        exact jk_X13_of_37 C hr hno hlv hsumOf k0 hf hw (lv_sub hl [2, 3, 1, 0] rfl)
      · replace hf := ite_f c7 hf
        refine lv_aload_n hx hb dX13_of_28 rfl (lv_at hl 2 rfl) ?_
        refine gf_X13_9 C hw k0 dX13_of_29 ?_
        refine lv_bipush (v := (37 : Int32)) hx hb dX13_of_32 (by decide) ?_
        refine lv_icmp_ne (tgt := 49) hx hb dX13_of_34 (by decide) (fun c23 => ?_) (fun c23 => ?_)
        · replace hf := ite_f c23 hf
          exact jk_X13_of_49 C hr hno hlv hsumOf k0 hf hw (lv_sub hl [2, 3, 1, 0] rfl)
        · replace hf := ite_t c23 hf
          exact jk_X13_of_37 C hr hno hlv hsumOf k0 hf hw (lv_sub hl [2, 3, 1, 0] rfl)
    · subst hf
      refine x_out hw (xv_X13_22 C hw (by show _ ≤ (lv + 1); omega) (by show _ ≤ 64 * (lv + 1); omega) hsumOf h5 hl.1 rfl (Nat.le_of_ble_eq_true rfl) ⟨Nat.zero_le _, Nat.zero_le _⟩ dX13_of_14) (fun H locs ce hw g1 g2 g3 => ?_)
      exact x_up C hno hw g1 g2 g3
  · subst hf
    refine x_out hw (xv_X13_22 C hw (by show _ ≤ (lv + 1); omega) (by show _ ≤ 64 * (lv + 1); omega) hsumOf h2 hl.1 rfl (Nat.le_of_ble_eq_true rfl) ⟨Nat.zero_le _, Nat.zero_le _⟩ dX13_of_5) (fun H locs ce hw g1 g2 g3 => ?_)
    exact x_up C hno hw g1 g2 g3
def f_sumOf : Nat → Tt → Vt → Nat → Nat → Option (Int64 ⊕ Nat)
  | 0, _, _, _, _ => none
  | d + 1, T, V, a, st => if T.1 a = 10 then f_X11_of T V a st else if T.1 a = 11 then f_X12_of T V a st else if T.1 a = 12 then f_X13_of (f_sumOf d) T V a st else none
theorem sumOf_d {l : Launch} {G : gG} : ∀ (d : Nat) (T : Tt) (V : Vt) (a st : Nat) (r : Int64 ⊕ Nat), f_sumOf d T V a st = some r → vSum l G (20 + d) T V a st r := by
  intro d
  induction d with
  | zero => intro T V a st r h; cases h
  | succ d ih =>
    intro T V a st r h
    unfold f_sumOf at h
    by_cases c1 : T.1 a = 10
    · exact ⟨0, by omega, Or.inl ⟨c1, ok_X11_of (ite_t c1 h)⟩⟩
    · have h := ite_f c1 h
      by_cases c2 : T.1 a = 11
      · exact ⟨0, by omega, Or.inr (Or.inl ⟨c2, ok_X12_of (ite_t c2 h)⟩)⟩
      · have h := ite_f c2 h
        by_cases c3 : T.1 a = 12
        · exact ⟨20 + d + 1, by omega, Or.inr (Or.inr ⟨c3, ok_X13_of (by omega) ih (ite_t c3 h)⟩)⟩
        · cases ite_f c3 h
theorem ok_sumOf {l : Launch} {G : gG} {T : Tt} {V : Vt} {a st : Nat} {r : Int64 ⊕ Nat} (h : f_sumOf fuelE T V a st = some r) : vSum l G 220 T V a st r := sumOf_d fuelE T V a st r h
def f_X15_is (T : Tt) (V0 : Vt) (o : Nat) (a0 : Nat) : Option ((Int32 ⊕ Nat)) :=
  req (T.1 o = 13) (drf (V0.2.2 o 1) (fun r1 => xcl (f_sumOf fuelE T V0 r1 a0) (fun z3 => drf (V0.2.2 o 2) (fun r4 => xcl (f_sumOf fuelE T V0 r4 a0) (fun z6 => if (V0.1 o 0) = (60 : Int32) then (if 0 ≤ (lg_cmp z3 z6) then (some (.inl (0 : Int32))) else (some (.inl (1 : Int32)))) else (if (V0.1 o 0) = (62 : Int32) then (if (lg_cmp z3 z6) ≤ 0 then (some (.inl (0 : Int32))) else (some (.inl (1 : Int32)))) else (if (lg_cmp z3 z6) = 0 then (some (.inl (1 : Int32))) else (some (.inl (0 : Int32))))))))))
def f_X16_is (testIs : Tt → Vt → Nat → Nat → Option (Int32 ⊕ Nat)) (T : Tt) (V0 : Vt) (o : Nat) (a0 : Nat) : Option ((Int32 ⊕ Nat)) :=
  req (T.1 o = 14) (drf (V0.2.2 o 0) (fun r1 => xcl (testIs T V0 r1 a0) (fun z3 => if z3 = 0 then (some (.inl (1 : Int32))) else (some (.inl (0 : Int32))))))
def f_X17_is_L2 (testIs : Tt → Vt → Nat → Nat → Option (Int32 ⊕ Nat)) (T : Tt) (V0 : Vt) (x0 : Nat) (x1 : Nat) (kx2_35 : Option ((Int32 ⊕ Nat))) (kx2_54 : Option ((Int32 ⊕ Nat))) : Nat → Int32 → Option ((Int32 ⊕ Nat))
  | 0, _ => none
  | n + 1, x2 => drf (V0.2.2 x0 1) (fun r1 => pcl (f_J2_size T V0 r1) (fun z3 => if z3 ≤ x2 then (kx2_54) else (drf (V0.2.2 x0 1) (fun r5 => pcl (f_J2_get T V0 r5 x2) (fun r7 => req (isTs T r7) (xcl (testIs T V0 r7 x1) (fun z10 => if z10 = (V0.1 x0 0) then (stp (x2 + (1 : Int32)) (fun z12 => (f_X17_is_L2 testIs T V0 x0 x1 kx2_35 kx2_54 n) z12)) else (kx2_35))))))))
def f_X17_is (testIs : Tt → Vt → Nat → Nat → Option (Int32 ⊕ Nat)) (T : Tt) (V0 : Vt) (o : Nat) (a0 : Nat) : Option ((Int32 ⊕ Nat)) :=
  req (T.1 o = 15) (f_X17_is_L2 testIs T V0 o a0 (if (V0.1 o 0) = 0 then (some (.inl (1 : Int32))) else (some (.inl (0 : Int32)))) (req (isB (V0.1 o 0)) (some (.inl (V0.1 o 0)))) fuel (0 : Int32))
set_option maxHeartbeats 4000000 in
theorem ok_X15_is {l : Launch} {G : gG} {T : Tt} {V0 : Vt} {o : Nat} {a0 : Nat} {r : (Int32 ⊕ Nat)} (hf : f_X15_is T V0 o a0 = some r) : okX l G RX4 yX15_is cX15_is 6 (some .boolean) 221 [.ref (gb G + o), .ref (gb G + a0)] V0 T (xI r) V0 T 0 0 := by
  refine okX_intro (by decide) (Nat.le_of_ble_eq_true rfl) ?_
  intro p e s m below meth c ls C hr hno hw hl
  have hx := C.1
  have hb := C.2.1
  have hown := C.2.2.2.1
  have hts := C.2.2.2.2.1
  have hl : lv_has ls 6 [(0, .ref (gb G + o)), (1, .ref (gb G + a0))] := hl
  unfold f_X15_is at hf
  revert hf
  refine k_req (fun k0 hf => ?_)
  refine lv_aload_n hx hb dX15_is_0 rfl (lv_at hl 0 rfl) ?_
  revert hf
  refine k_drf (fun r1 er1 hf => ?_)
  refine gf_X15_13 C hw k0 er1 dX15_is_1 ?_
  refine lv_aload_n hx hb dX15_is_4 rfl (lv_at hl 1 rfl) ?_
  rcases of_xcl hf with ⟨z3, h2, hf⟩ | ⟨z3, h2, hf⟩
  · refine x_in hw (xv_X15_20 C hw (Nat.le_of_ble_eq_true rfl) (Nat.le_of_ble_eq_true rfl) (fun _ _ _ _ _ h => ok_sumOf h) h2 hl.1 rfl (Nat.le_of_ble_eq_true rfl) ⟨Nat.zero_le _, Nat.zero_le _⟩ dX15_is_5) (fun H locs hw => ?_)
    refine W.eq (g2 := F0 m 8 ls [.long z3]) rfl ?_
    refine lv_lstore_n (lv' := [(2, .long z3), (0, .ref (gb G + o)), (1, .ref (gb G + a0))]) hx hb dX15_is_8 rfl hl (by decide) rfl (fun ls hl => ?_)
    refine lv_aload_n hx hb dX15_is_9 rfl (lv_at hl 1 rfl) ?_
    revert hf
    refine k_drf (fun r4 er4 hf => ?_)
    refine gf_X15_17 C hw k0 er4 dX15_is_10 ?_
    refine lv_aload_n hx hb dX15_is_13 rfl (lv_at hl 2 rfl) ?_
    rcases of_xcl hf with ⟨z6, h5, hf⟩ | ⟨z6, h5, hf⟩
    · refine x_in hw (xv_X15_20 C hw (Nat.le_of_ble_eq_true rfl) (Nat.le_of_ble_eq_true rfl) (fun _ _ _ _ _ h => ok_sumOf h) h5 hl.1 rfl (Nat.le_of_ble_eq_true rfl) ⟨Nat.zero_le _, Nat.zero_le _⟩ dX15_is_14) (fun H locs hw => ?_)
      refine W.eq (g2 := F0 m 17 ls [.long z6]) rfl ?_
      refine lv_lstore (lv' := [(4, .long z6), (2, .long z3), (0, .ref (gb G + o)), (1, .ref (gb G + a0))]) hx hb dX15_is_17 hl (by decide) rfl (fun ls hl => ?_)
      refine lv_aload_n hx hb dX15_is_19 rfl (lv_at hl 2 rfl) ?_
      refine gf_X15_7 C hw k0 dX15_is_20 ?_
      refine lv_bipush (v := (60 : Int32)) hx hb dX15_is_23 (by decide) ?_
      refine lv_icmp_ne (tgt := 43) hx hb dX15_is_25 (by decide) (fun c7 => ?_) (fun c7 => ?_)
      · replace hf := ite_f c7 hf
        refine lv_aload_n hx hb dX15_is_43 rfl (lv_at hl 2 rfl) ?_
        refine gf_X15_7 C hw k0 dX15_is_44 ?_
        refine lv_bipush (v := (62 : Int32)) hx hb dX15_is_47 (by decide) ?_
        refine lv_icmp_ne (tgt := 67) hx hb dX15_is_49 (by decide) (fun c8 => ?_) (fun c8 => ?_)
        · replace hf := ite_f c8 hf
          refine lv_lload_n hx hb dX15_is_67 rfl (lv_at hl 1 rfl) ?_
          refine lv_lload hx hb dX15_is_68 (lv_at hl 0 rfl) ?_
          refine W.lcmp hx hb dX15_is_70 ?_
          refine lv_if_ne (tgt := 78) hx hb dX15_is_71 (by decide) (fun c9 => ?_) (fun c9 => ?_)
          · replace hf := ite_f c9 hf
            refine lv_iconst (v := (0 : Int32)) hx hb dX15_is_78 (by decide) ?_
            cases hf
            exact x_ret (w_zret C hr hw (by decide) dX15_is_79)
          · replace hf := ite_t c9 hf
            refine lv_iconst (v := (1 : Int32)) hx hb dX15_is_74 (by decide) ?_
            refine lv_goto (tgt := 79) hx hb dX15_is_75 (by decide) ?_
            cases hf
            exact x_ret (w_zret C hr hw (by decide) dX15_is_79)
        · replace hf := ite_t c8 hf
          refine lv_lload_n hx hb dX15_is_52 rfl (lv_at hl 1 rfl) ?_
          refine lv_lload hx hb dX15_is_53 (lv_at hl 0 rfl) ?_
          refine W.lcmp hx hb dX15_is_55 ?_
          refine lv_if_le (tgt := 63) hx hb dX15_is_56 (by decide) (fun c10 => ?_) (fun c10 => ?_)
          · replace hf := ite_t c10 hf
            refine lv_iconst (v := (0 : Int32)) hx hb dX15_is_63 (by decide) ?_
            refine lv_goto (tgt := 79) hx hb dX15_is_64 (by decide) ?_
            cases hf
            exact x_ret (w_zret C hr hw (by decide) dX15_is_79)
          · replace hf := ite_f c10 hf
            refine lv_iconst (v := (1 : Int32)) hx hb dX15_is_59 (by decide) ?_
            refine lv_goto (tgt := 79) hx hb dX15_is_60 (by decide) ?_
            cases hf
            exact x_ret (w_zret C hr hw (by decide) dX15_is_79)
      · replace hf := ite_t c7 hf
        refine lv_lload_n hx hb dX15_is_28 rfl (lv_at hl 1 rfl) ?_
        refine lv_lload hx hb dX15_is_29 (lv_at hl 0 rfl) ?_
        refine W.lcmp hx hb dX15_is_31 ?_
        refine lv_if_ge (tgt := 39) hx hb dX15_is_32 (by decide) (fun c11 => ?_) (fun c11 => ?_)
        · replace hf := ite_t c11 hf
          refine lv_iconst (v := (0 : Int32)) hx hb dX15_is_39 (by decide) ?_
          refine lv_goto (tgt := 79) hx hb dX15_is_40 (by decide) ?_
          cases hf
          exact x_ret (w_zret C hr hw (by decide) dX15_is_79)
        · replace hf := ite_f c11 hf
          refine lv_iconst (v := (1 : Int32)) hx hb dX15_is_35 (by decide) ?_
          refine lv_goto (tgt := 79) hx hb dX15_is_36 (by decide) ?_
          cases hf
          exact x_ret (w_zret C hr hw (by decide) dX15_is_79)
    · subst hf
      refine x_out hw (xv_X15_20 C hw (Nat.le_of_ble_eq_true rfl) (Nat.le_of_ble_eq_true rfl) (fun _ _ _ _ _ h => ok_sumOf h) h5 hl.1 rfl (Nat.le_of_ble_eq_true rfl) ⟨Nat.zero_le _, Nat.zero_le _⟩ dX15_is_14) (fun H locs ce hw g1 g2 g3 => ?_)
      exact x_up C hno hw g1 g2 g3
  · subst hf
    refine x_out hw (xv_X15_20 C hw (Nat.le_of_ble_eq_true rfl) (Nat.le_of_ble_eq_true rfl) (fun _ _ _ _ _ h => ok_sumOf h) h2 hl.1 rfl (Nat.le_of_ble_eq_true rfl) ⟨Nat.zero_le _, Nat.zero_le _⟩ dX15_is_5) (fun H locs ce hw g1 g2 g3 => ?_)
    exact x_up C hno hw g1 g2 g3
set_option maxHeartbeats 4000000 in
theorem ok_X16_is {l : Launch} {G : gG} {T : Tt} {V0 : Vt} {o : Nat} {a0 : Nat} {r : (Int32 ⊕ Nat)} {testIs : Tt → Vt → Nat → Nat → Option (Int32 ⊕ Nat)} {lv : Nat} (hlv : 221 ≤ lv) (htestIs : ∀ (T : Tt) (V : Vt) (a st : Nat) (r : Int32 ⊕ Nat), testIs T V a st = some r → vTest l G lv T V a st r) (hf : f_X16_is testIs T V0 o a0 = some r) : okX l G RX4 yX16_is cX16_is 2 (some .boolean) (lv + 1) [.ref (gb G + o), .ref (gb G + a0)] V0 T (xI r) V0 T 0 0 := by
  refine okX_intro (by decide) (Nat.le_of_ble_eq_true rfl) ?_
  intro p e s m below meth c ls C hr hno hw hl
  have hx := C.1
  have hb := C.2.1
  have hown := C.2.2.2.1
  have hts := C.2.2.2.2.1
  have hl : lv_has ls 2 [(0, .ref (gb G + o)), (1, .ref (gb G + a0))] := hl
  unfold f_X16_is at hf
  revert hf
  refine k_req (fun k0 hf => ?_)
  refine lv_aload_n hx hb dX16_is_0 rfl (lv_at hl 0 rfl) ?_
  revert hf
  refine k_drf (fun r1 er1 hf => ?_)
  refine gf_X16_7 C hw k0 er1 dX16_is_1 ?_
  refine lv_aload_n hx hb dX16_is_4 rfl (lv_at hl 1 rfl) ?_
  rcases of_xcl hf with ⟨z3, h2, hf⟩ | ⟨z3, h2, hf⟩
  · refine x_in hw (xv_X16_13 C hw (by show _ ≤ (lv + 1); omega) (by show _ ≤ 64 * (lv + 1); omega) htestIs h2 hl.1 rfl (Nat.le_of_ble_eq_true rfl) ⟨Nat.zero_le _, Nat.zero_le _⟩ dX16_is_5) (fun H locs hw => ?_)
    refine W.eq (g2 := F0 m 8 ls [.int z3]) rfl ?_
    refine lv_if_ne (tgt := 15) hx hb dX16_is_8 (by decide) (fun c4 => ?_) (fun c4 => ?_)
    · replace hf := ite_f c4 hf
      refine lv_iconst (v := (0 : Int32)) hx hb dX16_is_15 (by decide) ?_
      cases hf
      exact x_ret (w_zret C hr hw (by decide) dX16_is_16)
    · replace hf := ite_t c4 hf
      refine lv_iconst (v := (1 : Int32)) hx hb dX16_is_11 (by decide) ?_
      refine lv_goto (tgt := 16) hx hb dX16_is_12 (by decide) ?_
      cases hf
      exact x_ret (w_zret C hr hw (by decide) dX16_is_16)
  · subst hf
    refine x_out hw (xv_X16_13 C hw (by show _ ≤ (lv + 1); omega) (by show _ ≤ 64 * (lv + 1); omega) htestIs h2 hl.1 rfl (Nat.le_of_ble_eq_true rfl) ⟨Nat.zero_le _, Nat.zero_le _⟩ dX16_is_5) (fun H locs ce hw g1 g2 g3 => ?_)
    exact x_up C hno hw g1 g2 g3
set_option maxHeartbeats 4000000 in
theorem lk_X17_is_2 {l : Launch} {G : gG} {p : Program} {e : Env} {s : State} {m : MethodId} {args : Array Value} {below : List Frame} {meth : Method} {c : Code} {T : Tt} {V0 : Vt} {r : (Int32 ⊕ Nat)} {testIs : Tt → Vt → Nat → Nat → Option (Int32 ⊕ Nat)} (C : Cx G p s m args meth c cX17_is RX17 3) (hr : meth.sig.returnType = (some .boolean)) (hno : ∀ z ∈ c.exceptionTable.toList, False) {lv : Nat} (hlv : 221 ≤ lv) (htestIs : ∀ (T : Tt) (V : Vt) (a st : Nat) (r : Int32 ⊕ Nat), testIs T V a st = some r → vTest l G lv T V a st r) {x0 : Nat} {x1 : Nat} {kx2_35 : Option ((Int32 ⊕ Nat))} {kx2_54 : Option ((Int32 ⊕ Nat))} (k0 : T.1 x0 = 15) (hkx2_35 : ∀ (H : Heap) (locs : List Loc) (ls : Array Slot), kx2_35 = some r → wS G V0 T H locs → lv_has ls 3 [(0, .ref (gb G + x0))] → W p l e (rmL (lv + 1) 0 0) s m args below meth c H locs 0 0 (xQ G RX4 below (xI r) V0 T args s 0 0) (F0 m 35 ls [])) (hkx2_54 : ∀ (H : Heap) (locs : List Loc) (ls : Array Slot), kx2_54 = some r → wS G V0 T H locs → lv_has ls 3 [(0, .ref (gb G + x0))] → W p l e (rmL (lv + 1) 0 0) s m args below meth c H locs 0 0 (xQ G RX4 below (xI r) V0 T args s 0 0) (F0 m 54 ls [])) : ∀ (n : Nat) (x2 : Int32) (H : Heap) (locs : List Loc) (ls : Array Slot), f_X17_is_L2 testIs T V0 x0 x1 kx2_35 kx2_54 n x2 = some r → wS G V0 T H locs → lv_has ls 3 [(0, .ref (gb G + x0)), (1, .ref (gb G + x1)), (2, .int x2)] → W p l e (rmL (lv + 1) 0 0) s m args below meth c H locs 0 0 (xQ G RX4 below (xI r) V0 T args s 0 0) (F0 m 2 ls []) := by
  have hx := C.1
  have hb := C.2.1
  have hown := C.2.2.2.1
  have hts := C.2.2.2.2.1
  intro n
  induction n with
  | zero =>
    intro x2 H locs ls hf
    cases hf
  | succ n ih =>
    intro x2 H locs ls hf hw hl
    unfold f_X17_is_L2 at hf
    refine lv_iload_n hx hb dX17_is_2 rfl (lv_at hl 2 rfl) ?_
    refine lv_aload_n hx hb dX17_is_3 rfl (lv_at hl 0 rfl) ?_
    revert hf
    refine k_drf (fun r1 er1 hf => ?_)
    refine gf_X17_12 C hw k0 er1 dX17_is_4 ?_
    revert hf
    refine k_pcl (fun z3 h2 hf => ?_)
    refine w_afi hw (w_rV (As := []) C hw (ok_J2_size h2) (cw_X17_22 hts (by show _ ≤ (lv + 1); omega) (by show _ ≤ 64 * (lv + 1); omega)) rfl (by decide) (of_req h2).1 rfl hl.1 rfl (Nat.le_of_ble_eq_true rfl) ⟨Nat.zero_le _, Nat.zero_le _⟩ dX17_is_7) (fun H locs hw => ?_)
    refine lv_icmp_ge (tgt := 54) hx hb dX17_is_10 (by decide) (fun c4 => ?_) (fun c4 => ?_)
    · replace hf := ite_t c4 hf
      exact hkx2_54  _ _ _ hf hw (lv_sub hl [0] rfl)
    · replace hf := ite_f c4 hf
      refine lv_aload_n hx hb dX17_is_13 rfl (lv_at hl 0 rfl) ?_
      revert hf
      refine k_drf (fun r5 er5 hf => ?_)
      refine gf_X17_12 C hw k0 er5 dX17_is_14 ?_
      refine lv_iload_n hx hb dX17_is_17 rfl (lv_at hl 2 rfl) ?_
      revert hf
      refine k_pcl (fun r7 h6 hf => ?_)
      refine w_afr hw (w_rV (As := [.int x2]) C hw (ok_J2_get h6) (cw_X17_26 hts (by show _ ≤ (lv + 1); omega) (by show _ ≤ 64 * (lv + 1); omega)) rfl (by decide) (of_req h6).1 rfl hl.1 rfl (Nat.le_of_ble_eq_true rfl) ⟨Nat.zero_le _, Nat.zero_le _⟩ dX17_is_18) (fun H locs hw => ?_)
      revert hf
      refine k_req (fun h8 hf => ?_)
      refine w_castTest C hw h8 q670 dX17_is_21 ?_
      refine lv_aload_n hx hb dX17_is_24 rfl (lv_at hl 1 rfl) ?_
      rcases of_xcl hf with ⟨z10, h9, hf⟩ | ⟨z10, h9, hf⟩
      · refine x_in hw (xv_X17_30 C hw (by show _ ≤ (lv + 1); omega) (by show _ ≤ 64 * (lv + 1); omega) htestIs h9 hl.1 rfl (Nat.le_of_ble_eq_true rfl) ⟨Nat.zero_le _, Nat.zero_le _⟩ dX17_is_25) (fun H locs hw => ?_)
        refine W.eq (g2 := F0 m 28 ls [.int z10]) rfl ?_
        refine lv_aload_n hx hb dX17_is_28 rfl (lv_at hl 0 rfl) ?_
        refine gf_X17_18 C hw k0 dX17_is_29 ?_
        refine lv_icmp_eq (tgt := 48) hx hb dX17_is_32 (by decide) (fun c11 => ?_) (fun c11 => ?_)
        · replace hf := ite_t c11 hf
          revert hf
          refine k_stp (fun z12 ez12 hf => ?_)
          refine lv_iinc (k := 2) (lv' := [(2, .int z12), (0, .ref (gb G + x0)), (1, .ref (gb G + x1))]) hx hb dX17_is_48 hl rfl (inc_e (by decide) ez12) (by decide) rfl (fun ls hl => ?_)
          refine lv_goto (tgt := 2) hx hb dX17_is_51 (by decide) ?_
          exact ih _ _ _ _ hf hw (lv_sub hl [1, 2, 0] rfl)
        · replace hf := ite_f c11 hf
          exact hkx2_35  _ _ _ hf hw (lv_sub hl [0] rfl)
      · subst hf
        refine x_out hw (xv_X17_30 C hw (by show _ ≤ (lv + 1); omega) (by show _ ≤ 64 * (lv + 1); omega) htestIs h9 hl.1 rfl (Nat.le_of_ble_eq_true rfl) ⟨Nat.zero_le _, Nat.zero_le _⟩ dX17_is_25) (fun H locs ce hw g1 g2 g3 => ?_)
        exact x_up C hno hw g1 g2 g3
set_option maxHeartbeats 4000000 in
theorem ok_X17_is {l : Launch} {G : gG} {T : Tt} {V0 : Vt} {o : Nat} {a0 : Nat} {r : (Int32 ⊕ Nat)} {testIs : Tt → Vt → Nat → Nat → Option (Int32 ⊕ Nat)} {lv : Nat} (hlv : 221 ≤ lv) (htestIs : ∀ (T : Tt) (V : Vt) (a st : Nat) (r : Int32 ⊕ Nat), testIs T V a st = some r → vTest l G lv T V a st r) (hf : f_X17_is testIs T V0 o a0 = some r) : okX l G RX4 yX17_is cX17_is 3 (some .boolean) (lv + 1) [.ref (gb G + o), .ref (gb G + a0)] V0 T (xI r) V0 T 0 0 := by
  refine okX_intro (by decide) (Nat.le_of_ble_eq_true rfl) ?_
  intro p e s m below meth c ls C hr hno hw hl
  have hx := C.1
  have hb := C.2.1
  have hown := C.2.2.2.1
  have hts := C.2.2.2.2.1
  have hl : lv_has ls 3 [(0, .ref (gb G + o)), (1, .ref (gb G + a0))] := hl
  unfold f_X17_is at hf
  revert hf
  refine k_req (fun k0 hf => ?_)
  refine lv_iconst (v := (0 : Int32)) hx hb dX17_is_0 (by decide) ?_
  refine lv_istore_n (lv' := [(2, .int (0 : Int32)), (0, .ref (gb G + o)), (1, .ref (gb G + a0))]) hx hb dX17_is_1 rfl hl (by decide) rfl (fun ls hl => ?_)
  refine lk_X17_is_2 C hr hno hlv htestIs k0 (fun H locs ls hf hw hl => ?_) (fun H locs ls hf hw hl => ?_) fuel _ _ _ _ hf hw (lv_sub hl [1, 2, 0] rfl)
  · refine lv_aload_n hx hb dX17_is_35 rfl (lv_at hl 0 rfl) ?_
    refine gf_X17_18 C hw k0 dX17_is_36 ?_
    refine lv_if_ne (tgt := 46) hx hb dX17_is_39 (by decide) (fun c13 => ?_) (fun c13 => ?_)
    · replace hf := ite_f c13 hf
      refine lv_iconst (v := (0 : Int32)) hx hb dX17_is_46 (by decide) ?_
      cases hf
      exact x_ret (w_zret C hr hw (by decide) dX17_is_47)
    · replace hf := ite_t c13 hf
      refine lv_iconst (v := (1 : Int32)) hx hb dX17_is_42 (by decide) ?_
      refine lv_goto (tgt := 47) hx hb dX17_is_43 (by decide) ?_
      cases hf
      exact x_ret (w_zret C hr hw (by decide) dX17_is_47)
  · refine lv_aload_n hx hb dX17_is_54 rfl (lv_at hl 0 rfl) ?_
    refine gf_X17_18 C hw k0 dX17_is_55 ?_
    revert hf
    refine k_req (fun h14 hf => ?_)
    cases hf
    exact x_ret (w_zret C hr hw h14 dX17_is_58)
def f_testIs : Nat → Tt → Vt → Nat → Nat → Option (Int32 ⊕ Nat)
  | 0, _, _, _, _ => none
  | d + 1, T, V, a, st => if T.1 a = 13 then f_X15_is T V a st else if T.1 a = 14 then f_X16_is (f_testIs d) T V a st else if T.1 a = 15 then f_X17_is (f_testIs d) T V a st else none
theorem testIs_d {l : Launch} {G : gG} : ∀ (d : Nat) (T : Tt) (V : Vt) (a st : Nat) (r : Int32 ⊕ Nat), f_testIs d T V a st = some r → vTest l G (221 + d) T V a st r := by
  intro d
  induction d with
  | zero => intro T V a st r h; cases h
  | succ d ih =>
    intro T V a st r h
    unfold f_testIs at h
    by_cases c1 : T.1 a = 13
    · exact ⟨221, by omega, Or.inl ⟨c1, ok_X15_is (ite_t c1 h)⟩⟩
    · have h := ite_f c1 h
      by_cases c2 : T.1 a = 14
      · exact ⟨221 + d + 1, by omega, Or.inr (Or.inl ⟨c2, ok_X16_is (by omega) ih (ite_t c2 h)⟩)⟩
      · have h := ite_f c2 h
        by_cases c3 : T.1 a = 15
        · exact ⟨221 + d + 1, by omega, Or.inr (Or.inr ⟨c3, ok_X17_is (by omega) ih (ite_t c3 h)⟩)⟩
        · cases ite_f c3 h
theorem ok_testIs {l : Launch} {G : gG} {T : Tt} {V : Vt} {a st : Nat} {r : Int32 ⊕ Nat} (h : f_testIs fuelE T V a st = some r) : vTest l G 421 T V a st r := testIs_d fuelE T V a st r h
def f_X10_init (T : Tt) (V0 : Vt) (o : Nat) : Option (Unit) :=
  req (isSm T o) (some ())
def f_X11_init (T : Tt) (V0 : Vt) (o : Nat) (a0 : Int32) : Option (Vt) :=
  req (T.1 o = 10) (pcl (f_X10_init T V0 o) (fun z2 => stp (uI V0 o 0 a0) (fun U3 => some U3)))
def f_X12_init (T : Tt) (V0 : Vt) (o : Nat) (a0 : Int32) : Option (Vt) :=
  req (T.1 o = 11) (pcl (f_X10_init T V0 o) (fun z2 => stp (uI V0 o 0 a0) (fun U3 => some U3)))
def f_X13_init (T : Tt) (V0 : Vt) (o : Nat) (a0 : Int32) (a1 : Nat) (a2 : Nat) : Option (Vt) :=
  req (T.1 o = 12) (pcl (f_X10_init T V0 o) (fun z2 => req (isC a0) (stp (uI V0 o 0 a0) (fun U4 => stp (uR U4 o 1 (some a1)) (fun U5 => stp (uR U5 o 2 (some a2)) (fun U6 => some U6))))))
def f_X14_init (T : Tt) (V0 : Vt) (o : Nat) : Option (Unit) :=
  req (isTs T o) (some ())
def f_X15_init (T : Tt) (V0 : Vt) (o : Nat) (a0 : Int32) (a1 : Nat) (a2 : Nat) : Option (Vt) :=
  req (T.1 o = 13) (pcl (f_X14_init T V0 o) (fun z2 => req (isC a0) (stp (uI V0 o 0 a0) (fun U4 => stp (uR U4 o 1 (some a1)) (fun U5 => stp (uR U5 o 2 (some a2)) (fun U6 => some U6))))))
def f_X16_init (T : Tt) (V0 : Vt) (o : Nat) (a0 : Nat) : Option (Vt) :=
  req (T.1 o = 14) (pcl (f_X14_init T V0 o) (fun z2 => stp (uR V0 o 0 (some a0)) (fun U3 => some U3)))
def f_X17_init (T : Tt) (V0 : Vt) (o : Nat) (a0 : Int32) : Option ((Vt × Tt) × Nat × Nat) :=
  req (T.1 o = 15) (pcl (f_X14_init T V0 o) (fun z2 => inc 1 3 (stp T.2.2 (fun q3 => stp (zV V0 q3) (fun U4 => stp (aT T 20 0) (fun T5 => dcv (f_J2_init T5 U4 q3 (2 : Int32)) (fun U8 T9 => req (T9.1 o = 15) (stp (uR U8 o 1 (some q3)) (fun U11 => req (isB a0) (stp (uI U11 o 0 a0) (fun U13 => some ((U13, T9), 0, 0))))))))))))
def f_X18_init (T : Tt) (V0 : Vt) (o : Nat) (a0 : Int32) : Option ((Vt × Tt) × Nat × Nat) :=
  req (T.1 o = 16) (req (¬ (3 : Int32) < 0 ∧ ixN (3 : Int32) ≤ 100000) (inc 1 (ixN (3 : Int32)) (stp T.2.2 (fun q2 => stp (zV V0 q2) (fun U3 => stp (aT T 107 (ixN (3 : Int32))) (fun T4 => req (T4.1 o = 16) (stp (uR U3 o 1 (some q2)) (fun U6 => stp (uI U6 o 2 (1 : Int32)) (fun U7 => stp (uI U7 o 0 a0) (fun U8 => some ((U8, T4), 0, 0)))))))))))
def f_X18_isNow (T : Tt) (V0 : Vt) (o : Nat) (a0 : Nat) : Option (Int32) :=
  req (T.1 o = 16) (if (V0.2.2 o 3) = none then (some (1 : Int32)) else (drf (V0.2.2 o 3) (fun r1 => hxl (f_testIs fuelE T V0 r1 a0) (fun z3 => if z3 = 0 then (some (0 : Int32)) else (some (1 : Int32))) (fun q4 => some (0 : Int32)))))
def f_X18_told (T : Tt) (V0 : Vt) (o : Nat) (a0 : Int32) (a1 : Nat) : Option (Int32) :=
  req (T.1 o = 16) (drf (V0.2.2 o 1) (fun r1 => req (aIn T r1 7 a0) (drf (V0.2.2 r1 (ixN a0)) (fun r3 => hxl (f_sumOf fuelE T V0 r3 a1) (fun z5 => if (lg_cmp z5 (0 : Int64)) < 0 then (some ((-1) : Int32)) else (if (lg_cmp z5 (1000000 : Int64)) < 0 then (some (Int64.toInt32 z5)) else (some ((-1) : Int32)))) (fun q6 => some ((-1) : Int32))))))
def f_X9_tells_J22 (T : Tt) (V0 : Vt) (x0 : Nat) (x1 : Nat) : Option (Int64) :=
  if (V0.2.2 x0 1) = none then (some (1 : Int64)) else (drf (V0.2.2 x0 1) (fun r1 => hxl (f_sumOf fuelE T V0 r1 x1) (fun z3 => some z3) (fun q4 => some ((-4000000000) : Int64))))
def f_X9_tells (T : Tt) (V0 : Vt) (o : Nat) (a0 : Nat) : Option (Int64) :=
  req (T.1 o = 9) (if (V0.2.2 o 2) = none then (f_X9_tells_J22 T V0 o a0) else (drf (V0.2.2 o 2) (fun r7 => hxl (f_testIs fuelE T V0 r7 a0) (fun z9 => if z9 = 0 then (some ((-4000000000) : Int64)) else (f_X9_tells_J22 T V0 o a0)) (fun q10 => some ((-4000000000) : Int64)))))
def f_X19_told_J71 (T : Tt) (V0 : Vt) (x0 : Nat) (x1 : Int32) (x2 : Nat) (x3 : Int64) (x5 : Int32) (kc7 : Int64 → Int32 → Option (Int64)) (kx7_77 : Int64 → Option (Int64)) : Option (Int64) :=
  stp (x5 + (1 : Int32)) (fun z17 => kc7 x3 z17)
def f_X19_told_L7 (T : Tt) (V0 : Vt) (x0 : Nat) (x1 : Int32) (x2 : Nat) (kx7_77 : Int64 → Option (Int64)) : Nat → Int64 → Int32 → Option (Int64)
  | 0, _, _ => none
  | n + 1, x3, x5 => drf (V0.2.2 x0 0) (fun r1 => pcl (f_J2_size T V0 r1) (fun z3 => if z3 ≤ x5 then (kx7_77 x3) else (drf (V0.2.2 x0 0) (fun r5 => pcl (f_J2_get T V0 r5 x5) (fun r7 => req (T.1 r7 = 9) (if (V0.1 r7 0) = x1 then (drf (V0.2.2 x0 0) (fun r10 => pcl (f_J2_get T V0 r10 x5) (fun r12 => req (T.1 r12 = 9) (pcl (f_X9_tells T V0 r12 x2) (fun z15 => if (lg_cmp z15 ((-4000000000) : Int64)) = 0 then (f_X19_told_J71 T V0 x0 x1 x2 x3 x5 (f_X19_told_L7 T V0 x0 x1 x2 kx7_77 n) kx7_77) else (f_X19_told_J71 T V0 x0 x1 x2 z15 x5 (f_X19_told_L7 T V0 x0 x1 x2 kx7_77 n) kx7_77)))))) else (f_X19_told_J71 T V0 x0 x1 x2 x3 x5 (f_X19_told_L7 T V0 x0 x1 x2 kx7_77 n) kx7_77)))))))
def f_X19_told (T : Tt) (V0 : Vt) (o : Nat) (a0 : Int32) (a1 : Nat) : Option (Int64) :=
  req (T.1 o = 17) (f_X19_told_L7 T V0 o a0 a1 (fun z18 => some z18) fuel ((-4000000000) : Int64) (0 : Int32))
def f_X19_init (T : Tt) (V0 : Vt) (o : Nat) (a0 : Nat) : Option (Vt) :=
  req (T.1 o = 17) (stp (uR V0 o 0 (some a0)) (fun U1 => some U1))
def f_X21_init (T : Tt) (V0 : Vt) (o : Nat) (a0 : Nat) : Option (Vt) :=
  req (T.1 o = 19) (stp (uR V0 o 0 (some a0)) (fun U1 => some U1))
def f_X4_init (T : Tt) (V0 : Vt) (o : Nat) : Option (Unit) :=
  req (T.1 o = 5) (pcl (f_J4_init T V0 o (0 : Int32) (0 : Int32)) (fun z2 => some ()))
def f_X3_init (T : Tt) (V0 : Vt) (o : Nat) : Option ((Vt × Tt) × Nat × Nat) :=
  req (T.1 o = 4) (inc 1 6 (stp T.2.2 (fun q1 => stp (zV V0 q1) (fun U2 => stp (aT T 5 0) (fun T3 => pcl (f_X4_init T3 U2 q1) (fun z5 => req (T3.1 o = 4) (stp (uR U2 o 0 (some q1)) (fun U7 => req (¬ (28 : Int32) < 0 ∧ ixN (28 : Int32) ≤ 100000) (inc 1 (ixN (28 : Int32)) (stp T3.2.2 (fun q9 => stp (zV U7 q9) (fun U10 => stp (aT T3 101 (ixN (28 : Int32))) (fun T11 => req (T11.1 o = 4) (stp (uR U10 o 1 (some q9)) (fun U13 => some ((U13, T11), 0, 0))))))))))))))))
def f_X8_init (T : Tt) (V0 : Vt) (o : Nat) (a0 : Int32) : Option (Vt) :=
  req (T.1 o = 8) (pcl (f_J4_init T V0 o (0 : Int32) (0 : Int32)) (fun z2 => stp (uI V0 o 6 a0) (fun U3 => some U3)))
def f_X9_init (T : Tt) (V0 : Vt) (o : Nat) (a0 : Int32) : Option (Vt) :=
  req (T.1 o = 9) (stp (uI V0 o 0 a0) (fun U1 => some U1))
set_option maxHeartbeats 4000000 in
theorem ok_X10_init {l : Launch} {G : gG} {T : Tt} {V0 : Vt} {o : Nat} {r : Unit} (hf : f_X10_init T V0 o = some r) : okM l G yX10_init cX10_init 1 none 1 [.ref (gb G + o)] V0 T none V0 T 0 0 := by
  refine ok_intro (by decide) (Nat.le_of_ble_eq_true rfl) ?_
  intro p e s m below meth c ls C hr hnm hw hl
  have hx := C.1
  have hb := C.2.1
  have hown := C.2.2.2.1
  have hts := C.2.2.2.2.1
  have hl : lv_has ls 1 [(0, .ref (gb G + o))] := hl
  unfold f_X10_init at hf
  revert hf
  refine k_req (fun k0 hf => ?_)
  refine lv_aload_n hx hb dX10_init_0 rfl (lv_at hl 0 rfl) ?_
  refine W.objInit hx hb hown (hts _ q964) (hts _ q174) (hts _ q175) rfl (by rw [C.2.2.1]; exact hl.1) rfl dX10_init_1 (Nat.le_of_ble_eq_true rfl) (Nat.le_of_ble_eq_true rfl) ?_
  refine W.eq (g2 := F0 m 4 ls []) rfl ?_
  cases hf
  exact w_vret C hr hw dX10_init_4
set_option maxHeartbeats 4000000 in
theorem ok_X11_init {l : Launch} {G : gG} {T : Tt} {V0 : Vt} {o : Nat} {a0 : Int32} {V' : Vt} (hf : f_X11_init T V0 o a0 = some V') : okM l G yX11_init cX11_init 2 none 2 [.ref (gb G + o), .int a0] V0 T none V' T 0 0 := by
  refine ok_intro (by decide) (Nat.le_of_ble_eq_true rfl) ?_
  intro p e s m below meth c ls C hr hnm hw hl
  have hx := C.1
  have hb := C.2.1
  have hown := C.2.2.2.1
  have hts := C.2.2.2.2.1
  have hl : lv_has ls 2 [(0, .ref (gb G + o)), (1, .int a0)] := hl
  unfold f_X11_init at hf
  revert hf
  refine k_req (fun k0 hf => ?_)
  refine lv_aload_n hx hb dX11_init_0 rfl (lv_at hl 0 rfl) ?_
  revert hf
  refine k_pcl (fun z2 h1 hf => ?_)
  refine w_afv hw (w_rIN (As := []) C hw (ok_X10_init h1) (cw_X11_1 C (Nat.le_of_ble_eq_true rfl) (Nat.le_of_ble_eq_true rfl)) rfl hl.1 rfl (Nat.le_of_ble_eq_true rfl) ⟨Nat.zero_le _, Nat.zero_le _⟩ dX11_init_1) (fun H locs hw => ?_)
  refine lv_aload_n hx hb dX11_init_4 rfl (lv_at hl 0 rfl) ?_
  refine lv_iload_n hx hb dX11_init_5 rfl (lv_at hl 1 rfl) ?_
  revert hf
  refine k_stp (fun U3 eU3 hf => ?_)
  refine pf_X11_7 C hw k0 hnm eU3 dX11_init_6 (fun H locs hw => ?_)
  cases hf
  exact w_vret C hr hw dX11_init_9
set_option maxHeartbeats 4000000 in
theorem ok_X12_init {l : Launch} {G : gG} {T : Tt} {V0 : Vt} {o : Nat} {a0 : Int32} {V' : Vt} (hf : f_X12_init T V0 o a0 = some V') : okM l G yX12_init cX12_init 2 none 2 [.ref (gb G + o), .int a0] V0 T none V' T 0 0 := by
  refine ok_intro (by decide) (Nat.le_of_ble_eq_true rfl) ?_
  intro p e s m below meth c ls C hr hnm hw hl
  have hx := C.1
  have hb := C.2.1
  have hown := C.2.2.2.1
  have hts := C.2.2.2.2.1
  have hl : lv_has ls 2 [(0, .ref (gb G + o)), (1, .int a0)] := hl
  unfold f_X12_init at hf
  revert hf
  refine k_req (fun k0 hf => ?_)
  refine lv_aload_n hx hb dX12_init_0 rfl (lv_at hl 0 rfl) ?_
  revert hf
  refine k_pcl (fun z2 h1 hf => ?_)
  refine w_afv hw (w_rIN (As := []) C hw (ok_X10_init h1) (cw_X12_1 C (Nat.le_of_ble_eq_true rfl) (Nat.le_of_ble_eq_true rfl)) rfl hl.1 rfl (Nat.le_of_ble_eq_true rfl) ⟨Nat.zero_le _, Nat.zero_le _⟩ dX12_init_1) (fun H locs hw => ?_)
  refine lv_aload_n hx hb dX12_init_4 rfl (lv_at hl 0 rfl) ?_
  refine lv_iload_n hx hb dX12_init_5 rfl (lv_at hl 1 rfl) ?_
  revert hf
  refine k_stp (fun U3 eU3 hf => ?_)
  refine pf_X12_7 C hw k0 hnm eU3 dX12_init_6 (fun H locs hw => ?_)
  cases hf
  exact w_vret C hr hw dX12_init_9
set_option maxHeartbeats 4000000 in
theorem ok_X13_init {l : Launch} {G : gG} {T : Tt} {V0 : Vt} {o : Nat} {a0 : Int32} {a1 : Nat} {a2 : Nat} {V' : Vt} (hf : f_X13_init T V0 o a0 a1 a2 = some V') : okM l G yX13_init cX13_init 4 none 2 [.ref (gb G + o), .int a0, .ref (gb G + a1), .ref (gb G + a2)] V0 T none V' T 0 0 := by
  refine ok_intro (by decide) (Nat.le_of_ble_eq_true rfl) ?_
  intro p e s m below meth c ls C hr hnm hw hl
  have hx := C.1
  have hb := C.2.1
  have hown := C.2.2.2.1
  have hts := C.2.2.2.2.1
  have hl : lv_has ls 4 [(0, .ref (gb G + o)), (1, .int a0), (2, .ref (gb G + a1)), (3, .ref (gb G + a2))] := hl
  unfold f_X13_init at hf
  revert hf
  refine k_req (fun k0 hf => ?_)
  refine lv_aload_n hx hb dX13_init_0 rfl (lv_at hl 0 rfl) ?_
  revert hf
  refine k_pcl (fun z2 h1 hf => ?_)
  refine w_afv hw (w_rIN (As := []) C hw (ok_X10_init h1) (cw_X13_3 C (Nat.le_of_ble_eq_true rfl) (Nat.le_of_ble_eq_true rfl)) rfl hl.1 rfl (Nat.le_of_ble_eq_true rfl) ⟨Nat.zero_le _, Nat.zero_le _⟩ dX13_init_1) (fun H locs hw => ?_)
  refine lv_aload_n hx hb dX13_init_4 rfl (lv_at hl 0 rfl) ?_
  refine lv_iload_n hx hb dX13_init_5 rfl (lv_at hl 1 rfl) ?_
  revert hf
  refine k_req (fun h3 hf => ?_)
  revert hf
  refine k_stp (fun U4 eU4 hf => ?_)
  refine pf_X13_9 C hw k0 h3 hnm eU4 dX13_init_6 (fun H locs hw => ?_)
  refine lv_aload_n hx hb dX13_init_9 rfl (lv_at hl 0 rfl) ?_
  refine lv_aload_n hx hb dX13_init_10 rfl (lv_at hl 2 rfl) ?_
  revert hf
  refine k_stp (fun U5 eU5 hf => ?_)
  refine pf_X13_15 C hw k0 hnm eU5 dX13_init_11 (fun H locs hw => ?_)
  refine lv_aload_n hx hb dX13_init_14 rfl (lv_at hl 0 rfl) ?_
  refine lv_aload_n hx hb dX13_init_15 rfl (lv_at hl 3 rfl) ?_
  revert hf
  refine k_stp (fun U6 eU6 hf => ?_)
  refine pf_X13_19 C hw k0 hnm eU6 dX13_init_16 (fun H locs hw => ?_)
  cases hf
  exact w_vret C hr hw dX13_init_19
set_option maxHeartbeats 4000000 in
theorem ok_X14_init {l : Launch} {G : gG} {T : Tt} {V0 : Vt} {o : Nat} {r : Unit} (hf : f_X14_init T V0 o = some r) : okM l G yX14_init cX14_init 1 none 1 [.ref (gb G + o)] V0 T none V0 T 0 0 := by
  refine ok_intro (by decide) (Nat.le_of_ble_eq_true rfl) ?_
  intro p e s m below meth c ls C hr hnm hw hl
  have hx := C.1
  have hb := C.2.1
  have hown := C.2.2.2.1
  have hts := C.2.2.2.2.1
  have hl : lv_has ls 1 [(0, .ref (gb G + o))] := hl
  unfold f_X14_init at hf
  revert hf
  refine k_req (fun k0 hf => ?_)
  refine lv_aload_n hx hb dX14_init_0 rfl (lv_at hl 0 rfl) ?_
  refine W.objInit hx hb hown (hts _ q1080) (hts _ q174) (hts _ q175) rfl (by rw [C.2.2.1]; exact hl.1) rfl dX14_init_1 (Nat.le_of_ble_eq_true rfl) (Nat.le_of_ble_eq_true rfl) ?_
  refine W.eq (g2 := F0 m 4 ls []) rfl ?_
  cases hf
  exact w_vret C hr hw dX14_init_4
set_option maxHeartbeats 4000000 in
theorem ok_X15_init {l : Launch} {G : gG} {T : Tt} {V0 : Vt} {o : Nat} {a0 : Int32} {a1 : Nat} {a2 : Nat} {V' : Vt} (hf : f_X15_init T V0 o a0 a1 a2 = some V') : okM l G yX15_init cX15_init 4 none 2 [.ref (gb G + o), .int a0, .ref (gb G + a1), .ref (gb G + a2)] V0 T none V' T 0 0 := by
  refine ok_intro (by decide) (Nat.le_of_ble_eq_true rfl) ?_
  intro p e s m below meth c ls C hr hnm hw hl
  have hx := C.1
  have hb := C.2.1
  have hown := C.2.2.2.1
  have hts := C.2.2.2.2.1
  have hl : lv_has ls 4 [(0, .ref (gb G + o)), (1, .int a0), (2, .ref (gb G + a1)), (3, .ref (gb G + a2))] := hl
  unfold f_X15_init at hf
  revert hf
  refine k_req (fun k0 hf => ?_)
  refine lv_aload_n hx hb dX15_init_0 rfl (lv_at hl 0 rfl) ?_
  revert hf
  refine k_pcl (fun z2 h1 hf => ?_)
  refine w_afv hw (w_rIN (As := []) C hw (ok_X14_init h1) (cw_X15_1 C (Nat.le_of_ble_eq_true rfl) (Nat.le_of_ble_eq_true rfl)) rfl hl.1 rfl (Nat.le_of_ble_eq_true rfl) ⟨Nat.zero_le _, Nat.zero_le _⟩ dX15_init_1) (fun H locs hw => ?_)
  refine lv_aload_n hx hb dX15_init_4 rfl (lv_at hl 0 rfl) ?_
  refine lv_iload_n hx hb dX15_init_5 rfl (lv_at hl 1 rfl) ?_
  revert hf
  refine k_req (fun h3 hf => ?_)
  revert hf
  refine k_stp (fun U4 eU4 hf => ?_)
  refine pf_X15_7 C hw k0 h3 hnm eU4 dX15_init_6 (fun H locs hw => ?_)
  refine lv_aload_n hx hb dX15_init_9 rfl (lv_at hl 0 rfl) ?_
  refine lv_aload_n hx hb dX15_init_10 rfl (lv_at hl 2 rfl) ?_
  revert hf
  refine k_stp (fun U5 eU5 hf => ?_)
  refine pf_X15_13 C hw k0 hnm eU5 dX15_init_11 (fun H locs hw => ?_)
  refine lv_aload_n hx hb dX15_init_14 rfl (lv_at hl 0 rfl) ?_
  refine lv_aload_n hx hb dX15_init_15 rfl (lv_at hl 3 rfl) ?_
  revert hf
  refine k_stp (fun U6 eU6 hf => ?_)
  refine pf_X15_17 C hw k0 hnm eU6 dX15_init_16 (fun H locs hw => ?_)
  cases hf
  exact w_vret C hr hw dX15_init_19
set_option maxHeartbeats 4000000 in
theorem ok_X16_init {l : Launch} {G : gG} {T : Tt} {V0 : Vt} {o : Nat} {a0 : Nat} {V' : Vt} (hf : f_X16_init T V0 o a0 = some V') : okM l G yX16_init cX16_init 2 none 2 [.ref (gb G + o), .ref (gb G + a0)] V0 T none V' T 0 0 := by
  refine ok_intro (by decide) (Nat.le_of_ble_eq_true rfl) ?_
  intro p e s m below meth c ls C hr hnm hw hl
  have hx := C.1
  have hb := C.2.1
  have hown := C.2.2.2.1
  have hts := C.2.2.2.2.1
  have hl : lv_has ls 2 [(0, .ref (gb G + o)), (1, .ref (gb G + a0))] := hl
  unfold f_X16_init at hf
  revert hf
  refine k_req (fun k0 hf => ?_)
  refine lv_aload_n hx hb dX16_init_0 rfl (lv_at hl 0 rfl) ?_
  revert hf
  refine k_pcl (fun z2 h1 hf => ?_)
  refine w_afv hw (w_rIN (As := []) C hw (ok_X14_init h1) (cw_X16_1 C (Nat.le_of_ble_eq_true rfl) (Nat.le_of_ble_eq_true rfl)) rfl hl.1 rfl (Nat.le_of_ble_eq_true rfl) ⟨Nat.zero_le _, Nat.zero_le _⟩ dX16_init_1) (fun H locs hw => ?_)
  refine lv_aload_n hx hb dX16_init_4 rfl (lv_at hl 0 rfl) ?_
  refine lv_aload_n hx hb dX16_init_5 rfl (lv_at hl 1 rfl) ?_
  revert hf
  refine k_stp (fun U3 eU3 hf => ?_)
  refine pf_X16_7 C hw k0 hnm eU3 dX16_init_6 (fun H locs hw => ?_)
  cases hf
  exact w_vret C hr hw dX16_init_9
set_option maxHeartbeats 4000000 in
theorem ok_X17_init {l : Launch} {G : gG} {T : Tt} {V0 : Vt} {o : Nat} {a0 : Int32} {V' : Vt} {T' : Tt} {n k : Nat} (hf : f_X17_init T V0 o a0 = some ((V', T'), n, k)) : okM l G yX17_init cX17_init 2 none 4 [.ref (gb G + o), .int a0] V0 T none V' T' n k := by
  refine ok_intro (by decide) (Nat.le_of_ble_eq_true rfl) ?_
  intro p e s m below meth c ls C hr hnm hw hl
  have hx := C.1
  have hb := C.2.1
  have hown := C.2.2.2.1
  have hts := C.2.2.2.2.1
  have hl : lv_has ls 2 [(0, .ref (gb G + o)), (1, .int a0)] := hl
  unfold f_X17_init at hf
  revert hf
  refine k_req (fun k0 hf => ?_)
  obtain ⟨mc, emc⟩ : ∃ mc, mc = n := ⟨_, rfl⟩
  obtain ⟨ms, ems⟩ : ∃ ms, ms = k := ⟨_, rfl⟩
  have hn : 0 + n = mc := by omega
  have hk : 0 + k = ms := by omega
  rw [← emc, ← ems]
  clear emc ems
  refine lv_aload_n hx hb dX17_init_0 rfl (lv_at hl 0 rfl) ?_
  revert hf
  refine k_pcl (fun z2 h1 hf => ?_)
  refine w_afv hw (w_rIN (As := []) C hw (ok_X14_init h1) (cw_X17_1 C (Nat.le_of_ble_eq_true rfl) (Nat.le_of_ble_eq_true rfl)) rfl hl.1 rfl (Nat.le_of_ble_eq_true rfl) ⟨by show _ + 0 ≤ mc; omega, by show _ + 0 ≤ ms; omega⟩ dX17_init_1) (fun H locs hw => ?_)
  refine lv_aload_n hx hb dX17_init_4 rfl (lv_at hl 0 rfl) ?_
  revert hf
  refine k_inc (fun n1 k1 hf en ek => ?_)
  revert hf
  refine k_stp (fun q3 eq3 hf => ?_)
  revert hf
  refine k_stp (fun U4 eU4 hf => ?_)
  revert hf
  refine k_stp (fun T5 eT5 hf => ?_)
  refine nw_J2 C hw q1108 (by show _ ≤ mc; omega) (by show _ ≤ ms; omega) eq3 eU4 eT5 dX17_init_5 (fun H hw => ?_)
  replace hn := add_r hn en
  replace hk := add_r hk ek
  clear en ek
  generalize n1 = n at hf hn
  generalize k1 = k at hf hk
  refine lv_dup hx hb dX17_init_8 rfl ?_
  refine lv_iconst (v := (2 : Int32)) hx hb dX17_init_9 (by decide) ?_
  revert hf
  refine k_dcv (fun U8 T9 na ka n1 k1 h6 hf en ek => ?_)
  refine w_afv hw (w_rI (As := [.int (2 : Int32)]) C hw (ok_J2_init h6) (cw_X17_9 hts (Nat.le_of_ble_eq_true rfl) (Nat.le_of_ble_eq_true rfl)) rfl hl.1 rfl (Nat.le_of_ble_eq_true rfl) ⟨by show _ ≤ mc; omega, by show _ ≤ ms; omega⟩ dX17_init_10) (fun H locs hw => ?_)
  replace hn := add_r hn en
  replace hk := add_r hk ek
  clear en ek
  generalize n1 = n at hf hn
  generalize k1 = k at hf hk
  revert hf
  refine k_req (fun k10 hf => ?_)
  revert hf
  refine k_stp (fun U11 eU11 hf => ?_)
  refine pf_X17_12 C hw k10 hnm eU11 dX17_init_13 (fun H locs hw => ?_)
  refine lv_aload_n hx hb dX17_init_16 rfl (lv_at hl 0 rfl) ?_
  refine lv_iload_n hx hb dX17_init_17 rfl (lv_at hl 1 rfl) ?_
  revert hf
  refine k_req (fun h12 hf => ?_)
  revert hf
  refine k_stp (fun U13 eU13 hf => ?_)
  refine pf_X17_18 C hw k10 h12 hnm eU13 dX17_init_18 (fun H locs hw => ?_)
  cases hf
  cases hn
  cases hk
  exact w_vret C hr hw dX17_init_21
set_option maxHeartbeats 4000000 in
theorem ok_X18_init {l : Launch} {G : gG} {T : Tt} {V0 : Vt} {o : Nat} {a0 : Int32} {V' : Vt} {T' : Tt} {n k : Nat} (hf : f_X18_init T V0 o a0 = some ((V', T'), n, k)) : okM l G yX18_init cX18_init 2 none 1 [.ref (gb G + o), .int a0] V0 T none V' T' n k := by
  refine ok_intro (by decide) (Nat.le_of_ble_eq_true rfl) ?_
  intro p e s m below meth c ls C hr hnm hw hl
  have hx := C.1
  have hb := C.2.1
  have hown := C.2.2.2.1
  have hts := C.2.2.2.2.1
  have hl : lv_has ls 2 [(0, .ref (gb G + o)), (1, .int a0)] := hl
  unfold f_X18_init at hf
  revert hf
  refine k_req (fun k0 hf => ?_)
  obtain ⟨mc, emc⟩ : ∃ mc, mc = n := ⟨_, rfl⟩
  obtain ⟨ms, ems⟩ : ∃ ms, ms = k := ⟨_, rfl⟩
  have hn : 0 + n = mc := by omega
  have hk : 0 + k = ms := by omega
  rw [← emc, ← ems]
  clear emc ems
  refine lv_aload_n hx hb dX18_init_0 rfl (lv_at hl 0 rfl) ?_
  refine W.objInit hx hb hown (hts _ q1153) (hts _ q174) (hts _ q175) rfl (by rw [C.2.2.1]; exact hl.1) rfl dX18_init_1 (Nat.le_of_ble_eq_true rfl) (Nat.le_of_ble_eq_true rfl) ?_
  refine W.eq (g2 := F0 m 4 ls []) rfl ?_
  refine lv_aload_n hx hb dX18_init_4 rfl (lv_at hl 0 rfl) ?_
  refine lv_iconst (v := (3 : Int32)) hx hb dX18_init_5 (by decide) ?_
  revert hf
  refine k_req (fun h1 hf => ?_)
  revert hf
  refine k_inc (fun n1 k1 hf en ek => ?_)
  revert hf
  refine k_stp (fun q2 eq2 hf => ?_)
  revert hf
  refine k_stp (fun U3 eU3 hf => ?_)
  revert hf
  refine k_stp (fun T4 eT4 hf => ?_)
  refine w_anew (t := 7) C hw (by decide) (by decide) rfl q1154 q1155 h1.1 h1.2 (by show _ ≤ mc; omega) (by show _ ≤ ms; omega) eq2 eU3 eT4 dX18_init_6 (fun H hw => ?_)
  replace hn := add_r hn en
  replace hk := add_r hk ek
  clear en ek
  generalize n1 = n at hf hn
  generalize k1 = k at hf hk
  revert hf
  refine k_req (fun k5 hf => ?_)
  revert hf
  refine k_stp (fun U6 eU6 hf => ?_)
  refine pf_X18_11 C hw k5 hnm eU6 dX18_init_9 (fun H locs hw => ?_)
  refine lv_aload_n hx hb dX18_init_12 rfl (lv_at hl 0 rfl) ?_
  refine lv_iconst (v := (1 : Int32)) hx hb dX18_init_13 (by decide) ?_
  revert hf
  refine k_stp (fun U7 eU7 hf => ?_)
  refine pf_X18_17 C hw k5 eU7 dX18_init_14 (fun H locs hw => ?_)
  refine lv_aload_n hx hb dX18_init_17 rfl (lv_at hl 0 rfl) ?_
  refine lv_iload_n hx hb dX18_init_18 rfl (lv_at hl 1 rfl) ?_
  revert hf
  refine k_stp (fun U8 eU8 hf => ?_)
  refine pf_X18_21 C hw k5 hnm eU8 dX18_init_19 (fun H locs hw => ?_)
  cases hf
  cases hn
  cases hk
  exact w_vret C hr hw dX18_init_22
set_option maxHeartbeats 4000000 in
theorem ok_X18_isNow {l : Launch} {G : gG} {T : Tt} {V0 : Vt} {o : Nat} {a0 : Nat} {r : Int32} (hf : f_X18_isNow T V0 o a0 = some r) : okH l G yX18_isNow cX18_isNow 3 (some .boolean) [(0, 23, 24, 34)] 422 [.ref (gb G + o), .ref (gb G + a0)] V0 T (some (.int r)) V0 T 0 0 := by
  refine okH_intro (by decide) (Nat.le_of_ble_eq_true rfl) ?_
  intro p e s m below meth c ls C hr htab hw hl
  have hx := C.1
  have hb := C.2.1
  have hown := C.2.2.2.1
  have hts := C.2.2.2.2.1
  have hl : lv_has ls 3 [(0, .ref (gb G + o)), (1, .ref (gb G + a0))] := hl
  unfold f_X18_isNow at hf
  revert hf
  refine k_req (fun k0 hf => ?_)
  refine lv_aload_n hx hb dX18_isNow_0 rfl (lv_at hl 0 rfl) ?_
  refine gq_X18_24 C hw k0 dX18_isNow_1 ?_
  by_cases e6 : (V0.2.2 o 3) = none
  · replace hf := ite_t e6 hf
    refine w_topN e6 ?_
    refine lv_ifnullN (tgt := 18) hx hb dX18_isNow_4 (by decide) ?_
    refine lv_iconst (v := (1 : Int32)) hx hb dX18_isNow_18 (by decide) ?_
    refine lv_goto (tgt := 23) hx hb dX18_isNow_19 (by decide) ?_
    cases hf
    exact h_ret (w_zret C hr hw (by decide) dX18_isNow_23)
  · replace hf := ite_f e6 hf
    refine w_topS e6 (fun r7 => ?_)
    refine lv_ifnull hx hb dX18_isNow_4 ?_
    refine lv_aload_n hx hb dX18_isNow_7 rfl (lv_at hl 0 rfl) ?_
    revert hf
    refine k_drf (fun r1 er1 hf => ?_)
    refine gf_X18_24 C hw k0 er1 dX18_isNow_8 ?_
    refine lv_aload_n hx hb dX18_isNow_11 rfl (lv_at hl 1 rfl) ?_
    rcases of_hxl hf with ⟨z3, h2, hf⟩ | ⟨q4, h2, hf⟩
    · refine x_in hw (xv_X18_28 C hw (Nat.le_of_ble_eq_true rfl) (Nat.le_of_ble_eq_true rfl) (fun _ _ _ _ _ h => ok_testIs h) h2 hl.1 rfl (Nat.le_of_ble_eq_true rfl) ⟨Nat.zero_le _, Nat.zero_le _⟩ dX18_isNow_12) (fun H locs hw => ?_)
      refine W.eq (g2 := F0 m 15 ls [.int z3]) rfl ?_
      refine lv_if_eq (tgt := 22) hx hb dX18_isNow_15 (by decide) (fun c5 => ?_) (fun c5 => ?_)
      · replace hf := ite_t c5 hf
        refine lv_iconst (v := (0 : Int32)) hx hb dX18_isNow_22 (by decide) ?_
        cases hf
        exact h_ret (w_zret C hr hw (by decide) dX18_isNow_23)
      · replace hf := ite_f c5 hf
        refine lv_iconst (v := (1 : Int32)) hx hb dX18_isNow_18 (by decide) ?_
        refine lv_goto (tgt := 23) hx hb dX18_isNow_19 (by decide) ?_
        cases hf
        exact h_ret (w_zret C hr hw (by decide) dX18_isNow_23)
    · refine x_out hw (xv_X18_28 C hw (Nat.le_of_ble_eq_true rfl) (Nat.le_of_ble_eq_true rfl) (fun _ _ _ _ _ h => ok_testIs h) h2 hl.1 rfl (Nat.le_of_ble_eq_true rfl) ⟨Nat.zero_le _, Nat.zero_le _⟩ dX18_isNow_12) (fun H locs ce hw g1 g2 g3 => ?_)
      refine h_catch C htab (by decide) (by decide) (by decide) q1371 q291 g1 g2 g3 ?_
      refine lv_astore_n (lv' := [(2, .ref (gb G + q4)), (0, .ref (gb G + o)), (1, .ref (gb G + a0))]) hx hb dX18_isNow_24 rfl hl (by decide) rfl (fun ls hl => ?_)
      refine lv_iconst (v := (0 : Int32)) hx hb dX18_isNow_25 (by decide) ?_
      cases hf
      exact h_ret (w_zret C hr hw (by decide) dX18_isNow_26)
set_option maxHeartbeats 4000000 in
theorem ok_X18_told {l : Launch} {G : gG} {T : Tt} {V0 : Vt} {o : Nat} {a0 : Int32} {a1 : Nat} {r : Int32} (hf : f_X18_told T V0 o a0 a1 = some r) : okH l G yX18_told cX18_told 5 (some .int) [(0, 31, 32, 34)] 221 [.ref (gb G + o), .int a0, .ref (gb G + a1)] V0 T (some (.int r)) V0 T 0 0 := by
  refine okH_intro (by decide) (Nat.le_of_ble_eq_true rfl) ?_
  intro p e s m below meth c ls C hr htab hw hl
  have hx := C.1
  have hb := C.2.1
  have hown := C.2.2.2.1
  have hts := C.2.2.2.2.1
  have hl : lv_has ls 5 [(0, .ref (gb G + o)), (1, .int a0), (2, .ref (gb G + a1))] := hl
  unfold f_X18_told at hf
  revert hf
  refine k_req (fun k0 hf => ?_)
  refine lv_aload_n hx hb dX18_told_0 rfl (lv_at hl 0 rfl) ?_
  revert hf
  refine k_drf (fun r1 er1 hf => ?_)
  refine gf_X18_11 C hw k0 er1 dX18_told_1 ?_
  refine lv_iload_n hx hb dX18_told_4 rfl (lv_at hl 1 rfl) ?_
  revert hf
  refine k_req (fun h2 hf => ?_)
  revert hf
  refine k_drf (fun r3 er3 hf => ?_)
  refine w_aald (v := .ref (gb G + r3)) C hw (by decide) (by decide) h2 (by rw [er3]; rfl) dX18_told_5 ?_
  refine lv_aload_n hx hb dX18_told_6 rfl (lv_at hl 2 rfl) ?_
  rcases of_hxl hf with ⟨z5, h4, hf⟩ | ⟨q6, h4, hf⟩
  · refine x_in hw (xv_X18_36 C hw (Nat.le_of_ble_eq_true rfl) (Nat.le_of_ble_eq_true rfl) (fun _ _ _ _ _ h => ok_sumOf h) h4 hl.1 rfl (Nat.le_of_ble_eq_true rfl) ⟨Nat.zero_le _, Nat.zero_le _⟩ dX18_told_7) (fun H locs hw => ?_)
    refine W.eq (g2 := F0 m 10 ls [.long z5]) rfl ?_
    refine lv_lstore_n (lv' := [(3, .long z5), (0, .ref (gb G + o)), (1, .int a0), (2, .ref (gb G + a1))]) hx hb dX18_told_10 rfl hl (by decide) rfl (fun ls hl => ?_)
    refine lv_lload_n hx hb dX18_told_11 rfl (lv_at hl 0 rfl) ?_
    refine lv_lconst (v := (0 : Int64)) hx hb dX18_told_12 (by decide) ?_
    refine W.lcmp hx hb dX18_told_13 ?_
    refine lv_if_lt (tgt := 25) hx hb dX18_told_14 (by decide) (fun c7 => ?_) (fun c7 => ?_)
    · replace hf := ite_t c7 hf
      refine lv_iconst (v := ((-1) : Int32)) hx hb dX18_told_25 (by decide) ?_
      refine lv_goto (tgt := 31) hx hb dX18_told_26 (by decide) ?_
      cases hf
      exact h_ret (w_iret C hr hw dX18_told_31)
    · replace hf := ite_f c7 hf
      refine lv_lload_n hx hb dX18_told_17 rfl (lv_at hl 0 rfl) ?_
      refine lv_ldc2 (v := (1000000 : Int64)) hx hb hown (hts _ q1382) dX18_told_18 ?_
      refine W.lcmp hx hb dX18_told_21 ?_
      refine lv_if_lt (tgt := 29) hx hb dX18_told_22 (by decide) (fun c8 => ?_) (fun c8 => ?_)
      · replace hf := ite_t c8 hf
        refine lv_lload_n hx hb dX18_told_29 rfl (lv_at hl 0 rfl) ?_
        refine lv_l2i hx hb dX18_told_30 rfl ?_
        cases hf
        exact h_ret (w_iret C hr hw dX18_told_31)
      · replace hf := ite_f c8 hf
        refine lv_iconst (v := ((-1) : Int32)) hx hb dX18_told_25 (by decide) ?_
        refine lv_goto (tgt := 31) hx hb dX18_told_26 (by decide) ?_
        cases hf
        exact h_ret (w_iret C hr hw dX18_told_31)
  · refine x_out hw (xv_X18_36 C hw (Nat.le_of_ble_eq_true rfl) (Nat.le_of_ble_eq_true rfl) (fun _ _ _ _ _ h => ok_sumOf h) h4 hl.1 rfl (Nat.le_of_ble_eq_true rfl) ⟨Nat.zero_le _, Nat.zero_le _⟩ dX18_told_7) (fun H locs ce hw g1 g2 g3 => ?_)
    refine h_catch C htab (by decide) (by decide) (by decide) q1371 q291 g1 g2 g3 ?_
    refine lv_astore_n (lv' := [(3, .ref (gb G + q6)), (0, .ref (gb G + o)), (1, .int a0), (2, .ref (gb G + a1))]) hx hb dX18_told_32 rfl hl (by decide) rfl (fun ls hl => ?_)
    refine lv_iconst (v := ((-1) : Int32)) hx hb dX18_told_33 (by decide) ?_
    cases hf
    exact h_ret (w_iret C hr hw dX18_told_34)
set_option maxHeartbeats 4000000 in
theorem jk_X9_tells_22 {l : Launch} {G : gG} {p : Program} {e : Env} {s : State} {m : MethodId} {args : Array Value} {below : List Frame} {meth : Method} {c : Code} {T : Tt} {V0 : Vt} {r : Int64} (C : Cx G p s m args meth c cX9_tells RX9 3) (hr : meth.sig.returnType = (some .long)) (htab : c.exceptionTable.toList = tableOf [(0, 21, 42, 37), (22, 41, 42, 37)]) {x0 : Nat} {x1 : Nat} {H : Heap} {locs : List Loc} {ls : Array Slot} (k0 : T.1 x0 = 9) (hf : f_X9_tells_J22 T V0 x0 x1 = some r) (hw : wS G V0 T H locs) (hl : lv_has ls 3 [(0, .ref (gb G + x0)), (1, .ref (gb G + x1))]) : W p l e (rmL 422 0 0) s m args below meth c H locs 0 0 (hQ G below (some (.long r)) V0 T args s 0 0) (F0 m 22 ls []) := by
  have hx := C.1
  have hb := C.2.1
  have hown := C.2.2.2.1
  have hts := C.2.2.2.2.1
  unfold f_X9_tells_J22 at hf
  refine lv_aload_n hx hb dX9_tells_22 rfl (lv_at hl 0 rfl) ?_
  refine gq_X9_27 C hw k0 dX9_tells_23 ?_
  by_cases e5 : (V0.2.2 x0 1) = none
  · replace hf := ite_t e5 hf
    refine w_topN e5 ?_
    refine lv_ifnonnullN hx hb dX9_tells_26 ?_
    refine lv_lconst (v := (1 : Int64)) hx hb dX9_tells_29 (by decide) ?_
    refine lv_goto (tgt := 41) hx hb dX9_tells_30 (by decide) ?_
    cases hf
    exact h_ret (w_lret C hr hw dX9_tells_41)
  · replace hf := ite_f e5 hf
    refine w_topS e5 (fun r6 => ?_)
    refine lv_ifnonnull (tgt := 33) hx hb dX9_tells_26 (by decide) ?_
    refine lv_aload_n hx hb dX9_tells_33 rfl (lv_at hl 0 rfl) ?_
    revert hf
    refine k_drf (fun r1 er1 hf => ?_)
    refine gf_X9_27 C hw k0 er1 dX9_tells_34 ?_
    refine lv_aload_n hx hb dX9_tells_37 rfl (lv_at hl 1 rfl) ?_
    rcases of_hxl hf with ⟨z3, h2, hf⟩ | ⟨q4, h2, hf⟩
    · refine x_in hw (xv_X9_31 C hw (Nat.le_of_ble_eq_true rfl) (Nat.le_of_ble_eq_true rfl) (fun _ _ _ _ _ h => ok_sumOf h) h2 hl.1 rfl (Nat.le_of_ble_eq_true rfl) ⟨Nat.zero_le _, Nat.zero_le _⟩ dX9_tells_38) (fun H locs hw => ?_)
      refine W.eq (g2 := F0 m 41 ls [.long z3]) rfl ?_
      cases hf
      exact h_ret (w_lret C hr hw dX9_tells_41)
    · refine x_out hw (xv_X9_31 C hw (Nat.le_of_ble_eq_true rfl) (Nat.le_of_ble_eq_true rfl) (fun _ _ _ _ _ h => ok_sumOf h) h2 hl.1 rfl (Nat.le_of_ble_eq_true rfl) ⟨Nat.zero_le _, Nat.zero_le _⟩ dX9_tells_38) (fun H locs ce hw g1 g2 g3 => ?_)
      refine h_catch2b C htab (by decide) (by decide) (by decide) (by decide) q640 q291 g1 g2 g3 ?_
      refine lv_astore_n (lv' := [(2, .ref (gb G + q4)), (0, .ref (gb G + x0)), (1, .ref (gb G + x1))]) hx hb dX9_tells_42 rfl hl (by decide) rfl (fun ls hl => ?_)
      refine lv_ldc2 (v := ((-4000000000) : Int64)) hx hb hown (hts _ q673) dX9_tells_43 ?_
      cases hf
      exact h_ret (w_lret C hr hw dX9_tells_46)
set_option maxHeartbeats 4000000 in
theorem ok_X9_tells {l : Launch} {G : gG} {T : Tt} {V0 : Vt} {o : Nat} {a0 : Nat} {r : Int64} (hf : f_X9_tells T V0 o a0 = some r) : okH l G yX9_tells cX9_tells 3 (some .long) [(0, 21, 42, 37), (22, 41, 42, 37)] 422 [.ref (gb G + o), .ref (gb G + a0)] V0 T (some (.long r)) V0 T 0 0 := by
  refine okH_intro (by decide) (Nat.le_of_ble_eq_true rfl) ?_
  intro p e s m below meth c ls C hr htab hw hl
  have hx := C.1
  have hb := C.2.1
  have hown := C.2.2.2.1
  have hts := C.2.2.2.2.1
  have hl : lv_has ls 3 [(0, .ref (gb G + o)), (1, .ref (gb G + a0))] := hl
  unfold f_X9_tells at hf
  revert hf
  refine k_req (fun k0 hf => ?_)
  refine lv_aload_n hx hb dX9_tells_0 rfl (lv_at hl 0 rfl) ?_
  refine gq_X9_15 C hw k0 dX9_tells_1 ?_
  by_cases e12 : (V0.2.2 o 2) = none
  · replace hf := ite_t e12 hf
    refine w_topN e12 ?_
    refine lv_ifnullN (tgt := 22) hx hb dX9_tells_4 (by decide) ?_
    exact jk_X9_tells_22 C hr htab k0 hf hw (lv_sub hl [0, 1] rfl)
  · replace hf := ite_f e12 hf
    refine w_topS e12 (fun r13 => ?_)
    refine lv_ifnull hx hb dX9_tells_4 ?_
    refine lv_aload_n hx hb dX9_tells_7 rfl (lv_at hl 0 rfl) ?_
    revert hf
    refine k_drf (fun r7 er7 hf => ?_)
    refine gf_X9_15 C hw k0 er7 dX9_tells_8 ?_
    refine lv_aload_n hx hb dX9_tells_11 rfl (lv_at hl 1 rfl) ?_
    rcases of_hxl hf with ⟨z9, h8, hf⟩ | ⟨q10, h8, hf⟩
    · refine x_in hw (xv_X9_19 C hw (Nat.le_of_ble_eq_true rfl) (Nat.le_of_ble_eq_true rfl) (fun _ _ _ _ _ h => ok_testIs h) h8 hl.1 rfl (Nat.le_of_ble_eq_true rfl) ⟨Nat.zero_le _, Nat.zero_le _⟩ dX9_tells_12) (fun H locs hw => ?_)
      refine W.eq (g2 := F0 m 15 ls [.int z9]) rfl ?_
      refine lv_if_ne (tgt := 22) hx hb dX9_tells_15 (by decide) (fun c11 => ?_) (fun c11 => ?_)
      · replace hf := ite_f c11 hf
        exact jk_X9_tells_22 C hr htab k0 hf hw (lv_sub hl [0, 1] rfl)
      · replace hf := ite_t c11 hf
        refine lv_ldc2 (v := ((-4000000000) : Int64)) hx hb hown (hts _ q673) dX9_tells_18 ?_
        cases hf
        exact h_ret (w_lret C hr hw dX9_tells_21)
    · refine x_out hw (xv_X9_19 C hw (Nat.le_of_ble_eq_true rfl) (Nat.le_of_ble_eq_true rfl) (fun _ _ _ _ _ h => ok_testIs h) h8 hl.1 rfl (Nat.le_of_ble_eq_true rfl) ⟨Nat.zero_le _, Nat.zero_le _⟩ dX9_tells_12) (fun H locs ce hw g1 g2 g3 => ?_)
      refine h_catch2a C htab (by decide) (by decide) (by decide) q640 q291 g1 g2 g3 ?_
      refine lv_astore_n (lv' := [(2, .ref (gb G + q10)), (0, .ref (gb G + o)), (1, .ref (gb G + a0))]) hx hb dX9_tells_42 rfl hl (by decide) rfl (fun ls hl => ?_)
      refine lv_ldc2 (v := ((-4000000000) : Int64)) hx hb hown (hts _ q673) dX9_tells_43 ?_
      cases hf
      exact h_ret (w_lret C hr hw dX9_tells_46)
set_option maxHeartbeats 4000000 in
theorem jk_X19_told_71 {l : Launch} {G : gG} {p : Program} {e : Env} {s : State} {m : MethodId} {args : Array Value} {below : List Frame} {meth : Method} {c : Code} {T : Tt} {V0 : Vt} {r : Int64} (C : Cx G p s m args meth c cX19_told RX19 8) (hr : meth.sig.returnType = (some .long)) {x0 : Nat} {x1 : Int32} {x2 : Nat} {x3 : Int64} {x5 : Int32} {kc7 : Int64 → Int32 → Option (Int64)} {kx7_77 : Int64 → Option (Int64)} {H : Heap} {locs : List Loc} {ls : Array Slot} (k0 : T.1 x0 = 17) (hf : f_X19_told_J71 T V0 x0 x1 x2 x3 x5 kc7 kx7_77 = some r) (hw : wS G V0 T H locs) (hl : lv_has ls 8 [(0, .ref (gb G + x0)), (1, .int x1), (2, .ref (gb G + x2)), (3, .long x3), (5, .int x5)]) (hkc7 : ∀ (y3 : Int64) (y5 : Int32) (H : Heap) (locs : List Loc) (ls : Array Slot), kc7 y3 y5 = some r → wS G V0 T H locs → lv_has ls 8 [(0, .ref (gb G + x0)), (1, .int x1), (2, .ref (gb G + x2)), (3, .long y3), (5, .int y5)] → W p l e (rmL 423 0 0) s m args below meth c H locs 0 0 (eQ G below (some (.long r)) V0 T args s 0 0) (F0 m 7 ls [])) (hkx7_77 : ∀ (y3 : Int64) (H : Heap) (locs : List Loc) (ls : Array Slot), kx7_77 y3 = some r → wS G V0 T H locs → lv_has ls 8 [(3, .long y3)] → W p l e (rmL 423 0 0) s m args below meth c H locs 0 0 (eQ G below (some (.long r)) V0 T args s 0 0) (F0 m 77 ls [])) : W p l e (rmL 423 0 0) s m args below meth c H locs 0 0 (eQ G below (some (.long r)) V0 T args s 0 0) (F0 m 71 ls []) := by
  have hx := C.1
  have hb := C.2.1
  have hown := C.2.2.2.1
  have hts := C.2.2.2.2.1
  unfold f_X19_told_J71 at hf
  revert hf
  refine k_stp (fun z17 ez17 hf => ?_)
  refine lv_iinc (k := 4) (lv' := [(5, .int z17), (0, .ref (gb G + x0)), (1, .int x1), (2, .ref (gb G + x2)), (3, .long x3)]) hx hb dX19_told_71 hl rfl (inc_e (by decide) ez17) (by decide) rfl (fun ls hl => ?_)
  refine lv_goto (tgt := 7) hx hb dX19_told_74 (by decide) ?_
  exact hkc7 _ _ _ _ _ hf hw (lv_sub hl [1, 2, 3, 4, 0] rfl)
set_option maxHeartbeats 4000000 in
theorem lk_X19_told_7 {l : Launch} {G : gG} {p : Program} {e : Env} {s : State} {m : MethodId} {args : Array Value} {below : List Frame} {meth : Method} {c : Code} {T : Tt} {V0 : Vt} {r : Int64} (C : Cx G p s m args meth c cX19_told RX19 8) (hr : meth.sig.returnType = (some .long)) {x0 : Nat} {x1 : Int32} {x2 : Nat} {kx7_77 : Int64 → Option (Int64)} (k0 : T.1 x0 = 17) (hkx7_77 : ∀ (y3 : Int64) (H : Heap) (locs : List Loc) (ls : Array Slot), kx7_77 y3 = some r → wS G V0 T H locs → lv_has ls 8 [(3, .long y3)] → W p l e (rmL 423 0 0) s m args below meth c H locs 0 0 (eQ G below (some (.long r)) V0 T args s 0 0) (F0 m 77 ls [])) : ∀ (n : Nat) (x3 : Int64) (x5 : Int32) (H : Heap) (locs : List Loc) (ls : Array Slot), f_X19_told_L7 T V0 x0 x1 x2 kx7_77 n x3 x5 = some r → wS G V0 T H locs → lv_has ls 8 [(0, .ref (gb G + x0)), (1, .int x1), (2, .ref (gb G + x2)), (3, .long x3), (5, .int x5)] → W p l e (rmL 423 0 0) s m args below meth c H locs 0 0 (eQ G below (some (.long r)) V0 T args s 0 0) (F0 m 7 ls []) := by
  have hx := C.1
  have hb := C.2.1
  have hown := C.2.2.2.1
  have hts := C.2.2.2.2.1
  intro n
  induction n with
  | zero =>
    intro x3 x5 H locs ls hf
    cases hf
  | succ n ih =>
    intro x3 x5 H locs ls hf hw hl
    unfold f_X19_told_L7 at hf
    refine lv_iload hx hb dX19_told_7 (lv_at hl 4 rfl) ?_
    refine lv_aload_n hx hb dX19_told_9 rfl (lv_at hl 0 rfl) ?_
    revert hf
    refine k_drf (fun r1 er1 hf => ?_)
    refine gf_X19_9 C hw k0 er1 dX19_told_10 ?_
    revert hf
    refine k_pcl (fun z3 h2 hf => ?_)
    refine w_afi hw (w_rV (As := []) C hw (ok_J2_size h2) (cw_X19_17 hts (Nat.le_of_ble_eq_true rfl) (Nat.le_of_ble_eq_true rfl)) rfl (by decide) (of_req h2).1 rfl hl.1 rfl (Nat.le_of_ble_eq_true rfl) ⟨Nat.zero_le _, Nat.zero_le _⟩ dX19_told_13) (fun H locs hw => ?_)
    refine lv_icmp_ge (tgt := 77) hx hb dX19_told_16 (by decide) (fun c4 => ?_) (fun c4 => ?_)
    · replace hf := ite_t c4 hf
      exact hkx7_77 _ _ _ _ hf hw (lv_sub hl [3] rfl)
    · replace hf := ite_f c4 hf
      refine lv_aload_n hx hb dX19_told_19 rfl (lv_at hl 0 rfl) ?_
      revert hf
      refine k_drf (fun r5 er5 hf => ?_)
      refine gf_X19_9 C hw k0 er5 dX19_told_20 ?_
      refine lv_iload hx hb dX19_told_23 (lv_at hl 4 rfl) ?_
      revert hf
      refine k_pcl (fun r7 h6 hf => ?_)
      refine w_afr hw (w_rV (As := [.int x5]) C hw (ok_J2_get h6) (cw_X19_23 hts (Nat.le_of_ble_eq_true rfl) (Nat.le_of_ble_eq_true rfl)) rfl (by decide) (of_req h6).1 rfl hl.1 rfl (Nat.le_of_ble_eq_true rfl) ⟨Nat.zero_le _, Nat.zero_le _⟩ dX19_told_25) (fun H locs hw => ?_)
      revert hf
      refine k_req (fun k8 hf => ?_)
      refine w_castS (ci := 8) C hw rfl (by decide) k8 q635 dX19_told_28 ?_
      refine gf_X19_29 C hw k8 dX19_told_31 ?_
      refine lv_iload_n hx hb dX19_told_34 rfl (lv_at hl 1 rfl) ?_
      refine lv_icmp_eq (tgt := 41) hx hb dX19_told_35 (by decide) (fun c9 => ?_) (fun c9 => ?_)
      · replace hf := ite_t c9 hf
        refine lv_aload_n hx hb dX19_told_41 rfl (lv_at hl 0 rfl) ?_
        revert hf
        refine k_drf (fun r10 er10 hf => ?_)
        refine gf_X19_9 C hw k0 er10 dX19_told_42 ?_
        refine lv_iload hx hb dX19_told_45 (lv_at hl 4 rfl) ?_
        revert hf
        refine k_pcl (fun r12 h11 hf => ?_)
        refine w_afr hw (w_rV (As := [.int x5]) C hw (ok_J2_get h11) (cw_X19_23 hts (Nat.le_of_ble_eq_true rfl) (Nat.le_of_ble_eq_true rfl)) rfl (by decide) (of_req h11).1 rfl hl.1 rfl (Nat.le_of_ble_eq_true rfl) ⟨Nat.zero_le _, Nat.zero_le _⟩ dX19_told_47) (fun H locs hw => ?_)
        revert hf
        refine k_req (fun k13 hf => ?_)
        refine w_castS (ci := 8) C hw rfl (by decide) k13 q635 dX19_told_50 ?_
        refine lv_aload_n hx hb dX19_told_53 rfl (lv_at hl 2 rfl) ?_
        revert hf
        refine k_pcl (fun z15 h14 hf => ?_)
        refine w_afl hw (w_rH (As := [.ref (gb G + x2)]) C hw (ok_X9_tells h14) (cw_X19_33 hts (Nat.le_of_ble_eq_true rfl) (Nat.le_of_ble_eq_true rfl)) rfl (by decide) (of_req h14).1 rfl hl.1 rfl (Nat.le_of_ble_eq_true rfl) ⟨Nat.zero_le _, Nat.zero_le _⟩ dX19_told_54) (fun H locs hw => ?_)
        refine lv_lstore (lv' := [(6, .long z15), (0, .ref (gb G + x0)), (1, .int x1), (2, .ref (gb G + x2)), (3, .long x3), (5, .int x5)]) hx hb dX19_told_57 hl (by decide) rfl (fun ls hl => ?_)
        refine lv_lload hx hb dX19_told_59 (lv_at hl 0 rfl) ?_
        refine lv_ldc2 (v := ((-4000000000) : Int64)) hx hb hown (hts _ q629) dX19_told_61 ?_
        refine W.lcmp hx hb dX19_told_64 ?_
        refine lv_if_eq (tgt := 71) hx hb dX19_told_65 (by decide) (fun c16 => ?_) (fun c16 => ?_)
        · replace hf := ite_t c16 hf
          exact jk_X19_told_71 C hr k0 hf hw (lv_sub hl [1, 2, 3, 4, 5] rfl) ih hkx7_77
        · replace hf := ite_f c16 hf
          refine lv_lload hx hb dX19_told_68 (lv_at hl 0 rfl) ?_
          refine lv_lstore_n (lv' := [(3, .long z15), (6, .long z15), (0, .ref (gb G + x0)), (1, .int x1), (2, .ref (gb G + x2)), (5, .int x5)]) hx hb dX19_told_70 rfl hl (by decide) rfl (fun ls hl => ?_)
          exact jk_X19_told_71 C hr k0 hf hw (lv_sub hl [2, 3, 4, 0, 5] rfl) ih hkx7_77
      · replace hf := ite_f c9 hf
        refine lv_goto (tgt := 71) hx hb dX19_told_38 (by decide) ?_
        exact jk_X19_told_71 C hr k0 hf hw (lv_sub hl [0, 1, 2, 3, 4] rfl) ih hkx7_77
set_option maxHeartbeats 4000000 in
theorem ok_X19_told {l : Launch} {G : gG} {T : Tt} {V0 : Vt} {o : Nat} {a0 : Int32} {a1 : Nat} {r : Int64} (hf : f_X19_told T V0 o a0 a1 = some r) : okM l G yX19_told cX19_told 8 (some .long) 423 [.ref (gb G + o), .int a0, .ref (gb G + a1)] V0 T (some (.long r)) V0 T 0 0 := by
  refine ok_intro (by decide) (Nat.le_of_ble_eq_true rfl) ?_
  intro p e s m below meth c ls C hr hnm hw hl
  have hx := C.1
  have hb := C.2.1
  have hown := C.2.2.2.1
  have hts := C.2.2.2.2.1
  have hl : lv_has ls 8 [(0, .ref (gb G + o)), (1, .int a0), (2, .ref (gb G + a1))] := hl
  unfold f_X19_told at hf
  revert hf
  refine k_req (fun k0 hf => ?_)
  refine lv_ldc2 (v := ((-4000000000) : Int64)) hx hb hown (hts _ q629) dX19_told_0 ?_
  refine lv_lstore_n (lv' := [(3, .long ((-4000000000) : Int64)), (0, .ref (gb G + o)), (1, .int a0), (2, .ref (gb G + a1))]) hx hb dX19_told_3 rfl hl (by decide) rfl (fun ls hl => ?_)
  refine lv_iconst (v := (0 : Int32)) hx hb dX19_told_4 (by decide) ?_
  refine lv_istore (lv' := [(5, .int (0 : Int32)), (3, .long ((-4000000000) : Int64)), (0, .ref (gb G + o)), (1, .int a0), (2, .ref (gb G + a1))]) hx hb dX19_told_5 hl (by decide) rfl (fun ls hl => ?_)
  refine lk_X19_told_7 C hr k0 (fun z18 H locs ls hf hw hl => ?_) fuel _ _ _ _ _ hf hw (lv_sub hl [2, 3, 4, 1, 0] rfl)
  refine lv_lload_n hx hb dX19_told_77 rfl (lv_at hl 0 rfl) ?_
  cases hf
  exact w_lret C hr hw dX19_told_78
set_option maxHeartbeats 4000000 in
theorem ok_X19_init {l : Launch} {G : gG} {T : Tt} {V0 : Vt} {o : Nat} {a0 : Nat} {V' : Vt} (hf : f_X19_init T V0 o a0 = some V') : okM l G yX19_init cX19_init 2 none 1 [.ref (gb G + o), .ref (gb G + a0)] V0 T none V' T 0 0 := by
  refine ok_intro (by decide) (Nat.le_of_ble_eq_true rfl) ?_
  intro p e s m below meth c ls C hr hnm hw hl
  have hx := C.1
  have hb := C.2.1
  have hown := C.2.2.2.1
  have hts := C.2.2.2.2.1
  have hl : lv_has ls 2 [(0, .ref (gb G + o)), (1, .ref (gb G + a0))] := hl
  unfold f_X19_init at hf
  revert hf
  refine k_req (fun k0 hf => ?_)
  refine lv_aload_n hx hb dX19_init_0 rfl (lv_at hl 0 rfl) ?_
  refine W.objInit hx hb hown (hts _ q1199) (hts _ q174) (hts _ q175) rfl (by rw [C.2.2.1]; exact hl.1) rfl dX19_init_1 (Nat.le_of_ble_eq_true rfl) (Nat.le_of_ble_eq_true rfl) ?_
  refine W.eq (g2 := F0 m 4 ls []) rfl ?_
  refine lv_aload_n hx hb dX19_init_4 rfl (lv_at hl 0 rfl) ?_
  refine lv_aload_n hx hb dX19_init_5 rfl (lv_at hl 1 rfl) ?_
  revert hf
  refine k_stp (fun U1 eU1 hf => ?_)
  refine pf_X19_9 C hw k0 hnm eU1 dX19_init_6 (fun H locs hw => ?_)
  cases hf
  exact w_vret C hr hw dX19_init_9
set_option maxHeartbeats 4000000 in
theorem ok_X21_init {l : Launch} {G : gG} {T : Tt} {V0 : Vt} {o : Nat} {a0 : Nat} {V' : Vt} (hf : f_X21_init T V0 o a0 = some V') : okM l G yX21_init cX21_init 2 none 1 [.ref (gb G + o), .ref (gb G + a0)] V0 T none V' T 0 0 := by
  refine ok_intro (by decide) (Nat.le_of_ble_eq_true rfl) ?_
  intro p e s m below meth c ls C hr hnm hw hl
  have hx := C.1
  have hb := C.2.1
  have hown := C.2.2.2.1
  have hts := C.2.2.2.2.1
  have hl : lv_has ls 2 [(0, .ref (gb G + o)), (1, .ref (gb G + a0))] := hl
  unfold f_X21_init at hf
  revert hf
  refine k_req (fun k0 hf => ?_)
  refine lv_aload_n hx hb dX21_init_0 rfl (lv_at hl 0 rfl) ?_
  refine W.objInit hx hb hown (hts _ q1234) (hts _ q174) (hts _ q175) rfl (by rw [C.2.2.1]; exact hl.1) rfl dX21_init_1 (Nat.le_of_ble_eq_true rfl) (Nat.le_of_ble_eq_true rfl) ?_
  refine W.eq (g2 := F0 m 4 ls []) rfl ?_
  refine lv_aload_n hx hb dX21_init_4 rfl (lv_at hl 0 rfl) ?_
  refine lv_aload_n hx hb dX21_init_5 rfl (lv_at hl 1 rfl) ?_
  revert hf
  refine k_stp (fun U1 eU1 hf => ?_)
  refine pf_X21_7 C hw k0 hnm eU1 dX21_init_6 (fun H locs hw => ?_)
  cases hf
  exact w_vret C hr hw dX21_init_9
set_option maxHeartbeats 4000000 in
theorem ok_X4_init {l : Launch} {G : gG} {T : Tt} {V0 : Vt} {o : Nat} {r : Unit} (hf : f_X4_init T V0 o = some r) : okM l G yX4_init cX4_init 1 none 4 [.ref (gb G + o)] V0 T none V0 T 0 0 := by
  refine ok_intro (by decide) (Nat.le_of_ble_eq_true rfl) ?_
  intro p e s m below meth c ls C hr hnm hw hl
  have hx := C.1
  have hb := C.2.1
  have hown := C.2.2.2.1
  have hts := C.2.2.2.2.1
  have hl : lv_has ls 1 [(0, .ref (gb G + o))] := hl
  unfold f_X4_init at hf
  revert hf
  refine k_req (fun k0 hf => ?_)
  refine lv_aload_n hx hb dX4_init_0 rfl (lv_at hl 0 rfl) ?_
  refine lv_null hx hb dX4_init_1 ?_
  refine lv_null hx hb dX4_init_2 ?_
  refine lv_iconst (v := (0 : Int32)) hx hb dX4_init_3 (by decide) ?_
  refine lv_iconst (v := (0 : Int32)) hx hb dX4_init_4 (by decide) ?_
  revert hf
  refine k_pcl (fun z2 h1 hf => ?_)
  refine w_afv hw (w_rI (As := [.null, .null, .int (0 : Int32), .int (0 : Int32)]) C hw (ok_J4_init h1) (cw_X4_1 hts (Nat.le_of_ble_eq_true rfl) (Nat.le_of_ble_eq_true rfl)) rfl hl.1 rfl (Nat.le_of_ble_eq_true rfl) ⟨Nat.zero_le _, Nat.zero_le _⟩ dX4_init_5) (fun H locs hw => ?_)
  cases hf
  exact w_vret C hr hw dX4_init_8
set_option maxHeartbeats 4000000 in
theorem ok_X3_init {l : Launch} {G : gG} {T : Tt} {V0 : Vt} {o : Nat} {V' : Vt} {T' : Tt} {n k : Nat} (hf : f_X3_init T V0 o = some ((V', T'), n, k)) : okM l G yX3_init cX3_init 1 none 5 [.ref (gb G + o)] V0 T none V' T' n k := by
  refine ok_intro (by decide) (Nat.le_of_ble_eq_true rfl) ?_
  intro p e s m below meth c ls C hr hnm hw hl
  have hx := C.1
  have hb := C.2.1
  have hown := C.2.2.2.1
  have hts := C.2.2.2.2.1
  have hl : lv_has ls 1 [(0, .ref (gb G + o))] := hl
  unfold f_X3_init at hf
  revert hf
  refine k_req (fun k0 hf => ?_)
  obtain ⟨mc, emc⟩ : ∃ mc, mc = n := ⟨_, rfl⟩
  obtain ⟨ms, ems⟩ : ∃ ms, ms = k := ⟨_, rfl⟩
  have hn : 0 + n = mc := by omega
  have hk : 0 + k = ms := by omega
  rw [← emc, ← ems]
  clear emc ems
  refine lv_aload_n hx hb dX3_init_0 rfl (lv_at hl 0 rfl) ?_
  refine W.objInit hx hb hown (hts _ q288) (hts _ q174) (hts _ q175) rfl (by rw [C.2.2.1]; exact hl.1) rfl dX3_init_1 (Nat.le_of_ble_eq_true rfl) (Nat.le_of_ble_eq_true rfl) ?_
  refine W.eq (g2 := F0 m 4 ls []) rfl ?_
  refine lv_aload_n hx hb dX3_init_4 rfl (lv_at hl 0 rfl) ?_
  revert hf
  refine k_inc (fun n1 k1 hf en ek => ?_)
  revert hf
  refine k_stp (fun q1 eq1 hf => ?_)
  revert hf
  refine k_stp (fun U2 eU2 hf => ?_)
  revert hf
  refine k_stp (fun T3 eT3 hf => ?_)
  refine nw_X4 C hw q289 (by show _ ≤ mc; omega) (by show _ ≤ ms; omega) eq1 eU2 eT3 dX3_init_5 (fun H hw => ?_)
  replace hn := add_r hn en
  replace hk := add_r hk ek
  clear en ek
  generalize n1 = n at hf hn
  generalize k1 = k at hf hk
  refine lv_dup hx hb dX3_init_8 rfl ?_
  revert hf
  refine k_pcl (fun z5 h4 hf => ?_)
  refine w_afv hw (w_rI (As := []) C hw (ok_X4_init h4) (cw_X3_11 hts (Nat.le_of_ble_eq_true rfl) (Nat.le_of_ble_eq_true rfl)) rfl hl.1 rfl (Nat.le_of_ble_eq_true rfl) ⟨by show _ + 0 ≤ mc; omega, by show _ + 0 ≤ ms; omega⟩ dX3_init_9) (fun H locs hw => ?_)
  revert hf
  refine k_req (fun k6 hf => ?_)
  revert hf
  refine k_stp (fun U7 eU7 hf => ?_)
  refine pf_X3_12 C hw k6 hnm eU7 dX3_init_12 (fun H locs hw => ?_)
  refine lv_aload_n hx hb dX3_init_15 rfl (lv_at hl 0 rfl) ?_
  refine lv_bipush (v := (28 : Int32)) hx hb dX3_init_16 (by decide) ?_
  revert hf
  refine k_req (fun h8 hf => ?_)
  revert hf
  refine k_inc (fun n1 k1 hf en ek => ?_)
  revert hf
  refine k_stp (fun q9 eq9 hf => ?_)
  revert hf
  refine k_stp (fun U10 eU10 hf => ?_)
  revert hf
  refine k_stp (fun T11 eT11 hf => ?_)
  refine w_newa (t := 1) (atype := .long) C hw (by decide) rfl q360 h8.1 h8.2 (by show _ ≤ mc; omega) (by show _ ≤ ms; omega) eq9 eU10 eT11 dX3_init_18 (fun H hw => ?_)
  replace hn := add_r hn en
  replace hk := add_r hk ek
  clear en ek
  generalize n1 = n at hf hn
  generalize k1 = k at hf hk
  revert hf
  refine k_req (fun k12 hf => ?_)
  revert hf
  refine k_stp (fun U13 eU13 hf => ?_)
  refine pf_X3_18 C hw k12 hnm eU13 dX3_init_20 (fun H locs hw => ?_)
  cases hf
  cases hn
  cases hk
  exact w_vret C hr hw dX3_init_23
set_option maxHeartbeats 4000000 in
theorem ok_X8_init {l : Launch} {G : gG} {T : Tt} {V0 : Vt} {o : Nat} {a0 : Int32} {V' : Vt} (hf : f_X8_init T V0 o a0 = some V') : okM l G yX8_init cX8_init 2 none 4 [.ref (gb G + o), .int a0] V0 T none V' T 0 0 := by
  refine ok_intro (by decide) (Nat.le_of_ble_eq_true rfl) ?_
  intro p e s m below meth c ls C hr hnm hw hl
  have hx := C.1
  have hb := C.2.1
  have hown := C.2.2.2.1
  have hts := C.2.2.2.2.1
  have hl : lv_has ls 2 [(0, .ref (gb G + o)), (1, .int a0)] := hl
  unfold f_X8_init at hf
  revert hf
  refine k_req (fun k0 hf => ?_)
  refine lv_aload_n hx hb dX8_init_0 rfl (lv_at hl 0 rfl) ?_
  refine lv_null hx hb dX8_init_1 ?_
  refine lv_null hx hb dX8_init_2 ?_
  refine lv_iconst (v := (0 : Int32)) hx hb dX8_init_3 (by decide) ?_
  refine lv_iconst (v := (0 : Int32)) hx hb dX8_init_4 (by decide) ?_
  revert hf
  refine k_pcl (fun z2 h1 hf => ?_)
  refine w_afv hw (w_rI (As := [.null, .null, .int (0 : Int32), .int (0 : Int32)]) C hw (ok_J4_init h1) (cw_X8_1 hts (Nat.le_of_ble_eq_true rfl) (Nat.le_of_ble_eq_true rfl)) rfl hl.1 rfl (Nat.le_of_ble_eq_true rfl) ⟨Nat.zero_le _, Nat.zero_le _⟩ dX8_init_5) (fun H locs hw => ?_)
  refine lv_aload_n hx hb dX8_init_8 rfl (lv_at hl 0 rfl) ?_
  refine lv_iload_n hx hb dX8_init_9 rfl (lv_at hl 1 rfl) ?_
  revert hf
  refine k_stp (fun U3 eU3 hf => ?_)
  refine pf_X8_7 C hw k0 hnm eU3 dX8_init_10 (fun H locs hw => ?_)
  cases hf
  exact w_vret C hr hw dX8_init_13
set_option maxHeartbeats 4000000 in
theorem ok_X9_init {l : Launch} {G : gG} {T : Tt} {V0 : Vt} {o : Nat} {a0 : Int32} {V' : Vt} (hf : f_X9_init T V0 o a0 = some V') : okM l G yX9_init cX9_init 2 none 1 [.ref (gb G + o), .int a0] V0 T none V' T 0 0 := by
  refine ok_intro (by decide) (Nat.le_of_ble_eq_true rfl) ?_
  intro p e s m below meth c ls C hr hnm hw hl
  have hx := C.1
  have hb := C.2.1
  have hown := C.2.2.2.1
  have hts := C.2.2.2.2.1
  have hl : lv_has ls 2 [(0, .ref (gb G + o)), (1, .int a0)] := hl
  unfold f_X9_init at hf
  revert hf
  refine k_req (fun k0 hf => ?_)
  refine lv_aload_n hx hb dX9_init_0 rfl (lv_at hl 0 rfl) ?_
  refine W.objInit hx hb hown (hts _ q890) (hts _ q174) (hts _ q175) rfl (by rw [C.2.2.1]; exact hl.1) rfl dX9_init_1 (Nat.le_of_ble_eq_true rfl) (Nat.le_of_ble_eq_true rfl) ?_
  refine W.eq (g2 := F0 m 4 ls []) rfl ?_
  refine lv_aload_n hx hb dX9_init_4 rfl (lv_at hl 0 rfl) ?_
  refine lv_iload_n hx hb dX9_init_5 rfl (lv_at hl 1 rfl) ?_
  revert hf
  refine k_stp (fun U1 eU1 hf => ?_)
  refine pf_X9_9 C hw k0 hnm eU1 dX9_init_6 (fun H locs hw => ?_)
  cases hf
  exact w_vret C hr hw dX9_init_9
