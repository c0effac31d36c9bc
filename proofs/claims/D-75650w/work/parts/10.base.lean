/-! THE PURE MEMORY, AND THE WORLD OVER IT. A cell that the law's run makes is a handle (its address less the heap's size at the law's entry). Memory: values by handle and place (ints, longs, references), kinds, lengths, how many. -/
set_option maxRecDepth 100000
abbrev vwCl : List vw_C := [(RX0, TX0, 26), (RX1, TX1, 12), (RX2, TX2, 3), (RX3, TX3, 2), (RX4, TX4, 6), (RX5, TX5, 55), (RX7, TX7, 8), (RX8, TX8, 7), (RX9, TX9, 3), (RX11, TX11, 1), (RX12, TX12, 1), (RX13, TX13, 3), (RX15, TX15, 3), (RX16, TX16, 1), (RX17, TX17, 2), (RX18, TX18, 4), (RX19, TX19, 1), (RX20, TX20, 8), (RX21, TX21, 1), (RJ2, TJ2, 3)]
abbrev gG : Type := va_G × (Nat → ClassId) × State
/-- the heap's size at the law's entry: the first handle's address -/
abbrev gb (G : gG) : Nat := G.2.2.heap.size
abbrev Vt : Type := (Nat → Nat → Int32) × (Nat → Nat → Int64) × (Nat → Nat → Option Nat)
abbrev Tt : Type := (Nat → Nat) × (Nat → Nat) × Nat
def up {α : Type} (f : Nat → α) (k : Nat) (x : α) : Nat → α := fun j => if j = k then x else f j
theorem up_s {α : Type} {f : Nat → α} {k : Nat} {x : α} : up f k x k = x := by simp [up]
theorem up_n {α : Type} {f : Nat → α} {k j : Nat} {x : α} (h : j ≠ k) : up f k x j = f j := by simp [up, h]
def uI (V : Vt) (a k : Nat) (x : Int32) : Vt := (up V.1 a (up (V.1 a) k x), V.2)
def uL (V : Vt) (a k : Nat) (x : Int64) : Vt := (V.1, up V.2.1 a (up (V.2.1 a) k x), V.2.2)
def uR (V : Vt) (a k : Nat) (x : Option Nat) : Vt := (V.1, V.2.1, up V.2.2 a (up (V.2.2 a) k x))
def rfv (b : Nat) (r : Option Nat) : Value := match r with
  | none => .null
  | some x => .ref (b + x)
/-- the value at a place, by its kind: 0 an int, 1 a long, else a reference -/
def fv (b : Nat) (V : Vt) (a k t : Nat) : Value := if t = 0 then .int (V.1 a k) else if t = 1 then .long (V.2.1 a k) else rfv b (V.2.2 a k)
def tyTag (t : FieldType) : Nat := match t with
  | .object _ => 2
  | .array _ => 2
  | .long => 1
  | _ => 0
/-- the kinds of a class's fields (3: a field of Throwable, whose value isn't kept) -/
def layF (c k : Nat) : Nat := match c with
  | 0 => tyTag (tyX0 k)
  | 1 => tyTag (tyX1 k)
  | 2 => tyTag (tyX2 k)
  | 3 => 2
  | 4 => 3
  | 5 => tyTag (tyX5 k)
  | 6 => tyTag (tyX7 k)
  | 7 => if k = 6 then 0 else 3
  | 8 => tyTag (tyX9 k)
  | 11 => tyTag (tyX13 k)
  | 12 => tyTag (tyX15 k)
  | 13 => 2
  | 14 => tyTag (tyX17 k)
  | 15 => tyTag (tyX18 k)
  | 16 => 2
  | 17 => tyTag (tyX20 k)
  | 18 => 2
  | 19 => tyTag (tyJ2 k)
  | _ => 0
def aTy (t : Nat) : FieldType := match t with
  | 0 => .int
  | 1 => .long
  | 2 => .byte
  | 3 => .boolean
  | 4 => .object "java/lang/Object"
  | 5 => .object "SoleraCellar$Table"
  | 6 => .object "SoleraCellar$State"
  | _ => .object "SoleraCellar$Sum"
def aEl (t : Nat) : Nat := match t with
  | 0 => 0
  | 1 => 1
  | 2 => 0
  | 3 => 0
  | _ => 2
abbrev tysG (G : gG) : List (ClassId × FieldType) := (List.range 8).map fun t => (G.2.1 t, aTy t)
/-- an object of class number c at the handle k: kind c + 1; an array of kind t: 100 + t -/
def cAt (G : gG) (V : Vt) (T : Tt) (k : Nat) (H : Heap) : Prop :=
  (∀ c, T.1 k = c + 1 → c < 99 → ∃ (r : vw_C) (F : Nat → Value), vwCl[c]? = some r ∧ (∀ j, j < r.2.2 → layF c j ≠ 3 → F j = fv (gb G) V k j (layF c j)) ∧ t_OB (gb G + k) (G.1.1 c) r.2.2 (G.1.2 c) H F) ∧
  ∀ t, T.1 k = 100 + t → H[gb G + k]? = some (arrV (G.2.1 t) (T.2.1 k) (fun j => fv (gb G) V k j (aEl t)))
def wld (G : gG) (V : Vt) (T : Tt) (H : Heap) : Prop := H.size = gb G + T.2.2 ∧ (∀ q : Nat, q < gb G → H[q]? = G.2.2.heap[q]?) ∧ ∀ k, T.1 k ≠ 0 → k < T.2.2 ∧ cAt G V T k H
def wS (G : gG) (V : Vt) (T : Tt) (H : Heap) (locs : List Loc) : Prop := wld G V T H ∧ ∀ q ∈ locs, gb G ≤ q.base
/-- the address of a String constant -/
abbrev adK (G : gG) (k : Nat) : Nat := G.1.2 99 k
def strF (G : gG) : Prop := ∀ (k : Nat) (q : String × Nat × String × List Int32), strL[k]? = some q → vk_R q.1 q.2.1 q.2.2.1 (adK G k) G.2.2 ∧ va_O "java/lang/String" (adK G k) (fun a => gb G ≤ a) G.2.2 G.2.2.heap ∧ va_OF "java/lang/String" "coder" "B" (.int 0) (adK G k) (fun a => gb G ≤ a) G.2.2 G.2.2.heap ∧ ∃ v : Nat, va_OF "java/lang/String" "value" "[B" (.ref v) (adK G k) (fun a => gb G ≤ a) G.2.2 G.2.2.heap ∧ va_T .byte v q.2.2.2.length (fun j => .int (q.2.2.2.getD j 0)) (fun a => gb G ≤ a) G.2.2 G.2.2.heap
/-- what is known at the law's entry; and that a state's tables are that one's, warmed -/
def GF (G : gG) : Prop := va_K G.1 vwCl (tysG G) G.2.2 ∧ ∃ b : Nat, (∀ w ∈ lw_tbl, w.before #[Value.ref b] G.2.2 = true) ∧ (Jvm.Cond.and given_1 narrow_1).before #[Value.ref b] G.2.2 = true ∧ strF G
def KX (G : gG) (U : State) : Prop := GF G ∧ G.2.2.WarmedH U.vm
theorem KX.K {G : gG} {U : State} (h : KX G U) : va_K G.1 vwCl (tysG G) U := va_K.moved h.2.alike h.1.1
theorem KX.on {G : gG} {s U : State} (h : KX G s) (hW : s.WarmedH U.vm) : KX G U := ⟨h.1, State.WarmedH.trans h.2 hW⟩
theorem KX.same {G : gG} {s U : State} (h : KX G s) (e : U.vm = s.vm) : KX G U := ⟨h.1, by rw [e]; exact h.2⟩
def Cx (G : gG) (p : Program) (s : State) (m : MethodId) (args : Array Value) (meth : Method) (c : Code) (cc : ByteArray) (own : String) (nL : Nat) : Prop :=
  p.tables.exec = Jvm.exec ∧ c.code = cc ∧ c.maxLocals = nL ∧ s.vm.findClass own = some m.cls ∧ (∀ w ∈ lw_all, w.before args s = true) ∧ va_K G.1 vwCl (tysG G) s ∧ meth.locks = false ∧ KX G s
abbrev rmL (lev mc ms : Nat) : Room := { frames := lev, cells := mc, slots := ms, locals := 64 * lev }
/-- a contract: it returns rv, the memory V T becomes V' T' -/
def okM (l : Launch) (G : gG) (y : MethodName) (code : ByteArray) (nL : Nat) (ret : Option FieldType) (lev : Nat) (av : List Value) (V : Vt) (T : Tt) (rv : Option Value) (V' : Vt) (T' : Tt) (mc ms : Nat) : Prop :=
  Met l y (ws_ y code nL ret) (rmL lev mc ms) (va_Pc av (fun U => wld G V T U.heap ∧ KX G U)) (fun _ _ oc t => oc = .returned rv ∧ wld G V' T' t.heap) mc ms (fun q => gb G ≤ q)
abbrev eQ (G : gG) (below : List Frame) (rv : Option Value) (V' : Vt) (T' : Tt) (args : Array Value) (s : State) (mc ms : Nat) : State → Prop := MQ below (fun _ _ oc t => oc = .returned rv ∧ wld G V' T' t.heap) args s mc ms (fun q => gb G ≤ q)
theorem ok_intro {l : Launch} {G : gG} {y : MethodName} {code : ByteArray} {nL : Nat} {ret : Option FieldType} {lev : Nat} {av : List Value} {V : Vt} {T : Tt} {rv : Option Value} {V' : Vt} {T' : Tt} {mc ms : Nat} (hy : plainName y.cls = true) (hlen : (lg_sl av).length ≤ nL)
    (body : ∀ (p : Program) (e : Env) (s : State) (m : MethodId) (below : List Frame) (meth : Method) (c : Code) (ls : Array Slot), Cx G p s m av.toArray meth c code y.cls nL → meth.sig.returnType = ret → meth.name = y.name → wS G V T s.heap [] → lv_has ls nL (lv_args 0 av) →
      W p l e (rmL lev mc ms) s m av.toArray below meth c s.heap [] 0 0 (eQ G below rv V' T' av.toArray s mc ms) (F0 m 0 ls [])) : okM l G y code nL ret lev av V T rv V' T' mc ms := by
  refine Met.ofW (cc := code) (maxL := nL) (ret := ret) hy rfl ?_
  intro p e s m args below meth c s₁ B hml hv
  obtain ⟨rfl, hw, hK⟩ := hv
  have hts := atoms_spec (ws := ws_ y code nL ret) B.pre
  have hl := lv_entry av (n := nL) hlen
  rw [lg_entry_eq]
  exact body p e s m below meth c _ ⟨B.exec, B.bytes, hml, findClass_of_methodNamed B.named, fun w h => hts w (List.mem_cons_of_mem _ h), hK.K, B.notSynchronized, hK⟩ B.returns (name_of_methodNamed B.named B.method).1 ⟨hw, fun q h => by cases h⟩ hl
theorem cAt.kept {G : gG} {V : Vt} {T : Tt} {k : Nat} {H H1 : Heap} (h : cAt G V T k H) (hq : H1[gb G + k]? = H[gb G + k]?) : cAt G V T k H1 := by
  refine ⟨fun c h1 h2 => ?_, fun t ht => ?_⟩
  · obtain ⟨r, F, h3, h5, h4⟩ := h.1 c h1 h2
    exact ⟨r, F, h3, h5, h4.kept hq⟩
  · rw [hq]; exact h.2 t ht
theorem cAt.eq {G : gG} {V V' : Vt} {T : Tt} {k : Nat} {H : Heap} (h : cAt G V T k H) (h1 : V'.1 k = V.1 k) (h2 : V'.2.1 k = V.2.1 k) (h3 : V'.2.2 k = V.2.2 k) : cAt G V' T k H := by
  have e : ∀ j t, fv (gb G) V' k j t = fv (gb G) V k j t := by
    intro j t
    unfold fv
    rw [h1, h2, h3]
  refine ⟨fun c q1 q2 => ?_, fun t ht => ?_⟩
  · obtain ⟨r, F, h3, h5, h4⟩ := h.1 c q1 q2
    exact ⟨r, F, h3, fun j a b => (h5 j a b).trans (e j _).symm, h4⟩
  · rw [h.2 t ht]
    congr 2
    funext j
    exact (e j _).symm
theorem tysG_at (G : gG) {t : Nat} (h : t < 8) : (tysG G)[t]? = some (G.2.1 t, aTy t) := by simp [h]
/-- one cell is written anew, all else stays -/
theorem wld.put {G : gG} {V V' : Vt} {T : Tt} {H H1 : Heap} {a : Nat} (h : wld G V T H) (hz : H1.size = H.size) (ho : ∀ q, q ≠ gb G + a → H1[q]? = H[q]?)
    (hV : ∀ k, k ≠ a → V'.1 k = V.1 k ∧ V'.2.1 k = V.2.1 k ∧ V'.2.2 k = V.2.2 k) (ha : cAt G V' T a H1) : wld G V' T H1 := by
  refine ⟨hz.trans h.1, fun q hq => ?_, fun k hk => ?_⟩
  · rw [ho q (by omega)]
    exact h.2.1 q hq
  · obtain ⟨h1, h2⟩ := h.2.2 k hk
    refine ⟨h1, ?_⟩
    by_cases e : k = a
    · subst e; exact ha
    · obtain ⟨e1, e2, e3⟩ := hV k e
      exact (h2.kept (ho _ (by omega))).eq e1 e2 e3
theorem wS.locs {G : gG} {V V' : Vt} {T T' : Tt} {H H1 : Heap} {locs : List Loc} {a k : Nat} (h : wS G V T H locs) (h1 : wld G V' T' H1) : wS G V' T' H1 (locs ++ [⟨gb G + a, k⟩]) := by
  refine ⟨h1, fun q hq => ?_⟩
  rcases List.mem_append.mp hq with h2 | h2
  · exact h.2 q h2
  · rw [List.mem_singleton.mp h2]
    exact Nat.le_add_right _ _
section WROWS
variable {p : Program} {l : Launch} {e : Env} {R : Room} {s : State} {m : MethodId} {args : Array Value} {below : List Frame} {meth : Method} {c : Code} {H : Heap} {locs : List Loc} {cells slots : Nat} {Q : State → Prop}
variable {cc : ByteArray} {pc : Nat} {ls : Array Slot} {rest : List Value} {G : gG} {V V' : Vt} {T : Tt} {own : String} {nL a : Nat}
/-- a cell of the world, as the kit's rows take it -/
theorem wP_obj (hw : wS G V T H locs) {ci : Nat} {C : String} {Tb : u_T} {N : Nat} (hc : vwCl[ci]? = some (C, Tb, N)) (ha : T.1 a = ci + 1) (h9 : ci < 99) : ∃ F : Nat → Value, (∀ j, j < N → layF ci j ≠ 3 → F j = fv (gb G) V a j (layF ci j)) ∧ t_OB (gb G + a) (G.1.1 ci) N (G.1.2 ci) H F := by
  obtain ⟨-, h2⟩ := hw.1.2.2 a (by omega)
  obtain ⟨r, F, h3, h5, h4⟩ := h2.1 ci ha h9
  rw [hc] at h3
  cases h3
  exact ⟨F, h5, h4⟩
theorem w_get (C : Cx G p s m args meth c cc own nL) (hw : wS G V T H locs) {ci index k : Nat} {Cn ref : String} {Tb : u_T} {N : Nat} (hc : vwCl[ci]? = some (Cn, Tb, N)) (h9 : ci < 99) (hk : k < N) (hin : ∀ w ∈ u_ws Cn Tb N, w ∈ lw_all) (hlink : Cond.fieldLink own index ref (Tb k).2.1 (Tb k).2.2.1 ∈ lw_all) (hsame : ∀ x, s.fieldFound? (Tb k).1 (Tb k).2.1 (Tb k).2.2.1 = some x → s.fieldFound? ref (Tb k).2.1 (Tb k).2.2.1 = some x)
    (ha : T.1 a = ci + 1) {v : Value} (hv : fv (gb G) V a k (layF ci k) = v) (hdg : decode cc pc = .ok (.getfield index, 3))
    (kk : W p l e R s m args below meth c H locs cells slots Q (F0 m (pc + 3) ls (v :: rest))) (htag : layF ci k ≠ 3 := by decide) : W p l e R s m args below meth c H locs cells slots Q (F0 m pc ls (.ref (gb G + a) :: rest)) := by
  obtain ⟨hx, hb, -, hown, hts, hK, -⟩ := C
  obtain ⟨F, hF, cell, q1, q2, q3, q4⟩ := wP_obj hw hc ha h9
  obtain ⟨hS, hfc, kC, hkC, hkind⟩ := hK.1 ci _ hc
  obtain ⟨cf, kf, fi, f, hi, hsl⟩ := hS k hk
  refine W.getf hx hb hown (hts _ hlink) (hsame _ hi) (u_facts hfc hkC (u_lays hts hin hk) hi).1 q1 (by rw [q3]; exact fun h => by cases h) (v := v) ?_ rfl rfl hdg kk
  rw [hsl, q4 k hk]
  exact congrArg some ((hF k hk htag).trans hv)
/-- a field is written: its value, the rest of the cell as it was -/
theorem w_put0 (C : Cx G p s m args meth c cc own nL) (hw : wS G V T H locs) {ci index k : Nat} {Cn ref : String} {Tb : u_T} {N : Nat} (hc : vwCl[ci]? = some (Cn, Tb, N)) (h9 : ci < 99) (hk : k < N) (hin : ∀ w ∈ u_ws Cn Tb N, w ∈ lw_all) (ty0 : Nat → FieldType) (hty : ∀ k, k < N → parseFieldDescriptor (Tb k).2.2.1 = some (ty0 k)) (hnm : ∀ a, a < N → ∀ b, b < N → a ≠ b → (Tb a).2.1 ≠ (Tb b).2.1) (hlink : Cond.fieldLink own index ref (Tb k).2.1 (Tb k).2.2.1 ∈ lw_all) (hsame : ∀ x, s.fieldFound? (Tb k).1 (Tb k).2.1 (Tb k).2.2.1 = some x → s.fieldFound? ref (Tb k).2.1 (Tb k).2.2.1 = some x)
    (hfin : (Tb k).2.2.2 = false) {v : Value} (hn : narrow (ty0 k) v = v) (hfit : fits (ty0 k) v = true)
    (ha : T.1 a = ci + 1) (hV : ∀ k, k ≠ a → V'.1 k = V.1 k ∧ V'.2.1 k = V.2.1 k ∧ V'.2.2 k = V.2.2 k) (hv : ∀ j, j < N → fv (gb G) V' a j (layF ci j) = if j = k then v else fv (gb G) V a j (layF ci j)) (hdg : decode cc pc = .ok (.putfield index, 3))
    (kk : ∀ (H1 : Heap) (locs1 : List Loc), wS G V' T H1 locs1 → W p l e R s m args below meth c H1 locs1 cells slots Q (F0 m (pc + 3) ls rest)) : W p l e R s m args below meth c H locs cells slots Q (F0 m pc ls (v :: .ref (gb G + a) :: rest)) := by
  obtain ⟨hx, hb, -, hown, hts, hK, -⟩ := C
  have hap := va_apart (own := own) hts hin ty0 hty hnm hK hc
  obtain ⟨F, hF, cell, q1, q2, q3, q4⟩ := wP_obj hw hc ha h9
  obtain ⟨hS, hfc, kC, hkC, hkind⟩ := hK.1 ci _ hc
  obtain ⟨cf, kf, fi, f, hi, hsl⟩ := hS k hk
  have hlay := hts _ (hin _ (u_in_lay hk))
  unfold u_lay at hlay
  rw [if_neg (by rw [hfin]; decide)] at hlay
  have hst := (u_facts hfc hkC (u_lays hts hin hk) hi).1
  have h6 := u_store hfc hkC hkind hlay hi (hty k hk) hn hfit
  refine W.putK hx hb (f := f) ⟨hown, hts _ hlink, ⟨_, _, _, hsame _ hi⟩, hst⟩ (by rw [q2]; exact h6) q1 q3 (by rw [hsl]; exact k2_hasslot (q4 k hk)) rfl rfl hdg fun H' e1 e2 e3 => ?_
  rw [hsl] at e1 ⊢
  refine kk H' _ (hw.locs (hw.1.put e2 e3 hV ⟨fun c' g1 g2 => ?_, fun t ht => by omega⟩))
  obtain rfl : c' = ci := by omega
  refine ⟨_, updV F k v, hc, fun j hj ht => ?_, ⟨_, e1, q2, q3, t_set q4 hap hk v⟩⟩
  rw [hv j hj]
  by_cases ej : j = k
  · rw [if_pos ej]; simp [updV, ej]
  · rw [if_neg ej, ← hF j hj ht]; simp [updV, ej]
theorem uI_o {V : Vt} {a k : Nat} {x : Int32} : ∀ q, q ≠ a → (uI V a k x).1 q = V.1 q ∧ (uI V a k x).2.1 q = V.2.1 q ∧ (uI V a k x).2.2 q = V.2.2 q := fun q h => ⟨by simp [uI, up, h], rfl, rfl⟩
theorem uL_o {V : Vt} {a k : Nat} {x : Int64} : ∀ q, q ≠ a → (uL V a k x).1 q = V.1 q ∧ (uL V a k x).2.1 q = V.2.1 q ∧ (uL V a k x).2.2 q = V.2.2 q := fun q h => ⟨rfl, by simp [uL, up, h], rfl⟩
theorem uR_o {V : Vt} {a k : Nat} {x : Option Nat} : ∀ q, q ≠ a → (uR V a k x).1 q = V.1 q ∧ (uR V a k x).2.1 q = V.2.1 q ∧ (uR V a k x).2.2 q = V.2.2 q := fun q h => ⟨rfl, rfl, by simp [uR, up, h]⟩
theorem uI_f {b : Nat} {V : Vt} {a k : Nat} {x : Int32} {L : Nat → Nat} (h : L k = 0) (j : Nat) : fv b (uI V a k x) a j (L j) = if j = k then .int x else fv b V a j (L j) := by
  by_cases e : j = k
  · subst e; simp [fv, h, uI, up]
  · simp [fv, uI, up, e]
theorem uL_f {b : Nat} {V : Vt} {a k : Nat} {x : Int64} {L : Nat → Nat} (h : L k = 1) (j : Nat) : fv b (uL V a k x) a j (L j) = if j = k then .long x else fv b V a j (L j) := by
  by_cases e : j = k
  · subst e; simp [fv, h, uL, up]
  · simp [fv, uL, up, e]
theorem uR_f {b : Nat} {V : Vt} {a k : Nat} {x : Option Nat} {L : Nat → Nat} (h : L k = 2) (j : Nat) : fv b (uR V a k x) a j (L j) = if j = k then rfv b x else fv b V a j (L j) := by
  by_cases e : j = k
  · subst e; simp [fv, h, uR, up]
  · simp [fv, uR, up, e]
abbrev ixN (i : Int32) : Nat := i.toNatClampNeg
/-- an array's kind and an index within it -/
abbrev aIn (T : Tt) (a t : Nat) (i : Int32) : Prop := T.1 a = 100 + t ∧ ¬ i < 0 ∧ ixN i < T.2.1 a
theorem wP_arr (hw : wS G V T H locs) {t : Nat} (ha : T.1 a = 100 + t) : H[gb G + a]? = some (arrV (G.2.1 t) (T.2.1 a) (fun j => fv (gb G) V a j (aEl t))) := (hw.1.2.2 a (by omega)).2.2 t ha
theorem wP_K (C : Cx G p s m args meth c cc own nL) {t : Nat} (h : t < 8) : ArrOfT s (G.2.1 t) (aTy t) := (C.2.2.2.2.2.1.2 t _ (tysG_at G h)).1
theorem aIn_o {t : Nat} {i : Int32} {f : Nat → Value} {cA : ClassId} (h : aIn T a t i) : ¬ (i < 0 ∨ (arrV cA (T.2.1 a) f).slots.size ≤ i.toNatClampNeg) := by
  rw [arrV_size]
  rintro (h1 | h1)
  · exact h.2.1 h1
  · exact absurd h.2.2 (by show ¬ i.toNatClampNeg < _; omega)
theorem arrV_at {cA : ClassId} {N k : Nat} {f : Nat → Value} (h : k < N) : (arrV cA N f).slots[k]? = some (f k) := by
  simp [arrV, h]
theorem w_iald (C : Cx G p s m args meth c cc own nL) (hw : wS G V T H locs) {i x : Int32} (hi : aIn T a 0 i) (ex : x = V.1 a (ixN i)) (hdg : decode cc pc = .ok (.iaload, 1))
    (kk : W p l e R s m args below meth c H locs cells slots Q (F0 m (pc + 1) ls (.int x :: rest))) : W p l e R s m args below meth c H locs cells slots Q (F0 m pc ls (.int i :: .ref (gb G + a) :: rest)) := by
  subst ex
  exact W.iald C.1 C.2.1 (wP_arr hw hi.1) (wP_K C (t := 0) (by decide) _ _) (fun q => by cases q) (aIn_o hi) ((arrV_at hi.2.2).trans rfl) rfl rfl hdg kk
theorem w_lald (C : Cx G p s m args meth c cc own nL) (hw : wS G V T H locs) {i : Int32} {x : Int64} (hi : aIn T a 1 i) (ex : x = V.2.1 a (ixN i)) (hdg : decode cc pc = .ok (.laload, 1))
    (kk : W p l e R s m args below meth c H locs cells slots Q (F0 m (pc + 1) ls (.long x :: rest))) : W p l e R s m args below meth c H locs cells slots Q (F0 m pc ls (.int i :: .ref (gb G + a) :: rest)) := by
  subst ex
  exact W.lald C.1 C.2.1 (wP_arr hw hi.1) (wP_K C (t := 1) (by decide) _ _) (fun q => by cases q) (aIn_o hi) ((arrV_at hi.2.2).trans rfl) rfl rfl hdg kk
theorem cAt_arr {t : Nat} {H1 : Heap} (ha : T.1 a = 100 + t) (h : H1[gb G + a]? = some (arrV (G.2.1 t) (T.2.1 a) (fun j => fv (gb G) V' a j (aEl t)))) : cAt G V' T a H1 := ⟨fun c h1 h2 => by omega, fun t' ht => by
  obtain rfl : t' = t := by omega
  exact h⟩
theorem arrV_upd {cA : ClassId} {N k : Nat} {f g : Nat → Value} {x : Value} (h : ∀ j, g j = if j = k then x else f j) : (arrV cA N f).setSlot k x = arrV cA N g := by
  rw [arrV_store]
  congr 1
  funext j
  rw [h j]
  rfl
theorem w_iast (C : Cx G p s m args meth c cc own nL) (hw : wS G V T H locs) {i x : Int32} (hi : aIn T a 0 i) (eV : V' = uI V a (ixN i) x) (hdg : decode cc pc = .ok (.iastore, 1))
    (kk : ∀ (H1 : Heap) (locs1 : List Loc), wS G V' T H1 locs1 → W p l e R s m args below meth c H1 locs1 cells slots Q (F0 m (pc + 1) ls rest)) : W p l e R s m args below meth c H locs cells slots Q (F0 m pc ls (.int x :: .int i :: .ref (gb G + a) :: rest)) := by
  subst eV
  refine W.iast C.1 C.2.1 (wP_arr hw hi.1) (wP_K C (t := 0) (by decide) _ _) (fun q => by cases q) (aIn_o hi) rfl rfl hdg fun H' e1 e2 e3 => ?_
  refine kk H' _ (hw.locs (hw.1.put e2 e3 uI_o (cAt_arr hi.1 ?_)))
  rw [e1, arrV_upd (fun j => uI_f (L := fun _ => aEl 0) rfl j)]
theorem w_last (C : Cx G p s m args meth c cc own nL) (hw : wS G V T H locs) {i : Int32} {x : Int64} (hi : aIn T a 1 i) (eV : V' = uL V a (ixN i) x) (hdg : decode cc pc = .ok (.lastore, 1))
    (kk : ∀ (H1 : Heap) (locs1 : List Loc), wS G V' T H1 locs1 → W p l e R s m args below meth c H1 locs1 cells slots Q (F0 m (pc + 1) ls rest)) : W p l e R s m args below meth c H locs cells slots Q (F0 m pc ls (.long x :: .int i :: .ref (gb G + a) :: rest)) := by
  subst eV
  refine W.last C.1 C.2.1 (wP_arr hw hi.1) (wP_K C (t := 1) (by decide) _ _) (fun q => by cases q) (aIn_o hi) rfl rfl hdg fun H' e1 e2 e3 => ?_
  refine kk H' _ (hw.locs (hw.1.put e2 e3 uL_o (cAt_arr hi.1 ?_)))
  rw [e1, arrV_upd (fun j => uL_f (L := fun _ => aEl 1) rfl j)]
/-- a call is over: the memory has become V' T' -/
theorem w_after {mc ms : Nat} {rv : Option Value} {T' : Tt} {st0 : List Value} (hw : wS G V T H locs) (hr : va_Run p l e R s m args below meth c H locs cells slots mc ms (F0 m pc ls st0) rest (fun _ oc t => oc = .returned rv ∧ wld G V' T' t.heap) (fun q => gb G ≤ q))
    (kk : ∀ (H1 : Heap) (locs1 : List Loc), wS G V' T' H1 locs1 → W p l e R s m args below meth c H1 locs1 (cells + mc) (slots + ms) Q (F0 m (pc + 3) ls (rv.toList ++ rest))) : W p l e R s m args below meth c H locs cells slots Q (F0 m pc ls st0) := by
  intro X hX hX'
  obtain ⟨v, st₀, t, T1, L, h0, X', hL, e1, e2, ⟨hv, hw1⟩, st⟩ := hr X hX hX'
  cases hv
  obtain ⟨t2, a1, b1⟩ := kk T1.heap (locs ++ L) ⟨by rw [e1]; exact hw1, fun q hq => by
    rcases List.mem_append.mp hq with h | h
    · exact hw.2 q h
    · exact hL q h⟩ T1 rfl X'
  exact ⟨t2, st t2 a1, b1⟩
theorem pc_blind {av : List Value} : FrameBlind (va_Pc av (fun U => wld G V T U.heap ∧ KX G U)) := fun a U g mk q => ⟨q.1, q.2.1, q.2.2.same rfl⟩
theorem w_callV {y : MethodName} {code : ByteArray} {maxL lev mc ms ci index n N : Nat} {ret : Option FieldType} {rv : Option Value} {T' : Tt} {As st0 : List Value} {Cn : String} {Tb : u_T} (C : Cx G p s m args meth c cc own nL) (hw : wS G V T H locs) (hM : okM l G y code maxL ret lev (.ref (gb G + a) :: As) V T rv V' T' mc ms)
    (cw : CallW R s args own Cn index y code maxL ret (ws_ y code maxL ret) (rmL lev mc ms) mc ms n) (hc : vwCl[ci]? = some (Cn, Tb, N)) (h9 : ci < 99) (ha : T.1 a = ci + 1) (hn : As.length = n) (hsz : ls.size = nL) (hst : st0 = As.reverse ++ .ref (gb G + a) :: rest) (hW : (rest.map fun v => v.category).sum ≤ 8) (hdg : decode cc pc = .ok (.invokevirtual index, 3)) (hf : cells + mc ≤ R.cells ∧ slots + ms ≤ R.slots)
    (kk : ∀ (H1 : Heap) (locs1 : List Loc), wS G V' T' H1 locs1 → W p l e R s m args below meth c H1 locs1 (cells + mc) (slots + ms) Q (F0 m (pc + 3) ls (rv.toList ++ rest))) : W p l e R s m args below meth c H locs cells slots Q (F0 m pc ls st0) := by
  obtain ⟨F, hF, cell, q1, q2, q3, q4⟩ := wP_obj hw hc ha h9
  have hfc : s.vm.findClass Cn = some (G.1.1 ci) := (C.2.2.2.2.2.1.1 ci _ hc).2.1
  exact w_after hw (va_runV (Ts := lw_all) ⟨C.1, C.2.1, C.2.2.1, C.2.2.2.1, C.2.2.2.2.1⟩ hM cw ⟨pc_blind, ⟨cell, q1, by rw [q3]; rfl, by rw [q2]; exact hfc⟩, fun U hU hWU => ⟨rfl, by rw [hU]; exact hw.1, C.2.2.2.2.2.2.2.on hWU⟩⟩ rfl hn hsz hst (lv_room hW) hdg hf) kk
theorem w_callS {y : MethodName} {code : ByteArray} {maxL lev mc ms index n : Nat} {ret : Option FieldType} {rv : Option Value} {T' : Tt} {As st0 : List Value} (C : Cx G p s m args meth c cc own nL) (hw : wS G V T H locs) (hM : okM l G y code maxL ret lev As V T rv V' T' mc ms)
    (cw : CallB R s args own index y code maxL ret (ws_ y code maxL ret) (rmL lev mc ms) mc ms n ∧ (Cond.static y).before args s = true) (hn : As.length = n) (hsz : ls.size = nL) (hst : st0 = As.reverse ++ rest) (hW : (rest.map fun v => v.category).sum ≤ 8) (hdg : decode cc pc = .ok (.invokestatic index, 3)) (hf : cells + mc ≤ R.cells ∧ slots + ms ≤ R.slots)
    (kk : ∀ (H1 : Heap) (locs1 : List Loc), wS G V' T' H1 locs1 → W p l e R s m args below meth c H1 locs1 (cells + mc) (slots + ms) Q (F0 m (pc + 3) ls (rv.toList ++ rest))) : W p l e R s m args below meth c H locs cells slots Q (F0 m pc ls st0) :=
  w_after hw (va_runS (Ts := lw_all) ⟨C.1, C.2.1, C.2.2.1, C.2.2.2.1, C.2.2.2.2.1⟩ hM cw ⟨pc_blind, fun U hU hWU => ⟨rfl, by rw [hU]; exact hw.1, C.2.2.2.2.2.2.2.on hWU⟩⟩ rfl hn hsz hst (lv_room hW) hdg hf) kk
theorem w_iret {v : Int32} (C : Cx G p s m args meth c cc own nL) (hr : meth.sig.returnType = some .int) (hw : wS G V T H locs) (hdg : decode cc pc = .ok (.ireturn, 1)) : W p l e R s m args below meth c H locs cells slots (eQ G below (some (.int v)) V T args s cells slots) (F0 m pc ls [.int v]) :=
  W.iret C.1 C.2.1 hr (fun t ht _ => ⟨rfl, by rw [ht]; exact hw.1⟩) hw.2 hdg C.2.2.2.2.2.2.1
abbrev isB (x : Int32) : Prop := x = 0 ∨ x = 1
theorem nar_b {x : Int32} (h : isB x) : narrow .boolean (.int x) = .int x := by rcases h with rfl | rfl <;> rfl
theorem fit_b {x : Int32} (h : isB x) : fits .boolean (.int x) = true := by rcases h with rfl | rfl <;> decide
theorem w_zret {v : Int32} (C : Cx G p s m args meth c cc own nL) (hr : meth.sig.returnType = some .boolean) (hw : wS G V T H locs) (hz : isB v) (hdg : decode cc pc = .ok (.ireturn, 1)) : W p l e R s m args below meth c H locs cells slots (eQ G below (some (.int v)) V T args s cells slots) (F0 m pc ls [.int v]) :=
  W.zret C.1 C.2.1 hr (nar_b hz) (fun t ht _ => ⟨rfl, by rw [ht]; exact hw.1⟩) hw.2 hdg C.2.2.2.2.2.2.1
theorem w_lret {v : Int64} (C : Cx G p s m args meth c cc own nL) (hr : meth.sig.returnType = some .long) (hw : wS G V T H locs) (hdg : decode cc pc = .ok (.lreturn, 1)) : W p l e R s m args below meth c H locs cells slots (eQ G below (some (.long v)) V T args s cells slots) (F0 m pc ls [.long v]) :=
  W.lret C.1 C.2.1 hr (fun t ht _ => ⟨rfl, by rw [ht]; exact hw.1⟩) hw.2 hdg C.2.2.2.2.2.2.1
theorem w_vret (C : Cx G p s m args meth c cc own nL) (hr : meth.sig.returnType = none) (hw : wS G V T H locs) (hdg : decode cc pc = .ok (.return_, 1)) : W p l e R s m args below meth c H locs cells slots (eQ G below none V T args s cells slots) (F0 m pc ls []) :=
  W.vret C.1 C.2.1 hr (fun t ht _ => ⟨rfl, by rw [ht]; exact hw.1⟩) hw.2 hdg C.2.2.2.2.2.2.1
theorem w_nmI {x y : Int32} (e1 : y = x) (k : W p l e R s m args below meth c H locs cells slots Q (F0 m pc ls (.int y :: rest))) : W p l e R s m args below meth c H locs cells slots Q (F0 m pc ls (.int x :: rest)) := e1 ▸ k
theorem w_nmL {x y : Int64} (e1 : y = x) (k : W p l e R s m args below meth c H locs cells slots Q (F0 m pc ls (.long y :: rest))) : W p l e R s m args below meth c H locs cells slots Q (F0 m pc ls (.long x :: rest)) := e1 ▸ k
end WROWS
/-! how a method's function is written: a check, a reference that is there, a name, a call's answer -/
def req (c : Prop) [Decidable c] {β : Type} (k : Option β) : Option β := if c then k else none
theorem of_req {c : Prop} [Decidable c] {β : Type} {k : Option β} {z : β} (h : req c k = some z) : c ∧ k = some z := by
  unfold req at h
  by_cases e : c
  · rw [if_pos e] at h; exact ⟨e, h⟩
  · rw [if_neg e] at h; cases h
def drf {β : Type} (x : Option Nat) (k : Nat → Option β) : Option β := match x with
  | none => none
  | some r => k r
theorem of_drf {β : Type} {x : Option Nat} {k : Nat → Option β} {z : β} (h : drf x k = some z) : ∃ r, x = some r ∧ k r = some z := by
  cases x with
  | none => cases h
  | some r => exact ⟨r, rfl, h⟩
def stp {α β : Type} (x : α) (k : α → Option β) : Option β := k x
theorem of_stp {α β : Type} {x : α} {k : α → Option β} {z : β} (h : stp x k = some z) : ∃ y, y = x ∧ k y = some z := ⟨x, rfl, h⟩
def pcl {α β : Type} (f : Option α) (k : α → Option β) : Option β := match f with
  | none => none
  | some x => k x
theorem of_pcl {α β : Type} {f : Option α} {k : α → Option β} {z : β} (h : pcl f k = some z) : ∃ x, f = some x ∧ k x = some z := by
  cases f with
  | none => cases h
  | some r => exact ⟨r, rfl, h⟩
def cal {α γ β : Type} (f : Option (α × γ)) (k : α → γ → Option β) : Option β := match f with
  | none => none
  | some (x, y) => k x y
theorem of_cal {α γ β : Type} {f : Option (α × γ)} {k : α → γ → Option β} {z : β} (h : cal f k = some z) : ∃ x y, f = some (x, y) ∧ k x y = some z := by
  cases f with
  | none => cases h
  | some r => exact ⟨r.1, r.2, rfl, h⟩
theorem ite_t {α : Type} {c : Prop} [Decidable c] {a b z : α} (h : c) (e : (if c then a else b) = z) : a = z := by rwa [if_pos h] at e
theorem ite_f {α : Type} {c : Prop} [Decidable c] {a b z : α} (h : ¬ c) (e : (if c then a else b) = z) : b = z := by rwa [if_neg h] at e
theorem ite_ff {α : Type} {c : Prop} [Decidable c] {a b z : α} (h : ¬ ¬ c) (e : (if c then a else b) = z) : a = z := ite_t (Classical.not_not.mp h) e
