/-! a call through an interface: Collection.toArray() of an ArrayList -/
set_option maxRecDepth 100000
section ROWS5
variable {p : Program} {l : Launch} {e : Env} {R : Room} {s : State} {m : MethodId} {args : Array Value} {below : List Frame} {meth : Method} {c : Code} {H : Heap} {locs : List Loc} {cells slots : Nat} {Q : State → Prop}
variable {cc : ByteArray} {pc : Nat} {ls : Array Slot} {rest : List Value} {G : gG} {V V' : Vt} {T T' : Tt} {own : String} {nL a : Nat}
variable {y x : MethodName} {code : ByteArray} {maxL lev mc ms ci index n N count : Nat} {ret : Option FieldType} {rv : Option Value} {As st0 : List Value} {Cn : String} {Tb : u_T}
theorem w_rF (C : Cx G p s m args meth c cc own nL) (hw : wS G V T H locs) (hM : okM l G y code maxL ret lev (.ref (gb G + a) :: As) V T rv V' T' mc ms)
    (cw : va_CI R s args own Cn index x y code maxL ret (ws_ y code maxL ret) (rmL lev mc ms) mc ms n) (hc : vwCl[ci]? = some (Cn, Tb, N)) (h9 : ci < 99) (ha : T.1 a = ci + 1) (hn : As.length = n) (hsz : ls.size = nL) (hst : st0 = As.reverse ++ .ref (gb G + a) :: rest) (hW : (rest.map fun v => v.category).sum ≤ 8) (hf : cells + mc ≤ R.cells ∧ slots + ms ≤ R.slots) (hdg : decode cc pc = .ok (.invokeinterface index count, 5)) :
    va_Run5 p l e R s m args below meth c H locs cells slots mc ms (F0 m pc ls st0) rest (fun _ oc t => oc = .returned rv ∧ wld G V' T' t.heap) (fun q => gb G ≤ q) :=
  va_runF (Ts := lw_all) (C.2.2.2.2.2.1.1 ci _ hc).2 ⟨C.1, C.2.1, C.2.2.1, C.2.2.2.1, C.2.2.2.2.1⟩ hM cw ⟨pc_blind, w_recv C hw hc h9 ha, fun U hU hWU => ⟨rfl, by rw [hU]; exact hw.1, C.2.2.2.2.2.2.2.on hWU⟩⟩ rfl hn hsz hst (lv_room hW) hdg hf
theorem w_afr5 {r : Nat} (hw : wS G V T H locs) (hr : va_Run5 p l e R s m args below meth c H locs cells slots mc ms (F0 m pc ls st0) rest (fun _ oc t => oc = .returned (some (.ref (gb G + r))) ∧ wld G V' T' t.heap) (fun q => gb G ≤ q))
    (kk : ∀ (H1 : Heap) (locs1 : List Loc), wS G V' T' H1 locs1 → W p l e R s m args below meth c H1 locs1 (cells + mc) (slots + ms) Q (F0 m (pc + 5) ls (.ref (gb G + r) :: rest))) : W p l e R s m args below meth c H locs cells slots Q (F0 m pc ls st0) := by
  intro X hX hX'
  obtain ⟨v, st₀, t, T1, L, h0, X', hL, e1, e2, ⟨hv, hw1⟩, st⟩ := hr X hX hX'
  cases hv
  obtain ⟨t2, a1, b1⟩ := kk T1.heap (locs ++ L) ⟨by rw [e1]; exact hw1, fun q hq => by
    rcases List.mem_append.mp hq with h | h
    · exact hw.2 q h
    · exact hL q h⟩ T1 rfl X'
  exact ⟨t2, st t2 a1, b1⟩
theorem lw_F (h1 : Cond.methodLink own index x ∈ lw_all) (h2 : Cond.selects Cn x y ∈ lw_all) (h3 : Cond.instanceMethod y ∈ lw_all) (h4 : Cond.initialized y.cls ∈ lw_all) (h5 : Cond.code y code maxL ret ∈ lw_all) : GoodIn lw_all (va_wsF own index Cn x y (ws_ y code maxL ret)) := by
  refine lw_app ?_ (lw_meth h5)
  intro w hw
  simp only [List.mem_cons, List.not_mem_nil, or_false] at hw
  rcases hw with e | e | e | e
  · rw [e]; exact h1
  · rw [e]; exact h2
  · rw [e]; exact h3
  · rw [e]; exact h4
theorem lw_U {owner : String} (h1 : Cond.methodLink own index x ∈ lw_all) (h2 : Cond.sameMethod x.cls owner x.name x.desc ∈ lw_all) (h3 : Cond.selects Cn x y ∈ lw_all) (h4 : Cond.instanceMethod y ∈ lw_all) (h5 : Cond.initialized y.cls ∈ lw_all) (h6 : Cond.code y code maxL ret ∈ lw_all) : GoodIn lw_all (va_wsU own index Cn owner x y (ws_ y code maxL ret)) := by
  refine lw_app ?_ (lw_meth h6)
  intro w hw
  simp only [List.mem_cons, List.not_mem_nil, or_false] at hw
  rcases hw with e | e | e | e | e
  · rw [e]; exact h1
  · rw [e]; exact h2
  · rw [e]; exact h3
  · rw [e]; exact h4
  · rw [e]; exact h5
abbrev yCol : MethodName := ⟨"java/util/Collection", "toArray", "()[Ljava/lang/Object;"⟩
theorem fw_col {G : gG} {s : State} (h : KX G s) : va_Fw "java/util/ArrayList" yCol yJ2_toArray s := by
  obtain ⟨b, h1, -⟩ := h.1.2
  exact va_Fw.moved ⟨by decide +kernel, by decide +kernel⟩ h.2.alike (va_Fw.of (h1 _ q474) (h1 _ q473) (h1 _ q479) (h1 _ q477) (h1 _ q475))
theorem cw_J2_42 (C : Cx G p s m args meth c cc RJ2 nL) (h1 : lev + 1 ≤ R.frames) (h2 : 8 + (1 + 11) + 64 * lev ≤ R.locals) : va_CI R s args RJ2 RJ2 42 yCol yJ2_toArray cJ2_toArray 1 (some (.array (.object "java/lang/Object"))) (ws_ yJ2_toArray cJ2_toArray 1 (some (.array (.object "java/lang/Object")))) (rmL lev mc ms) mc ms 0 :=
  va_cwF 0 C.2.2.2.2.1 (lw_F q472 q476 q478 q137 q480) rfl rfl rfl (fw_col C.2.2.2.2.2.2.2) (by decide +kernel) ⟨h1, h2⟩
theorem x_upE {E : String} {h : Nat} {ce : Cell} (C : Cx G p s m args meth c cc own nL) (hno : ∀ z ∈ c.exceptionTable.toList, False) (hw : wS G V T H locs) (hce : H[gb G + h]? = some ce) (hv : ce.vm = .none) (hcl : s.vm.findClass E = some ce.cls) (h1 : cells = mc) (h2 : slots = ms) : vx_W p l e R s m args below meth c H locs cells slots (xQ G E below (.inr h) V T args s mc ms) (F0 m pc ls rest) (gb G + h) := by
  subst h1; subst h2
  exact x_up C hno hw hce hv hcl
/-- handlers in two rows, both to one place -/
theorem h_catch2a {E : String} {h : Nat} {ce : Cell} {lo hi hp ct lo2 hi2 hp2 ct2 : Nat} (C : Cx G p s m args meth c cc own nL) (htab : c.exceptionTable.toList = tableOf [(lo, hi, hp, ct), (lo2, hi2, hp2, ct2)]) (hlo : lo ≤ pc) (hhi : pc < hi) (h0 : ct ≠ 0) (hlink : Cond.classLink own ct E ∈ lw_all) (hcast : Cond.castable E E ∈ lw_tbl) (hce : H[gb G + h]? = some ce) (hv : ce.vm = .none) (hcl : s.vm.findClass E = some ce.cls)
    (kk : W p l e R s m args below meth c H locs cells slots Q (F0 m hp ls [.ref (gb G + h)])) : vx_W p l e R s m args below meth c H locs cells slots Q (F0 m pc ls rest) (gb G + h) := by
  refine vx_catch C.2.2.2.1 [] _ _ htab (fun z hz => by cases hz) ?_ h0 (C.2.2.2.2.1 _ hlink) (va_Nw.use rfl (C.2.2.2.2.2.2.2.nc hcast)) hce hv hcl kk
  simp [covers, hlo, hhi]
theorem h_catch2b {E : String} {h : Nat} {ce : Cell} {lo hi hp ct lo2 hi2 hp2 ct2 : Nat} (C : Cx G p s m args meth c cc own nL) (htab : c.exceptionTable.toList = tableOf [(lo, hi, hp, ct), (lo2, hi2, hp2, ct2)]) (hlo : lo2 ≤ pc) (hhi : pc < hi2) (hnot : hi ≤ pc) (h0 : ct2 ≠ 0) (hlink : Cond.classLink own ct2 E ∈ lw_all) (hcast : Cond.castable E E ∈ lw_tbl) (hce : H[gb G + h]? = some ce) (hv : ce.vm = .none) (hcl : s.vm.findClass E = some ce.cls)
    (kk : W p l e R s m args below meth c H locs cells slots Q (F0 m hp2 ls [.ref (gb G + h)])) : vx_W p l e R s m args below meth c H locs cells slots Q (F0 m pc ls rest) (gb G + h) := by
  refine vx_catch C.2.2.2.1 [_] _ [] htab (fun z hz => Or.inl ?_) ?_ h0 (C.2.2.2.2.1 _ hlink) (va_Nw.use rfl (C.2.2.2.2.2.2.2.nc hcast)) hce hv hcl kk
  · rw [List.mem_singleton.mp hz]
    simp [covers, hnot]
  · simp [covers, hlo, hhi]
end ROWS5
