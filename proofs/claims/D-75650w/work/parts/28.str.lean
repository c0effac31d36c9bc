/-! String constants: length() and charAt(k); Preconditions.checkIndex with any formatter -/
set_option maxRecDepth 100000
def sB (k : Nat) : List Int32 := ((strL[k]?).map (fun q => q.2.2.2)).getD []
def f_J8_length (T : Tt) (V0 : Vt) (k : Nat) : Option Int32 := req (k < 42) (some (nI (sB k).length))
def f_J8_charAt (T : Tt) (V0 : Vt) (k : Nat) (i : Int32) : Option Int32 := req (k < 42) (req (¬ i < 0 ∧ ixN i < (sB k).length) (some (cN (((sB k).getD (ixN i) 0) &&& (255 : Int32)))))
theorem strAt {k : Nat} (h : k < 42) : ∃ q, strL[k]? = some q ∧ sB k = q.2.2.2 := ⟨_, List.getElem?_eq_getElem (show k < strL.length from h), by simp [sB, List.getElem?_eq_getElem (show k < strL.length from h)]⟩
theorem sB_lt : ∀ k, k < 42 → (sB k).length < 100 := by decide +kernel
section STR
variable {p : Program} {l : Launch} {e : Env} {R : Room} {s : State} {m : MethodId} {args : Array Value} {below : List Frame} {meth : Method} {c : Code} {H : Heap} {locs : List Loc} {cells slots : Nat} {Q : State → Prop}
variable {cc : ByteArray} {pc : Nat} {ls : Array Slot} {rest : List Value} {G : gG} {V V' : Vt} {T T' : Tt} {own : String} {nL a k : Nat}
abbrev oA (G : gG) : Nat → Prop := fun q => gb G ≤ q
theorem vS_of {V0 : Vt} (h0 : wS G V0 T s.heap []) (hw : wS G V T H locs) : va_S (oA G) s.heap H locs := by
  refine ⟨by rw [h0.1.1, hw.1.1]; exact Nat.le_refl _, fun q h1 h2 => ?_, hw.2⟩
  have h3 : q < gb G := Nat.not_le.mp h2
  rw [hw.1.2.1 q h3, h0.1.2.1 q h3]
theorem old_kept {V0 : Vt} (h0 : wS G V0 T s.heap []) : ∀ a : Nat, a < G.2.2.heap.size → ¬ oA G a → s.heap[a]? = G.2.2.heap[a]? := fun a h _ => h0.1.2.1 a h
theorem strS {V0 : Vt} (h0 : wS G V0 T s.heap []) (hK : KX G s) (hk : k < 42) : va_O "java/lang/String" (adK G k) (oA G) s s.heap ∧ va_OF "java/lang/String" "coder" "B" (.int 0) (adK G k) (oA G) s s.heap ∧ ∃ v : Nat, va_OF "java/lang/String" "value" "[B" (.ref v) (adK G k) (oA G) s s.heap ∧ va_T .byte v (sB k).length (fun j => .int ((sB k).getD j 0)) (oA G) s s.heap := by
  obtain ⟨q, hq, eq⟩ := strAt hk
  obtain ⟨b, -, -, hS⟩ := hK.1.2
  obtain ⟨-, h1, h2, v, h3, h4⟩ := hS k q hq
  rw [eq]
  exact ⟨(h1.kept (old_kept h0)).moved hK.2.alike, (h2.kept (old_kept h0)).moved hK.2.alike, v, (h3.kept (old_kept h0)).moved hK.2.alike, (h4.kept (old_kept h0)).moved hK.2.alike⟩
theorem zCS {V0 : Vt} (h0 : wS G V0 T s.heap []) (hK : KX G s) : va_Z "java/lang/String" "COMPACT_STRINGS" "Z" (.int 1) (oA G) s s.heap := by
  obtain ⟨b, h1, h2, -⟩ := hK.1.2
  exact ((va_Zof (h1 _ q817) (h1 _ (lw_all_tbl q148)) (va_eqi (flat_of_before _ h2 _ (by decide +kernel))) (fun a h h9 => absurd h (Nat.not_lt.mpr h9))).kept (old_kept h0)).moved hK.2.alike
theorem zSI {V0 : Vt} (h0 : wS G V0 T s.heap []) (hK : KX G s) : va_Zq "jdk/internal/util/Preconditions" "SIOOBE_FORMATTER" "Ljava/util/function/BiFunction;" (oA G) s s.heap := by
  obtain ⟨b, h1, h2, -⟩ := hK.1.2
  exact ((va_Zqof (h1 _ q833) (h1 _ (lw_all_tbl q144)) (flat_of_before _ h2 _ (by decide +kernel)) (fun a h h9 => absurd h (Nat.not_lt.mpr h9))).kept (old_kept h0)).moved hK.2.alike
theorem w_ldcS {idx : Nat} {tx : String} {bs : List Int32} (C : Cx G p s m args meth c cc own nL) (hk : strL[k]? = some (own, idx, tx, bs)) (hdg : decode cc pc = .ok (.ldc idx, 2))
    (kk : W p l e R s m args below meth c H locs cells slots Q (F0 m (pc + 2) ls (.ref (adK G k) :: rest))) : W p l e R s m args below meth c H locs cells slots Q (F0 m pc ls rest) := by
  obtain ⟨b, -, -, hS⟩ := C.2.2.2.2.2.2.2.1.2
  exact va_ldcS C.1 C.2.1 C.2.2.2.1 ((hS k _ hk).1.warm C.2.2.2.2.2.2.2.2) hdg kk
end STR
/-- Preconditions.checkIndex, the formatter a reference or null -/
theorem ok_J6_any {l : Launch} {G : gG} {T : Tt} {V0 : Vt} {a0 a1 : Int32} {v : Value} (hv : v = .null ∨ ∃ x, v = .ref x) (h0 : ¬ a0 < 0) (h1 : a0 < a1) : okM l G yJ6_checkIndex cJ6_checkIndex 3 (some .int) 0 [.int a0, .int a1, v] V0 T (some (.int a0)) V0 T 0 0 := by
  have hc : v.category = 1 := by rcases hv with rfl | ⟨x, rfl⟩ <;> rfl
  have hlen : (lg_sl [.int a0, .int a1, v]).length ≤ 3 := by rcases hv with rfl | ⟨x, rfl⟩ <;> exact Nat.le_of_ble_eq_true rfl
  refine ok_intro (by decide) hlen ?_
  intro p e s m below meth c ls C hr hnm hw hl
  have hx := C.1
  have hb := C.2.1
  have hl : lv_has ls 3 [(0, .int a0), (1, .int a1)] := lv_sub hl [0, 1] rfl
  refine lv_iload_n hx hb dJ6_checkIndex_0 rfl (lv_at hl 0 rfl) ?_
  refine lv_if_lt (tgt := 9) hx hb dJ6_checkIndex_1 (by decide) (fun c1 => absurd c1 h0) (fun _ => ?_)
  refine lv_iload_n hx hb dJ6_checkIndex_4 rfl (lv_at hl 0 rfl) ?_
  refine lv_iload_n hx hb dJ6_checkIndex_5 rfl (lv_at hl 1 rfl) ?_
  refine lv_icmp_lt (tgt := 16) hx hb dJ6_checkIndex_6 (by decide) (fun _ => ?_) (fun c1 => absurd h1 c1)
  refine lv_iload_n hx hb dJ6_checkIndex_16 rfl (lv_at hl 0 rfl) ?_
  exact w_iret C hr hw dJ6_checkIndex_17
