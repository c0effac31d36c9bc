/-! String.length, charAt of a constant; Exception's constructor without traces -/
set_option maxRecDepth 100000
theorem cw_J8_495 {R : Room} {s : State} {args : Array Value} {lev mc ms : Nat} (hts : ∀ w ∈ lw_all, w.before args s = true) (h1 : lev + 1 ≤ R.frames) (h2 : 8 + (2 + 11) + 64 * lev ≤ R.locals) : CallB R s args RJ8 495 yJ9_charAt cJ9_charAt 2 (some .char) (ws_ yJ9_charAt cJ9_charAt 2 (some .char)) (rmL lev mc ms) mc ms 2 ∧ (Cond.static yJ9_charAt).before args s = true := va_cwS 2 hts (lw_S q826 q827 q149 q828) rfl rfl rfl (by decide +kernel) ⟨h1, h2⟩
theorem cw_J8_498 {R : Room} {s : State} {args : Array Value} {lev mc ms : Nat} (hts : ∀ w ∈ lw_all, w.before args s = true) (h1 : lev + 1 ≤ R.frames) (h2 : 8 + (2 + 11) + 64 * lev ≤ R.locals) : CallB R s args RJ8 498 yJ10_charAt cJ10_charAt 2 (some .char) (ws_ yJ10_charAt cJ10_charAt 2 (some .char)) (rmL lev mc ms) mc ms 2 ∧ (Cond.static yJ10_charAt).before args s = true := va_cwS 2 hts (lw_S q835 q836 q150 q837) rfl rfl rfl (by decide +kernel) ⟨h1, h2⟩
theorem cw_J8_1059 {R : Room} {s : State} {args : Array Value} {lev mc ms : Nat} (hts : ∀ w ∈ lw_all, w.before args s = true) (h1 : lev + 1 ≤ R.frames) (h2 : 8 + (3 + 11) + 64 * lev ≤ R.locals) : CallB R s args RJ8 1059 yJ6_checkIndex cJ6_checkIndex 3 (some .int) (ws_ yJ6_checkIndex cJ6_checkIndex 3 (some .int)) (rmL lev mc ms) mc ms 3 ∧ (Cond.static yJ6_checkIndex).before args s = true := va_cwS 3 hts (lw_S q834 q618 q144 q619) rfl rfl rfl (by decide +kernel) ⟨h1, h2⟩
theorem cw_J8_335 {R : Room} {s : State} {args : Array Value} {lev mc ms : Nat} (hts : ∀ w ∈ lw_all, w.before args s = true) (h1 : lev + 1 ≤ R.frames) (h2 : 8 + (1 + 11) + 64 * lev ≤ R.locals) : CallW R s args RJ8 RJ8 335 yJ8_coder cJ8_coder 1 (some .byte) (ws_ yJ8_coder cJ8_coder 1 (some .byte)) (rmL lev mc ms) mc ms 0 := cwV 0 hts (lw_V q812 q813 q814 q148 q815) rfl rfl rfl (by decide +kernel) ⟨h1, h2⟩
theorem cw_J8_492 {R : Room} {s : State} {args : Array Value} {lev mc ms : Nat} (hts : ∀ w ∈ lw_all, w.before args s = true) (h1 : lev + 1 ≤ R.frames) (h2 : 8 + (1 + 11) + 64 * lev ≤ R.locals) : CallW R s args RJ8 RJ8 492 yJ8_isLatin1 cJ8_isLatin1 1 (some .boolean) (ws_ yJ8_isLatin1 cJ8_isLatin1 1 (some .boolean)) (rmL lev mc ms) mc ms 0 := cwV 0 hts (lw_V q822 q823 q824 q148 q825) rfl rfl rfl (by decide +kernel) ⟨h1, h2⟩
theorem cw_J9_9 {R : Room} {s : State} {args : Array Value} {lev mc ms : Nat} (hts : ∀ w ∈ lw_all, w.before args s = true) (h1 : lev + 1 ≤ R.frames) (h2 : 8 + (2 + 11) + 64 * lev ≤ R.locals) : CallB R s args RJ9 9 yJ8_checkIndex cJ8_checkIndex 2 none (ws_ yJ8_checkIndex cJ8_checkIndex 2 none) (rmL lev mc ms) mc ms 2 ∧ (Cond.static yJ8_checkIndex).before args s = true := va_cwS 2 hts (lw_S q829 q830 q148 q831) rfl rfl rfl (by decide +kernel) ⟨h1, h2⟩
theorem cw_J4_16 {R : Room} {s : State} {args : Array Value} {lev mc ms : Nat} (hts : ∀ w ∈ lw_all, w.before args s = true) (h1 : lev + 1 ≤ R.frames) (h2 : 8 + (5 + 11) + 64 * lev ≤ R.locals) : CallB R s args RJ4 16 yJ3_init_2 cJ3_init_2 5 none (ws_ yJ3_init_2 cJ3_init_2 5 none) (rmL lev mc ms) mc ms 4 ∧ yJ3_init_2.name = "<init>" ∧ (Cond.instanceMethod yJ3_init_2).before args s = true := cwI 4 hts (lw_meth q335) rfl rfl rfl (hts _ q139) (hts _ q333) (hts _ q334) rfl (by decide +kernel) ⟨h1, h2⟩
section STRB
variable {p : Program} {l : Launch} {e : Env} {R : Room} {s : State} {m : MethodId} {args : Array Value} {below : List Frame} {meth : Method} {c : Code} {H : Heap} {locs : List Loc} {cells slots : Nat} {Q : State → Prop}
variable {cc : ByteArray} {pc : Nat} {ls : Array Slot} {rest : List Value} {G : gG} {V V' V0 : Vt} {T T' : Tt} {own : String} {nL a k : Nat}
variable {y : MethodName} {code : ByteArray} {maxL lev mc ms index n : Nat} {ret : Option FieldType} {rv : Option Value} {As st0 : List Value}
theorem w_rStr (C : Cx G p s m args meth c cc own nL) (hw : wS G V T H locs) (hM : okM l G y code maxL ret lev (.ref (adK G k) :: As) V T rv V' T' mc ms)
    (cw : CallW R s args own "java/lang/String" index y code maxL ret (ws_ y code maxL ret) (rmL lev mc ms) mc ms n) (hk : k < 42) (hn : As.length = n) (hsz : ls.size = nL) (hst : st0 = As.reverse ++ .ref (adK G k) :: rest) (hW : (rest.map fun v => v.category).sum ≤ 8) (hf : cells + mc ≤ R.cells ∧ slots + ms ≤ R.slots) (hdg : decode cc pc = .ok (.invokevirtual index, 3)) :
    wRun p l e R s m args below meth c H locs cells slots mc ms (F0 m pc ls st0) rest G rv V' T' := by
  have hKX := C.2.2.2.2.2.2.2
  obtain ⟨q, hq, -⟩ := strAt hk
  obtain ⟨b, -, -, hS⟩ := hKX.1.2
  obtain ⟨-, h1, -⟩ := hS k q hq
  obtain ⟨cell, g1, g2, g3, -⟩ := (h1.kept (H1 := H) (fun a h _ => hw.1.2.1 a h)).moved hKX.2.alike
  exact va_runV (Ts := lw_all) ⟨C.1, C.2.1, C.2.2.1, C.2.2.2.1, C.2.2.2.2.1⟩ hM cw ⟨pc_blind, ⟨cell, g1, g2, g3⟩, fun U hU hWU => ⟨rfl, by rw [hU]; exact hw.1, C.2.2.2.2.2.2.2.on hWU⟩⟩ rfl hn hsz hst (lv_room hW) hdg hf
end STRB
theorem u16_mod (u : UInt32) : (u % 65536).toUInt16.toUInt32 = u % 65536 := by
  apply UInt32.toNat_inj.mp
  rw [UInt16.toNat_toUInt32, UInt32.toNat_toUInt16, UInt32.toNat_mod]
  have : (65536 : UInt32).toNat = 65536 := rfl
  rw [this]
  omega
theorem nar_cN (x : Int32) : narrow .char (.int (cN x)) = .int (cN x) := by
  show Value.int (vp_nar .char (cN x)) = .int (cN x)
  rw [vp_nar_char]
  show Value.int (((x.toUInt32 % 65536).toInt32).toUInt32.toUInt16.toUInt32).toInt32 = Value.int (x.toUInt32 % 65536).toInt32
  rw [show (x.toUInt32 % 65536).toInt32.toUInt32 = x.toUInt32 % 65536 from rfl, u16_mod]
theorem nI_shr0 : ∀ n, n < 100 → nI n >>> ((0 : Int32) &&& 31) = nI n := by decide +kernel
set_option maxHeartbeats 4000000 in
theorem ok_J8_coder {l : Launch} {G : gG} {T : Tt} {V0 : Vt} {k : Nat} (hk : k < 42) : okM l G yJ8_coder cJ8_coder 1 (some .byte) 0 [.ref (adK G k)] V0 T (some (.int 0)) V0 T 0 0 := by
  refine ok_intro (by decide) (Nat.le_of_ble_eq_true rfl) ?_
  intro p e s m below meth c ls C hr hnm hw hl
  have hx := C.1
  have hb := C.2.1
  have hown := C.2.2.2.1
  have hts := C.2.2.2.2.1
  have hl : lv_has ls 1 [(0, .ref (adK G k))] := hl
  obtain ⟨-, hco, -⟩ := strS hw C.2.2.2.2.2.2.2 hk
  refine va_gets hx hb (zCS hw C.2.2.2.2.2.2.2) (vS_of hw hw) hown (hts _ q816) (fun _ h => h) dJ8_coder_0 ?_
  refine lv_if_eq (tgt := 13) hx hb dJ8_coder_3 (by decide) (fun c1 => absurd c1 (by decide)) (fun _ => ?_)
  refine lv_aload_n hx hb dJ8_coder_6 rfl (lv_at hl 0 rfl) ?_
  refine vk_getf hx hb hco (vS_of hw hw) hown (hts _ q2282) (fun _ h => h) dJ8_coder_7 ?_
  refine lv_goto (tgt := 14) hx hb dJ8_coder_10 (by decide) ?_
  exact W.zret C.1 C.2.1 hr rfl (fun t ht _ => ⟨rfl, by rw [ht]; exact hw.1⟩) hw.2 dJ8_coder_14 C.2.2.2.2.2.2.1
set_option maxHeartbeats 4000000 in
theorem ok_J8_isLatin1 {l : Launch} {G : gG} {T : Tt} {V0 : Vt} {k : Nat} (hk : k < 42) : okM l G yJ8_isLatin1 cJ8_isLatin1 1 (some .boolean) 0 [.ref (adK G k)] V0 T (some (.int 1)) V0 T 0 0 := by
  refine ok_intro (by decide) (Nat.le_of_ble_eq_true rfl) ?_
  intro p e s m below meth c ls C hr hnm hw hl
  have hx := C.1
  have hb := C.2.1
  have hown := C.2.2.2.1
  have hts := C.2.2.2.2.1
  have hl : lv_has ls 1 [(0, .ref (adK G k))] := hl
  obtain ⟨-, hco, -⟩ := strS hw C.2.2.2.2.2.2.2 hk
  refine va_gets hx hb (zCS hw C.2.2.2.2.2.2.2) (vS_of hw hw) hown (hts _ q816) (fun _ h => h) dJ8_isLatin1_0 ?_
  refine lv_if_eq (tgt := 17) hx hb dJ8_isLatin1_3 (by decide) (fun c1 => absurd c1 (by decide)) (fun _ => ?_)
  refine lv_aload_n hx hb dJ8_isLatin1_6 rfl (lv_at hl 0 rfl) ?_
  refine vk_getf hx hb hco (vS_of hw hw) hown (hts _ q2282) (fun _ h => h) dJ8_isLatin1_7 ?_
  refine lv_if_ne (tgt := 17) hx hb dJ8_isLatin1_10 (by decide) (fun c1 => absurd rfl c1) (fun _ => ?_)
  refine lv_iconst (v := (1 : Int32)) hx hb dJ8_isLatin1_13 (by decide) ?_
  refine lv_goto (tgt := 18) hx hb dJ8_isLatin1_14 (by decide) ?_
  exact w_zret C hr hw (Or.inr rfl) dJ8_isLatin1_18
set_option maxHeartbeats 4000000 in
theorem ok_J8_length {l : Launch} {G : gG} {T : Tt} {V0 : Vt} {k : Nat} {r : Int32} (hf : f_J8_length T V0 k = some r) : okM l G yJ8_length cJ8_length 1 (some .int) 3 [.ref (adK G k)] V0 T (some (.int r)) V0 T 0 0 := by
  obtain ⟨hk, hf⟩ := of_req hf
  cases hf
  refine ok_intro (by decide) (Nat.le_of_ble_eq_true rfl) ?_
  intro p e s m below meth c ls C hr hnm hw0 hl
  have hx := C.1
  have hb := C.2.1
  have hown := C.2.2.2.1
  have hts := C.2.2.2.2.1
  have hw := hw0
  have hl : lv_has ls 1 [(0, .ref (adK G k))] := hl
  obtain ⟨-, -, v, hva, hvT⟩ := strS hw C.2.2.2.2.2.2.2 hk
  refine lv_aload_n hx hb dJ8_length_0 rfl (lv_at hl 0 rfl) ?_
  refine vk_getf hx hb hva (vS_of hw hw) hown (hts _ q2281) (fun _ h => h) dJ8_length_1 ?_
  refine va_tlen (v := nI (sB k).length) hx hb hvT (vS_of hw hw) rfl dJ8_length_4 ?_
  refine lv_aload_n hx hb dJ8_length_5 rfl (lv_at hl 0 rfl) ?_
  refine w_afi hw (w_rStr (As := []) C hw (ok_J8_coder hk) (cw_J8_335 hts (Nat.le_of_ble_eq_true rfl) (Nat.le_of_ble_eq_true rfl)) hk rfl hl.1 rfl (Nat.le_of_ble_eq_true rfl) ⟨Nat.zero_le _, Nat.zero_le _⟩ dJ8_length_6) (fun H locs hw => ?_)
  refine lv_ishr hx hb dJ8_length_9 ?_
  rw [nI_shr0 _ (sB_lt k hk)]
  exact w_iret C hr hw dJ8_length_10
set_option maxHeartbeats 4000000 in
theorem ok_J8_checkIndex {l : Launch} {G : gG} {T : Tt} {V0 : Vt} {a0 a1 : Int32} (h0 : ¬ a0 < 0) (h1 : a0 < a1) : okM l G yJ8_checkIndex cJ8_checkIndex 2 none 1 [.int a0, .int a1] V0 T none V0 T 0 0 := by
  refine ok_intro (by decide) (Nat.le_of_ble_eq_true rfl) ?_
  intro p e s m below meth c ls C hr hnm hw hl
  have hx := C.1
  have hb := C.2.1
  have hown := C.2.2.2.1
  have hts := C.2.2.2.2.1
  have hl : lv_has ls 2 [(0, .int a0), (1, .int a1)] := hl
  refine lv_iload_n hx hb dJ8_checkIndex_0 rfl (lv_at hl 0 rfl) ?_
  refine lv_iload_n hx hb dJ8_checkIndex_1 rfl (lv_at hl 1 rfl) ?_
  rcases zSI hw C.2.2.2.2.2.2.2 with hz | ⟨t, hz⟩
  · refine va_gets hx hb hz (vS_of hw hw) hown (hts _ q832) (fun _ h => h) dJ8_checkIndex_2 ?_
    refine w_afi hw (w_rS (As := [.int a0, .int a1, .null]) C hw (ok_J6_any (Or.inl rfl) h0 h1) (cw_J8_1059 hts (Nat.le_of_ble_eq_true rfl) (Nat.le_of_ble_eq_true rfl)) rfl hl.1 rfl (Nat.le_of_ble_eq_true rfl) ⟨Nat.zero_le _, Nat.zero_le _⟩ dJ8_checkIndex_5) (fun H locs hw => ?_)
    refine lv_pop hx hb dJ8_checkIndex_8 rfl ?_
    exact w_vret C hr hw dJ8_checkIndex_9
  · refine va_gets hx hb hz (vS_of hw hw) hown (hts _ q832) (fun _ h => h) dJ8_checkIndex_2 ?_
    refine w_afi hw (w_rS (As := [.int a0, .int a1, .ref t]) C hw (ok_J6_any (Or.inr ⟨t, rfl⟩) h0 h1) (cw_J8_1059 hts (Nat.le_of_ble_eq_true rfl) (Nat.le_of_ble_eq_true rfl)) rfl hl.1 rfl (Nat.le_of_ble_eq_true rfl) ⟨Nat.zero_le _, Nat.zero_le _⟩ dJ8_checkIndex_5) (fun H locs hw => ?_)
    refine lv_pop hx hb dJ8_checkIndex_8 rfl ?_
    exact w_vret C hr hw dJ8_checkIndex_9
theorem lt_nI {i : Int32} {n : Nat} (hn : n < 100) (h0 : ¬ i < 0) (h : ixN i < n) : i < nI n := by
  rw [Int32.lt_iff_toInt_lt, nI_toInt (by omega), nnI i h0]
  have h : i.toNatClampNeg < n := h
  omega
set_option maxHeartbeats 4000000 in
theorem ok_J9_charAt {l : Launch} {G : gG} {T : Tt} {V0 : Vt} {k v : Nat} {i : Int32} (hk : k < 42) (h0 : ¬ i < 0) (h1 : ixN i < (sB k).length) (hv : va_T .byte v (sB k).length (fun j => .int ((sB k).getD j 0)) (fun a => gb G ≤ a) G.2.2 G.2.2.heap) : okM l G yJ9_charAt cJ9_charAt 2 (some .char) 2 [.ref v, .int i] V0 T (some (.int (cN (((sB k).getD (ixN i) 0) &&& (255 : Int32))))) V0 T 0 0 := by
  refine ok_intro (by decide) (Nat.le_of_ble_eq_true rfl) ?_
  intro p e s m below meth c ls C hr hnm hw0 hl
  have hx := C.1
  have hb := C.2.1
  have hown := C.2.2.2.1
  have hts := C.2.2.2.2.1
  have hw := hw0
  have hl : lv_has ls 2 [(0, .ref v), (1, .int i)] := hl
  have hvT : va_T .byte v (sB k).length (fun j => .int ((sB k).getD j 0)) (oA G) s s.heap := (hv.kept (old_kept hw)).moved C.2.2.2.2.2.2.2.2.alike
  refine lv_iload_n hx hb dJ9_charAt_0 rfl (lv_at hl 1 rfl) ?_
  refine lv_aload_n hx hb dJ9_charAt_1 rfl (lv_at hl 0 rfl) ?_
  refine va_tlen (v := nI (sB k).length) hx hb hvT (vS_of hw hw) rfl dJ9_charAt_2 ?_
  refine w_afv hw (w_rS (As := [.int i, .int (nI (sB k).length)]) C hw (ok_J8_checkIndex h0 (lt_nI (sB_lt k hk) h0 h1)) (cw_J9_9 hts (Nat.le_of_ble_eq_true rfl) (Nat.le_of_ble_eq_true rfl)) rfl hl.1 rfl (Nat.le_of_ble_eq_true rfl) ⟨Nat.zero_le _, Nat.zero_le _⟩ dJ9_charAt_3) (fun H locs hw => ?_)
  refine lv_aload_n hx hb dJ9_charAt_6 rfl (lv_at hl 0 rfl) ?_
  refine lv_iload_n hx hb dJ9_charAt_7 rfl (lv_at hl 1 rfl) ?_
  refine va_tb (v := .int ((sB k).getD (ixN i) 0)) hx hb hvT (vS_of hw0 hw) (fun h => h.elim h0 (fun h => absurd h1 (Nat.not_lt.mpr h))) rfl dJ9_charAt_8 ?_
  refine lv_sipush (v := (255 : Int32)) hx hb dJ9_charAt_9 (by decide) ?_
  refine lv_iand hx hb dJ9_charAt_12 ?_
  refine lv_i2c hx hb dJ9_charAt_13 rfl ?_
  refine W.zret C.1 C.2.1 hr ?_ (fun t ht _ => ⟨rfl, by rw [ht]; exact hw.1⟩) hw.2 dJ9_charAt_14 C.2.2.2.2.2.2.1
  exact nar_cN _
set_option maxHeartbeats 4000000 in
theorem ok_J8_charAt {l : Launch} {G : gG} {T : Tt} {V0 : Vt} {k : Nat} {i : Int32} {r : Int32} (hf : f_J8_charAt T V0 k i = some r) : okM l G yJ8_charAt cJ8_charAt 2 (some .char) 4 [.ref (adK G k), .int i] V0 T (some (.int r)) V0 T 0 0 := by
  obtain ⟨hk, hf⟩ := of_req hf
  obtain ⟨⟨h0, h1⟩, hf⟩ := of_req hf
  cases hf
  refine ok_intro (by decide) (Nat.le_of_ble_eq_true rfl) ?_
  intro p e s m below meth c ls C hr hnm hw0 hl
  have hx := C.1
  have hb := C.2.1
  have hown := C.2.2.2.1
  have hts := C.2.2.2.2.1
  have hw := hw0
  have hl : lv_has ls 2 [(0, .ref (adK G k)), (1, .int i)] := hl
  have hKX := C.2.2.2.2.2.2.2
  obtain ⟨q, hq, eq⟩ := strAt hk
  obtain ⟨b, -, -, hS⟩ := hKX.1.2
  obtain ⟨-, -, -, v, hva, hvT⟩ := hS k q hq
  rw [← eq] at hvT
  have hva : va_OF "java/lang/String" "value" "[B" (.ref v) (adK G k) (oA G) s s.heap := (hva.kept (old_kept hw)).moved hKX.2.alike
  refine lv_aload_n hx hb dJ8_charAt_0 rfl (lv_at hl 0 rfl) ?_
  refine w_afi hw (w_rStr (As := []) C hw (ok_J8_isLatin1 hk) (cw_J8_492 hts (Nat.le_of_ble_eq_true rfl) (Nat.le_of_ble_eq_true rfl)) hk rfl hl.1 rfl (Nat.le_of_ble_eq_true rfl) ⟨Nat.zero_le _, Nat.zero_le _⟩ dJ8_charAt_1) (fun H locs hw => ?_)
  refine lv_if_eq (tgt := 16) hx hb dJ8_charAt_4 (by decide) (fun c1 => absurd c1 (by decide)) (fun _ => ?_)
  refine lv_aload_n hx hb dJ8_charAt_7 rfl (lv_at hl 0 rfl) ?_
  refine vk_getf hx hb hva (vS_of hw0 hw) hown (hts _ q2281) (fun _ h => h) dJ8_charAt_8 ?_
  refine lv_iload_n hx hb dJ8_charAt_11 rfl (lv_at hl 1 rfl) ?_
  refine w_afi hw (w_rS (As := [.ref v, .int i]) C hw (ok_J9_charAt hk h0 h1 hvT) (cw_J8_495 hts (Nat.le_of_ble_eq_true rfl) (Nat.le_of_ble_eq_true rfl)) rfl hl.1 rfl (Nat.le_of_ble_eq_true rfl) ⟨Nat.zero_le _, Nat.zero_le _⟩ dJ8_charAt_12) (fun H locs hw => ?_)
  exact W.zret C.1 C.2.1 hr (nar_cN _) (fun t ht _ => ⟨rfl, by rw [ht]; exact hw.1⟩) hw.2 dJ8_charAt_15 C.2.2.2.2.2.2.1
