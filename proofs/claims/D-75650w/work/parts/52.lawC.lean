set_option maxRecDepth 100000
set_option maxHeartbeats 4000000 in
theorem jk_L_law_1179 {l : Launch} {G : gG} {p : Program} {e : Env} {s : State} {m : MethodId} {below : List Frame} {meth : Method} {c : Code} {b L : Nat} {xs : Nat → Int32} {T : Tt} {V0 : Vt} {V' : Vt} {T' : Tt} {mc ms : Nat} (C : Cx G p s m #[Value.ref b] meth c code R_law 4) (hr : meth.sig.returnType = ret) (hG : G.2.2 = s) (hX : va_X b L xs s s.heap) (hbl : b < s.heap.size) (hmc : mc ≤ 1200128) (hms : ms ≤ 5501098) {x1 : Nat} {x2 : Nat} {x3 : Int32} {kc18 : Int32 → Vt → Tt → Option ((Vt × Tt) × Nat × Nat)} {kx18_1185 : Vt → Tt → Option ((Vt × Tt) × Nat × Nat)} {H : Heap} {locs : List Loc} {ls : Array Slot} {cells slots n k : Nat} (hf : f_law_J1179 xs L T V0 x1 x2 x3 kc18 kx18_1185 = some ((V', T'), n, k)) (hn : cells + n = mc) (hk : slots + k = ms) (hw : wS G V0 T H locs) (hl : lv_has ls 4 [(0, .ref b), (1, .ref (gb G + x1)), (2, .ref (gb G + x2)), (3, .int x3)]) (hkc18 : ∀ (y3 : Int32) (W1 : Vt) (T1 : Tt) (H : Heap) (locs : List Loc) (ls : Array Slot) (cells slots n k : Nat), kc18 y3 W1 T1 = some ((V', T'), n, k) → cells + n = mc → slots + k = ms → wS G W1 T1 H locs → lv_has ls 4 [(0, .ref b), (1, .ref (gb G + x1)), (2, .ref (gb G + x2)), (3, .int y3)] → W p l e room_1 s m #[Value.ref b] below meth c H locs cells slots (lw_Z below #[Value.ref b] s) (F0 m 18 ls [])) (hkx18_1185 : ∀ (W1 : Vt) (T1 : Tt) (H : Heap) (locs : List Loc) (ls : Array Slot) (cells slots n k : Nat), kx18_1185 W1 T1 = some ((V', T'), n, k) → cells + n = mc → slots + k = ms → wS G W1 T1 H locs → lv_has ls 4 [] → W p l e room_1 s m #[Value.ref b] below meth c H locs cells slots (lw_Z below #[Value.ref b] s) (F0 m 1185 ls [])) : W p l e room_1 s m #[Value.ref b] below meth c H locs cells slots (lw_Z below #[Value.ref b] s) (F0 m 1179 ls []) := by
  have hx := C.1
  have hb := C.2.1
  have hown := C.2.2.2.1
  have hts := C.2.2.2.2.1
  unfold f_law_J1179 at hf
  revert hf
  refine k_stp (fun z29 ez29 hf => ?_)
  refine lv_iinc (k := 3) (lv' := [(3, .int z29), (0, .ref b), (1, .ref (gb G + x1)), (2, .ref (gb G + x2))]) hx hb dL_law_1179 hl rfl (inc_e (by decide) ez29) (by decide) rfl (fun ls hl => ?_)
  refine lv_goto (tgt := 18) hx hb dL_law_1182 (by decide) ?_
  exact hkc18 _ _ _ _ _ _ _ _ _ _ hf hn hk hw (lv_sub hl [1, 2, 3, 0] rfl)
set_option maxHeartbeats 4000000 in
theorem jk_L_law_1166 {l : Launch} {G : gG} {p : Program} {e : Env} {s : State} {m : MethodId} {below : List Frame} {meth : Method} {c : Code} {b L : Nat} {xs : Nat → Int32} {T : Tt} {V0 : Vt} {V' : Vt} {T' : Tt} {mc ms : Nat} (C : Cx G p s m #[Value.ref b] meth c code R_law 4) (hr : meth.sig.returnType = ret) (hG : G.2.2 = s) (hX : va_X b L xs s s.heap) (hbl : b < s.heap.size) (hmc : mc ≤ 1200128) (hms : ms ≤ 5501098) {x1 : Nat} {x2 : Nat} {x3 : Int32} {kc18 : Int32 → Vt → Tt → Option ((Vt × Tt) × Nat × Nat)} {kx18_1185 : Vt → Tt → Option ((Vt × Tt) × Nat × Nat)} {H : Heap} {locs : List Loc} {ls : Array Slot} {cells slots n k : Nat} (hf : f_law_J1166 xs L T V0 x1 x2 x3 kc18 kx18_1185 = some ((V', T'), n, k)) (hn : cells + n = mc) (hk : slots + k = ms) (hw : wS G V0 T H locs) (hl : lv_has ls 4 [(0, .ref b), (1, .ref (gb G + x1)), (2, .ref (gb G + x2)), (3, .int x3)]) (hkc18 : ∀ (y3 : Int32) (W1 : Vt) (T1 : Tt) (H : Heap) (locs : List Loc) (ls : Array Slot) (cells slots n k : Nat), kc18 y3 W1 T1 = some ((V', T'), n, k) → cells + n = mc → slots + k = ms → wS G W1 T1 H locs → lv_has ls 4 [(0, .ref b), (1, .ref (gb G + x1)), (2, .ref (gb G + x2)), (3, .int y3)] → W p l e room_1 s m #[Value.ref b] below meth c H locs cells slots (lw_Z below #[Value.ref b] s) (F0 m 18 ls [])) (hkx18_1185 : ∀ (W1 : Vt) (T1 : Tt) (H : Heap) (locs : List Loc) (ls : Array Slot) (cells slots n k : Nat), kx18_1185 W1 T1 = some ((V', T'), n, k) → cells + n = mc → slots + k = ms → wS G W1 T1 H locs → lv_has ls 4 [] → W p l e room_1 s m #[Value.ref b] below meth c H locs cells slots (lw_Z below #[Value.ref b] s) (F0 m 1185 ls [])) : W p l e room_1 s m #[Value.ref b] below meth c H locs cells slots (lw_Z below #[Value.ref b] s) (F0 m 1166 ls []) := by
  have hx := C.1
  have hb := C.2.1
  have hown := C.2.2.2.1
  have hts := C.2.2.2.2.1
  unfold f_law_J1166 at hf
  refine lv_aload_n hx hb dL_law_1166 rfl (lv_at hl 1 rfl) ?_
  revert hf
  refine k_pcl (fun z405 h404 hf => ?_)
  refine w_afi hw (w_rV (As := []) C hw (ok_X0_status h404) (cw_L_164 hts (Nat.le_of_ble_eq_true rfl) (Nat.le_of_ble_eq_true rfl)) rfl (by decide) (of_req h404).1 rfl hl.1 rfl (Nat.le_of_ble_eq_true rfl) ⟨by show _ + 0 ≤ 1200128; omega, by show _ + 0 ≤ 5501098; omega⟩ dL_law_1167) (fun H locs hw => ?_)
  refine lv_aload_n hx hb dL_law_1170 rfl (lv_at hl 2 rfl) ?_
  revert hf
  refine k_cal (fun z407 U408 h406 hf => ?_)
  refine w_afi hw (w_rV (As := []) C hw (ok_X5_status h406) (cw_L_167 hts (Nat.le_of_ble_eq_true rfl) (Nat.le_of_ble_eq_true rfl)) rfl (by decide) (of_req h406).1 rfl hl.1 rfl (Nat.le_of_ble_eq_true rfl) ⟨by show _ + 0 ≤ 1200128; omega, by show _ + 0 ≤ 5501098; omega⟩ dL_law_1171) (fun H locs hw => ?_)
  refine lv_icmp_eq (tgt := 1179) hx hb dL_law_1174 (by decide) (fun c409 => ?_) (fun c409 => ?_)
  · replace hf := ite_t c409 hf
    exact jk_L_law_1179 C hr hG hX hbl hmc hms hf hn hk hw (lv_sub hl [0, 1, 2, 3] rfl) hkc18 hkx18_1185
  · replace hf := ite_f c409 hf
    cases hf
set_option maxHeartbeats 4000000 in
theorem jk_L_law_1143 {l : Launch} {G : gG} {p : Program} {e : Env} {s : State} {m : MethodId} {below : List Frame} {meth : Method} {c : Code} {b L : Nat} {xs : Nat → Int32} {T : Tt} {V0 : Vt} {V' : Vt} {T' : Tt} {mc ms : Nat} (C : Cx G p s m #[Value.ref b] meth c code R_law 4) (hr : meth.sig.returnType = ret) (hG : G.2.2 = s) (hX : va_X b L xs s s.heap) (hbl : b < s.heap.size) (hmc : mc ≤ 1200128) (hms : ms ≤ 5501098) {x1 : Nat} {x2 : Nat} {x3 : Int32} {kc18 : Int32 → Vt → Tt → Option ((Vt × Tt) × Nat × Nat)} {kx18_1185 : Vt → Tt → Option ((Vt × Tt) × Nat × Nat)} {H : Heap} {locs : List Loc} {ls : Array Slot} {cells slots n k : Nat} (hf : f_law_J1143 xs L T V0 x1 x2 x3 kc18 kx18_1185 = some ((V', T'), n, k)) (hn : cells + n = mc) (hk : slots + k = ms) (hw : wS G V0 T H locs) (hl : lv_has ls 4 [(0, .ref b), (1, .ref (gb G + x1)), (2, .ref (gb G + x2)), (3, .int x3)]) (hkc18 : ∀ (y3 : Int32) (W1 : Vt) (T1 : Tt) (H : Heap) (locs : List Loc) (ls : Array Slot) (cells slots n k : Nat), kc18 y3 W1 T1 = some ((V', T'), n, k) → cells + n = mc → slots + k = ms → wS G W1 T1 H locs → lv_has ls 4 [(0, .ref b), (1, .ref (gb G + x1)), (2, .ref (gb G + x2)), (3, .int y3)] → W p l e room_1 s m #[Value.ref b] below meth c H locs cells slots (lw_Z below #[Value.ref b] s) (F0 m 18 ls [])) (hkx18_1185 : ∀ (W1 : Vt) (T1 : Tt) (H : Heap) (locs : List Loc) (ls : Array Slot) (cells slots n k : Nat), kx18_1185 W1 T1 = some ((V', T'), n, k) → cells + n = mc → slots + k = ms → wS G W1 T1 H locs → lv_has ls 4 [] → W p l e room_1 s m #[Value.ref b] below meth c H locs cells slots (lw_Z below #[Value.ref b] s) (F0 m 1185 ls [])) : W p l e room_1 s m #[Value.ref b] below meth c H locs cells slots (lw_Z below #[Value.ref b] s) (F0 m 1143 ls []) := by
  have hx := C.1
  have hb := C.2.1
  have hown := C.2.2.2.1
  have hts := C.2.2.2.2.1
  unfold f_law_J1143 at hf
  refine lv_aload_n hx hb dL_law_1143 rfl (lv_at hl 1 rfl) ?_
  refine lv_aload_n hx hb dL_law_1144 rfl (lv_at hl 0 rfl) ?_
  refine lv_iload_n hx hb dL_law_1145 rfl (lv_at hl 3 rfl) ?_
  refine lv_iconst (v := (1 : Int32)) hx hb dL_law_1146 (by decide) ?_
  refine lv_iadd hx hb dL_law_1147 ?_
  revert hf
  refine k_req (fun h395 hf => ?_)
  refine va_sld hx hb hX hbl (law_b hG hbl) (law_S hG hw) (law_in h395) dL_law_1148 ?_
  revert hf
  refine k_pcl (fun z397 h396 hf => ?_)
  refine w_afi hw (w_rV (As := [.int (xs (ixN (x3 + (1 : Int32))))]) C hw (ok_X0_count h396) (cw_L_160 hts (Nat.le_of_ble_eq_true rfl) (Nat.le_of_ble_eq_true rfl)) rfl (by decide) (of_req h396).1 rfl hl.1 rfl (Nat.le_of_ble_eq_true rfl) ⟨by show _ + 0 ≤ 1200128; omega, by show _ + 0 ≤ 5501098; omega⟩ dL_law_1149) (fun H locs hw => ?_)
  refine lv_aload_n hx hb dL_law_1152 rfl (lv_at hl 2 rfl) ?_
  refine lv_aload_n hx hb dL_law_1153 rfl (lv_at hl 0 rfl) ?_
  refine lv_iload_n hx hb dL_law_1154 rfl (lv_at hl 3 rfl) ?_
  refine lv_iconst (v := (1 : Int32)) hx hb dL_law_1155 (by decide) ?_
  refine lv_iadd hx hb dL_law_1156 ?_
  revert hf
  refine k_req (fun h398 hf => ?_)
  refine va_sld hx hb hX hbl (law_b hG hbl) (law_S hG hw) (law_in h398) dL_law_1157 ?_
  revert hf
  refine k_cal (fun z400 U401 h399 hf => ?_)
  refine w_afi hw (w_rV (As := [.int (xs (ixN (x3 + (1 : Int32))))]) C hw (ok_X5_count h399) (cw_L_163 hts (Nat.le_of_ble_eq_true rfl) (Nat.le_of_ble_eq_true rfl)) rfl (by decide) (of_req h399).1 rfl hl.1 rfl (Nat.le_of_ble_eq_true rfl) ⟨by show _ + 0 ≤ 1200128; omega, by show _ + 0 ≤ 5501098; omega⟩ dL_law_1158) (fun H locs hw => ?_)
  refine lv_icmp_eq (tgt := 1179) hx hb dL_law_1161 (by decide) (fun c402 => ?_) (fun c402 => ?_)
  · replace hf := ite_t c402 hf
    exact jk_L_law_1179 C hr hG hX hbl hmc hms hf hn hk hw (lv_sub hl [0, 1, 2, 3] rfl) hkc18 hkx18_1185
  · replace hf := ite_f c402 hf
    cases hf
set_option maxHeartbeats 4000000 in
theorem jk_L_law_1120 {l : Launch} {G : gG} {p : Program} {e : Env} {s : State} {m : MethodId} {below : List Frame} {meth : Method} {c : Code} {b L : Nat} {xs : Nat → Int32} {T : Tt} {V0 : Vt} {V' : Vt} {T' : Tt} {mc ms : Nat} (C : Cx G p s m #[Value.ref b] meth c code R_law 4) (hr : meth.sig.returnType = ret) (hG : G.2.2 = s) (hX : va_X b L xs s s.heap) (hbl : b < s.heap.size) (hmc : mc ≤ 1200128) (hms : ms ≤ 5501098) {x1 : Nat} {x2 : Nat} {x3 : Int32} {kc18 : Int32 → Vt → Tt → Option ((Vt × Tt) × Nat × Nat)} {kx18_1185 : Vt → Tt → Option ((Vt × Tt) × Nat × Nat)} {H : Heap} {locs : List Loc} {ls : Array Slot} {cells slots n k : Nat} (hf : f_law_J1120 xs L T V0 x1 x2 x3 kc18 kx18_1185 = some ((V', T'), n, k)) (hn : cells + n = mc) (hk : slots + k = ms) (hw : wS G V0 T H locs) (hl : lv_has ls 4 [(0, .ref b), (1, .ref (gb G + x1)), (2, .ref (gb G + x2)), (3, .int x3)]) (hkc18 : ∀ (y3 : Int32) (W1 : Vt) (T1 : Tt) (H : Heap) (locs : List Loc) (ls : Array Slot) (cells slots n k : Nat), kc18 y3 W1 T1 = some ((V', T'), n, k) → cells + n = mc → slots + k = ms → wS G W1 T1 H locs → lv_has ls 4 [(0, .ref b), (1, .ref (gb G + x1)), (2, .ref (gb G + x2)), (3, .int y3)] → W p l e room_1 s m #[Value.ref b] below meth c H locs cells slots (lw_Z below #[Value.ref b] s) (F0 m 18 ls [])) (hkx18_1185 : ∀ (W1 : Vt) (T1 : Tt) (H : Heap) (locs : List Loc) (ls : Array Slot) (cells slots n k : Nat), kx18_1185 W1 T1 = some ((V', T'), n, k) → cells + n = mc → slots + k = ms → wS G W1 T1 H locs → lv_has ls 4 [] → W p l e room_1 s m #[Value.ref b] below meth c H locs cells slots (lw_Z below #[Value.ref b] s) (F0 m 1185 ls [])) : W p l e room_1 s m #[Value.ref b] below meth c H locs cells slots (lw_Z below #[Value.ref b] s) (F0 m 1120 ls []) := by
  have hx := C.1
  have hb := C.2.1
  have hown := C.2.2.2.1
  have hts := C.2.2.2.2.1
  unfold f_law_J1120 at hf
  refine lv_aload_n hx hb dL_law_1120 rfl (lv_at hl 1 rfl) ?_
  refine lv_aload_n hx hb dL_law_1121 rfl (lv_at hl 0 rfl) ?_
  refine lv_iload_n hx hb dL_law_1122 rfl (lv_at hl 3 rfl) ?_
  refine lv_iconst (v := (1 : Int32)) hx hb dL_law_1123 (by decide) ?_
  refine lv_iadd hx hb dL_law_1124 ?_
  revert hf
  refine k_req (fun h384 hf => ?_)
  refine va_sld hx hb hX hbl (law_b hG hbl) (law_S hG hw) (law_in h384) dL_law_1125 ?_
  revert hf
  refine k_dcl (fun z386 U387 T388 na ka n1 k1 h385 hf en ek => ?_)
  refine w_afi hw (w_rV (As := [.int (xs (ixN (x3 + (1 : Int32))))]) C hw (ok_X0_back h385) (cw_L_156 hts (Nat.le_of_ble_eq_true rfl) (Nat.le_of_ble_eq_true rfl)) rfl (by decide) (of_req h385).1 rfl hl.1 rfl (Nat.le_of_ble_eq_true rfl) ⟨by show _ ≤ 1200128; omega, by show _ ≤ 5501098; omega⟩ dL_law_1126) (fun H locs hw => ?_)
  replace hn := add_r hn en
  replace hk := add_r hk ek
  clear en ek
  generalize n1 = n at hf hn
  generalize k1 = k at hf hk
  refine lv_aload_n hx hb dL_law_1129 rfl (lv_at hl 2 rfl) ?_
  refine lv_aload_n hx hb dL_law_1130 rfl (lv_at hl 0 rfl) ?_
  refine lv_iload_n hx hb dL_law_1131 rfl (lv_at hl 3 rfl) ?_
  refine lv_iconst (v := (1 : Int32)) hx hb dL_law_1132 (by decide) ?_
  refine lv_iadd hx hb dL_law_1133 ?_
  revert hf
  refine k_req (fun h389 hf => ?_)
  refine va_sld hx hb hX hbl (law_b hG hbl) (law_S hG hw) (law_in h389) dL_law_1134 ?_
  revert hf
  refine k_cal (fun z391 U392 h390 hf => ?_)
  refine w_afi hw (w_rV (As := [.int (xs (ixN (x3 + (1 : Int32))))]) C hw (ok_X5_back h390) (cw_L_159 hts (Nat.le_of_ble_eq_true rfl) (Nat.le_of_ble_eq_true rfl)) rfl (by decide) (of_req h390).1 rfl hl.1 rfl (Nat.le_of_ble_eq_true rfl) ⟨by show _ + 0 ≤ 1200128; omega, by show _ + 0 ≤ 5501098; omega⟩ dL_law_1135) (fun H locs hw => ?_)
  refine lv_icmp_eq (tgt := 1179) hx hb dL_law_1138 (by decide) (fun c393 => ?_) (fun c393 => ?_)
  · replace hf := ite_t c393 hf
    exact jk_L_law_1179 C hr hG hX hbl hmc hms hf hn hk hw (lv_sub hl [0, 1, 2, 3] rfl) hkc18 hkx18_1185
  · replace hf := ite_f c393 hf
    cases hf
set_option maxHeartbeats 4000000 in
theorem jk_L_law_1097 {l : Launch} {G : gG} {p : Program} {e : Env} {s : State} {m : MethodId} {below : List Frame} {meth : Method} {c : Code} {b L : Nat} {xs : Nat → Int32} {T : Tt} {V0 : Vt} {V' : Vt} {T' : Tt} {mc ms : Nat} (C : Cx G p s m #[Value.ref b] meth c code R_law 4) (hr : meth.sig.returnType = ret) (hG : G.2.2 = s) (hX : va_X b L xs s s.heap) (hbl : b < s.heap.size) (hmc : mc ≤ 1200128) (hms : ms ≤ 5501098) {x1 : Nat} {x2 : Nat} {x3 : Int32} {kc18 : Int32 → Vt → Tt → Option ((Vt × Tt) × Nat × Nat)} {kx18_1185 : Vt → Tt → Option ((Vt × Tt) × Nat × Nat)} {H : Heap} {locs : List Loc} {ls : Array Slot} {cells slots n k : Nat} (hf : f_law_J1097 xs L T V0 x1 x2 x3 kc18 kx18_1185 = some ((V', T'), n, k)) (hn : cells + n = mc) (hk : slots + k = ms) (hw : wS G V0 T H locs) (hl : lv_has ls 4 [(0, .ref b), (1, .ref (gb G + x1)), (2, .ref (gb G + x2)), (3, .int x3)]) (hkc18 : ∀ (y3 : Int32) (W1 : Vt) (T1 : Tt) (H : Heap) (locs : List Loc) (ls : Array Slot) (cells slots n k : Nat), kc18 y3 W1 T1 = some ((V', T'), n, k) → cells + n = mc → slots + k = ms → wS G W1 T1 H locs → lv_has ls 4 [(0, .ref b), (1, .ref (gb G + x1)), (2, .ref (gb G + x2)), (3, .int y3)] → W p l e room_1 s m #[Value.ref b] below meth c H locs cells slots (lw_Z below #[Value.ref b] s) (F0 m 18 ls [])) (hkx18_1185 : ∀ (W1 : Vt) (T1 : Tt) (H : Heap) (locs : List Loc) (ls : Array Slot) (cells slots n k : Nat), kx18_1185 W1 T1 = some ((V', T'), n, k) → cells + n = mc → slots + k = ms → wS G W1 T1 H locs → lv_has ls 4 [] → W p l e room_1 s m #[Value.ref b] below meth c H locs cells slots (lw_Z below #[Value.ref b] s) (F0 m 1185 ls [])) : W p l e room_1 s m #[Value.ref b] below meth c H locs cells slots (lw_Z below #[Value.ref b] s) (F0 m 1097 ls []) := by
  have hx := C.1
  have hb := C.2.1
  have hown := C.2.2.2.1
  have hts := C.2.2.2.2.1
  unfold f_law_J1097 at hf
  refine lv_aload_n hx hb dL_law_1097 rfl (lv_at hl 1 rfl) ?_
  refine lv_aload_n hx hb dL_law_1098 rfl (lv_at hl 0 rfl) ?_
  refine lv_iload_n hx hb dL_law_1099 rfl (lv_at hl 3 rfl) ?_
  refine lv_iconst (v := (1 : Int32)) hx hb dL_law_1100 (by decide) ?_
  refine lv_iadd hx hb dL_law_1101 ?_
  revert hf
  refine k_req (fun h373 hf => ?_)
  refine va_sld hx hb hX hbl (law_b hG hbl) (law_S hG hw) (law_in h373) dL_law_1102 ?_
  revert hf
  refine k_dcl (fun z375 U376 T377 na ka n1 k1 h374 hf en ek => ?_)
  refine w_afi hw (w_rV (As := [.int (xs (ixN (x3 + (1 : Int32))))]) C hw (ok_X0_image h374) (cw_L_152 hts (Nat.le_of_ble_eq_true rfl) (Nat.le_of_ble_eq_true rfl)) rfl (by decide) (of_req h374).1 rfl hl.1 rfl (Nat.le_of_ble_eq_true rfl) ⟨by show _ ≤ 1200128; omega, by show _ ≤ 5501098; omega⟩ dL_law_1103) (fun H locs hw => ?_)
  replace hn := add_r hn en
  replace hk := add_r hk ek
  clear en ek
  generalize n1 = n at hf hn
  generalize k1 = k at hf hk
  refine lv_aload_n hx hb dL_law_1106 rfl (lv_at hl 2 rfl) ?_
  refine lv_aload_n hx hb dL_law_1107 rfl (lv_at hl 0 rfl) ?_
  refine lv_iload_n hx hb dL_law_1108 rfl (lv_at hl 3 rfl) ?_
  refine lv_iconst (v := (1 : Int32)) hx hb dL_law_1109 (by decide) ?_
  refine lv_iadd hx hb dL_law_1110 ?_
  revert hf
  refine k_req (fun h378 hf => ?_)
  refine va_sld hx hb hX hbl (law_b hG hbl) (law_S hG hw) (law_in h378) dL_law_1111 ?_
  revert hf
  refine k_cal (fun z380 U381 h379 hf => ?_)
  refine w_afi hw (w_rV (As := [.int (xs (ixN (x3 + (1 : Int32))))]) C hw (ok_X5_image h379) (cw_L_155 hts (Nat.le_of_ble_eq_true rfl) (Nat.le_of_ble_eq_true rfl)) rfl (by decide) (of_req h379).1 rfl hl.1 rfl (Nat.le_of_ble_eq_true rfl) ⟨by show _ + 0 ≤ 1200128; omega, by show _ + 0 ≤ 5501098; omega⟩ dL_law_1112) (fun H locs hw => ?_)
  refine lv_icmp_eq (tgt := 1179) hx hb dL_law_1115 (by decide) (fun c382 => ?_) (fun c382 => ?_)
  · replace hf := ite_t c382 hf
    exact jk_L_law_1179 C hr hG hX hbl hmc hms hf hn hk hw (lv_sub hl [0, 1, 2, 3] rfl) hkc18 hkx18_1185
  · replace hf := ite_f c382 hf
    cases hf
set_option maxHeartbeats 4000000 in
theorem jk_L_law_1064 {l : Launch} {G : gG} {p : Program} {e : Env} {s : State} {m : MethodId} {below : List Frame} {meth : Method} {c : Code} {b L : Nat} {xs : Nat → Int32} {T : Tt} {V0 : Vt} {V' : Vt} {T' : Tt} {mc ms : Nat} (C : Cx G p s m #[Value.ref b] meth c code R_law 4) (hr : meth.sig.returnType = ret) (hG : G.2.2 = s) (hX : va_X b L xs s s.heap) (hbl : b < s.heap.size) (hmc : mc ≤ 1200128) (hms : ms ≤ 5501098) {x1 : Nat} {x2 : Nat} {x3 : Int32} {kc18 : Int32 → Vt → Tt → Option ((Vt × Tt) × Nat × Nat)} {kx18_1185 : Vt → Tt → Option ((Vt × Tt) × Nat × Nat)} {H : Heap} {locs : List Loc} {ls : Array Slot} {cells slots n k : Nat} (hf : f_law_J1064 xs L T V0 x1 x2 x3 kc18 kx18_1185 = some ((V', T'), n, k)) (hn : cells + n = mc) (hk : slots + k = ms) (hw : wS G V0 T H locs) (hl : lv_has ls 4 [(0, .ref b), (1, .ref (gb G + x1)), (2, .ref (gb G + x2)), (3, .int x3)]) (hkc18 : ∀ (y3 : Int32) (W1 : Vt) (T1 : Tt) (H : Heap) (locs : List Loc) (ls : Array Slot) (cells slots n k : Nat), kc18 y3 W1 T1 = some ((V', T'), n, k) → cells + n = mc → slots + k = ms → wS G W1 T1 H locs → lv_has ls 4 [(0, .ref b), (1, .ref (gb G + x1)), (2, .ref (gb G + x2)), (3, .int y3)] → W p l e room_1 s m #[Value.ref b] below meth c H locs cells slots (lw_Z below #[Value.ref b] s) (F0 m 18 ls [])) (hkx18_1185 : ∀ (W1 : Vt) (T1 : Tt) (H : Heap) (locs : List Loc) (ls : Array Slot) (cells slots n k : Nat), kx18_1185 W1 T1 = some ((V', T'), n, k) → cells + n = mc → slots + k = ms → wS G W1 T1 H locs → lv_has ls 4 [] → W p l e room_1 s m #[Value.ref b] below meth c H locs cells slots (lw_Z below #[Value.ref b] s) (F0 m 1185 ls [])) : W p l e room_1 s m #[Value.ref b] below meth c H locs cells slots (lw_Z below #[Value.ref b] s) (F0 m 1064 ls []) := by
  have hx := C.1
  have hb := C.2.1
  have hown := C.2.2.2.1
  have hts := C.2.2.2.2.1
  unfold f_law_J1064 at hf
  refine lv_aload_n hx hb dL_law_1064 rfl (lv_at hl 1 rfl) ?_
  refine lv_aload_n hx hb dL_law_1065 rfl (lv_at hl 0 rfl) ?_
  refine lv_iload_n hx hb dL_law_1066 rfl (lv_at hl 3 rfl) ?_
  refine lv_iconst (v := (1 : Int32)) hx hb dL_law_1067 (by decide) ?_
  refine lv_iadd hx hb dL_law_1068 ?_
  revert hf
  refine k_req (fun h362 hf => ?_)
  refine va_sld hx hb hX hbl (law_b hG hbl) (law_S hG hw) (law_in h362) dL_law_1069 ?_
  refine lv_aload_n hx hb dL_law_1070 rfl (lv_at hl 0 rfl) ?_
  refine lv_iload_n hx hb dL_law_1071 rfl (lv_at hl 3 rfl) ?_
  refine lv_iconst (v := (2 : Int32)) hx hb dL_law_1072 (by decide) ?_
  refine lv_iadd hx hb dL_law_1073 ?_
  revert hf
  refine k_req (fun h363 hf => ?_)
  refine va_sld hx hb hX hbl (law_b hG hbl) (law_S hG hw) (law_in h363) dL_law_1074 ?_
  revert hf
  refine k_pcl (fun z365 h364 hf => ?_)
  refine w_afi hw (w_rV (As := [.int (xs (ixN (x3 + (1 : Int32)))), .int (xs (ixN (x3 + (2 : Int32))))]) C hw (ok_X0_drawn h364) (cw_L_148 hts (Nat.le_of_ble_eq_true rfl) (Nat.le_of_ble_eq_true rfl)) rfl (by decide) (of_req h364).1 rfl hl.1 rfl (Nat.le_of_ble_eq_true rfl) ⟨by show _ + 0 ≤ 1200128; omega, by show _ + 0 ≤ 5501098; omega⟩ dL_law_1075) (fun H locs hw => ?_)
  refine lv_aload_n hx hb dL_law_1078 rfl (lv_at hl 2 rfl) ?_
  refine lv_aload_n hx hb dL_law_1079 rfl (lv_at hl 0 rfl) ?_
  refine lv_iload_n hx hb dL_law_1080 rfl (lv_at hl 3 rfl) ?_
  refine lv_iconst (v := (1 : Int32)) hx hb dL_law_1081 (by decide) ?_
  refine lv_iadd hx hb dL_law_1082 ?_
  revert hf
  refine k_req (fun h366 hf => ?_)
  refine va_sld hx hb hX hbl (law_b hG hbl) (law_S hG hw) (law_in h366) dL_law_1083 ?_
  refine lv_aload_n hx hb dL_law_1084 rfl (lv_at hl 0 rfl) ?_
  refine lv_iload_n hx hb dL_law_1085 rfl (lv_at hl 3 rfl) ?_
  refine lv_iconst (v := (2 : Int32)) hx hb dL_law_1086 (by decide) ?_
  refine lv_iadd hx hb dL_law_1087 ?_
  revert hf
  refine k_req (fun h367 hf => ?_)
  refine va_sld hx hb hX hbl (law_b hG hbl) (law_S hG hw) (law_in h367) dL_law_1088 ?_
  revert hf
  refine k_cal (fun z369 U370 h368 hf => ?_)
  refine w_afi hw (w_rV (As := [.int (xs (ixN (x3 + (1 : Int32)))), .int (xs (ixN (x3 + (2 : Int32))))]) C hw (ok_X5_drawn h368) (cw_L_151 hts (Nat.le_of_ble_eq_true rfl) (Nat.le_of_ble_eq_true rfl)) rfl (by decide) (of_req h368).1 rfl hl.1 rfl (Nat.le_of_ble_eq_true rfl) ⟨by show _ + 0 ≤ 1200128; omega, by show _ + 0 ≤ 5501098; omega⟩ dL_law_1089) (fun H locs hw => ?_)
  refine lv_icmp_eq (tgt := 1179) hx hb dL_law_1092 (by decide) (fun c371 => ?_) (fun c371 => ?_)
  · replace hf := ite_t c371 hf
    exact jk_L_law_1179 C hr hG hX hbl hmc hms hf hn hk hw (lv_sub hl [0, 1, 2, 3] rfl) hkc18 hkx18_1185
  · replace hf := ite_f c371 hf
    cases hf
set_option maxHeartbeats 4000000 in
theorem jk_L_law_1031 {l : Launch} {G : gG} {p : Program} {e : Env} {s : State} {m : MethodId} {below : List Frame} {meth : Method} {c : Code} {b L : Nat} {xs : Nat → Int32} {T : Tt} {V0 : Vt} {V' : Vt} {T' : Tt} {mc ms : Nat} (C : Cx G p s m #[Value.ref b] meth c code R_law 4) (hr : meth.sig.returnType = ret) (hG : G.2.2 = s) (hX : va_X b L xs s s.heap) (hbl : b < s.heap.size) (hmc : mc ≤ 1200128) (hms : ms ≤ 5501098) {x1 : Nat} {x2 : Nat} {x3 : Int32} {kc18 : Int32 → Vt → Tt → Option ((Vt × Tt) × Nat × Nat)} {kx18_1185 : Vt → Tt → Option ((Vt × Tt) × Nat × Nat)} {H : Heap} {locs : List Loc} {ls : Array Slot} {cells slots n k : Nat} (hf : f_law_J1031 xs L T V0 x1 x2 x3 kc18 kx18_1185 = some ((V', T'), n, k)) (hn : cells + n = mc) (hk : slots + k = ms) (hw : wS G V0 T H locs) (hl : lv_has ls 4 [(0, .ref b), (1, .ref (gb G + x1)), (2, .ref (gb G + x2)), (3, .int x3)]) (hkc18 : ∀ (y3 : Int32) (W1 : Vt) (T1 : Tt) (H : Heap) (locs : List Loc) (ls : Array Slot) (cells slots n k : Nat), kc18 y3 W1 T1 = some ((V', T'), n, k) → cells + n = mc → slots + k = ms → wS G W1 T1 H locs → lv_has ls 4 [(0, .ref b), (1, .ref (gb G + x1)), (2, .ref (gb G + x2)), (3, .int y3)] → W p l e room_1 s m #[Value.ref b] below meth c H locs cells slots (lw_Z below #[Value.ref b] s) (F0 m 18 ls [])) (hkx18_1185 : ∀ (W1 : Vt) (T1 : Tt) (H : Heap) (locs : List Loc) (ls : Array Slot) (cells slots n k : Nat), kx18_1185 W1 T1 = some ((V', T'), n, k) → cells + n = mc → slots + k = ms → wS G W1 T1 H locs → lv_has ls 4 [] → W p l e room_1 s m #[Value.ref b] below meth c H locs cells slots (lw_Z below #[Value.ref b] s) (F0 m 1185 ls [])) : W p l e room_1 s m #[Value.ref b] below meth c H locs cells slots (lw_Z below #[Value.ref b] s) (F0 m 1031 ls []) := by
  have hx := C.1
  have hb := C.2.1
  have hown := C.2.2.2.1
  have hts := C.2.2.2.2.1
  unfold f_law_J1031 at hf
  refine lv_aload_n hx hb dL_law_1031 rfl (lv_at hl 1 rfl) ?_
  refine lv_aload_n hx hb dL_law_1032 rfl (lv_at hl 0 rfl) ?_
  refine lv_iload_n hx hb dL_law_1033 rfl (lv_at hl 3 rfl) ?_
  refine lv_iconst (v := (1 : Int32)) hx hb dL_law_1034 (by decide) ?_
  refine lv_iadd hx hb dL_law_1035 ?_
  revert hf
  refine k_req (fun h350 hf => ?_)
  refine va_sld hx hb hX hbl (law_b hG hbl) (law_S hG hw) (law_in h350) dL_law_1036 ?_
  refine lv_aload_n hx hb dL_law_1037 rfl (lv_at hl 0 rfl) ?_
  refine lv_iload_n hx hb dL_law_1038 rfl (lv_at hl 3 rfl) ?_
  refine lv_iconst (v := (2 : Int32)) hx hb dL_law_1039 (by decide) ?_
  refine lv_iadd hx hb dL_law_1040 ?_
  revert hf
  refine k_req (fun h351 hf => ?_)
  refine va_sld hx hb hX hbl (law_b hG hbl) (law_S hG hw) (law_in h351) dL_law_1041 ?_
  revert hf
  refine k_cal (fun z353 U354 h352 hf => ?_)
  refine w_afi hw (w_rV (As := [.int (xs (ixN (x3 + (1 : Int32)))), .int (xs (ixN (x3 + (2 : Int32))))]) C hw (ok_X0_harvests h352) (cw_L_144 hts (Nat.le_of_ble_eq_true rfl) (Nat.le_of_ble_eq_true rfl)) rfl (by decide) (of_req h352).1 rfl hl.1 rfl (Nat.le_of_ble_eq_true rfl) ⟨by show _ + 0 ≤ 1200128; omega, by show _ + 0 ≤ 5501098; omega⟩ dL_law_1042) (fun H locs hw => ?_)
  refine lv_aload_n hx hb dL_law_1045 rfl (lv_at hl 2 rfl) ?_
  refine lv_aload_n hx hb dL_law_1046 rfl (lv_at hl 0 rfl) ?_
  refine lv_iload_n hx hb dL_law_1047 rfl (lv_at hl 3 rfl) ?_
  refine lv_iconst (v := (1 : Int32)) hx hb dL_law_1048 (by decide) ?_
  refine lv_iadd hx hb dL_law_1049 ?_
  revert hf
  refine k_req (fun h355 hf => ?_)
  refine va_sld hx hb hX hbl (law_b hG hbl) (law_S hG hw) (law_in h355) dL_law_1050 ?_
  refine lv_aload_n hx hb dL_law_1051 rfl (lv_at hl 0 rfl) ?_
  refine lv_iload_n hx hb dL_law_1052 rfl (lv_at hl 3 rfl) ?_
  refine lv_iconst (v := (2 : Int32)) hx hb dL_law_1053 (by decide) ?_
  refine lv_iadd hx hb dL_law_1054 ?_
  revert hf
  refine k_req (fun h356 hf => ?_)
  refine va_sld hx hb hX hbl (law_b hG hbl) (law_S hG hw) (law_in h356) dL_law_1055 ?_
  revert hf
  refine k_cal (fun z358 U359 h357 hf => ?_)
  refine w_afi hw (w_rV (As := [.int (xs (ixN (x3 + (1 : Int32)))), .int (xs (ixN (x3 + (2 : Int32))))]) C hw (ok_X5_harvests h357) (cw_L_147 hts (Nat.le_of_ble_eq_true rfl) (Nat.le_of_ble_eq_true rfl)) rfl (by decide) (of_req h357).1 rfl hl.1 rfl (Nat.le_of_ble_eq_true rfl) ⟨by show _ + 0 ≤ 1200128; omega, by show _ + 0 ≤ 5501098; omega⟩ dL_law_1056) (fun H locs hw => ?_)
  refine lv_icmp_eq (tgt := 1179) hx hb dL_law_1059 (by decide) (fun c360 => ?_) (fun c360 => ?_)
  · replace hf := ite_t c360 hf
    exact jk_L_law_1179 C hr hG hX hbl hmc hms hf hn hk hw (lv_sub hl [0, 1, 2, 3] rfl) hkc18 hkx18_1185
  · replace hf := ite_f c360 hf
    cases hf
set_option maxHeartbeats 4000000 in
theorem jk_L_law_998 {l : Launch} {G : gG} {p : Program} {e : Env} {s : State} {m : MethodId} {below : List Frame} {meth : Method} {c : Code} {b L : Nat} {xs : Nat → Int32} {T : Tt} {V0 : Vt} {V' : Vt} {T' : Tt} {mc ms : Nat} (C : Cx G p s m #[Value.ref b] meth c code R_law 4) (hr : meth.sig.returnType = ret) (hG : G.2.2 = s) (hX : va_X b L xs s s.heap) (hbl : b < s.heap.size) (hmc : mc ≤ 1200128) (hms : ms ≤ 5501098) {x1 : Nat} {x2 : Nat} {x3 : Int32} {kc18 : Int32 → Vt → Tt → Option ((Vt × Tt) × Nat × Nat)} {kx18_1185 : Vt → Tt → Option ((Vt × Tt) × Nat × Nat)} {H : Heap} {locs : List Loc} {ls : Array Slot} {cells slots n k : Nat} (hf : f_law_J998 xs L T V0 x1 x2 x3 kc18 kx18_1185 = some ((V', T'), n, k)) (hn : cells + n = mc) (hk : slots + k = ms) (hw : wS G V0 T H locs) (hl : lv_has ls 4 [(0, .ref b), (1, .ref (gb G + x1)), (2, .ref (gb G + x2)), (3, .int x3)]) (hkc18 : ∀ (y3 : Int32) (W1 : Vt) (T1 : Tt) (H : Heap) (locs : List Loc) (ls : Array Slot) (cells slots n k : Nat), kc18 y3 W1 T1 = some ((V', T'), n, k) → cells + n = mc → slots + k = ms → wS G W1 T1 H locs → lv_has ls 4 [(0, .ref b), (1, .ref (gb G + x1)), (2, .ref (gb G + x2)), (3, .int y3)] → W p l e room_1 s m #[Value.ref b] below meth c H locs cells slots (lw_Z below #[Value.ref b] s) (F0 m 18 ls [])) (hkx18_1185 : ∀ (W1 : Vt) (T1 : Tt) (H : Heap) (locs : List Loc) (ls : Array Slot) (cells slots n k : Nat), kx18_1185 W1 T1 = some ((V', T'), n, k) → cells + n = mc → slots + k = ms → wS G W1 T1 H locs → lv_has ls 4 [] → W p l e room_1 s m #[Value.ref b] below meth c H locs cells slots (lw_Z below #[Value.ref b] s) (F0 m 1185 ls [])) : W p l e room_1 s m #[Value.ref b] below meth c H locs cells slots (lw_Z below #[Value.ref b] s) (F0 m 998 ls []) := by
  have hx := C.1
  have hb := C.2.1
  have hown := C.2.2.2.1
  have hts := C.2.2.2.2.1
  unfold f_law_J998 at hf
  refine lv_aload_n hx hb dL_law_998 rfl (lv_at hl 1 rfl) ?_
  refine lv_aload_n hx hb dL_law_999 rfl (lv_at hl 0 rfl) ?_
  refine lv_iload_n hx hb dL_law_1000 rfl (lv_at hl 3 rfl) ?_
  refine lv_iconst (v := (1 : Int32)) hx hb dL_law_1001 (by decide) ?_
  refine lv_iadd hx hb dL_law_1002 ?_
  revert hf
  refine k_req (fun h338 hf => ?_)
  refine va_sld hx hb hX hbl (law_b hG hbl) (law_S hG hw) (law_in h338) dL_law_1003 ?_
  refine lv_aload_n hx hb dL_law_1004 rfl (lv_at hl 0 rfl) ?_
  refine lv_iload_n hx hb dL_law_1005 rfl (lv_at hl 3 rfl) ?_
  refine lv_iconst (v := (2 : Int32)) hx hb dL_law_1006 (by decide) ?_
  refine lv_iadd hx hb dL_law_1007 ?_
  revert hf
  refine k_req (fun h339 hf => ?_)
  refine va_sld hx hb hX hbl (law_b hG hbl) (law_S hG hw) (law_in h339) dL_law_1008 ?_
  revert hf
  refine k_cal (fun z341 U342 h340 hf => ?_)
  refine w_afi hw (w_rV (As := [.int (xs (ixN (x3 + (1 : Int32)))), .int (xs (ixN (x3 + (2 : Int32))))]) C hw (ok_X0_compare h340) (cw_L_140 hts (Nat.le_of_ble_eq_true rfl) (Nat.le_of_ble_eq_true rfl)) rfl (by decide) (of_req h340).1 rfl hl.1 rfl (Nat.le_of_ble_eq_true rfl) ⟨by show _ + 0 ≤ 1200128; omega, by show _ + 0 ≤ 5501098; omega⟩ dL_law_1009) (fun H locs hw => ?_)
  refine lv_aload_n hx hb dL_law_1012 rfl (lv_at hl 2 rfl) ?_
  refine lv_aload_n hx hb dL_law_1013 rfl (lv_at hl 0 rfl) ?_
  refine lv_iload_n hx hb dL_law_1014 rfl (lv_at hl 3 rfl) ?_
  refine lv_iconst (v := (1 : Int32)) hx hb dL_law_1015 (by decide) ?_
  refine lv_iadd hx hb dL_law_1016 ?_
  revert hf
  refine k_req (fun h343 hf => ?_)
  refine va_sld hx hb hX hbl (law_b hG hbl) (law_S hG hw) (law_in h343) dL_law_1017 ?_
  refine lv_aload_n hx hb dL_law_1018 rfl (lv_at hl 0 rfl) ?_
  refine lv_iload_n hx hb dL_law_1019 rfl (lv_at hl 3 rfl) ?_
  refine lv_iconst (v := (2 : Int32)) hx hb dL_law_1020 (by decide) ?_
  refine lv_iadd hx hb dL_law_1021 ?_
  revert hf
  refine k_req (fun h344 hf => ?_)
  refine va_sld hx hb hX hbl (law_b hG hbl) (law_S hG hw) (law_in h344) dL_law_1022 ?_
  revert hf
  refine k_cal (fun z346 U347 h345 hf => ?_)
  refine w_afi hw (w_rV (As := [.int (xs (ixN (x3 + (1 : Int32)))), .int (xs (ixN (x3 + (2 : Int32))))]) C hw (ok_X5_compare h345) (cw_L_143 hts (Nat.le_of_ble_eq_true rfl) (Nat.le_of_ble_eq_true rfl)) rfl (by decide) (of_req h345).1 rfl hl.1 rfl (Nat.le_of_ble_eq_true rfl) ⟨by show _ + 0 ≤ 1200128; omega, by show _ + 0 ≤ 5501098; omega⟩ dL_law_1023) (fun H locs hw => ?_)
  refine lv_icmp_eq (tgt := 1179) hx hb dL_law_1026 (by decide) (fun c348 => ?_) (fun c348 => ?_)
  · replace hf := ite_t c348 hf
    exact jk_L_law_1179 C hr hG hX hbl hmc hms hf hn hk hw (lv_sub hl [0, 1, 2, 3] rfl) hkc18 hkx18_1185
  · replace hf := ite_f c348 hf
    cases hf
set_option maxHeartbeats 4000000 in
theorem jk_L_law_964 {l : Launch} {G : gG} {p : Program} {e : Env} {s : State} {m : MethodId} {below : List Frame} {meth : Method} {c : Code} {b L : Nat} {xs : Nat → Int32} {T : Tt} {V0 : Vt} {V' : Vt} {T' : Tt} {mc ms : Nat} (C : Cx G p s m #[Value.ref b] meth c code R_law 4) (hr : meth.sig.returnType = ret) (hG : G.2.2 = s) (hX : va_X b L xs s s.heap) (hbl : b < s.heap.size) (hmc : mc ≤ 1200128) (hms : ms ≤ 5501098) {x1 : Nat} {x2 : Nat} {x3 : Int32} {kc18 : Int32 → Vt → Tt → Option ((Vt × Tt) × Nat × Nat)} {kx18_1185 : Vt → Tt → Option ((Vt × Tt) × Nat × Nat)} {H : Heap} {locs : List Loc} {ls : Array Slot} {cells slots n k : Nat} (hf : f_law_J964 xs L T V0 x1 x2 x3 kc18 kx18_1185 = some ((V', T'), n, k)) (hn : cells + n = mc) (hk : slots + k = ms) (hw : wS G V0 T H locs) (hl : lv_has ls 4 [(0, .ref b), (1, .ref (gb G + x1)), (2, .ref (gb G + x2)), (3, .int x3)]) (hkc18 : ∀ (y3 : Int32) (W1 : Vt) (T1 : Tt) (H : Heap) (locs : List Loc) (ls : Array Slot) (cells slots n k : Nat), kc18 y3 W1 T1 = some ((V', T'), n, k) → cells + n = mc → slots + k = ms → wS G W1 T1 H locs → lv_has ls 4 [(0, .ref b), (1, .ref (gb G + x1)), (2, .ref (gb G + x2)), (3, .int y3)] → W p l e room_1 s m #[Value.ref b] below meth c H locs cells slots (lw_Z below #[Value.ref b] s) (F0 m 18 ls [])) (hkx18_1185 : ∀ (W1 : Vt) (T1 : Tt) (H : Heap) (locs : List Loc) (ls : Array Slot) (cells slots n k : Nat), kx18_1185 W1 T1 = some ((V', T'), n, k) → cells + n = mc → slots + k = ms → wS G W1 T1 H locs → lv_has ls 4 [] → W p l e room_1 s m #[Value.ref b] below meth c H locs cells slots (lw_Z below #[Value.ref b] s) (F0 m 1185 ls [])) : W p l e room_1 s m #[Value.ref b] below meth c H locs cells slots (lw_Z below #[Value.ref b] s) (F0 m 964 ls []) := by
  have hx := C.1
  have hb := C.2.1
  have hown := C.2.2.2.1
  have hts := C.2.2.2.2.1
  unfold f_law_J964 at hf
  refine lv_aload_n hx hb dL_law_964 rfl (lv_at hl 1 rfl) ?_
  refine lv_aload_n hx hb dL_law_965 rfl (lv_at hl 0 rfl) ?_
  refine lv_iload_n hx hb dL_law_966 rfl (lv_at hl 3 rfl) ?_
  refine lv_iconst (v := (1 : Int32)) hx hb dL_law_967 (by decide) ?_
  refine lv_iadd hx hb dL_law_968 ?_
  revert hf
  refine k_req (fun h326 hf => ?_)
  refine va_sld hx hb hX hbl (law_b hG hbl) (law_S hG hw) (law_in h326) dL_law_969 ?_
  refine lv_aload_n hx hb dL_law_970 rfl (lv_at hl 0 rfl) ?_
  refine lv_iload_n hx hb dL_law_971 rfl (lv_at hl 3 rfl) ?_
  refine lv_iconst (v := (2 : Int32)) hx hb dL_law_972 (by decide) ?_
  refine lv_iadd hx hb dL_law_973 ?_
  revert hf
  refine k_req (fun h327 hf => ?_)
  refine va_sld hx hb hX hbl (law_b hG hbl) (law_S hG hw) (law_in h327) dL_law_974 ?_
  revert hf
  refine k_cal (fun z329 U330 h328 hf => ?_)
  refine w_afl hw (w_rV (As := [.int (xs (ixN (x3 + (1 : Int32)))), .int (xs (ixN (x3 + (2 : Int32))))]) C hw (ok_X0_few h328) (cw_L_136 hts (Nat.le_of_ble_eq_true rfl) (Nat.le_of_ble_eq_true rfl)) rfl (by decide) (of_req h328).1 rfl hl.1 rfl (Nat.le_of_ble_eq_true rfl) ⟨by show _ + 0 ≤ 1200128; omega, by show _ + 0 ≤ 5501098; omega⟩ dL_law_975) (fun H locs hw => ?_)
  refine lv_aload_n hx hb dL_law_978 rfl (lv_at hl 2 rfl) ?_
  refine lv_aload_n hx hb dL_law_979 rfl (lv_at hl 0 rfl) ?_
  refine lv_iload_n hx hb dL_law_980 rfl (lv_at hl 3 rfl) ?_
  refine lv_iconst (v := (1 : Int32)) hx hb dL_law_981 (by decide) ?_
  refine lv_iadd hx hb dL_law_982 ?_
  revert hf
  refine k_req (fun h331 hf => ?_)
  refine va_sld hx hb hX hbl (law_b hG hbl) (law_S hG hw) (law_in h331) dL_law_983 ?_
  refine lv_aload_n hx hb dL_law_984 rfl (lv_at hl 0 rfl) ?_
  refine lv_iload_n hx hb dL_law_985 rfl (lv_at hl 3 rfl) ?_
  refine lv_iconst (v := (2 : Int32)) hx hb dL_law_986 (by decide) ?_
  refine lv_iadd hx hb dL_law_987 ?_
  revert hf
  refine k_req (fun h332 hf => ?_)
  refine va_sld hx hb hX hbl (law_b hG hbl) (law_S hG hw) (law_in h332) dL_law_988 ?_
  revert hf
  refine k_cal (fun z334 U335 h333 hf => ?_)
  refine w_afl hw (w_rV (As := [.int (xs (ixN (x3 + (1 : Int32)))), .int (xs (ixN (x3 + (2 : Int32))))]) C hw (ok_X5_few h333) (cw_L_139 hts (Nat.le_of_ble_eq_true rfl) (Nat.le_of_ble_eq_true rfl)) rfl (by decide) (of_req h333).1 rfl hl.1 rfl (Nat.le_of_ble_eq_true rfl) ⟨by show _ + 0 ≤ 1200128; omega, by show _ + 0 ≤ 5501098; omega⟩ dL_law_989) (fun H locs hw => ?_)
  refine W.lcmp hx hb dL_law_992 ?_
  refine lv_if_eq (tgt := 1179) hx hb dL_law_993 (by decide) (fun c336 => ?_) (fun c336 => ?_)
  · replace hf := ite_t c336 hf
    exact jk_L_law_1179 C hr hG hX hbl hmc hms hf hn hk hw (lv_sub hl [0, 1, 2, 3] rfl) hkc18 hkx18_1185
  · replace hf := ite_f c336 hf
    cases hf
set_option maxHeartbeats 4000000 in
theorem jk_L_law_941 {l : Launch} {G : gG} {p : Program} {e : Env} {s : State} {m : MethodId} {below : List Frame} {meth : Method} {c : Code} {b L : Nat} {xs : Nat → Int32} {T : Tt} {V0 : Vt} {V' : Vt} {T' : Tt} {mc ms : Nat} (C : Cx G p s m #[Value.ref b] meth c code R_law 4) (hr : meth.sig.returnType = ret) (hG : G.2.2 = s) (hX : va_X b L xs s s.heap) (hbl : b < s.heap.size) (hmc : mc ≤ 1200128) (hms : ms ≤ 5501098) {x1 : Nat} {x2 : Nat} {x3 : Int32} {kc18 : Int32 → Vt → Tt → Option ((Vt × Tt) × Nat × Nat)} {kx18_1185 : Vt → Tt → Option ((Vt × Tt) × Nat × Nat)} {H : Heap} {locs : List Loc} {ls : Array Slot} {cells slots n k : Nat} (hf : f_law_J941 xs L T V0 x1 x2 x3 kc18 kx18_1185 = some ((V', T'), n, k)) (hn : cells + n = mc) (hk : slots + k = ms) (hw : wS G V0 T H locs) (hl : lv_has ls 4 [(0, .ref b), (1, .ref (gb G + x1)), (2, .ref (gb G + x2)), (3, .int x3)]) (hkc18 : ∀ (y3 : Int32) (W1 : Vt) (T1 : Tt) (H : Heap) (locs : List Loc) (ls : Array Slot) (cells slots n k : Nat), kc18 y3 W1 T1 = some ((V', T'), n, k) → cells + n = mc → slots + k = ms → wS G W1 T1 H locs → lv_has ls 4 [(0, .ref b), (1, .ref (gb G + x1)), (2, .ref (gb G + x2)), (3, .int y3)] → W p l e room_1 s m #[Value.ref b] below meth c H locs cells slots (lw_Z below #[Value.ref b] s) (F0 m 18 ls [])) (hkx18_1185 : ∀ (W1 : Vt) (T1 : Tt) (H : Heap) (locs : List Loc) (ls : Array Slot) (cells slots n k : Nat), kx18_1185 W1 T1 = some ((V', T'), n, k) → cells + n = mc → slots + k = ms → wS G W1 T1 H locs → lv_has ls 4 [] → W p l e room_1 s m #[Value.ref b] below meth c H locs cells slots (lw_Z below #[Value.ref b] s) (F0 m 1185 ls [])) : W p l e room_1 s m #[Value.ref b] below meth c H locs cells slots (lw_Z below #[Value.ref b] s) (F0 m 941 ls []) := by
  have hx := C.1
  have hb := C.2.1
  have hown := C.2.2.2.1
  have hts := C.2.2.2.2.1
  unfold f_law_J941 at hf
  refine lv_aload_n hx hb dL_law_941 rfl (lv_at hl 1 rfl) ?_
  refine lv_aload_n hx hb dL_law_942 rfl (lv_at hl 0 rfl) ?_
  refine lv_iload_n hx hb dL_law_943 rfl (lv_at hl 3 rfl) ?_
  refine lv_iconst (v := (1 : Int32)) hx hb dL_law_944 (by decide) ?_
  refine lv_iadd hx hb dL_law_945 ?_
  revert hf
  refine k_req (fun h317 hf => ?_)
  refine va_sld hx hb hX hbl (law_b hG hbl) (law_S hG hw) (law_in h317) dL_law_946 ?_
  revert hf
  refine k_pcl (fun z319 h318 hf => ?_)
  refine w_afi hw (w_rV (As := [.int (xs (ixN (x3 + (1 : Int32))))]) C hw (ok_X0_taste h318) (cw_L_132 hts (Nat.le_of_ble_eq_true rfl) (Nat.le_of_ble_eq_true rfl)) rfl (by decide) (of_req h318).1 rfl hl.1 rfl (Nat.le_of_ble_eq_true rfl) ⟨by show _ + 0 ≤ 1200128; omega, by show _ + 0 ≤ 5501098; omega⟩ dL_law_947) (fun H locs hw => ?_)
  refine lv_aload_n hx hb dL_law_950 rfl (lv_at hl 2 rfl) ?_
  refine lv_aload_n hx hb dL_law_951 rfl (lv_at hl 0 rfl) ?_
  refine lv_iload_n hx hb dL_law_952 rfl (lv_at hl 3 rfl) ?_
  refine lv_iconst (v := (1 : Int32)) hx hb dL_law_953 (by decide) ?_
  refine lv_iadd hx hb dL_law_954 ?_
  revert hf
  refine k_req (fun h320 hf => ?_)
  refine va_sld hx hb hX hbl (law_b hG hbl) (law_S hG hw) (law_in h320) dL_law_955 ?_
  revert hf
  refine k_cal (fun z322 U323 h321 hf => ?_)
  refine w_afi hw (w_rV (As := [.int (xs (ixN (x3 + (1 : Int32))))]) C hw (ok_X5_taste h321) (cw_L_135 hts (Nat.le_of_ble_eq_true rfl) (Nat.le_of_ble_eq_true rfl)) rfl (by decide) (of_req h321).1 rfl hl.1 rfl (Nat.le_of_ble_eq_true rfl) ⟨by show _ + 0 ≤ 1200128; omega, by show _ + 0 ≤ 5501098; omega⟩ dL_law_956) (fun H locs hw => ?_)
  refine lv_icmp_eq (tgt := 1179) hx hb dL_law_959 (by decide) (fun c324 => ?_) (fun c324 => ?_)
  · replace hf := ite_t c324 hf
    exact jk_L_law_1179 C hr hG hX hbl hmc hms hf hn hk hw (lv_sub hl [0, 1, 2, 3] rfl) hkc18 hkx18_1185
  · replace hf := ite_f c324 hf
    cases hf
set_option maxHeartbeats 4000000 in
theorem jk_L_law_928 {l : Launch} {G : gG} {p : Program} {e : Env} {s : State} {m : MethodId} {below : List Frame} {meth : Method} {c : Code} {b L : Nat} {xs : Nat → Int32} {T : Tt} {V0 : Vt} {V' : Vt} {T' : Tt} {mc ms : Nat} (C : Cx G p s m #[Value.ref b] meth c code R_law 4) (hr : meth.sig.returnType = ret) (hG : G.2.2 = s) (hX : va_X b L xs s s.heap) (hbl : b < s.heap.size) (hmc : mc ≤ 1200128) (hms : ms ≤ 5501098) {x1 : Nat} {x2 : Nat} {x3 : Int32} {kc18 : Int32 → Vt → Tt → Option ((Vt × Tt) × Nat × Nat)} {kx18_1185 : Vt → Tt → Option ((Vt × Tt) × Nat × Nat)} {H : Heap} {locs : List Loc} {ls : Array Slot} {cells slots n k : Nat} (hf : f_law_J928 xs L T V0 x1 x2 x3 kc18 kx18_1185 = some ((V', T'), n, k)) (hn : cells + n = mc) (hk : slots + k = ms) (hw : wS G V0 T H locs) (hl : lv_has ls 4 [(0, .ref b), (1, .ref (gb G + x1)), (2, .ref (gb G + x2)), (3, .int x3)]) (hkc18 : ∀ (y3 : Int32) (W1 : Vt) (T1 : Tt) (H : Heap) (locs : List Loc) (ls : Array Slot) (cells slots n k : Nat), kc18 y3 W1 T1 = some ((V', T'), n, k) → cells + n = mc → slots + k = ms → wS G W1 T1 H locs → lv_has ls 4 [(0, .ref b), (1, .ref (gb G + x1)), (2, .ref (gb G + x2)), (3, .int y3)] → W p l e room_1 s m #[Value.ref b] below meth c H locs cells slots (lw_Z below #[Value.ref b] s) (F0 m 18 ls [])) (hkx18_1185 : ∀ (W1 : Vt) (T1 : Tt) (H : Heap) (locs : List Loc) (ls : Array Slot) (cells slots n k : Nat), kx18_1185 W1 T1 = some ((V', T'), n, k) → cells + n = mc → slots + k = ms → wS G W1 T1 H locs → lv_has ls 4 [] → W p l e room_1 s m #[Value.ref b] below meth c H locs cells slots (lw_Z below #[Value.ref b] s) (F0 m 1185 ls [])) : W p l e room_1 s m #[Value.ref b] below meth c H locs cells slots (lw_Z below #[Value.ref b] s) (F0 m 928 ls []) := by
  have hx := C.1
  have hb := C.2.1
  have hown := C.2.2.2.1
  have hts := C.2.2.2.2.1
  unfold f_law_J928 at hf
  refine lv_aload_n hx hb dL_law_928 rfl (lv_at hl 1 rfl) ?_
  revert hf
  refine k_pcl (fun z311 h310 hf => ?_)
  refine w_afi hw (w_rV (As := []) C hw (ok_X0_canBe h310) (cw_L_128 hts (Nat.le_of_ble_eq_true rfl) (Nat.le_of_ble_eq_true rfl)) rfl (by decide) (of_req h310).1 rfl hl.1 rfl (Nat.le_of_ble_eq_true rfl) ⟨by show _ + 0 ≤ 1200128; omega, by show _ + 0 ≤ 5501098; omega⟩ dL_law_929) (fun H locs hw => ?_)
  refine lv_aload_n hx hb dL_law_932 rfl (lv_at hl 2 rfl) ?_
  revert hf
  refine k_cal (fun z313 U314 h312 hf => ?_)
  refine w_afi hw (w_rV (As := []) C hw (ok_X5_canBe h312) (cw_L_131 hts (Nat.le_of_ble_eq_true rfl) (Nat.le_of_ble_eq_true rfl)) rfl (by decide) (of_req h312).1 rfl hl.1 rfl (Nat.le_of_ble_eq_true rfl) ⟨by show _ + 0 ≤ 1200128; omega, by show _ + 0 ≤ 5501098; omega⟩ dL_law_933) (fun H locs hw => ?_)
  refine lv_icmp_eq (tgt := 1179) hx hb dL_law_936 (by decide) (fun c315 => ?_) (fun c315 => ?_)
  · replace hf := ite_t c315 hf
    exact jk_L_law_1179 C hr hG hX hbl hmc hms hf hn hk hw (lv_sub hl [0, 1, 2, 3] rfl) hkc18 hkx18_1185
  · replace hf := ite_f c315 hf
    cases hf
set_option maxHeartbeats 4000000 in
theorem jk_L_law_915 {l : Launch} {G : gG} {p : Program} {e : Env} {s : State} {m : MethodId} {below : List Frame} {meth : Method} {c : Code} {b L : Nat} {xs : Nat → Int32} {T : Tt} {V0 : Vt} {V' : Vt} {T' : Tt} {mc ms : Nat} (C : Cx G p s m #[Value.ref b] meth c code R_law 4) (hr : meth.sig.returnType = ret) (hG : G.2.2 = s) (hX : va_X b L xs s s.heap) (hbl : b < s.heap.size) (hmc : mc ≤ 1200128) (hms : ms ≤ 5501098) {x1 : Nat} {x2 : Nat} {x3 : Int32} {kc18 : Int32 → Vt → Tt → Option ((Vt × Tt) × Nat × Nat)} {kx18_1185 : Vt → Tt → Option ((Vt × Tt) × Nat × Nat)} {H : Heap} {locs : List Loc} {ls : Array Slot} {cells slots n k : Nat} (hf : f_law_J915 xs L T V0 x1 x2 x3 kc18 kx18_1185 = some ((V', T'), n, k)) (hn : cells + n = mc) (hk : slots + k = ms) (hw : wS G V0 T H locs) (hl : lv_has ls 4 [(0, .ref b), (1, .ref (gb G + x1)), (2, .ref (gb G + x2)), (3, .int x3)]) (hkc18 : ∀ (y3 : Int32) (W1 : Vt) (T1 : Tt) (H : Heap) (locs : List Loc) (ls : Array Slot) (cells slots n k : Nat), kc18 y3 W1 T1 = some ((V', T'), n, k) → cells + n = mc → slots + k = ms → wS G W1 T1 H locs → lv_has ls 4 [(0, .ref b), (1, .ref (gb G + x1)), (2, .ref (gb G + x2)), (3, .int y3)] → W p l e room_1 s m #[Value.ref b] below meth c H locs cells slots (lw_Z below #[Value.ref b] s) (F0 m 18 ls [])) (hkx18_1185 : ∀ (W1 : Vt) (T1 : Tt) (H : Heap) (locs : List Loc) (ls : Array Slot) (cells slots n k : Nat), kx18_1185 W1 T1 = some ((V', T'), n, k) → cells + n = mc → slots + k = ms → wS G W1 T1 H locs → lv_has ls 4 [] → W p l e room_1 s m #[Value.ref b] below meth c H locs cells slots (lw_Z below #[Value.ref b] s) (F0 m 1185 ls [])) : W p l e room_1 s m #[Value.ref b] below meth c H locs cells slots (lw_Z below #[Value.ref b] s) (F0 m 915 ls []) := by
  have hx := C.1
  have hb := C.2.1
  have hown := C.2.2.2.1
  have hts := C.2.2.2.2.1
  unfold f_law_J915 at hf
  refine lv_aload_n hx hb dL_law_915 rfl (lv_at hl 1 rfl) ?_
  revert hf
  refine k_cal (fun z303 U304 h302 hf => ?_)
  refine w_afi hw (w_rV (As := []) C hw (ok_X0_forget h302) (cw_L_124 hts (Nat.le_of_ble_eq_true rfl) (Nat.le_of_ble_eq_true rfl)) rfl (by decide) (of_req h302).1 rfl hl.1 rfl (Nat.le_of_ble_eq_true rfl) ⟨by show _ + 0 ≤ 1200128; omega, by show _ + 0 ≤ 5501098; omega⟩ dL_law_916) (fun H locs hw => ?_)
  refine lv_aload_n hx hb dL_law_919 rfl (lv_at hl 2 rfl) ?_
  revert hf
  refine k_cal (fun z306 U307 h305 hf => ?_)
  refine w_afi hw (w_rV (As := []) C hw (ok_X5_forget h305) (cw_L_127 hts (Nat.le_of_ble_eq_true rfl) (Nat.le_of_ble_eq_true rfl)) rfl (by decide) (of_req h305).1 rfl hl.1 rfl (Nat.le_of_ble_eq_true rfl) ⟨by show _ + 0 ≤ 1200128; omega, by show _ + 0 ≤ 5501098; omega⟩ dL_law_920) (fun H locs hw => ?_)
  refine lv_icmp_eq (tgt := 1179) hx hb dL_law_923 (by decide) (fun c308 => ?_) (fun c308 => ?_)
  · replace hf := ite_t c308 hf
    exact jk_L_law_1179 C hr hG hX hbl hmc hms hf hn hk hw (lv_sub hl [0, 1, 2, 3] rfl) hkc18 hkx18_1185
  · replace hf := ite_f c308 hf
    cases hf
set_option maxHeartbeats 4000000 in
theorem jk_L_law_882 {l : Launch} {G : gG} {p : Program} {e : Env} {s : State} {m : MethodId} {below : List Frame} {meth : Method} {c : Code} {b L : Nat} {xs : Nat → Int32} {T : Tt} {V0 : Vt} {V' : Vt} {T' : Tt} {mc ms : Nat} (C : Cx G p s m #[Value.ref b] meth c code R_law 4) (hr : meth.sig.returnType = ret) (hG : G.2.2 = s) (hX : va_X b L xs s s.heap) (hbl : b < s.heap.size) (hmc : mc ≤ 1200128) (hms : ms ≤ 5501098) {x1 : Nat} {x2 : Nat} {x3 : Int32} {kc18 : Int32 → Vt → Tt → Option ((Vt × Tt) × Nat × Nat)} {kx18_1185 : Vt → Tt → Option ((Vt × Tt) × Nat × Nat)} {H : Heap} {locs : List Loc} {ls : Array Slot} {cells slots n k : Nat} (hf : f_law_J882 xs L T V0 x1 x2 x3 kc18 kx18_1185 = some ((V', T'), n, k)) (hn : cells + n = mc) (hk : slots + k = ms) (hw : wS G V0 T H locs) (hl : lv_has ls 4 [(0, .ref b), (1, .ref (gb G + x1)), (2, .ref (gb G + x2)), (3, .int x3)]) (hkc18 : ∀ (y3 : Int32) (W1 : Vt) (T1 : Tt) (H : Heap) (locs : List Loc) (ls : Array Slot) (cells slots n k : Nat), kc18 y3 W1 T1 = some ((V', T'), n, k) → cells + n = mc → slots + k = ms → wS G W1 T1 H locs → lv_has ls 4 [(0, .ref b), (1, .ref (gb G + x1)), (2, .ref (gb G + x2)), (3, .int y3)] → W p l e room_1 s m #[Value.ref b] below meth c H locs cells slots (lw_Z below #[Value.ref b] s) (F0 m 18 ls [])) (hkx18_1185 : ∀ (W1 : Vt) (T1 : Tt) (H : Heap) (locs : List Loc) (ls : Array Slot) (cells slots n k : Nat), kx18_1185 W1 T1 = some ((V', T'), n, k) → cells + n = mc → slots + k = ms → wS G W1 T1 H locs → lv_has ls 4 [] → W p l e room_1 s m #[Value.ref b] below meth c H locs cells slots (lw_Z below #[Value.ref b] s) (F0 m 1185 ls [])) : W p l e room_1 s m #[Value.ref b] below meth c H locs cells slots (lw_Z below #[Value.ref b] s) (F0 m 882 ls []) := by
  have hx := C.1
  have hb := C.2.1
  have hown := C.2.2.2.1
  have hts := C.2.2.2.2.1
  unfold f_law_J882 at hf
  refine lv_aload_n hx hb dL_law_882 rfl (lv_at hl 1 rfl) ?_
  refine lv_aload_n hx hb dL_law_883 rfl (lv_at hl 0 rfl) ?_
  refine lv_iload_n hx hb dL_law_884 rfl (lv_at hl 3 rfl) ?_
  refine lv_iconst (v := (1 : Int32)) hx hb dL_law_885 (by decide) ?_
  refine lv_iadd hx hb dL_law_886 ?_
  revert hf
  refine k_req (fun h290 hf => ?_)
  refine va_sld hx hb hX hbl (law_b hG hbl) (law_S hG hw) (law_in h290) dL_law_887 ?_
  refine lv_aload_n hx hb dL_law_888 rfl (lv_at hl 0 rfl) ?_
  refine lv_iload_n hx hb dL_law_889 rfl (lv_at hl 3 rfl) ?_
  refine lv_iconst (v := (2 : Int32)) hx hb dL_law_890 (by decide) ?_
  refine lv_iadd hx hb dL_law_891 ?_
  revert hf
  refine k_req (fun h291 hf => ?_)
  refine va_sld hx hb hX hbl (law_b hG hbl) (law_S hG hw) (law_in h291) dL_law_892 ?_
  revert hf
  refine k_cal (fun z293 U294 h292 hf => ?_)
  refine w_afi hw (w_rV (As := [.int (xs (ixN (x3 + (1 : Int32)))), .int (xs (ixN (x3 + (2 : Int32))))]) C hw (ok_X0_tasted h292) (cw_L_120 hts (Nat.le_of_ble_eq_true rfl) (Nat.le_of_ble_eq_true rfl)) rfl (by decide) (of_req h292).1 rfl hl.1 rfl (Nat.le_of_ble_eq_true rfl) ⟨by show _ + 0 ≤ 1200128; omega, by show _ + 0 ≤ 5501098; omega⟩ dL_law_893) (fun H locs hw => ?_)
  refine lv_aload_n hx hb dL_law_896 rfl (lv_at hl 2 rfl) ?_
  refine lv_aload_n hx hb dL_law_897 rfl (lv_at hl 0 rfl) ?_
  refine lv_iload_n hx hb dL_law_898 rfl (lv_at hl 3 rfl) ?_
  refine lv_iconst (v := (1 : Int32)) hx hb dL_law_899 (by decide) ?_
  refine lv_iadd hx hb dL_law_900 ?_
  revert hf
  refine k_req (fun h295 hf => ?_)
  refine va_sld hx hb hX hbl (law_b hG hbl) (law_S hG hw) (law_in h295) dL_law_901 ?_
  refine lv_aload_n hx hb dL_law_902 rfl (lv_at hl 0 rfl) ?_
  refine lv_iload_n hx hb dL_law_903 rfl (lv_at hl 3 rfl) ?_
  refine lv_iconst (v := (2 : Int32)) hx hb dL_law_904 (by decide) ?_
  refine lv_iadd hx hb dL_law_905 ?_
  revert hf
  refine k_req (fun h296 hf => ?_)
  refine va_sld hx hb hX hbl (law_b hG hbl) (law_S hG hw) (law_in h296) dL_law_906 ?_
  revert hf
  refine k_cal (fun z298 U299 h297 hf => ?_)
  refine w_afi hw (w_rV (As := [.int (xs (ixN (x3 + (1 : Int32)))), .int (xs (ixN (x3 + (2 : Int32))))]) C hw (ok_X5_tasted h297) (cw_L_123 hts (Nat.le_of_ble_eq_true rfl) (Nat.le_of_ble_eq_true rfl)) rfl (by decide) (of_req h297).1 rfl hl.1 rfl (Nat.le_of_ble_eq_true rfl) ⟨by show _ + 0 ≤ 1200128; omega, by show _ + 0 ≤ 5501098; omega⟩ dL_law_907) (fun H locs hw => ?_)
  refine lv_icmp_eq (tgt := 1179) hx hb dL_law_910 (by decide) (fun c300 => ?_) (fun c300 => ?_)
  · replace hf := ite_t c300 hf
    exact jk_L_law_1179 C hr hG hX hbl hmc hms hf hn hk hw (lv_sub hl [0, 1, 2, 3] rfl) hkc18 hkx18_1185
  · replace hf := ite_f c300 hf
    cases hf
set_option maxHeartbeats 4000000 in
theorem jk_L_law_849 {l : Launch} {G : gG} {p : Program} {e : Env} {s : State} {m : MethodId} {below : List Frame} {meth : Method} {c : Code} {b L : Nat} {xs : Nat → Int32} {T : Tt} {V0 : Vt} {V' : Vt} {T' : Tt} {mc ms : Nat} (C : Cx G p s m #[Value.ref b] meth c code R_law 4) (hr : meth.sig.returnType = ret) (hG : G.2.2 = s) (hX : va_X b L xs s s.heap) (hbl : b < s.heap.size) (hmc : mc ≤ 1200128) (hms : ms ≤ 5501098) {x1 : Nat} {x2 : Nat} {x3 : Int32} {kc18 : Int32 → Vt → Tt → Option ((Vt × Tt) × Nat × Nat)} {kx18_1185 : Vt → Tt → Option ((Vt × Tt) × Nat × Nat)} {H : Heap} {locs : List Loc} {ls : Array Slot} {cells slots n k : Nat} (hf : f_law_J849 xs L T V0 x1 x2 x3 kc18 kx18_1185 = some ((V', T'), n, k)) (hn : cells + n = mc) (hk : slots + k = ms) (hw : wS G V0 T H locs) (hl : lv_has ls 4 [(0, .ref b), (1, .ref (gb G + x1)), (2, .ref (gb G + x2)), (3, .int x3)]) (hkc18 : ∀ (y3 : Int32) (W1 : Vt) (T1 : Tt) (H : Heap) (locs : List Loc) (ls : Array Slot) (cells slots n k : Nat), kc18 y3 W1 T1 = some ((V', T'), n, k) → cells + n = mc → slots + k = ms → wS G W1 T1 H locs → lv_has ls 4 [(0, .ref b), (1, .ref (gb G + x1)), (2, .ref (gb G + x2)), (3, .int y3)] → W p l e room_1 s m #[Value.ref b] below meth c H locs cells slots (lw_Z below #[Value.ref b] s) (F0 m 18 ls [])) (hkx18_1185 : ∀ (W1 : Vt) (T1 : Tt) (H : Heap) (locs : List Loc) (ls : Array Slot) (cells slots n k : Nat), kx18_1185 W1 T1 = some ((V', T'), n, k) → cells + n = mc → slots + k = ms → wS G W1 T1 H locs → lv_has ls 4 [] → W p l e room_1 s m #[Value.ref b] below meth c H locs cells slots (lw_Z below #[Value.ref b] s) (F0 m 1185 ls [])) : W p l e room_1 s m #[Value.ref b] below meth c H locs cells slots (lw_Z below #[Value.ref b] s) (F0 m 849 ls []) := by
  have hx := C.1
  have hb := C.2.1
  have hown := C.2.2.2.1
  have hts := C.2.2.2.2.1
  unfold f_law_J849 at hf
  refine lv_aload_n hx hb dL_law_849 rfl (lv_at hl 1 rfl) ?_
  refine lv_aload_n hx hb dL_law_850 rfl (lv_at hl 0 rfl) ?_
  refine lv_iload_n hx hb dL_law_851 rfl (lv_at hl 3 rfl) ?_
  refine lv_iconst (v := (1 : Int32)) hx hb dL_law_852 (by decide) ?_
  refine lv_iadd hx hb dL_law_853 ?_
  revert hf
  refine k_req (fun h278 hf => ?_)
  refine va_sld hx hb hX hbl (law_b hG hbl) (law_S hG hw) (law_in h278) dL_law_854 ?_
  refine lv_aload_n hx hb dL_law_855 rfl (lv_at hl 0 rfl) ?_
  refine lv_iload_n hx hb dL_law_856 rfl (lv_at hl 3 rfl) ?_
  refine lv_iconst (v := (2 : Int32)) hx hb dL_law_857 (by decide) ?_
  refine lv_iadd hx hb dL_law_858 ?_
  revert hf
  refine k_req (fun h279 hf => ?_)
  refine va_sld hx hb hX hbl (law_b hG hbl) (law_S hG hw) (law_in h279) dL_law_859 ?_
  revert hf
  refine k_cal (fun z281 U282 h280 hf => ?_)
  refine w_afi hw (w_rV (As := [.int (xs (ixN (x3 + (1 : Int32)))), .int (xs (ixN (x3 + (2 : Int32))))]) C hw (ok_X0_best h280) (cw_L_116 hts (Nat.le_of_ble_eq_true rfl) (Nat.le_of_ble_eq_true rfl)) rfl (by decide) (of_req h280).1 rfl hl.1 rfl (Nat.le_of_ble_eq_true rfl) ⟨by show _ + 0 ≤ 1200128; omega, by show _ + 0 ≤ 5501098; omega⟩ dL_law_860) (fun H locs hw => ?_)
  refine lv_aload_n hx hb dL_law_863 rfl (lv_at hl 2 rfl) ?_
  refine lv_aload_n hx hb dL_law_864 rfl (lv_at hl 0 rfl) ?_
  refine lv_iload_n hx hb dL_law_865 rfl (lv_at hl 3 rfl) ?_
  refine lv_iconst (v := (1 : Int32)) hx hb dL_law_866 (by decide) ?_
  refine lv_iadd hx hb dL_law_867 ?_
  revert hf
  refine k_req (fun h283 hf => ?_)
  refine va_sld hx hb hX hbl (law_b hG hbl) (law_S hG hw) (law_in h283) dL_law_868 ?_
  refine lv_aload_n hx hb dL_law_869 rfl (lv_at hl 0 rfl) ?_
  refine lv_iload_n hx hb dL_law_870 rfl (lv_at hl 3 rfl) ?_
  refine lv_iconst (v := (2 : Int32)) hx hb dL_law_871 (by decide) ?_
  refine lv_iadd hx hb dL_law_872 ?_
  revert hf
  refine k_req (fun h284 hf => ?_)
  refine va_sld hx hb hX hbl (law_b hG hbl) (law_S hG hw) (law_in h284) dL_law_873 ?_
  revert hf
  refine k_cal (fun z286 U287 h285 hf => ?_)
  refine w_afi hw (w_rV (As := [.int (xs (ixN (x3 + (1 : Int32)))), .int (xs (ixN (x3 + (2 : Int32))))]) C hw (ok_X5_best h285) (cw_L_119 hts (Nat.le_of_ble_eq_true rfl) (Nat.le_of_ble_eq_true rfl)) rfl (by decide) (of_req h285).1 rfl hl.1 rfl (Nat.le_of_ble_eq_true rfl) ⟨by show _ + 0 ≤ 1200128; omega, by show _ + 0 ≤ 5501098; omega⟩ dL_law_874) (fun H locs hw => ?_)
  refine lv_icmp_eq (tgt := 1179) hx hb dL_law_877 (by decide) (fun c288 => ?_) (fun c288 => ?_)
  · replace hf := ite_t c288 hf
    exact jk_L_law_1179 C hr hG hX hbl hmc hms hf hn hk hw (lv_sub hl [0, 1, 2, 3] rfl) hkc18 hkx18_1185
  · replace hf := ite_f c288 hf
    cases hf
set_option maxHeartbeats 4000000 in
theorem jk_L_law_816 {l : Launch} {G : gG} {p : Program} {e : Env} {s : State} {m : MethodId} {below : List Frame} {meth : Method} {c : Code} {b L : Nat} {xs : Nat → Int32} {T : Tt} {V0 : Vt} {V' : Vt} {T' : Tt} {mc ms : Nat} (C : Cx G p s m #[Value.ref b] meth c code R_law 4) (hr : meth.sig.returnType = ret) (hG : G.2.2 = s) (hX : va_X b L xs s s.heap) (hbl : b < s.heap.size) (hmc : mc ≤ 1200128) (hms : ms ≤ 5501098) {x1 : Nat} {x2 : Nat} {x3 : Int32} {kc18 : Int32 → Vt → Tt → Option ((Vt × Tt) × Nat × Nat)} {kx18_1185 : Vt → Tt → Option ((Vt × Tt) × Nat × Nat)} {H : Heap} {locs : List Loc} {ls : Array Slot} {cells slots n k : Nat} (hf : f_law_J816 xs L T V0 x1 x2 x3 kc18 kx18_1185 = some ((V', T'), n, k)) (hn : cells + n = mc) (hk : slots + k = ms) (hw : wS G V0 T H locs) (hl : lv_has ls 4 [(0, .ref b), (1, .ref (gb G + x1)), (2, .ref (gb G + x2)), (3, .int x3)]) (hkc18 : ∀ (y3 : Int32) (W1 : Vt) (T1 : Tt) (H : Heap) (locs : List Loc) (ls : Array Slot) (cells slots n k : Nat), kc18 y3 W1 T1 = some ((V', T'), n, k) → cells + n = mc → slots + k = ms → wS G W1 T1 H locs → lv_has ls 4 [(0, .ref b), (1, .ref (gb G + x1)), (2, .ref (gb G + x2)), (3, .int y3)] → W p l e room_1 s m #[Value.ref b] below meth c H locs cells slots (lw_Z below #[Value.ref b] s) (F0 m 18 ls [])) (hkx18_1185 : ∀ (W1 : Vt) (T1 : Tt) (H : Heap) (locs : List Loc) (ls : Array Slot) (cells slots n k : Nat), kx18_1185 W1 T1 = some ((V', T'), n, k) → cells + n = mc → slots + k = ms → wS G W1 T1 H locs → lv_has ls 4 [] → W p l e room_1 s m #[Value.ref b] below meth c H locs cells slots (lw_Z below #[Value.ref b] s) (F0 m 1185 ls [])) : W p l e room_1 s m #[Value.ref b] below meth c H locs cells slots (lw_Z below #[Value.ref b] s) (F0 m 816 ls []) := by
  have hx := C.1
  have hb := C.2.1
  have hown := C.2.2.2.1
  have hts := C.2.2.2.2.1
  unfold f_law_J816 at hf
  refine lv_aload_n hx hb dL_law_816 rfl (lv_at hl 1 rfl) ?_
  refine lv_aload_n hx hb dL_law_817 rfl (lv_at hl 0 rfl) ?_
  refine lv_iload_n hx hb dL_law_818 rfl (lv_at hl 3 rfl) ?_
  refine lv_iconst (v := (1 : Int32)) hx hb dL_law_819 (by decide) ?_
  refine lv_iadd hx hb dL_law_820 ?_
  revert hf
  refine k_req (fun h266 hf => ?_)
  refine va_sld hx hb hX hbl (law_b hG hbl) (law_S hG hw) (law_in h266) dL_law_821 ?_
  refine lv_aload_n hx hb dL_law_822 rfl (lv_at hl 0 rfl) ?_
  refine lv_iload_n hx hb dL_law_823 rfl (lv_at hl 3 rfl) ?_
  refine lv_iconst (v := (2 : Int32)) hx hb dL_law_824 (by decide) ?_
  refine lv_iadd hx hb dL_law_825 ?_
  revert hf
  refine k_req (fun h267 hf => ?_)
  refine va_sld hx hb hX hbl (law_b hG hbl) (law_S hG hw) (law_in h267) dL_law_826 ?_
  revert hf
  refine k_cal (fun z269 U270 h268 hf => ?_)
  refine w_afi hw (w_rV (As := [.int (xs (ixN (x3 + (1 : Int32)))), .int (xs (ixN (x3 + (2 : Int32))))]) C hw (ok_X0_yields h268) (cw_L_112 hts (Nat.le_of_ble_eq_true rfl) (Nat.le_of_ble_eq_true rfl)) rfl (by decide) (of_req h268).1 rfl hl.1 rfl (Nat.le_of_ble_eq_true rfl) ⟨by show _ + 0 ≤ 1200128; omega, by show _ + 0 ≤ 5501098; omega⟩ dL_law_827) (fun H locs hw => ?_)
  refine lv_aload_n hx hb dL_law_830 rfl (lv_at hl 2 rfl) ?_
  refine lv_aload_n hx hb dL_law_831 rfl (lv_at hl 0 rfl) ?_
  refine lv_iload_n hx hb dL_law_832 rfl (lv_at hl 3 rfl) ?_
  refine lv_iconst (v := (1 : Int32)) hx hb dL_law_833 (by decide) ?_
  refine lv_iadd hx hb dL_law_834 ?_
  revert hf
  refine k_req (fun h271 hf => ?_)
  refine va_sld hx hb hX hbl (law_b hG hbl) (law_S hG hw) (law_in h271) dL_law_835 ?_
  refine lv_aload_n hx hb dL_law_836 rfl (lv_at hl 0 rfl) ?_
  refine lv_iload_n hx hb dL_law_837 rfl (lv_at hl 3 rfl) ?_
  refine lv_iconst (v := (2 : Int32)) hx hb dL_law_838 (by decide) ?_
  refine lv_iadd hx hb dL_law_839 ?_
  revert hf
  refine k_req (fun h272 hf => ?_)
  refine va_sld hx hb hX hbl (law_b hG hbl) (law_S hG hw) (law_in h272) dL_law_840 ?_
  revert hf
  refine k_cal (fun z274 U275 h273 hf => ?_)
  refine w_afi hw (w_rV (As := [.int (xs (ixN (x3 + (1 : Int32)))), .int (xs (ixN (x3 + (2 : Int32))))]) C hw (ok_X5_yields h273) (cw_L_115 hts (Nat.le_of_ble_eq_true rfl) (Nat.le_of_ble_eq_true rfl)) rfl (by decide) (of_req h273).1 rfl hl.1 rfl (Nat.le_of_ble_eq_true rfl) ⟨by show _ + 0 ≤ 1200128; omega, by show _ + 0 ≤ 5501098; omega⟩ dL_law_841) (fun H locs hw => ?_)
  refine lv_icmp_eq (tgt := 1179) hx hb dL_law_844 (by decide) (fun c276 => ?_) (fun c276 => ?_)
  · replace hf := ite_t c276 hf
    exact jk_L_law_1179 C hr hG hX hbl hmc hms hf hn hk hw (lv_sub hl [0, 1, 2, 3] rfl) hkc18 hkx18_1185
  · replace hf := ite_f c276 hf
    cases hf
set_option maxHeartbeats 4000000 in
theorem jk_L_law_793 {l : Launch} {G : gG} {p : Program} {e : Env} {s : State} {m : MethodId} {below : List Frame} {meth : Method} {c : Code} {b L : Nat} {xs : Nat → Int32} {T : Tt} {V0 : Vt} {V' : Vt} {T' : Tt} {mc ms : Nat} (C : Cx G p s m #[Value.ref b] meth c code R_law 4) (hr : meth.sig.returnType = ret) (hG : G.2.2 = s) (hX : va_X b L xs s s.heap) (hbl : b < s.heap.size) (hmc : mc ≤ 1200128) (hms : ms ≤ 5501098) {x1 : Nat} {x2 : Nat} {x3 : Int32} {kc18 : Int32 → Vt → Tt → Option ((Vt × Tt) × Nat × Nat)} {kx18_1185 : Vt → Tt → Option ((Vt × Tt) × Nat × Nat)} {H : Heap} {locs : List Loc} {ls : Array Slot} {cells slots n k : Nat} (hf : f_law_J793 xs L T V0 x1 x2 x3 kc18 kx18_1185 = some ((V', T'), n, k)) (hn : cells + n = mc) (hk : slots + k = ms) (hw : wS G V0 T H locs) (hl : lv_has ls 4 [(0, .ref b), (1, .ref (gb G + x1)), (2, .ref (gb G + x2)), (3, .int x3)]) (hkc18 : ∀ (y3 : Int32) (W1 : Vt) (T1 : Tt) (H : Heap) (locs : List Loc) (ls : Array Slot) (cells slots n k : Nat), kc18 y3 W1 T1 = some ((V', T'), n, k) → cells + n = mc → slots + k = ms → wS G W1 T1 H locs → lv_has ls 4 [(0, .ref b), (1, .ref (gb G + x1)), (2, .ref (gb G + x2)), (3, .int y3)] → W p l e room_1 s m #[Value.ref b] below meth c H locs cells slots (lw_Z below #[Value.ref b] s) (F0 m 18 ls [])) (hkx18_1185 : ∀ (W1 : Vt) (T1 : Tt) (H : Heap) (locs : List Loc) (ls : Array Slot) (cells slots n k : Nat), kx18_1185 W1 T1 = some ((V', T'), n, k) → cells + n = mc → slots + k = ms → wS G W1 T1 H locs → lv_has ls 4 [] → W p l e room_1 s m #[Value.ref b] below meth c H locs cells slots (lw_Z below #[Value.ref b] s) (F0 m 1185 ls [])) : W p l e room_1 s m #[Value.ref b] below meth c H locs cells slots (lw_Z below #[Value.ref b] s) (F0 m 793 ls []) := by
  have hx := C.1
  have hb := C.2.1
  have hown := C.2.2.2.1
  have hts := C.2.2.2.2.1
  unfold f_law_J793 at hf
  refine lv_aload_n hx hb dL_law_793 rfl (lv_at hl 1 rfl) ?_
  refine lv_aload_n hx hb dL_law_794 rfl (lv_at hl 0 rfl) ?_
  refine lv_iload_n hx hb dL_law_795 rfl (lv_at hl 3 rfl) ?_
  refine lv_iconst (v := (1 : Int32)) hx hb dL_law_796 (by decide) ?_
  refine lv_iadd hx hb dL_law_797 ?_
  revert hf
  refine k_req (fun h256 hf => ?_)
  refine va_sld hx hb hX hbl (law_b hG hbl) (law_S hG hw) (law_in h256) dL_law_798 ?_
  revert hf
  refine k_cal (fun z258 U259 h257 hf => ?_)
  refine w_afi hw (w_rV (As := [.int (xs (ixN (x3 + (1 : Int32))))]) C hw (ok_X0_starves h257) (cw_L_108 hts (Nat.le_of_ble_eq_true rfl) (Nat.le_of_ble_eq_true rfl)) rfl (by decide) (of_req h257).1 rfl hl.1 rfl (Nat.le_of_ble_eq_true rfl) ⟨by show _ + 0 ≤ 1200128; omega, by show _ + 0 ≤ 5501098; omega⟩ dL_law_799) (fun H locs hw => ?_)
  refine lv_aload_n hx hb dL_law_802 rfl (lv_at hl 2 rfl) ?_
  refine lv_aload_n hx hb dL_law_803 rfl (lv_at hl 0 rfl) ?_
  refine lv_iload_n hx hb dL_law_804 rfl (lv_at hl 3 rfl) ?_
  refine lv_iconst (v := (1 : Int32)) hx hb dL_law_805 (by decide) ?_
  refine lv_iadd hx hb dL_law_806 ?_
  revert hf
  refine k_req (fun h260 hf => ?_)
  refine va_sld hx hb hX hbl (law_b hG hbl) (law_S hG hw) (law_in h260) dL_law_807 ?_
  revert hf
  refine k_cal (fun z262 U263 h261 hf => ?_)
  refine w_afi hw (w_rV (As := [.int (xs (ixN (x3 + (1 : Int32))))]) C hw (ok_X5_starves h261) (cw_L_111 hts (Nat.le_of_ble_eq_true rfl) (Nat.le_of_ble_eq_true rfl)) rfl (by decide) (of_req h261).1 rfl hl.1 rfl (Nat.le_of_ble_eq_true rfl) ⟨by show _ + 0 ≤ 1200128; omega, by show _ + 0 ≤ 5501098; omega⟩ dL_law_808) (fun H locs hw => ?_)
  refine lv_icmp_eq (tgt := 1179) hx hb dL_law_811 (by decide) (fun c264 => ?_) (fun c264 => ?_)
  · replace hf := ite_t c264 hf
    exact jk_L_law_1179 C hr hG hX hbl hmc hms hf hn hk hw (lv_sub hl [0, 1, 2, 3] rfl) hkc18 hkx18_1185
  · replace hf := ite_f c264 hf
    cases hf
set_option maxHeartbeats 4000000 in
theorem jk_L_law_760 {l : Launch} {G : gG} {p : Program} {e : Env} {s : State} {m : MethodId} {below : List Frame} {meth : Method} {c : Code} {b L : Nat} {xs : Nat → Int32} {T : Tt} {V0 : Vt} {V' : Vt} {T' : Tt} {mc ms : Nat} (C : Cx G p s m #[Value.ref b] meth c code R_law 4) (hr : meth.sig.returnType = ret) (hG : G.2.2 = s) (hX : va_X b L xs s s.heap) (hbl : b < s.heap.size) (hmc : mc ≤ 1200128) (hms : ms ≤ 5501098) {x1 : Nat} {x2 : Nat} {x3 : Int32} {kc18 : Int32 → Vt → Tt → Option ((Vt × Tt) × Nat × Nat)} {kx18_1185 : Vt → Tt → Option ((Vt × Tt) × Nat × Nat)} {H : Heap} {locs : List Loc} {ls : Array Slot} {cells slots n k : Nat} (hf : f_law_J760 xs L T V0 x1 x2 x3 kc18 kx18_1185 = some ((V', T'), n, k)) (hn : cells + n = mc) (hk : slots + k = ms) (hw : wS G V0 T H locs) (hl : lv_has ls 4 [(0, .ref b), (1, .ref (gb G + x1)), (2, .ref (gb G + x2)), (3, .int x3)]) (hkc18 : ∀ (y3 : Int32) (W1 : Vt) (T1 : Tt) (H : Heap) (locs : List Loc) (ls : Array Slot) (cells slots n k : Nat), kc18 y3 W1 T1 = some ((V', T'), n, k) → cells + n = mc → slots + k = ms → wS G W1 T1 H locs → lv_has ls 4 [(0, .ref b), (1, .ref (gb G + x1)), (2, .ref (gb G + x2)), (3, .int y3)] → W p l e room_1 s m #[Value.ref b] below meth c H locs cells slots (lw_Z below #[Value.ref b] s) (F0 m 18 ls [])) (hkx18_1185 : ∀ (W1 : Vt) (T1 : Tt) (H : Heap) (locs : List Loc) (ls : Array Slot) (cells slots n k : Nat), kx18_1185 W1 T1 = some ((V', T'), n, k) → cells + n = mc → slots + k = ms → wS G W1 T1 H locs → lv_has ls 4 [] → W p l e room_1 s m #[Value.ref b] below meth c H locs cells slots (lw_Z below #[Value.ref b] s) (F0 m 1185 ls [])) : W p l e room_1 s m #[Value.ref b] below meth c H locs cells slots (lw_Z below #[Value.ref b] s) (F0 m 760 ls []) := by
  have hx := C.1
  have hb := C.2.1
  have hown := C.2.2.2.1
  have hts := C.2.2.2.2.1
  unfold f_law_J760 at hf
  refine lv_aload_n hx hb dL_law_760 rfl (lv_at hl 1 rfl) ?_
  refine lv_aload_n hx hb dL_law_761 rfl (lv_at hl 0 rfl) ?_
  refine lv_iload_n hx hb dL_law_762 rfl (lv_at hl 3 rfl) ?_
  refine lv_iconst (v := (1 : Int32)) hx hb dL_law_763 (by decide) ?_
  refine lv_iadd hx hb dL_law_764 ?_
  revert hf
  refine k_req (fun h244 hf => ?_)
  refine va_sld hx hb hX hbl (law_b hG hbl) (law_S hG hw) (law_in h244) dL_law_765 ?_
  refine lv_aload_n hx hb dL_law_766 rfl (lv_at hl 0 rfl) ?_
  refine lv_iload_n hx hb dL_law_767 rfl (lv_at hl 3 rfl) ?_
  refine lv_iconst (v := (2 : Int32)) hx hb dL_law_768 (by decide) ?_
  refine lv_iadd hx hb dL_law_769 ?_
  revert hf
  refine k_req (fun h245 hf => ?_)
  refine va_sld hx hb hX hbl (law_b hG hbl) (law_S hG hw) (law_in h245) dL_law_770 ?_
  revert hf
  refine k_cal (fun z247 U248 h246 hf => ?_)
  refine w_afi hw (w_rV (As := [.int (xs (ixN (x3 + (1 : Int32)))), .int (xs (ixN (x3 + (2 : Int32))))]) C hw (ok_X0_settled h246) (cw_L_104 hts (Nat.le_of_ble_eq_true rfl) (Nat.le_of_ble_eq_true rfl)) rfl (by decide) (of_req h246).1 rfl hl.1 rfl (Nat.le_of_ble_eq_true rfl) ⟨by show _ + 0 ≤ 1200128; omega, by show _ + 0 ≤ 5501098; omega⟩ dL_law_771) (fun H locs hw => ?_)
  refine lv_aload_n hx hb dL_law_774 rfl (lv_at hl 2 rfl) ?_
  refine lv_aload_n hx hb dL_law_775 rfl (lv_at hl 0 rfl) ?_
  refine lv_iload_n hx hb dL_law_776 rfl (lv_at hl 3 rfl) ?_
  refine lv_iconst (v := (1 : Int32)) hx hb dL_law_777 (by decide) ?_
  refine lv_iadd hx hb dL_law_778 ?_
  revert hf
  refine k_req (fun h249 hf => ?_)
  refine va_sld hx hb hX hbl (law_b hG hbl) (law_S hG hw) (law_in h249) dL_law_779 ?_
  refine lv_aload_n hx hb dL_law_780 rfl (lv_at hl 0 rfl) ?_
  refine lv_iload_n hx hb dL_law_781 rfl (lv_at hl 3 rfl) ?_
  refine lv_iconst (v := (2 : Int32)) hx hb dL_law_782 (by decide) ?_
  refine lv_iadd hx hb dL_law_783 ?_
  revert hf
  refine k_req (fun h250 hf => ?_)
  refine va_sld hx hb hX hbl (law_b hG hbl) (law_S hG hw) (law_in h250) dL_law_784 ?_
  revert hf
  refine k_cal (fun z252 U253 h251 hf => ?_)
  refine w_afi hw (w_rV (As := [.int (xs (ixN (x3 + (1 : Int32)))), .int (xs (ixN (x3 + (2 : Int32))))]) C hw (ok_X5_settled h251) (cw_L_107 hts (Nat.le_of_ble_eq_true rfl) (Nat.le_of_ble_eq_true rfl)) rfl (by decide) (of_req h251).1 rfl hl.1 rfl (Nat.le_of_ble_eq_true rfl) ⟨by show _ + 0 ≤ 1200128; omega, by show _ + 0 ≤ 5501098; omega⟩ dL_law_785) (fun H locs hw => ?_)
  refine lv_icmp_eq (tgt := 1179) hx hb dL_law_788 (by decide) (fun c254 => ?_) (fun c254 => ?_)
  · replace hf := ite_t c254 hf
    exact jk_L_law_1179 C hr hG hX hbl hmc hms hf hn hk hw (lv_sub hl [0, 1, 2, 3] rfl) hkc18 hkx18_1185
  · replace hf := ite_f c254 hf
    cases hf
set_option maxHeartbeats 4000000 in
theorem jk_L_law_717 {l : Launch} {G : gG} {p : Program} {e : Env} {s : State} {m : MethodId} {below : List Frame} {meth : Method} {c : Code} {b L : Nat} {xs : Nat → Int32} {T : Tt} {V0 : Vt} {V' : Vt} {T' : Tt} {mc ms : Nat} (C : Cx G p s m #[Value.ref b] meth c code R_law 4) (hr : meth.sig.returnType = ret) (hG : G.2.2 = s) (hX : va_X b L xs s s.heap) (hbl : b < s.heap.size) (hmc : mc ≤ 1200128) (hms : ms ≤ 5501098) {x1 : Nat} {x2 : Nat} {x3 : Int32} {kc18 : Int32 → Vt → Tt → Option ((Vt × Tt) × Nat × Nat)} {kx18_1185 : Vt → Tt → Option ((Vt × Tt) × Nat × Nat)} {H : Heap} {locs : List Loc} {ls : Array Slot} {cells slots n k : Nat} (hf : f_law_J717 xs L T V0 x1 x2 x3 kc18 kx18_1185 = some ((V', T'), n, k)) (hn : cells + n = mc) (hk : slots + k = ms) (hw : wS G V0 T H locs) (hl : lv_has ls 4 [(0, .ref b), (1, .ref (gb G + x1)), (2, .ref (gb G + x2)), (3, .int x3)]) (hkc18 : ∀ (y3 : Int32) (W1 : Vt) (T1 : Tt) (H : Heap) (locs : List Loc) (ls : Array Slot) (cells slots n k : Nat), kc18 y3 W1 T1 = some ((V', T'), n, k) → cells + n = mc → slots + k = ms → wS G W1 T1 H locs → lv_has ls 4 [(0, .ref b), (1, .ref (gb G + x1)), (2, .ref (gb G + x2)), (3, .int y3)] → W p l e room_1 s m #[Value.ref b] below meth c H locs cells slots (lw_Z below #[Value.ref b] s) (F0 m 18 ls [])) (hkx18_1185 : ∀ (W1 : Vt) (T1 : Tt) (H : Heap) (locs : List Loc) (ls : Array Slot) (cells slots n k : Nat), kx18_1185 W1 T1 = some ((V', T'), n, k) → cells + n = mc → slots + k = ms → wS G W1 T1 H locs → lv_has ls 4 [] → W p l e room_1 s m #[Value.ref b] below meth c H locs cells slots (lw_Z below #[Value.ref b] s) (F0 m 1185 ls [])) : W p l e room_1 s m #[Value.ref b] below meth c H locs cells slots (lw_Z below #[Value.ref b] s) (F0 m 717 ls []) := by
  have hx := C.1
  have hb := C.2.1
  have hown := C.2.2.2.1
  have hts := C.2.2.2.2.1
  unfold f_law_J717 at hf
  refine lv_aload_n hx hb dL_law_717 rfl (lv_at hl 1 rfl) ?_
  refine lv_aload_n hx hb dL_law_718 rfl (lv_at hl 0 rfl) ?_
  refine lv_iload_n hx hb dL_law_719 rfl (lv_at hl 3 rfl) ?_
  refine lv_iconst (v := (1 : Int32)) hx hb dL_law_720 (by decide) ?_
  refine lv_iadd hx hb dL_law_721 ?_
  revert hf
  refine k_req (fun h230 hf => ?_)
  refine va_sld hx hb hX hbl (law_b hG hbl) (law_S hG hw) (law_in h230) dL_law_722 ?_
  refine lv_aload_n hx hb dL_law_723 rfl (lv_at hl 0 rfl) ?_
  refine lv_iload_n hx hb dL_law_724 rfl (lv_at hl 3 rfl) ?_
  refine lv_iconst (v := (2 : Int32)) hx hb dL_law_725 (by decide) ?_
  refine lv_iadd hx hb dL_law_726 ?_
  revert hf
  refine k_req (fun h231 hf => ?_)
  refine va_sld hx hb hX hbl (law_b hG hbl) (law_S hG hw) (law_in h231) dL_law_727 ?_
  refine lv_aload_n hx hb dL_law_728 rfl (lv_at hl 0 rfl) ?_
  refine lv_iload_n hx hb dL_law_729 rfl (lv_at hl 3 rfl) ?_
  refine lv_iconst (v := (3 : Int32)) hx hb dL_law_730 (by decide) ?_
  refine lv_iadd hx hb dL_law_731 ?_
  revert hf
  refine k_req (fun h232 hf => ?_)
  refine va_sld hx hb hX hbl (law_b hG hbl) (law_S hG hw) (law_in h232) dL_law_732 ?_
  revert hf
  refine k_cal (fun z234 U235 h233 hf => ?_)
  refine w_afi hw (w_rV (As := [.int (xs (ixN (x3 + (1 : Int32)))), .int (xs (ixN (x3 + (2 : Int32)))), .int (xs (ixN (x3 + (3 : Int32))))]) C hw (ok_X0_oldEnough h233) (cw_L_100 hts (Nat.le_of_ble_eq_true rfl) (Nat.le_of_ble_eq_true rfl)) rfl (by decide) (of_req h233).1 rfl hl.1 rfl (Nat.le_of_ble_eq_true rfl) ⟨by show _ + 0 ≤ 1200128; omega, by show _ + 0 ≤ 5501098; omega⟩ dL_law_733) (fun H locs hw => ?_)
  refine lv_aload_n hx hb dL_law_736 rfl (lv_at hl 2 rfl) ?_
  refine lv_aload_n hx hb dL_law_737 rfl (lv_at hl 0 rfl) ?_
  refine lv_iload_n hx hb dL_law_738 rfl (lv_at hl 3 rfl) ?_
  refine lv_iconst (v := (1 : Int32)) hx hb dL_law_739 (by decide) ?_
  refine lv_iadd hx hb dL_law_740 ?_
  revert hf
  refine k_req (fun h236 hf => ?_)
  refine va_sld hx hb hX hbl (law_b hG hbl) (law_S hG hw) (law_in h236) dL_law_741 ?_
  refine lv_aload_n hx hb dL_law_742 rfl (lv_at hl 0 rfl) ?_
  refine lv_iload_n hx hb dL_law_743 rfl (lv_at hl 3 rfl) ?_
  refine lv_iconst (v := (2 : Int32)) hx hb dL_law_744 (by decide) ?_
  refine lv_iadd hx hb dL_law_745 ?_
  revert hf
  refine k_req (fun h237 hf => ?_)
  refine va_sld hx hb hX hbl (law_b hG hbl) (law_S hG hw) (law_in h237) dL_law_746 ?_
  refine lv_aload_n hx hb dL_law_747 rfl (lv_at hl 0 rfl) ?_
  refine lv_iload_n hx hb dL_law_748 rfl (lv_at hl 3 rfl) ?_
  refine lv_iconst (v := (3 : Int32)) hx hb dL_law_749 (by decide) ?_
  refine lv_iadd hx hb dL_law_750 ?_
  revert hf
  refine k_req (fun h238 hf => ?_)
  refine va_sld hx hb hX hbl (law_b hG hbl) (law_S hG hw) (law_in h238) dL_law_751 ?_
  revert hf
  refine k_cal (fun z240 U241 h239 hf => ?_)
  refine w_afi hw (w_rV (As := [.int (xs (ixN (x3 + (1 : Int32)))), .int (xs (ixN (x3 + (2 : Int32)))), .int (xs (ixN (x3 + (3 : Int32))))]) C hw (ok_X5_oldEnough h239) (cw_L_103 hts (Nat.le_of_ble_eq_true rfl) (Nat.le_of_ble_eq_true rfl)) rfl (by decide) (of_req h239).1 rfl hl.1 rfl (Nat.le_of_ble_eq_true rfl) ⟨by show _ + 0 ≤ 1200128; omega, by show _ + 0 ≤ 5501098; omega⟩ dL_law_752) (fun H locs hw => ?_)
  refine lv_icmp_eq (tgt := 1179) hx hb dL_law_755 (by decide) (fun c242 => ?_) (fun c242 => ?_)
  · replace hf := ite_t c242 hf
    exact jk_L_law_1179 C hr hG hX hbl hmc hms hf hn hk hw (lv_sub hl [0, 1, 2, 3] rfl) hkc18 hkx18_1185
  · replace hf := ite_f c242 hf
    cases hf
set_option maxHeartbeats 4000000 in
theorem jk_L_law_664 {l : Launch} {G : gG} {p : Program} {e : Env} {s : State} {m : MethodId} {below : List Frame} {meth : Method} {c : Code} {b L : Nat} {xs : Nat → Int32} {T : Tt} {V0 : Vt} {V' : Vt} {T' : Tt} {mc ms : Nat} (C : Cx G p s m #[Value.ref b] meth c code R_law 4) (hr : meth.sig.returnType = ret) (hG : G.2.2 = s) (hX : va_X b L xs s s.heap) (hbl : b < s.heap.size) (hmc : mc ≤ 1200128) (hms : ms ≤ 5501098) {x1 : Nat} {x2 : Nat} {x3 : Int32} {kc18 : Int32 → Vt → Tt → Option ((Vt × Tt) × Nat × Nat)} {kx18_1185 : Vt → Tt → Option ((Vt × Tt) × Nat × Nat)} {H : Heap} {locs : List Loc} {ls : Array Slot} {cells slots n k : Nat} (hf : f_law_J664 xs L T V0 x1 x2 x3 kc18 kx18_1185 = some ((V', T'), n, k)) (hn : cells + n = mc) (hk : slots + k = ms) (hw : wS G V0 T H locs) (hl : lv_has ls 4 [(0, .ref b), (1, .ref (gb G + x1)), (2, .ref (gb G + x2)), (3, .int x3)]) (hkc18 : ∀ (y3 : Int32) (W1 : Vt) (T1 : Tt) (H : Heap) (locs : List Loc) (ls : Array Slot) (cells slots n k : Nat), kc18 y3 W1 T1 = some ((V', T'), n, k) → cells + n = mc → slots + k = ms → wS G W1 T1 H locs → lv_has ls 4 [(0, .ref b), (1, .ref (gb G + x1)), (2, .ref (gb G + x2)), (3, .int y3)] → W p l e room_1 s m #[Value.ref b] below meth c H locs cells slots (lw_Z below #[Value.ref b] s) (F0 m 18 ls [])) (hkx18_1185 : ∀ (W1 : Vt) (T1 : Tt) (H : Heap) (locs : List Loc) (ls : Array Slot) (cells slots n k : Nat), kx18_1185 W1 T1 = some ((V', T'), n, k) → cells + n = mc → slots + k = ms → wS G W1 T1 H locs → lv_has ls 4 [] → W p l e room_1 s m #[Value.ref b] below meth c H locs cells slots (lw_Z below #[Value.ref b] s) (F0 m 1185 ls [])) : W p l e room_1 s m #[Value.ref b] below meth c H locs cells slots (lw_Z below #[Value.ref b] s) (F0 m 664 ls []) := by
  have hx := C.1
  have hb := C.2.1
  have hown := C.2.2.2.1
  have hts := C.2.2.2.2.1
  unfold f_law_J664 at hf
  refine lv_aload_n hx hb dL_law_664 rfl (lv_at hl 1 rfl) ?_
  refine lv_aload_n hx hb dL_law_665 rfl (lv_at hl 0 rfl) ?_
  refine lv_iload_n hx hb dL_law_666 rfl (lv_at hl 3 rfl) ?_
  refine lv_iconst (v := (1 : Int32)) hx hb dL_law_667 (by decide) ?_
  refine lv_iadd hx hb dL_law_668 ?_
  revert hf
  refine k_req (fun h214 hf => ?_)
  refine va_sld hx hb hX hbl (law_b hG hbl) (law_S hG hw) (law_in h214) dL_law_669 ?_
  refine lv_aload_n hx hb dL_law_670 rfl (lv_at hl 0 rfl) ?_
  refine lv_iload_n hx hb dL_law_671 rfl (lv_at hl 3 rfl) ?_
  refine lv_iconst (v := (2 : Int32)) hx hb dL_law_672 (by decide) ?_
  refine lv_iadd hx hb dL_law_673 ?_
  revert hf
  refine k_req (fun h215 hf => ?_)
  refine va_sld hx hb hX hbl (law_b hG hbl) (law_S hG hw) (law_in h215) dL_law_674 ?_
  refine lv_aload_n hx hb dL_law_675 rfl (lv_at hl 0 rfl) ?_
  refine lv_iload_n hx hb dL_law_676 rfl (lv_at hl 3 rfl) ?_
  refine lv_iconst (v := (3 : Int32)) hx hb dL_law_677 (by decide) ?_
  refine lv_iadd hx hb dL_law_678 ?_
  revert hf
  refine k_req (fun h216 hf => ?_)
  refine va_sld hx hb hX hbl (law_b hG hbl) (law_S hG hw) (law_in h216) dL_law_679 ?_
  refine lv_aload_n hx hb dL_law_680 rfl (lv_at hl 0 rfl) ?_
  refine lv_iload_n hx hb dL_law_681 rfl (lv_at hl 3 rfl) ?_
  refine lv_iconst (v := (4 : Int32)) hx hb dL_law_682 (by decide) ?_
  refine lv_iadd hx hb dL_law_683 ?_
  revert hf
  refine k_req (fun h217 hf => ?_)
  refine va_sld hx hb hX hbl (law_b hG hbl) (law_S hG hw) (law_in h217) dL_law_684 ?_
  revert hf
  refine k_cal (fun z219 U220 h218 hf => ?_)
  refine w_afi hw (w_rV (As := [.int (xs (ixN (x3 + (1 : Int32)))), .int (xs (ixN (x3 + (2 : Int32)))), .int (xs (ixN (x3 + (3 : Int32)))), .int (xs (ixN (x3 + (4 : Int32))))]) C hw (ok_X0_byPlan h218) (cw_L_95 hts (Nat.le_of_ble_eq_true rfl) (Nat.le_of_ble_eq_true rfl)) rfl (by decide) (of_req h218).1 rfl hl.1 rfl (Nat.le_of_ble_eq_true rfl) ⟨by show _ + 0 ≤ 1200128; omega, by show _ + 0 ≤ 5501098; omega⟩ dL_law_685) (fun H locs hw => ?_)
  refine lv_aload_n hx hb dL_law_688 rfl (lv_at hl 2 rfl) ?_
  refine lv_aload_n hx hb dL_law_689 rfl (lv_at hl 0 rfl) ?_
  refine lv_iload_n hx hb dL_law_690 rfl (lv_at hl 3 rfl) ?_
  refine lv_iconst (v := (1 : Int32)) hx hb dL_law_691 (by decide) ?_
  refine lv_iadd hx hb dL_law_692 ?_
  revert hf
  refine k_req (fun h221 hf => ?_)
  refine va_sld hx hb hX hbl (law_b hG hbl) (law_S hG hw) (law_in h221) dL_law_693 ?_
  refine lv_aload_n hx hb dL_law_694 rfl (lv_at hl 0 rfl) ?_
  refine lv_iload_n hx hb dL_law_695 rfl (lv_at hl 3 rfl) ?_
  refine lv_iconst (v := (2 : Int32)) hx hb dL_law_696 (by decide) ?_
  refine lv_iadd hx hb dL_law_697 ?_
  revert hf
  refine k_req (fun h222 hf => ?_)
  refine va_sld hx hb hX hbl (law_b hG hbl) (law_S hG hw) (law_in h222) dL_law_698 ?_
  refine lv_aload_n hx hb dL_law_699 rfl (lv_at hl 0 rfl) ?_
  refine lv_iload_n hx hb dL_law_700 rfl (lv_at hl 3 rfl) ?_
  refine lv_iconst (v := (3 : Int32)) hx hb dL_law_701 (by decide) ?_
  refine lv_iadd hx hb dL_law_702 ?_
  revert hf
  refine k_req (fun h223 hf => ?_)
  refine va_sld hx hb hX hbl (law_b hG hbl) (law_S hG hw) (law_in h223) dL_law_703 ?_
  refine lv_aload_n hx hb dL_law_704 rfl (lv_at hl 0 rfl) ?_
  refine lv_iload_n hx hb dL_law_705 rfl (lv_at hl 3 rfl) ?_
  refine lv_iconst (v := (4 : Int32)) hx hb dL_law_706 (by decide) ?_
  refine lv_iadd hx hb dL_law_707 ?_
  revert hf
  refine k_req (fun h224 hf => ?_)
  refine va_sld hx hb hX hbl (law_b hG hbl) (law_S hG hw) (law_in h224) dL_law_708 ?_
  revert hf
  refine k_cal (fun z226 U227 h225 hf => ?_)
  refine w_afi hw (w_rV (As := [.int (xs (ixN (x3 + (1 : Int32)))), .int (xs (ixN (x3 + (2 : Int32)))), .int (xs (ixN (x3 + (3 : Int32)))), .int (xs (ixN (x3 + (4 : Int32))))]) C hw (ok_X5_byPlan h225) (cw_L_99 hts (Nat.le_of_ble_eq_true rfl) (Nat.le_of_ble_eq_true rfl)) rfl (by decide) (of_req h225).1 rfl hl.1 rfl (Nat.le_of_ble_eq_true rfl) ⟨by show _ + 0 ≤ 1200128; omega, by show _ + 0 ≤ 5501098; omega⟩ dL_law_709) (fun H locs hw => ?_)
  refine lv_icmp_eq (tgt := 1179) hx hb dL_law_712 (by decide) (fun c228 => ?_) (fun c228 => ?_)
  · replace hf := ite_t c228 hf
    exact jk_L_law_1179 C hr hG hX hbl hmc hms hf hn hk hw (lv_sub hl [0, 1, 2, 3] rfl) hkc18 hkx18_1185
  · replace hf := ite_f c228 hf
    cases hf
set_option maxHeartbeats 4000000 in
theorem jk_L_law_651 {l : Launch} {G : gG} {p : Program} {e : Env} {s : State} {m : MethodId} {below : List Frame} {meth : Method} {c : Code} {b L : Nat} {xs : Nat → Int32} {T : Tt} {V0 : Vt} {V' : Vt} {T' : Tt} {mc ms : Nat} (C : Cx G p s m #[Value.ref b] meth c code R_law 4) (hr : meth.sig.returnType = ret) (hG : G.2.2 = s) (hX : va_X b L xs s s.heap) (hbl : b < s.heap.size) (hmc : mc ≤ 1200128) (hms : ms ≤ 5501098) {x1 : Nat} {x2 : Nat} {x3 : Int32} {kc18 : Int32 → Vt → Tt → Option ((Vt × Tt) × Nat × Nat)} {kx18_1185 : Vt → Tt → Option ((Vt × Tt) × Nat × Nat)} {H : Heap} {locs : List Loc} {ls : Array Slot} {cells slots n k : Nat} (hf : f_law_J651 xs L T V0 x1 x2 x3 kc18 kx18_1185 = some ((V', T'), n, k)) (hn : cells + n = mc) (hk : slots + k = ms) (hw : wS G V0 T H locs) (hl : lv_has ls 4 [(0, .ref b), (1, .ref (gb G + x1)), (2, .ref (gb G + x2)), (3, .int x3)]) (hkc18 : ∀ (y3 : Int32) (W1 : Vt) (T1 : Tt) (H : Heap) (locs : List Loc) (ls : Array Slot) (cells slots n k : Nat), kc18 y3 W1 T1 = some ((V', T'), n, k) → cells + n = mc → slots + k = ms → wS G W1 T1 H locs → lv_has ls 4 [(0, .ref b), (1, .ref (gb G + x1)), (2, .ref (gb G + x2)), (3, .int y3)] → W p l e room_1 s m #[Value.ref b] below meth c H locs cells slots (lw_Z below #[Value.ref b] s) (F0 m 18 ls [])) (hkx18_1185 : ∀ (W1 : Vt) (T1 : Tt) (H : Heap) (locs : List Loc) (ls : Array Slot) (cells slots n k : Nat), kx18_1185 W1 T1 = some ((V', T'), n, k) → cells + n = mc → slots + k = ms → wS G W1 T1 H locs → lv_has ls 4 [] → W p l e room_1 s m #[Value.ref b] below meth c H locs cells slots (lw_Z below #[Value.ref b] s) (F0 m 1185 ls [])) : W p l e room_1 s m #[Value.ref b] below meth c H locs cells slots (lw_Z below #[Value.ref b] s) (F0 m 651 ls []) := by
  have hx := C.1
  have hb := C.2.1
  have hown := C.2.2.2.1
  have hts := C.2.2.2.2.1
  unfold f_law_J651 at hf
  refine lv_aload_n hx hb dL_law_651 rfl (lv_at hl 1 rfl) ?_
  revert hf
  refine k_cal (fun z207 U208 h206 hf => ?_)
  refine w_afi hw (w_rV (As := []) C hw (ok_X0_undo h206) (cw_L_91 hts (Nat.le_of_ble_eq_true rfl) (Nat.le_of_ble_eq_true rfl)) rfl (by decide) (of_req h206).1 rfl hl.1 rfl (Nat.le_of_ble_eq_true rfl) ⟨by show _ + 0 ≤ 1200128; omega, by show _ + 0 ≤ 5501098; omega⟩ dL_law_652) (fun H locs hw => ?_)
  refine lv_aload_n hx hb dL_law_655 rfl (lv_at hl 2 rfl) ?_
  revert hf
  refine k_cal (fun z210 U211 h209 hf => ?_)
  refine w_afi hw (w_rV (As := []) C hw (ok_X5_undo h209) (cw_L_94 hts (Nat.le_of_ble_eq_true rfl) (Nat.le_of_ble_eq_true rfl)) rfl (by decide) (of_req h209).1 rfl hl.1 rfl (Nat.le_of_ble_eq_true rfl) ⟨by show _ + 0 ≤ 1200128; omega, by show _ + 0 ≤ 5501098; omega⟩ dL_law_656) (fun H locs hw => ?_)
  refine lv_icmp_eq (tgt := 1179) hx hb dL_law_659 (by decide) (fun c212 => ?_) (fun c212 => ?_)
  · replace hf := ite_t c212 hf
    exact jk_L_law_1179 C hr hG hX hbl hmc hms hf hn hk hw (lv_sub hl [0, 1, 2, 3] rfl) hkc18 hkx18_1185
  · replace hf := ite_f c212 hf
    cases hf
set_option maxHeartbeats 4000000 in
theorem jk_L_law_638 {l : Launch} {G : gG} {p : Program} {e : Env} {s : State} {m : MethodId} {below : List Frame} {meth : Method} {c : Code} {b L : Nat} {xs : Nat → Int32} {T : Tt} {V0 : Vt} {V' : Vt} {T' : Tt} {mc ms : Nat} (C : Cx G p s m #[Value.ref b] meth c code R_law 4) (hr : meth.sig.returnType = ret) (hG : G.2.2 = s) (hX : va_X b L xs s s.heap) (hbl : b < s.heap.size) (hmc : mc ≤ 1200128) (hms : ms ≤ 5501098) {x1 : Nat} {x2 : Nat} {x3 : Int32} {kc18 : Int32 → Vt → Tt → Option ((Vt × Tt) × Nat × Nat)} {kx18_1185 : Vt → Tt → Option ((Vt × Tt) × Nat × Nat)} {H : Heap} {locs : List Loc} {ls : Array Slot} {cells slots n k : Nat} (hf : f_law_J638 xs L T V0 x1 x2 x3 kc18 kx18_1185 = some ((V', T'), n, k)) (hn : cells + n = mc) (hk : slots + k = ms) (hw : wS G V0 T H locs) (hl : lv_has ls 4 [(0, .ref b), (1, .ref (gb G + x1)), (2, .ref (gb G + x2)), (3, .int x3)]) (hkc18 : ∀ (y3 : Int32) (W1 : Vt) (T1 : Tt) (H : Heap) (locs : List Loc) (ls : Array Slot) (cells slots n k : Nat), kc18 y3 W1 T1 = some ((V', T'), n, k) → cells + n = mc → slots + k = ms → wS G W1 T1 H locs → lv_has ls 4 [(0, .ref b), (1, .ref (gb G + x1)), (2, .ref (gb G + x2)), (3, .int y3)] → W p l e room_1 s m #[Value.ref b] below meth c H locs cells slots (lw_Z below #[Value.ref b] s) (F0 m 18 ls [])) (hkx18_1185 : ∀ (W1 : Vt) (T1 : Tt) (H : Heap) (locs : List Loc) (ls : Array Slot) (cells slots n k : Nat), kx18_1185 W1 T1 = some ((V', T'), n, k) → cells + n = mc → slots + k = ms → wS G W1 T1 H locs → lv_has ls 4 [] → W p l e room_1 s m #[Value.ref b] below meth c H locs cells slots (lw_Z below #[Value.ref b] s) (F0 m 1185 ls [])) : W p l e room_1 s m #[Value.ref b] below meth c H locs cells slots (lw_Z below #[Value.ref b] s) (F0 m 638 ls []) := by
  have hx := C.1
  have hb := C.2.1
  have hown := C.2.2.2.1
  have hts := C.2.2.2.2.1
  unfold f_law_J638 at hf
  refine lv_aload_n hx hb dL_law_638 rfl (lv_at hl 1 rfl) ?_
  revert hf
  refine k_cal (fun z199 U200 h198 hf => ?_)
  refine w_afi hw (w_rV (As := []) C hw (ok_X0_pass h198) (cw_L_87 hts (Nat.le_of_ble_eq_true rfl) (Nat.le_of_ble_eq_true rfl)) rfl (by decide) (of_req h198).1 rfl hl.1 rfl (Nat.le_of_ble_eq_true rfl) ⟨by show _ + 0 ≤ 1200128; omega, by show _ + 0 ≤ 5501098; omega⟩ dL_law_639) (fun H locs hw => ?_)
  refine lv_aload_n hx hb dL_law_642 rfl (lv_at hl 2 rfl) ?_
  revert hf
  refine k_cal (fun z202 U203 h201 hf => ?_)
  refine w_afi hw (w_rV (As := []) C hw (ok_X5_pass h201) (cw_L_90 hts (Nat.le_of_ble_eq_true rfl) (Nat.le_of_ble_eq_true rfl)) rfl (by decide) (of_req h201).1 rfl hl.1 rfl (Nat.le_of_ble_eq_true rfl) ⟨by show _ + 0 ≤ 1200128; omega, by show _ + 0 ≤ 5501098; omega⟩ dL_law_643) (fun H locs hw => ?_)
  refine lv_icmp_eq (tgt := 1179) hx hb dL_law_646 (by decide) (fun c204 => ?_) (fun c204 => ?_)
  · replace hf := ite_t c204 hf
    exact jk_L_law_1179 C hr hG hX hbl hmc hms hf hn hk hw (lv_sub hl [0, 1, 2, 3] rfl) hkc18 hkx18_1185
  · replace hf := ite_f c204 hf
    cases hf
set_option maxHeartbeats 4000000 in
theorem jk_L_law_605 {l : Launch} {G : gG} {p : Program} {e : Env} {s : State} {m : MethodId} {below : List Frame} {meth : Method} {c : Code} {b L : Nat} {xs : Nat → Int32} {T : Tt} {V0 : Vt} {V' : Vt} {T' : Tt} {mc ms : Nat} (C : Cx G p s m #[Value.ref b] meth c code R_law 4) (hr : meth.sig.returnType = ret) (hG : G.2.2 = s) (hX : va_X b L xs s s.heap) (hbl : b < s.heap.size) (hmc : mc ≤ 1200128) (hms : ms ≤ 5501098) {x1 : Nat} {x2 : Nat} {x3 : Int32} {kc18 : Int32 → Vt → Tt → Option ((Vt × Tt) × Nat × Nat)} {kx18_1185 : Vt → Tt → Option ((Vt × Tt) × Nat × Nat)} {H : Heap} {locs : List Loc} {ls : Array Slot} {cells slots n k : Nat} (hf : f_law_J605 xs L T V0 x1 x2 x3 kc18 kx18_1185 = some ((V', T'), n, k)) (hn : cells + n = mc) (hk : slots + k = ms) (hw : wS G V0 T H locs) (hl : lv_has ls 4 [(0, .ref b), (1, .ref (gb G + x1)), (2, .ref (gb G + x2)), (3, .int x3)]) (hkc18 : ∀ (y3 : Int32) (W1 : Vt) (T1 : Tt) (H : Heap) (locs : List Loc) (ls : Array Slot) (cells slots n k : Nat), kc18 y3 W1 T1 = some ((V', T'), n, k) → cells + n = mc → slots + k = ms → wS G W1 T1 H locs → lv_has ls 4 [(0, .ref b), (1, .ref (gb G + x1)), (2, .ref (gb G + x2)), (3, .int y3)] → W p l e room_1 s m #[Value.ref b] below meth c H locs cells slots (lw_Z below #[Value.ref b] s) (F0 m 18 ls [])) (hkx18_1185 : ∀ (W1 : Vt) (T1 : Tt) (H : Heap) (locs : List Loc) (ls : Array Slot) (cells slots n k : Nat), kx18_1185 W1 T1 = some ((V', T'), n, k) → cells + n = mc → slots + k = ms → wS G W1 T1 H locs → lv_has ls 4 [] → W p l e room_1 s m #[Value.ref b] below meth c H locs cells slots (lw_Z below #[Value.ref b] s) (F0 m 1185 ls [])) : W p l e room_1 s m #[Value.ref b] below meth c H locs cells slots (lw_Z below #[Value.ref b] s) (F0 m 605 ls []) := by
  have hx := C.1
  have hb := C.2.1
  have hown := C.2.2.2.1
  have hts := C.2.2.2.2.1
  unfold f_law_J605 at hf
  refine lv_aload_n hx hb dL_law_605 rfl (lv_at hl 1 rfl) ?_
  refine lv_aload_n hx hb dL_law_606 rfl (lv_at hl 0 rfl) ?_
  refine lv_iload_n hx hb dL_law_607 rfl (lv_at hl 3 rfl) ?_
  refine lv_iconst (v := (1 : Int32)) hx hb dL_law_608 (by decide) ?_
  refine lv_iadd hx hb dL_law_609 ?_
  revert hf
  refine k_req (fun h186 hf => ?_)
  refine va_sld hx hb hX hbl (law_b hG hbl) (law_S hG hw) (law_in h186) dL_law_610 ?_
  refine lv_aload_n hx hb dL_law_611 rfl (lv_at hl 0 rfl) ?_
  refine lv_iload_n hx hb dL_law_612 rfl (lv_at hl 3 rfl) ?_
  refine lv_iconst (v := (2 : Int32)) hx hb dL_law_613 (by decide) ?_
  refine lv_iadd hx hb dL_law_614 ?_
  revert hf
  refine k_req (fun h187 hf => ?_)
  refine va_sld hx hb hX hbl (law_b hG hbl) (law_S hG hw) (law_in h187) dL_law_615 ?_
  revert hf
  refine k_cal (fun z189 U190 h188 hf => ?_)
  refine w_afi hw (w_rV (As := [.int (xs (ixN (x3 + (1 : Int32)))), .int (xs (ixN (x3 + (2 : Int32))))]) C hw (ok_X0_bottle h188) (cw_L_83 hts (Nat.le_of_ble_eq_true rfl) (Nat.le_of_ble_eq_true rfl)) rfl (by decide) (of_req h188).1 rfl hl.1 rfl (Nat.le_of_ble_eq_true rfl) ⟨by show _ + 0 ≤ 1200128; omega, by show _ + 0 ≤ 5501098; omega⟩ dL_law_616) (fun H locs hw => ?_)
  refine lv_aload_n hx hb dL_law_619 rfl (lv_at hl 2 rfl) ?_
  refine lv_aload_n hx hb dL_law_620 rfl (lv_at hl 0 rfl) ?_
  refine lv_iload_n hx hb dL_law_621 rfl (lv_at hl 3 rfl) ?_
  refine lv_iconst (v := (1 : Int32)) hx hb dL_law_622 (by decide) ?_
  refine lv_iadd hx hb dL_law_623 ?_
  revert hf
  refine k_req (fun h191 hf => ?_)
  refine va_sld hx hb hX hbl (law_b hG hbl) (law_S hG hw) (law_in h191) dL_law_624 ?_
  refine lv_aload_n hx hb dL_law_625 rfl (lv_at hl 0 rfl) ?_
  refine lv_iload_n hx hb dL_law_626 rfl (lv_at hl 3 rfl) ?_
  refine lv_iconst (v := (2 : Int32)) hx hb dL_law_627 (by decide) ?_
  refine lv_iadd hx hb dL_law_628 ?_
  revert hf
  refine k_req (fun h192 hf => ?_)
  refine va_sld hx hb hX hbl (law_b hG hbl) (law_S hG hw) (law_in h192) dL_law_629 ?_
  revert hf
  refine k_cal (fun z194 U195 h193 hf => ?_)
  refine w_afi hw (w_rV (As := [.int (xs (ixN (x3 + (1 : Int32)))), .int (xs (ixN (x3 + (2 : Int32))))]) C hw (ok_X5_bottle h193) (cw_L_86 hts (Nat.le_of_ble_eq_true rfl) (Nat.le_of_ble_eq_true rfl)) rfl (by decide) (of_req h193).1 rfl hl.1 rfl (Nat.le_of_ble_eq_true rfl) ⟨by show _ + 0 ≤ 1200128; omega, by show _ + 0 ≤ 5501098; omega⟩ dL_law_630) (fun H locs hw => ?_)
  refine lv_icmp_eq (tgt := 1179) hx hb dL_law_633 (by decide) (fun c196 => ?_) (fun c196 => ?_)
  · replace hf := ite_t c196 hf
    exact jk_L_law_1179 C hr hG hX hbl hmc hms hf hn hk hw (lv_sub hl [0, 1, 2, 3] rfl) hkc18 hkx18_1185
  · replace hf := ite_f c196 hf
    cases hf
set_option maxHeartbeats 4000000 in
theorem jk_L_law_562 {l : Launch} {G : gG} {p : Program} {e : Env} {s : State} {m : MethodId} {below : List Frame} {meth : Method} {c : Code} {b L : Nat} {xs : Nat → Int32} {T : Tt} {V0 : Vt} {V' : Vt} {T' : Tt} {mc ms : Nat} (C : Cx G p s m #[Value.ref b] meth c code R_law 4) (hr : meth.sig.returnType = ret) (hG : G.2.2 = s) (hX : va_X b L xs s s.heap) (hbl : b < s.heap.size) (hmc : mc ≤ 1200128) (hms : ms ≤ 5501098) {x1 : Nat} {x2 : Nat} {x3 : Int32} {kc18 : Int32 → Vt → Tt → Option ((Vt × Tt) × Nat × Nat)} {kx18_1185 : Vt → Tt → Option ((Vt × Tt) × Nat × Nat)} {H : Heap} {locs : List Loc} {ls : Array Slot} {cells slots n k : Nat} (hf : f_law_J562 xs L T V0 x1 x2 x3 kc18 kx18_1185 = some ((V', T'), n, k)) (hn : cells + n = mc) (hk : slots + k = ms) (hw : wS G V0 T H locs) (hl : lv_has ls 4 [(0, .ref b), (1, .ref (gb G + x1)), (2, .ref (gb G + x2)), (3, .int x3)]) (hkc18 : ∀ (y3 : Int32) (W1 : Vt) (T1 : Tt) (H : Heap) (locs : List Loc) (ls : Array Slot) (cells slots n k : Nat), kc18 y3 W1 T1 = some ((V', T'), n, k) → cells + n = mc → slots + k = ms → wS G W1 T1 H locs → lv_has ls 4 [(0, .ref b), (1, .ref (gb G + x1)), (2, .ref (gb G + x2)), (3, .int y3)] → W p l e room_1 s m #[Value.ref b] below meth c H locs cells slots (lw_Z below #[Value.ref b] s) (F0 m 18 ls [])) (hkx18_1185 : ∀ (W1 : Vt) (T1 : Tt) (H : Heap) (locs : List Loc) (ls : Array Slot) (cells slots n k : Nat), kx18_1185 W1 T1 = some ((V', T'), n, k) → cells + n = mc → slots + k = ms → wS G W1 T1 H locs → lv_has ls 4 [] → W p l e room_1 s m #[Value.ref b] below meth c H locs cells slots (lw_Z below #[Value.ref b] s) (F0 m 1185 ls [])) : W p l e room_1 s m #[Value.ref b] below meth c H locs cells slots (lw_Z below #[Value.ref b] s) (F0 m 562 ls []) := by
  have hx := C.1
  have hb := C.2.1
  have hown := C.2.2.2.1
  have hts := C.2.2.2.2.1
  unfold f_law_J562 at hf
  refine lv_aload_n hx hb dL_law_562 rfl (lv_at hl 1 rfl) ?_
  refine lv_aload_n hx hb dL_law_563 rfl (lv_at hl 0 rfl) ?_
  refine lv_iload_n hx hb dL_law_564 rfl (lv_at hl 3 rfl) ?_
  refine lv_iconst (v := (1 : Int32)) hx hb dL_law_565 (by decide) ?_
  refine lv_iadd hx hb dL_law_566 ?_
  revert hf
  refine k_req (fun h172 hf => ?_)
  refine va_sld hx hb hX hbl (law_b hG hbl) (law_S hG hw) (law_in h172) dL_law_567 ?_
  refine lv_aload_n hx hb dL_law_568 rfl (lv_at hl 0 rfl) ?_
  refine lv_iload_n hx hb dL_law_569 rfl (lv_at hl 3 rfl) ?_
  refine lv_iconst (v := (2 : Int32)) hx hb dL_law_570 (by decide) ?_
  refine lv_iadd hx hb dL_law_571 ?_
  revert hf
  refine k_req (fun h173 hf => ?_)
  refine va_sld hx hb hX hbl (law_b hG hbl) (law_S hG hw) (law_in h173) dL_law_572 ?_
  refine lv_aload_n hx hb dL_law_573 rfl (lv_at hl 0 rfl) ?_
  refine lv_iload_n hx hb dL_law_574 rfl (lv_at hl 3 rfl) ?_
  refine lv_iconst (v := (3 : Int32)) hx hb dL_law_575 (by decide) ?_
  refine lv_iadd hx hb dL_law_576 ?_
  revert hf
  refine k_req (fun h174 hf => ?_)
  refine va_sld hx hb hX hbl (law_b hG hbl) (law_S hG hw) (law_in h174) dL_law_577 ?_
  revert hf
  refine k_cal (fun z176 U177 h175 hf => ?_)
  refine w_afi hw (w_rV (As := [.int (xs (ixN (x3 + (1 : Int32)))), .int (xs (ixN (x3 + (2 : Int32)))), .int (xs (ixN (x3 + (3 : Int32))))]) C hw (ok_X0_rack h175) (cw_L_78 hts (Nat.le_of_ble_eq_true rfl) (Nat.le_of_ble_eq_true rfl)) rfl (by decide) (of_req h175).1 rfl hl.1 rfl (Nat.le_of_ble_eq_true rfl) ⟨by show _ + 0 ≤ 1200128; omega, by show _ + 0 ≤ 5501098; omega⟩ dL_law_578) (fun H locs hw => ?_)
  refine lv_aload_n hx hb dL_law_581 rfl (lv_at hl 2 rfl) ?_
  refine lv_aload_n hx hb dL_law_582 rfl (lv_at hl 0 rfl) ?_
  refine lv_iload_n hx hb dL_law_583 rfl (lv_at hl 3 rfl) ?_
  refine lv_iconst (v := (1 : Int32)) hx hb dL_law_584 (by decide) ?_
  refine lv_iadd hx hb dL_law_585 ?_
  revert hf
  refine k_req (fun h178 hf => ?_)
  refine va_sld hx hb hX hbl (law_b hG hbl) (law_S hG hw) (law_in h178) dL_law_586 ?_
  refine lv_aload_n hx hb dL_law_587 rfl (lv_at hl 0 rfl) ?_
  refine lv_iload_n hx hb dL_law_588 rfl (lv_at hl 3 rfl) ?_
  refine lv_iconst (v := (2 : Int32)) hx hb dL_law_589 (by decide) ?_
  refine lv_iadd hx hb dL_law_590 ?_
  revert hf
  refine k_req (fun h179 hf => ?_)
  refine va_sld hx hb hX hbl (law_b hG hbl) (law_S hG hw) (law_in h179) dL_law_591 ?_
  refine lv_aload_n hx hb dL_law_592 rfl (lv_at hl 0 rfl) ?_
  refine lv_iload_n hx hb dL_law_593 rfl (lv_at hl 3 rfl) ?_
  refine lv_iconst (v := (3 : Int32)) hx hb dL_law_594 (by decide) ?_
  refine lv_iadd hx hb dL_law_595 ?_
  revert hf
  refine k_req (fun h180 hf => ?_)
  refine va_sld hx hb hX hbl (law_b hG hbl) (law_S hG hw) (law_in h180) dL_law_596 ?_
  revert hf
  refine k_cal (fun z182 U183 h181 hf => ?_)
  refine w_afi hw (w_rV (As := [.int (xs (ixN (x3 + (1 : Int32)))), .int (xs (ixN (x3 + (2 : Int32)))), .int (xs (ixN (x3 + (3 : Int32))))]) C hw (ok_X5_rack h181) (cw_L_82 hts (Nat.le_of_ble_eq_true rfl) (Nat.le_of_ble_eq_true rfl)) rfl (by decide) (of_req h181).1 rfl hl.1 rfl (Nat.le_of_ble_eq_true rfl) ⟨by show _ + 0 ≤ 1200128; omega, by show _ + 0 ≤ 5501098; omega⟩ dL_law_597) (fun H locs hw => ?_)
  refine lv_icmp_eq (tgt := 1179) hx hb dL_law_600 (by decide) (fun c184 => ?_) (fun c184 => ?_)
  · replace hf := ite_t c184 hf
    exact jk_L_law_1179 C hr hG hX hbl hmc hms hf hn hk hw (lv_sub hl [0, 1, 2, 3] rfl) hkc18 hkx18_1185
  · replace hf := ite_f c184 hf
    cases hf
set_option maxHeartbeats 4000000 in
theorem jk_L_law_529 {l : Launch} {G : gG} {p : Program} {e : Env} {s : State} {m : MethodId} {below : List Frame} {meth : Method} {c : Code} {b L : Nat} {xs : Nat → Int32} {T : Tt} {V0 : Vt} {V' : Vt} {T' : Tt} {mc ms : Nat} (C : Cx G p s m #[Value.ref b] meth c code R_law 4) (hr : meth.sig.returnType = ret) (hG : G.2.2 = s) (hX : va_X b L xs s s.heap) (hbl : b < s.heap.size) (hmc : mc ≤ 1200128) (hms : ms ≤ 5501098) {x1 : Nat} {x2 : Nat} {x3 : Int32} {kc18 : Int32 → Vt → Tt → Option ((Vt × Tt) × Nat × Nat)} {kx18_1185 : Vt → Tt → Option ((Vt × Tt) × Nat × Nat)} {H : Heap} {locs : List Loc} {ls : Array Slot} {cells slots n k : Nat} (hf : f_law_J529 xs L T V0 x1 x2 x3 kc18 kx18_1185 = some ((V', T'), n, k)) (hn : cells + n = mc) (hk : slots + k = ms) (hw : wS G V0 T H locs) (hl : lv_has ls 4 [(0, .ref b), (1, .ref (gb G + x1)), (2, .ref (gb G + x2)), (3, .int x3)]) (hkc18 : ∀ (y3 : Int32) (W1 : Vt) (T1 : Tt) (H : Heap) (locs : List Loc) (ls : Array Slot) (cells slots n k : Nat), kc18 y3 W1 T1 = some ((V', T'), n, k) → cells + n = mc → slots + k = ms → wS G W1 T1 H locs → lv_has ls 4 [(0, .ref b), (1, .ref (gb G + x1)), (2, .ref (gb G + x2)), (3, .int y3)] → W p l e room_1 s m #[Value.ref b] below meth c H locs cells slots (lw_Z below #[Value.ref b] s) (F0 m 18 ls [])) (hkx18_1185 : ∀ (W1 : Vt) (T1 : Tt) (H : Heap) (locs : List Loc) (ls : Array Slot) (cells slots n k : Nat), kx18_1185 W1 T1 = some ((V', T'), n, k) → cells + n = mc → slots + k = ms → wS G W1 T1 H locs → lv_has ls 4 [] → W p l e room_1 s m #[Value.ref b] below meth c H locs cells slots (lw_Z below #[Value.ref b] s) (F0 m 1185 ls [])) : W p l e room_1 s m #[Value.ref b] below meth c H locs cells slots (lw_Z below #[Value.ref b] s) (F0 m 529 ls []) := by
  have hx := C.1
  have hb := C.2.1
  have hown := C.2.2.2.1
  have hts := C.2.2.2.2.1
  unfold f_law_J529 at hf
  refine lv_aload_n hx hb dL_law_529 rfl (lv_at hl 1 rfl) ?_
  refine lv_aload_n hx hb dL_law_530 rfl (lv_at hl 0 rfl) ?_
  refine lv_iload_n hx hb dL_law_531 rfl (lv_at hl 3 rfl) ?_
  refine lv_iconst (v := (1 : Int32)) hx hb dL_law_532 (by decide) ?_
  refine lv_iadd hx hb dL_law_533 ?_
  revert hf
  refine k_req (fun h160 hf => ?_)
  refine va_sld hx hb hX hbl (law_b hG hbl) (law_S hG hw) (law_in h160) dL_law_534 ?_
  refine lv_aload_n hx hb dL_law_535 rfl (lv_at hl 0 rfl) ?_
  refine lv_iload_n hx hb dL_law_536 rfl (lv_at hl 3 rfl) ?_
  refine lv_iconst (v := (2 : Int32)) hx hb dL_law_537 (by decide) ?_
  refine lv_iadd hx hb dL_law_538 ?_
  revert hf
  refine k_req (fun h161 hf => ?_)
  refine va_sld hx hb hX hbl (law_b hG hbl) (law_S hG hw) (law_in h161) dL_law_539 ?_
  revert hf
  refine k_cal (fun z163 U164 h162 hf => ?_)
  refine w_afi hw (w_rV (As := [.int (xs (ixN (x3 + (1 : Int32)))), .int (xs (ixN (x3 + (2 : Int32))))]) C hw (ok_X0_pour h162) (cw_L_74 hts (Nat.le_of_ble_eq_true rfl) (Nat.le_of_ble_eq_true rfl)) rfl (by decide) (of_req h162).1 rfl hl.1 rfl (Nat.le_of_ble_eq_true rfl) ⟨by show _ + 0 ≤ 1200128; omega, by show _ + 0 ≤ 5501098; omega⟩ dL_law_540) (fun H locs hw => ?_)
  refine lv_aload_n hx hb dL_law_543 rfl (lv_at hl 2 rfl) ?_
  refine lv_aload_n hx hb dL_law_544 rfl (lv_at hl 0 rfl) ?_
  refine lv_iload_n hx hb dL_law_545 rfl (lv_at hl 3 rfl) ?_
  refine lv_iconst (v := (1 : Int32)) hx hb dL_law_546 (by decide) ?_
  refine lv_iadd hx hb dL_law_547 ?_
  revert hf
  refine k_req (fun h165 hf => ?_)
  refine va_sld hx hb hX hbl (law_b hG hbl) (law_S hG hw) (law_in h165) dL_law_548 ?_
  refine lv_aload_n hx hb dL_law_549 rfl (lv_at hl 0 rfl) ?_
  refine lv_iload_n hx hb dL_law_550 rfl (lv_at hl 3 rfl) ?_
  refine lv_iconst (v := (2 : Int32)) hx hb dL_law_551 (by decide) ?_
  refine lv_iadd hx hb dL_law_552 ?_
  revert hf
  refine k_req (fun h166 hf => ?_)
  refine va_sld hx hb hX hbl (law_b hG hbl) (law_S hG hw) (law_in h166) dL_law_553 ?_
  revert hf
  refine k_cal (fun z168 U169 h167 hf => ?_)
  refine w_afi hw (w_rV (As := [.int (xs (ixN (x3 + (1 : Int32)))), .int (xs (ixN (x3 + (2 : Int32))))]) C hw (ok_X5_pour h167) (cw_L_77 hts (Nat.le_of_ble_eq_true rfl) (Nat.le_of_ble_eq_true rfl)) rfl (by decide) (of_req h167).1 rfl hl.1 rfl (Nat.le_of_ble_eq_true rfl) ⟨by show _ + 0 ≤ 1200128; omega, by show _ + 0 ≤ 5501098; omega⟩ dL_law_554) (fun H locs hw => ?_)
  refine lv_icmp_eq (tgt := 1179) hx hb dL_law_557 (by decide) (fun c170 => ?_) (fun c170 => ?_)
  · replace hf := ite_t c170 hf
    exact jk_L_law_1179 C hr hG hX hbl hmc hms hf hn hk hw (lv_sub hl [0, 1, 2, 3] rfl) hkc18 hkx18_1185
  · replace hf := ite_f c170 hf
    cases hf
set_option maxHeartbeats 4000000 in
theorem jk_L_law_506 {l : Launch} {G : gG} {p : Program} {e : Env} {s : State} {m : MethodId} {below : List Frame} {meth : Method} {c : Code} {b L : Nat} {xs : Nat → Int32} {T : Tt} {V0 : Vt} {V' : Vt} {T' : Tt} {mc ms : Nat} (C : Cx G p s m #[Value.ref b] meth c code R_law 4) (hr : meth.sig.returnType = ret) (hG : G.2.2 = s) (hX : va_X b L xs s s.heap) (hbl : b < s.heap.size) (hmc : mc ≤ 1200128) (hms : ms ≤ 5501098) {x1 : Nat} {x2 : Nat} {x3 : Int32} {kc18 : Int32 → Vt → Tt → Option ((Vt × Tt) × Nat × Nat)} {kx18_1185 : Vt → Tt → Option ((Vt × Tt) × Nat × Nat)} {H : Heap} {locs : List Loc} {ls : Array Slot} {cells slots n k : Nat} (hf : f_law_J506 xs L T V0 x1 x2 x3 kc18 kx18_1185 = some ((V', T'), n, k)) (hn : cells + n = mc) (hk : slots + k = ms) (hw : wS G V0 T H locs) (hl : lv_has ls 4 [(0, .ref b), (1, .ref (gb G + x1)), (2, .ref (gb G + x2)), (3, .int x3)]) (hkc18 : ∀ (y3 : Int32) (W1 : Vt) (T1 : Tt) (H : Heap) (locs : List Loc) (ls : Array Slot) (cells slots n k : Nat), kc18 y3 W1 T1 = some ((V', T'), n, k) → cells + n = mc → slots + k = ms → wS G W1 T1 H locs → lv_has ls 4 [(0, .ref b), (1, .ref (gb G + x1)), (2, .ref (gb G + x2)), (3, .int y3)] → W p l e room_1 s m #[Value.ref b] below meth c H locs cells slots (lw_Z below #[Value.ref b] s) (F0 m 18 ls [])) (hkx18_1185 : ∀ (W1 : Vt) (T1 : Tt) (H : Heap) (locs : List Loc) (ls : Array Slot) (cells slots n k : Nat), kx18_1185 W1 T1 = some ((V', T'), n, k) → cells + n = mc → slots + k = ms → wS G W1 T1 H locs → lv_has ls 4 [] → W p l e room_1 s m #[Value.ref b] below meth c H locs cells slots (lw_Z below #[Value.ref b] s) (F0 m 1185 ls [])) : W p l e room_1 s m #[Value.ref b] below meth c H locs cells slots (lw_Z below #[Value.ref b] s) (F0 m 506 ls []) := by
  have hx := C.1
  have hb := C.2.1
  have hown := C.2.2.2.1
  have hts := C.2.2.2.2.1
  unfold f_law_J506 at hf
  refine lv_aload_n hx hb dL_law_506 rfl (lv_at hl 1 rfl) ?_
  refine lv_aload_n hx hb dL_law_507 rfl (lv_at hl 0 rfl) ?_
  refine lv_iload_n hx hb dL_law_508 rfl (lv_at hl 3 rfl) ?_
  refine lv_iconst (v := (1 : Int32)) hx hb dL_law_509 (by decide) ?_
  refine lv_iadd hx hb dL_law_510 ?_
  revert hf
  refine k_req (fun h150 hf => ?_)
  refine va_sld hx hb hX hbl (law_b hG hbl) (law_S hG hw) (law_in h150) dL_law_511 ?_
  revert hf
  refine k_cal (fun z152 U153 h151 hf => ?_)
  refine w_afi hw (w_rV (As := [.int (xs (ixN (x3 + (1 : Int32))))]) C hw (ok_X0_force h151) (cw_L_70 hts (Nat.le_of_ble_eq_true rfl) (Nat.le_of_ble_eq_true rfl)) rfl (by decide) (of_req h151).1 rfl hl.1 rfl (Nat.le_of_ble_eq_true rfl) ⟨by show _ + 0 ≤ 1200128; omega, by show _ + 0 ≤ 5501098; omega⟩ dL_law_512) (fun H locs hw => ?_)
  refine lv_aload_n hx hb dL_law_515 rfl (lv_at hl 2 rfl) ?_
  refine lv_aload_n hx hb dL_law_516 rfl (lv_at hl 0 rfl) ?_
  refine lv_iload_n hx hb dL_law_517 rfl (lv_at hl 3 rfl) ?_
  refine lv_iconst (v := (1 : Int32)) hx hb dL_law_518 (by decide) ?_
  refine lv_iadd hx hb dL_law_519 ?_
  revert hf
  refine k_req (fun h154 hf => ?_)
  refine va_sld hx hb hX hbl (law_b hG hbl) (law_S hG hw) (law_in h154) dL_law_520 ?_
  revert hf
  refine k_cal (fun z156 U157 h155 hf => ?_)
  refine w_afi hw (w_rV (As := [.int (xs (ixN (x3 + (1 : Int32))))]) C hw (ok_X5_force h155) (cw_L_73 hts (Nat.le_of_ble_eq_true rfl) (Nat.le_of_ble_eq_true rfl)) rfl (by decide) (of_req h155).1 rfl hl.1 rfl (Nat.le_of_ble_eq_true rfl) ⟨by show _ + 0 ≤ 1200128; omega, by show _ + 0 ≤ 5501098; omega⟩ dL_law_521) (fun H locs hw => ?_)
  refine lv_icmp_eq (tgt := 1179) hx hb dL_law_524 (by decide) (fun c158 => ?_) (fun c158 => ?_)
  · replace hf := ite_t c158 hf
    exact jk_L_law_1179 C hr hG hX hbl hmc hms hf hn hk hw (lv_sub hl [0, 1, 2, 3] rfl) hkc18 hkx18_1185
  · replace hf := ite_f c158 hf
    cases hf
set_option maxHeartbeats 4000000 in
theorem jk_L_law_493 {l : Launch} {G : gG} {p : Program} {e : Env} {s : State} {m : MethodId} {below : List Frame} {meth : Method} {c : Code} {b L : Nat} {xs : Nat → Int32} {T : Tt} {V0 : Vt} {V' : Vt} {T' : Tt} {mc ms : Nat} (C : Cx G p s m #[Value.ref b] meth c code R_law 4) (hr : meth.sig.returnType = ret) (hG : G.2.2 = s) (hX : va_X b L xs s s.heap) (hbl : b < s.heap.size) (hmc : mc ≤ 1200128) (hms : ms ≤ 5501098) {x1 : Nat} {x2 : Nat} {x3 : Int32} {kc18 : Int32 → Vt → Tt → Option ((Vt × Tt) × Nat × Nat)} {kx18_1185 : Vt → Tt → Option ((Vt × Tt) × Nat × Nat)} {H : Heap} {locs : List Loc} {ls : Array Slot} {cells slots n k : Nat} (hf : f_law_J493 xs L T V0 x1 x2 x3 kc18 kx18_1185 = some ((V', T'), n, k)) (hn : cells + n = mc) (hk : slots + k = ms) (hw : wS G V0 T H locs) (hl : lv_has ls 4 [(0, .ref b), (1, .ref (gb G + x1)), (2, .ref (gb G + x2)), (3, .int x3)]) (hkc18 : ∀ (y3 : Int32) (W1 : Vt) (T1 : Tt) (H : Heap) (locs : List Loc) (ls : Array Slot) (cells slots n k : Nat), kc18 y3 W1 T1 = some ((V', T'), n, k) → cells + n = mc → slots + k = ms → wS G W1 T1 H locs → lv_has ls 4 [(0, .ref b), (1, .ref (gb G + x1)), (2, .ref (gb G + x2)), (3, .int y3)] → W p l e room_1 s m #[Value.ref b] below meth c H locs cells slots (lw_Z below #[Value.ref b] s) (F0 m 18 ls [])) (hkx18_1185 : ∀ (W1 : Vt) (T1 : Tt) (H : Heap) (locs : List Loc) (ls : Array Slot) (cells slots n k : Nat), kx18_1185 W1 T1 = some ((V', T'), n, k) → cells + n = mc → slots + k = ms → wS G W1 T1 H locs → lv_has ls 4 [] → W p l e room_1 s m #[Value.ref b] below meth c H locs cells slots (lw_Z below #[Value.ref b] s) (F0 m 1185 ls [])) : W p l e room_1 s m #[Value.ref b] below meth c H locs cells slots (lw_Z below #[Value.ref b] s) (F0 m 493 ls []) := by
  have hx := C.1
  have hb := C.2.1
  have hown := C.2.2.2.1
  have hts := C.2.2.2.2.1
  unfold f_law_J493 at hf
  refine lv_aload_n hx hb dL_law_493 rfl (lv_at hl 1 rfl) ?_
  revert hf
  refine k_pcl (fun z144 h143 hf => ?_)
  refine w_afi hw (w_rV (As := []) C hw (ok_X0_stopped h143) (cw_L_66 hts (Nat.le_of_ble_eq_true rfl) (Nat.le_of_ble_eq_true rfl)) rfl (by decide) (of_req h143).1 rfl hl.1 rfl (Nat.le_of_ble_eq_true rfl) ⟨by show _ + 0 ≤ 1200128; omega, by show _ + 0 ≤ 5501098; omega⟩ dL_law_494) (fun H locs hw => ?_)
  refine lv_aload_n hx hb dL_law_497 rfl (lv_at hl 2 rfl) ?_
  revert hf
  refine k_cal (fun z146 U147 h145 hf => ?_)
  refine w_afi hw (w_rV (As := []) C hw (ok_X5_stopped h145) (cw_L_69 hts (Nat.le_of_ble_eq_true rfl) (Nat.le_of_ble_eq_true rfl)) rfl (by decide) (of_req h145).1 rfl hl.1 rfl (Nat.le_of_ble_eq_true rfl) ⟨by show _ + 0 ≤ 1200128; omega, by show _ + 0 ≤ 5501098; omega⟩ dL_law_498) (fun H locs hw => ?_)
  refine lv_icmp_eq (tgt := 1179) hx hb dL_law_501 (by decide) (fun c148 => ?_) (fun c148 => ?_)
  · replace hf := ite_t c148 hf
    exact jk_L_law_1179 C hr hG hX hbl hmc hms hf hn hk hw (lv_sub hl [0, 1, 2, 3] rfl) hkc18 hkx18_1185
  · replace hf := ite_f c148 hf
    cases hf
set_option maxHeartbeats 4000000 in
theorem jk_L_law_480 {l : Launch} {G : gG} {p : Program} {e : Env} {s : State} {m : MethodId} {below : List Frame} {meth : Method} {c : Code} {b L : Nat} {xs : Nat → Int32} {T : Tt} {V0 : Vt} {V' : Vt} {T' : Tt} {mc ms : Nat} (C : Cx G p s m #[Value.ref b] meth c code R_law 4) (hr : meth.sig.returnType = ret) (hG : G.2.2 = s) (hX : va_X b L xs s s.heap) (hbl : b < s.heap.size) (hmc : mc ≤ 1200128) (hms : ms ≤ 5501098) {x1 : Nat} {x2 : Nat} {x3 : Int32} {kc18 : Int32 → Vt → Tt → Option ((Vt × Tt) × Nat × Nat)} {kx18_1185 : Vt → Tt → Option ((Vt × Tt) × Nat × Nat)} {H : Heap} {locs : List Loc} {ls : Array Slot} {cells slots n k : Nat} (hf : f_law_J480 xs L T V0 x1 x2 x3 kc18 kx18_1185 = some ((V', T'), n, k)) (hn : cells + n = mc) (hk : slots + k = ms) (hw : wS G V0 T H locs) (hl : lv_has ls 4 [(0, .ref b), (1, .ref (gb G + x1)), (2, .ref (gb G + x2)), (3, .int x3)]) (hkc18 : ∀ (y3 : Int32) (W1 : Vt) (T1 : Tt) (H : Heap) (locs : List Loc) (ls : Array Slot) (cells slots n k : Nat), kc18 y3 W1 T1 = some ((V', T'), n, k) → cells + n = mc → slots + k = ms → wS G W1 T1 H locs → lv_has ls 4 [(0, .ref b), (1, .ref (gb G + x1)), (2, .ref (gb G + x2)), (3, .int y3)] → W p l e room_1 s m #[Value.ref b] below meth c H locs cells slots (lw_Z below #[Value.ref b] s) (F0 m 18 ls [])) (hkx18_1185 : ∀ (W1 : Vt) (T1 : Tt) (H : Heap) (locs : List Loc) (ls : Array Slot) (cells slots n k : Nat), kx18_1185 W1 T1 = some ((V', T'), n, k) → cells + n = mc → slots + k = ms → wS G W1 T1 H locs → lv_has ls 4 [] → W p l e room_1 s m #[Value.ref b] below meth c H locs cells slots (lw_Z below #[Value.ref b] s) (F0 m 1185 ls [])) : W p l e room_1 s m #[Value.ref b] below meth c H locs cells slots (lw_Z below #[Value.ref b] s) (F0 m 480 ls []) := by
  have hx := C.1
  have hb := C.2.1
  have hown := C.2.2.2.1
  have hts := C.2.2.2.2.1
  unfold f_law_J480 at hf
  refine lv_aload_n hx hb dL_law_480 rfl (lv_at hl 1 rfl) ?_
  revert hf
  refine k_pcl (fun z137 h136 hf => ?_)
  refine w_afi hw (w_rV (As := []) C hw (ok_X0_fault h136) (cw_L_62 hts (Nat.le_of_ble_eq_true rfl) (Nat.le_of_ble_eq_true rfl)) rfl (by decide) (of_req h136).1 rfl hl.1 rfl (Nat.le_of_ble_eq_true rfl) ⟨by show _ + 0 ≤ 1200128; omega, by show _ + 0 ≤ 5501098; omega⟩ dL_law_481) (fun H locs hw => ?_)
  refine lv_aload_n hx hb dL_law_484 rfl (lv_at hl 2 rfl) ?_
  revert hf
  refine k_cal (fun z139 U140 h138 hf => ?_)
  refine w_afi hw (w_rV (As := []) C hw (ok_X5_fault h138) (cw_L_65 hts (Nat.le_of_ble_eq_true rfl) (Nat.le_of_ble_eq_true rfl)) rfl (by decide) (of_req h138).1 rfl hl.1 rfl (Nat.le_of_ble_eq_true rfl) ⟨by show _ + 0 ≤ 1200128; omega, by show _ + 0 ≤ 5501098; omega⟩ dL_law_485) (fun H locs hw => ?_)
  refine lv_icmp_eq (tgt := 1179) hx hb dL_law_488 (by decide) (fun c141 => ?_) (fun c141 => ?_)
  · replace hf := ite_t c141 hf
    exact jk_L_law_1179 C hr hG hX hbl hmc hms hf hn hk hw (lv_sub hl [0, 1, 2, 3] rfl) hkc18 hkx18_1185
  · replace hf := ite_f c141 hf
    cases hf
set_option maxHeartbeats 4000000 in
theorem jk_L_law_467 {l : Launch} {G : gG} {p : Program} {e : Env} {s : State} {m : MethodId} {below : List Frame} {meth : Method} {c : Code} {b L : Nat} {xs : Nat → Int32} {T : Tt} {V0 : Vt} {V' : Vt} {T' : Tt} {mc ms : Nat} (C : Cx G p s m #[Value.ref b] meth c code R_law 4) (hr : meth.sig.returnType = ret) (hG : G.2.2 = s) (hX : va_X b L xs s s.heap) (hbl : b < s.heap.size) (hmc : mc ≤ 1200128) (hms : ms ≤ 5501098) {x1 : Nat} {x2 : Nat} {x3 : Int32} {kc18 : Int32 → Vt → Tt → Option ((Vt × Tt) × Nat × Nat)} {kx18_1185 : Vt → Tt → Option ((Vt × Tt) × Nat × Nat)} {H : Heap} {locs : List Loc} {ls : Array Slot} {cells slots n k : Nat} (hf : f_law_J467 xs L T V0 x1 x2 x3 kc18 kx18_1185 = some ((V', T'), n, k)) (hn : cells + n = mc) (hk : slots + k = ms) (hw : wS G V0 T H locs) (hl : lv_has ls 4 [(0, .ref b), (1, .ref (gb G + x1)), (2, .ref (gb G + x2)), (3, .int x3)]) (hkc18 : ∀ (y3 : Int32) (W1 : Vt) (T1 : Tt) (H : Heap) (locs : List Loc) (ls : Array Slot) (cells slots n k : Nat), kc18 y3 W1 T1 = some ((V', T'), n, k) → cells + n = mc → slots + k = ms → wS G W1 T1 H locs → lv_has ls 4 [(0, .ref b), (1, .ref (gb G + x1)), (2, .ref (gb G + x2)), (3, .int y3)] → W p l e room_1 s m #[Value.ref b] below meth c H locs cells slots (lw_Z below #[Value.ref b] s) (F0 m 18 ls [])) (hkx18_1185 : ∀ (W1 : Vt) (T1 : Tt) (H : Heap) (locs : List Loc) (ls : Array Slot) (cells slots n k : Nat), kx18_1185 W1 T1 = some ((V', T'), n, k) → cells + n = mc → slots + k = ms → wS G W1 T1 H locs → lv_has ls 4 [] → W p l e room_1 s m #[Value.ref b] below meth c H locs cells slots (lw_Z below #[Value.ref b] s) (F0 m 1185 ls [])) : W p l e room_1 s m #[Value.ref b] below meth c H locs cells slots (lw_Z below #[Value.ref b] s) (F0 m 467 ls []) := by
  have hx := C.1
  have hb := C.2.1
  have hown := C.2.2.2.1
  have hts := C.2.2.2.2.1
  unfold f_law_J467 at hf
  refine lv_aload_n hx hb dL_law_467 rfl (lv_at hl 1 rfl) ?_
  revert hf
  refine k_dcl (fun z128 U129 T130 na ka n1 k1 h127 hf en ek => ?_)
  refine w_afi hw (w_rV (As := []) C hw (ok_X0_orders h127) (cw_L_58 hts (Nat.le_of_ble_eq_true rfl) (Nat.le_of_ble_eq_true rfl)) rfl (by decide) (of_req h127).1 rfl hl.1 rfl (Nat.le_of_ble_eq_true rfl) ⟨by show _ ≤ 1200128; omega, by show _ ≤ 5501098; omega⟩ dL_law_468) (fun H locs hw => ?_)
  replace hn := add_r hn en
  replace hk := add_r hk ek
  clear en ek
  generalize n1 = n at hf hn
  generalize k1 = k at hf hk
  refine lv_aload_n hx hb dL_law_471 rfl (lv_at hl 2 rfl) ?_
  revert hf
  refine k_cal (fun z132 U133 h131 hf => ?_)
  refine w_afi hw (w_rV (As := []) C hw (ok_X5_orders h131) (cw_L_61 hts (Nat.le_of_ble_eq_true rfl) (Nat.le_of_ble_eq_true rfl)) rfl (by decide) (of_req h131).1 rfl hl.1 rfl (Nat.le_of_ble_eq_true rfl) ⟨by show _ + 0 ≤ 1200128; omega, by show _ + 0 ≤ 5501098; omega⟩ dL_law_472) (fun H locs hw => ?_)
  refine lv_icmp_eq (tgt := 1179) hx hb dL_law_475 (by decide) (fun c134 => ?_) (fun c134 => ?_)
  · replace hf := ite_t c134 hf
    exact jk_L_law_1179 C hr hG hX hbl hmc hms hf hn hk hw (lv_sub hl [0, 1, 2, 3] rfl) hkc18 hkx18_1185
  · replace hf := ite_f c134 hf
    cases hf
set_option maxHeartbeats 4000000 in
theorem jk_L_law_454 {l : Launch} {G : gG} {p : Program} {e : Env} {s : State} {m : MethodId} {below : List Frame} {meth : Method} {c : Code} {b L : Nat} {xs : Nat → Int32} {T : Tt} {V0 : Vt} {V' : Vt} {T' : Tt} {mc ms : Nat} (C : Cx G p s m #[Value.ref b] meth c code R_law 4) (hr : meth.sig.returnType = ret) (hG : G.2.2 = s) (hX : va_X b L xs s s.heap) (hbl : b < s.heap.size) (hmc : mc ≤ 1200128) (hms : ms ≤ 5501098) {x1 : Nat} {x2 : Nat} {x3 : Int32} {kc18 : Int32 → Vt → Tt → Option ((Vt × Tt) × Nat × Nat)} {kx18_1185 : Vt → Tt → Option ((Vt × Tt) × Nat × Nat)} {H : Heap} {locs : List Loc} {ls : Array Slot} {cells slots n k : Nat} (hf : f_law_J454 xs L T V0 x1 x2 x3 kc18 kx18_1185 = some ((V', T'), n, k)) (hn : cells + n = mc) (hk : slots + k = ms) (hw : wS G V0 T H locs) (hl : lv_has ls 4 [(0, .ref b), (1, .ref (gb G + x1)), (2, .ref (gb G + x2)), (3, .int x3)]) (hkc18 : ∀ (y3 : Int32) (W1 : Vt) (T1 : Tt) (H : Heap) (locs : List Loc) (ls : Array Slot) (cells slots n k : Nat), kc18 y3 W1 T1 = some ((V', T'), n, k) → cells + n = mc → slots + k = ms → wS G W1 T1 H locs → lv_has ls 4 [(0, .ref b), (1, .ref (gb G + x1)), (2, .ref (gb G + x2)), (3, .int y3)] → W p l e room_1 s m #[Value.ref b] below meth c H locs cells slots (lw_Z below #[Value.ref b] s) (F0 m 18 ls [])) (hkx18_1185 : ∀ (W1 : Vt) (T1 : Tt) (H : Heap) (locs : List Loc) (ls : Array Slot) (cells slots n k : Nat), kx18_1185 W1 T1 = some ((V', T'), n, k) → cells + n = mc → slots + k = ms → wS G W1 T1 H locs → lv_has ls 4 [] → W p l e room_1 s m #[Value.ref b] below meth c H locs cells slots (lw_Z below #[Value.ref b] s) (F0 m 1185 ls [])) : W p l e room_1 s m #[Value.ref b] below meth c H locs cells slots (lw_Z below #[Value.ref b] s) (F0 m 454 ls []) := by
  have hx := C.1
  have hb := C.2.1
  have hown := C.2.2.2.1
  have hts := C.2.2.2.2.1
  unfold f_law_J454 at hf
  refine lv_aload_n hx hb dL_law_454 rfl (lv_at hl 1 rfl) ?_
  revert hf
  refine k_dcl (fun z119 U120 T121 na ka n1 k1 h118 hf en ek => ?_)
  refine w_afi hw (w_rV (As := []) C hw (ok_X0_plan h118) (cw_L_54 hts (Nat.le_of_ble_eq_true rfl) (Nat.le_of_ble_eq_true rfl)) rfl (by decide) (of_req h118).1 rfl hl.1 rfl (Nat.le_of_ble_eq_true rfl) ⟨by show _ ≤ 1200128; omega, by show _ ≤ 5501098; omega⟩ dL_law_455) (fun H locs hw => ?_)
  replace hn := add_r hn en
  replace hk := add_r hk ek
  clear en ek
  generalize n1 = n at hf hn
  generalize k1 = k at hf hk
  refine lv_aload_n hx hb dL_law_458 rfl (lv_at hl 2 rfl) ?_
  revert hf
  refine k_cal (fun z123 U124 h122 hf => ?_)
  refine w_afi hw (w_rV (As := []) C hw (ok_X5_plan h122) (cw_L_57 hts (Nat.le_of_ble_eq_true rfl) (Nat.le_of_ble_eq_true rfl)) rfl (by decide) (of_req h122).1 rfl hl.1 rfl (Nat.le_of_ble_eq_true rfl) ⟨by show _ + 0 ≤ 1200128; omega, by show _ + 0 ≤ 5501098; omega⟩ dL_law_459) (fun H locs hw => ?_)
  refine lv_icmp_eq (tgt := 1179) hx hb dL_law_462 (by decide) (fun c125 => ?_) (fun c125 => ?_)
  · replace hf := ite_t c125 hf
    exact jk_L_law_1179 C hr hG hX hbl hmc hms hf hn hk hw (lv_sub hl [0, 1, 2, 3] rfl) hkc18 hkx18_1185
  · replace hf := ite_f c125 hf
    cases hf
set_option maxHeartbeats 4000000 in
theorem jk_L_law_441 {l : Launch} {G : gG} {p : Program} {e : Env} {s : State} {m : MethodId} {below : List Frame} {meth : Method} {c : Code} {b L : Nat} {xs : Nat → Int32} {T : Tt} {V0 : Vt} {V' : Vt} {T' : Tt} {mc ms : Nat} (C : Cx G p s m #[Value.ref b] meth c code R_law 4) (hr : meth.sig.returnType = ret) (hG : G.2.2 = s) (hX : va_X b L xs s s.heap) (hbl : b < s.heap.size) (hmc : mc ≤ 1200128) (hms : ms ≤ 5501098) {x1 : Nat} {x2 : Nat} {x3 : Int32} {kc18 : Int32 → Vt → Tt → Option ((Vt × Tt) × Nat × Nat)} {kx18_1185 : Vt → Tt → Option ((Vt × Tt) × Nat × Nat)} {H : Heap} {locs : List Loc} {ls : Array Slot} {cells slots n k : Nat} (hf : f_law_J441 xs L T V0 x1 x2 x3 kc18 kx18_1185 = some ((V', T'), n, k)) (hn : cells + n = mc) (hk : slots + k = ms) (hw : wS G V0 T H locs) (hl : lv_has ls 4 [(0, .ref b), (1, .ref (gb G + x1)), (2, .ref (gb G + x2)), (3, .int x3)]) (hkc18 : ∀ (y3 : Int32) (W1 : Vt) (T1 : Tt) (H : Heap) (locs : List Loc) (ls : Array Slot) (cells slots n k : Nat), kc18 y3 W1 T1 = some ((V', T'), n, k) → cells + n = mc → slots + k = ms → wS G W1 T1 H locs → lv_has ls 4 [(0, .ref b), (1, .ref (gb G + x1)), (2, .ref (gb G + x2)), (3, .int y3)] → W p l e room_1 s m #[Value.ref b] below meth c H locs cells slots (lw_Z below #[Value.ref b] s) (F0 m 18 ls [])) (hkx18_1185 : ∀ (W1 : Vt) (T1 : Tt) (H : Heap) (locs : List Loc) (ls : Array Slot) (cells slots n k : Nat), kx18_1185 W1 T1 = some ((V', T'), n, k) → cells + n = mc → slots + k = ms → wS G W1 T1 H locs → lv_has ls 4 [] → W p l e room_1 s m #[Value.ref b] below meth c H locs cells slots (lw_Z below #[Value.ref b] s) (F0 m 1185 ls [])) : W p l e room_1 s m #[Value.ref b] below meth c H locs cells slots (lw_Z below #[Value.ref b] s) (F0 m 441 ls []) := by
  have hx := C.1
  have hb := C.2.1
  have hown := C.2.2.2.1
  have hts := C.2.2.2.2.1
  unfold f_law_J441 at hf
  refine lv_aload_n hx hb dL_law_441 rfl (lv_at hl 1 rfl) ?_
  revert hf
  refine k_dcl (fun z110 U111 T112 na ka n1 k1 h109 hf en ek => ?_)
  refine w_afi hw (w_rV (As := []) C hw (ok_X0_law h109) (cw_L_50 hts (Nat.le_of_ble_eq_true rfl) (Nat.le_of_ble_eq_true rfl)) rfl (by decide) (of_req h109).1 rfl hl.1 rfl (Nat.le_of_ble_eq_true rfl) ⟨by show _ ≤ 1200128; omega, by show _ ≤ 5501098; omega⟩ dL_law_442) (fun H locs hw => ?_)
  replace hn := add_r hn en
  replace hk := add_r hk ek
  clear en ek
  generalize n1 = n at hf hn
  generalize k1 = k at hf hk
  refine lv_aload_n hx hb dL_law_445 rfl (lv_at hl 2 rfl) ?_
  revert hf
  refine k_cal (fun z114 U115 h113 hf => ?_)
  refine w_afi hw (w_rV (As := []) C hw (ok_X5_law h113) (cw_L_53 hts (Nat.le_of_ble_eq_true rfl) (Nat.le_of_ble_eq_true rfl)) rfl (by decide) (of_req h113).1 rfl hl.1 rfl (Nat.le_of_ble_eq_true rfl) ⟨by show _ + 0 ≤ 1200128; omega, by show _ + 0 ≤ 5501098; omega⟩ dL_law_446) (fun H locs hw => ?_)
  refine lv_icmp_eq (tgt := 1179) hx hb dL_law_449 (by decide) (fun c116 => ?_) (fun c116 => ?_)
  · replace hf := ite_t c116 hf
    exact jk_L_law_1179 C hr hG hX hbl hmc hms hf hn hk hw (lv_sub hl [0, 1, 2, 3] rfl) hkc18 hkx18_1185
  · replace hf := ite_f c116 hf
    cases hf
set_option maxHeartbeats 4000000 in
theorem jk_L_law_428 {l : Launch} {G : gG} {p : Program} {e : Env} {s : State} {m : MethodId} {below : List Frame} {meth : Method} {c : Code} {b L : Nat} {xs : Nat → Int32} {T : Tt} {V0 : Vt} {V' : Vt} {T' : Tt} {mc ms : Nat} (C : Cx G p s m #[Value.ref b] meth c code R_law 4) (hr : meth.sig.returnType = ret) (hG : G.2.2 = s) (hX : va_X b L xs s s.heap) (hbl : b < s.heap.size) (hmc : mc ≤ 1200128) (hms : ms ≤ 5501098) {x1 : Nat} {x2 : Nat} {x3 : Int32} {kc18 : Int32 → Vt → Tt → Option ((Vt × Tt) × Nat × Nat)} {kx18_1185 : Vt → Tt → Option ((Vt × Tt) × Nat × Nat)} {H : Heap} {locs : List Loc} {ls : Array Slot} {cells slots n k : Nat} (hf : f_law_J428 xs L T V0 x1 x2 x3 kc18 kx18_1185 = some ((V', T'), n, k)) (hn : cells + n = mc) (hk : slots + k = ms) (hw : wS G V0 T H locs) (hl : lv_has ls 4 [(0, .ref b), (1, .ref (gb G + x1)), (2, .ref (gb G + x2)), (3, .int x3)]) (hkc18 : ∀ (y3 : Int32) (W1 : Vt) (T1 : Tt) (H : Heap) (locs : List Loc) (ls : Array Slot) (cells slots n k : Nat), kc18 y3 W1 T1 = some ((V', T'), n, k) → cells + n = mc → slots + k = ms → wS G W1 T1 H locs → lv_has ls 4 [(0, .ref b), (1, .ref (gb G + x1)), (2, .ref (gb G + x2)), (3, .int y3)] → W p l e room_1 s m #[Value.ref b] below meth c H locs cells slots (lw_Z below #[Value.ref b] s) (F0 m 18 ls [])) (hkx18_1185 : ∀ (W1 : Vt) (T1 : Tt) (H : Heap) (locs : List Loc) (ls : Array Slot) (cells slots n k : Nat), kx18_1185 W1 T1 = some ((V', T'), n, k) → cells + n = mc → slots + k = ms → wS G W1 T1 H locs → lv_has ls 4 [] → W p l e room_1 s m #[Value.ref b] below meth c H locs cells slots (lw_Z below #[Value.ref b] s) (F0 m 1185 ls [])) : W p l e room_1 s m #[Value.ref b] below meth c H locs cells slots (lw_Z below #[Value.ref b] s) (F0 m 428 ls []) := by
  have hx := C.1
  have hb := C.2.1
  have hown := C.2.2.2.1
  have hts := C.2.2.2.2.1
  unfold f_law_J428 at hf
  refine lv_aload_n hx hb dL_law_428 rfl (lv_at hl 1 rfl) ?_
  revert hf
  refine k_pcl (fun z103 h102 hf => ?_)
  refine w_afi hw (w_rV (As := []) C hw (ok_X0_leaks h102) (cw_L_46 hts (Nat.le_of_ble_eq_true rfl) (Nat.le_of_ble_eq_true rfl)) rfl (by decide) (of_req h102).1 rfl hl.1 rfl (Nat.le_of_ble_eq_true rfl) ⟨by show _ + 0 ≤ 1200128; omega, by show _ + 0 ≤ 5501098; omega⟩ dL_law_429) (fun H locs hw => ?_)
  refine lv_aload_n hx hb dL_law_432 rfl (lv_at hl 2 rfl) ?_
  revert hf
  refine k_cal (fun z105 U106 h104 hf => ?_)
  refine w_afi hw (w_rV (As := []) C hw (ok_X5_leaks h104) (cw_L_49 hts (Nat.le_of_ble_eq_true rfl) (Nat.le_of_ble_eq_true rfl)) rfl (by decide) (of_req h104).1 rfl hl.1 rfl (Nat.le_of_ble_eq_true rfl) ⟨by show _ + 0 ≤ 1200128; omega, by show _ + 0 ≤ 5501098; omega⟩ dL_law_433) (fun H locs hw => ?_)
  refine lv_icmp_eq (tgt := 1179) hx hb dL_law_436 (by decide) (fun c107 => ?_) (fun c107 => ?_)
  · replace hf := ite_t c107 hf
    exact jk_L_law_1179 C hr hG hX hbl hmc hms hf hn hk hw (lv_sub hl [0, 1, 2, 3] rfl) hkc18 hkx18_1185
  · replace hf := ite_f c107 hf
    cases hf
set_option maxHeartbeats 4000000 in
theorem jk_L_law_415 {l : Launch} {G : gG} {p : Program} {e : Env} {s : State} {m : MethodId} {below : List Frame} {meth : Method} {c : Code} {b L : Nat} {xs : Nat → Int32} {T : Tt} {V0 : Vt} {V' : Vt} {T' : Tt} {mc ms : Nat} (C : Cx G p s m #[Value.ref b] meth c code R_law 4) (hr : meth.sig.returnType = ret) (hG : G.2.2 = s) (hX : va_X b L xs s s.heap) (hbl : b < s.heap.size) (hmc : mc ≤ 1200128) (hms : ms ≤ 5501098) {x1 : Nat} {x2 : Nat} {x3 : Int32} {kc18 : Int32 → Vt → Tt → Option ((Vt × Tt) × Nat × Nat)} {kx18_1185 : Vt → Tt → Option ((Vt × Tt) × Nat × Nat)} {H : Heap} {locs : List Loc} {ls : Array Slot} {cells slots n k : Nat} (hf : f_law_J415 xs L T V0 x1 x2 x3 kc18 kx18_1185 = some ((V', T'), n, k)) (hn : cells + n = mc) (hk : slots + k = ms) (hw : wS G V0 T H locs) (hl : lv_has ls 4 [(0, .ref b), (1, .ref (gb G + x1)), (2, .ref (gb G + x2)), (3, .int x3)]) (hkc18 : ∀ (y3 : Int32) (W1 : Vt) (T1 : Tt) (H : Heap) (locs : List Loc) (ls : Array Slot) (cells slots n k : Nat), kc18 y3 W1 T1 = some ((V', T'), n, k) → cells + n = mc → slots + k = ms → wS G W1 T1 H locs → lv_has ls 4 [(0, .ref b), (1, .ref (gb G + x1)), (2, .ref (gb G + x2)), (3, .int y3)] → W p l e room_1 s m #[Value.ref b] below meth c H locs cells slots (lw_Z below #[Value.ref b] s) (F0 m 18 ls [])) (hkx18_1185 : ∀ (W1 : Vt) (T1 : Tt) (H : Heap) (locs : List Loc) (ls : Array Slot) (cells slots n k : Nat), kx18_1185 W1 T1 = some ((V', T'), n, k) → cells + n = mc → slots + k = ms → wS G W1 T1 H locs → lv_has ls 4 [] → W p l e room_1 s m #[Value.ref b] below meth c H locs cells slots (lw_Z below #[Value.ref b] s) (F0 m 1185 ls [])) : W p l e room_1 s m #[Value.ref b] below meth c H locs cells slots (lw_Z below #[Value.ref b] s) (F0 m 415 ls []) := by
  have hx := C.1
  have hb := C.2.1
  have hown := C.2.2.2.1
  have hts := C.2.2.2.2.1
  unfold f_law_J415 at hf
  refine lv_aload_n hx hb dL_law_415 rfl (lv_at hl 1 rfl) ?_
  revert hf
  refine k_cal (fun z95 U96 h94 hf => ?_)
  refine w_afi hw (w_rV (As := []) C hw (ok_X0_row h94) (cw_L_41 hts (Nat.le_of_ble_eq_true rfl) (Nat.le_of_ble_eq_true rfl)) rfl (by decide) (of_req h94).1 rfl hl.1 rfl (Nat.le_of_ble_eq_true rfl) ⟨by show _ + 0 ≤ 1200128; omega, by show _ + 0 ≤ 5501098; omega⟩ dL_law_416) (fun H locs hw => ?_)
  refine lv_aload_n hx hb dL_law_419 rfl (lv_at hl 2 rfl) ?_
  revert hf
  refine k_cal (fun z98 U99 h97 hf => ?_)
  refine w_afi hw (w_rV (As := []) C hw (ok_X5_row h97) (cw_L_45 hts (Nat.le_of_ble_eq_true rfl) (Nat.le_of_ble_eq_true rfl)) rfl (by decide) (of_req h97).1 rfl hl.1 rfl (Nat.le_of_ble_eq_true rfl) ⟨by show _ + 0 ≤ 1200128; omega, by show _ + 0 ≤ 5501098; omega⟩ dL_law_420) (fun H locs hw => ?_)
  refine lv_icmp_eq (tgt := 1179) hx hb dL_law_423 (by decide) (fun c100 => ?_) (fun c100 => ?_)
  · replace hf := ite_t c100 hf
    exact jk_L_law_1179 C hr hG hX hbl hmc hms hf hn hk hw (lv_sub hl [0, 1, 2, 3] rfl) hkc18 hkx18_1185
  · replace hf := ite_f c100 hf
    cases hf
set_option maxHeartbeats 4000000 in
theorem jk_L_law_392 {l : Launch} {G : gG} {p : Program} {e : Env} {s : State} {m : MethodId} {below : List Frame} {meth : Method} {c : Code} {b L : Nat} {xs : Nat → Int32} {T : Tt} {V0 : Vt} {V' : Vt} {T' : Tt} {mc ms : Nat} (C : Cx G p s m #[Value.ref b] meth c code R_law 4) (hr : meth.sig.returnType = ret) (hG : G.2.2 = s) (hX : va_X b L xs s s.heap) (hbl : b < s.heap.size) (hmc : mc ≤ 1200128) (hms : ms ≤ 5501098) {x1 : Nat} {x2 : Nat} {x3 : Int32} {kc18 : Int32 → Vt → Tt → Option ((Vt × Tt) × Nat × Nat)} {kx18_1185 : Vt → Tt → Option ((Vt × Tt) × Nat × Nat)} {H : Heap} {locs : List Loc} {ls : Array Slot} {cells slots n k : Nat} (hf : f_law_J392 xs L T V0 x1 x2 x3 kc18 kx18_1185 = some ((V', T'), n, k)) (hn : cells + n = mc) (hk : slots + k = ms) (hw : wS G V0 T H locs) (hl : lv_has ls 4 [(0, .ref b), (1, .ref (gb G + x1)), (2, .ref (gb G + x2)), (3, .int x3)]) (hkc18 : ∀ (y3 : Int32) (W1 : Vt) (T1 : Tt) (H : Heap) (locs : List Loc) (ls : Array Slot) (cells slots n k : Nat), kc18 y3 W1 T1 = some ((V', T'), n, k) → cells + n = mc → slots + k = ms → wS G W1 T1 H locs → lv_has ls 4 [(0, .ref b), (1, .ref (gb G + x1)), (2, .ref (gb G + x2)), (3, .int y3)] → W p l e room_1 s m #[Value.ref b] below meth c H locs cells slots (lw_Z below #[Value.ref b] s) (F0 m 18 ls [])) (hkx18_1185 : ∀ (W1 : Vt) (T1 : Tt) (H : Heap) (locs : List Loc) (ls : Array Slot) (cells slots n k : Nat), kx18_1185 W1 T1 = some ((V', T'), n, k) → cells + n = mc → slots + k = ms → wS G W1 T1 H locs → lv_has ls 4 [] → W p l e room_1 s m #[Value.ref b] below meth c H locs cells slots (lw_Z below #[Value.ref b] s) (F0 m 1185 ls [])) : W p l e room_1 s m #[Value.ref b] below meth c H locs cells slots (lw_Z below #[Value.ref b] s) (F0 m 392 ls []) := by
  have hx := C.1
  have hb := C.2.1
  have hown := C.2.2.2.1
  have hts := C.2.2.2.2.1
  unfold f_law_J392 at hf
  refine lv_aload_n hx hb dL_law_392 rfl (lv_at hl 1 rfl) ?_
  refine lv_aload_n hx hb dL_law_393 rfl (lv_at hl 0 rfl) ?_
  refine lv_iload_n hx hb dL_law_394 rfl (lv_at hl 3 rfl) ?_
  refine lv_iconst (v := (1 : Int32)) hx hb dL_law_395 (by decide) ?_
  refine lv_iadd hx hb dL_law_396 ?_
  revert hf
  refine k_req (fun h84 hf => ?_)
  refine va_sld hx hb hX hbl (law_b hG hbl) (law_S hG hw) (law_in h84) dL_law_397 ?_
  revert hf
  refine k_cal (fun z86 U87 h85 hf => ?_)
  refine w_afi hw (w_rV (As := [.int (xs (ixN (x3 + (1 : Int32))))]) C hw (ok_X0_end h85) (cw_L_36 hts (Nat.le_of_ble_eq_true rfl) (Nat.le_of_ble_eq_true rfl)) rfl (by decide) (of_req h85).1 rfl hl.1 rfl (Nat.le_of_ble_eq_true rfl) ⟨by show _ + 0 ≤ 1200128; omega, by show _ + 0 ≤ 5501098; omega⟩ dL_law_398) (fun H locs hw => ?_)
  refine lv_aload_n hx hb dL_law_401 rfl (lv_at hl 2 rfl) ?_
  refine lv_aload_n hx hb dL_law_402 rfl (lv_at hl 0 rfl) ?_
  refine lv_iload_n hx hb dL_law_403 rfl (lv_at hl 3 rfl) ?_
  refine lv_iconst (v := (1 : Int32)) hx hb dL_law_404 (by decide) ?_
  refine lv_iadd hx hb dL_law_405 ?_
  revert hf
  refine k_req (fun h88 hf => ?_)
  refine va_sld hx hb hX hbl (law_b hG hbl) (law_S hG hw) (law_in h88) dL_law_406 ?_
  revert hf
  refine k_cal (fun z90 U91 h89 hf => ?_)
  refine w_afi hw (w_rV (As := [.int (xs (ixN (x3 + (1 : Int32))))]) C hw (ok_X5_end h89) (cw_L_40 hts (Nat.le_of_ble_eq_true rfl) (Nat.le_of_ble_eq_true rfl)) rfl (by decide) (of_req h89).1 rfl hl.1 rfl (Nat.le_of_ble_eq_true rfl) ⟨by show _ + 0 ≤ 1200128; omega, by show _ + 0 ≤ 5501098; omega⟩ dL_law_407) (fun H locs hw => ?_)
  refine lv_icmp_eq (tgt := 1179) hx hb dL_law_410 (by decide) (fun c92 => ?_) (fun c92 => ?_)
  · replace hf := ite_t c92 hf
    exact jk_L_law_1179 C hr hG hX hbl hmc hms hf hn hk hw (lv_sub hl [0, 1, 2, 3] rfl) hkc18 hkx18_1185
  · replace hf := ite_f c92 hf
    cases hf
set_option maxHeartbeats 4000000 in
theorem jk_L_law_329 {l : Launch} {G : gG} {p : Program} {e : Env} {s : State} {m : MethodId} {below : List Frame} {meth : Method} {c : Code} {b L : Nat} {xs : Nat → Int32} {T : Tt} {V0 : Vt} {V' : Vt} {T' : Tt} {mc ms : Nat} (C : Cx G p s m #[Value.ref b] meth c code R_law 4) (hr : meth.sig.returnType = ret) (hG : G.2.2 = s) (hX : va_X b L xs s s.heap) (hbl : b < s.heap.size) (hmc : mc ≤ 1200128) (hms : ms ≤ 5501098) {x1 : Nat} {x2 : Nat} {x3 : Int32} {kc18 : Int32 → Vt → Tt → Option ((Vt × Tt) × Nat × Nat)} {kx18_1185 : Vt → Tt → Option ((Vt × Tt) × Nat × Nat)} {H : Heap} {locs : List Loc} {ls : Array Slot} {cells slots n k : Nat} (hf : f_law_J329 xs L T V0 x1 x2 x3 kc18 kx18_1185 = some ((V', T'), n, k)) (hn : cells + n = mc) (hk : slots + k = ms) (hw : wS G V0 T H locs) (hl : lv_has ls 4 [(0, .ref b), (1, .ref (gb G + x1)), (2, .ref (gb G + x2)), (3, .int x3)]) (hkc18 : ∀ (y3 : Int32) (W1 : Vt) (T1 : Tt) (H : Heap) (locs : List Loc) (ls : Array Slot) (cells slots n k : Nat), kc18 y3 W1 T1 = some ((V', T'), n, k) → cells + n = mc → slots + k = ms → wS G W1 T1 H locs → lv_has ls 4 [(0, .ref b), (1, .ref (gb G + x1)), (2, .ref (gb G + x2)), (3, .int y3)] → W p l e room_1 s m #[Value.ref b] below meth c H locs cells slots (lw_Z below #[Value.ref b] s) (F0 m 18 ls [])) (hkx18_1185 : ∀ (W1 : Vt) (T1 : Tt) (H : Heap) (locs : List Loc) (ls : Array Slot) (cells slots n k : Nat), kx18_1185 W1 T1 = some ((V', T'), n, k) → cells + n = mc → slots + k = ms → wS G W1 T1 H locs → lv_has ls 4 [] → W p l e room_1 s m #[Value.ref b] below meth c H locs cells slots (lw_Z below #[Value.ref b] s) (F0 m 1185 ls [])) : W p l e room_1 s m #[Value.ref b] below meth c H locs cells slots (lw_Z below #[Value.ref b] s) (F0 m 329 ls []) := by
  have hx := C.1
  have hb := C.2.1
  have hown := C.2.2.2.1
  have hts := C.2.2.2.2.1
  unfold f_law_J329 at hf
  refine lv_aload_n hx hb dL_law_329 rfl (lv_at hl 1 rfl) ?_
  refine lv_aload_n hx hb dL_law_330 rfl (lv_at hl 0 rfl) ?_
  refine lv_iload_n hx hb dL_law_331 rfl (lv_at hl 3 rfl) ?_
  refine lv_iconst (v := (1 : Int32)) hx hb dL_law_332 (by decide) ?_
  refine lv_iadd hx hb dL_law_333 ?_
  revert hf
  refine k_req (fun h66 hf => ?_)
  refine va_sld hx hb hX hbl (law_b hG hbl) (law_S hG hw) (law_in h66) dL_law_334 ?_
  refine lv_aload_n hx hb dL_law_335 rfl (lv_at hl 0 rfl) ?_
  refine lv_iload_n hx hb dL_law_336 rfl (lv_at hl 3 rfl) ?_
  refine lv_iconst (v := (2 : Int32)) hx hb dL_law_337 (by decide) ?_
  refine lv_iadd hx hb dL_law_338 ?_
  revert hf
  refine k_req (fun h67 hf => ?_)
  refine va_sld hx hb hX hbl (law_b hG hbl) (law_S hG hw) (law_in h67) dL_law_339 ?_
  refine lv_aload_n hx hb dL_law_340 rfl (lv_at hl 0 rfl) ?_
  refine lv_iload_n hx hb dL_law_341 rfl (lv_at hl 3 rfl) ?_
  refine lv_iconst (v := (3 : Int32)) hx hb dL_law_342 (by decide) ?_
  refine lv_iadd hx hb dL_law_343 ?_
  revert hf
  refine k_req (fun h68 hf => ?_)
  refine va_sld hx hb hX hbl (law_b hG hbl) (law_S hG hw) (law_in h68) dL_law_344 ?_
  refine lv_aload_n hx hb dL_law_345 rfl (lv_at hl 0 rfl) ?_
  refine lv_iload_n hx hb dL_law_346 rfl (lv_at hl 3 rfl) ?_
  refine lv_iconst (v := (4 : Int32)) hx hb dL_law_347 (by decide) ?_
  refine lv_iadd hx hb dL_law_348 ?_
  revert hf
  refine k_req (fun h69 hf => ?_)
  refine va_sld hx hb hX hbl (law_b hG hbl) (law_S hG hw) (law_in h69) dL_law_349 ?_
  refine lv_aload_n hx hb dL_law_350 rfl (lv_at hl 0 rfl) ?_
  refine lv_iload_n hx hb dL_law_351 rfl (lv_at hl 3 rfl) ?_
  refine lv_iconst (v := (5 : Int32)) hx hb dL_law_352 (by decide) ?_
  refine lv_iadd hx hb dL_law_353 ?_
  revert hf
  refine k_req (fun h70 hf => ?_)
  refine va_sld hx hb hX hbl (law_b hG hbl) (law_S hG hw) (law_in h70) dL_law_354 ?_
  revert hf
  refine k_cal (fun z72 U73 h71 hf => ?_)
  refine w_afi hw (w_rV (As := [.int (xs (ixN (x3 + (1 : Int32)))), .int (xs (ixN (x3 + (2 : Int32)))), .int (xs (ixN (x3 + (3 : Int32)))), .int (xs (ixN (x3 + (4 : Int32)))), .int (xs (ixN (x3 + (5 : Int32))))]) C hw (ok_X0_feed h71) (cw_L_31 hts (Nat.le_of_ble_eq_true rfl) (Nat.le_of_ble_eq_true rfl)) rfl (by decide) (of_req h71).1 rfl hl.1 rfl (Nat.le_of_ble_eq_true rfl) ⟨by show _ + 0 ≤ 1200128; omega, by show _ + 0 ≤ 5501098; omega⟩ dL_law_355) (fun H locs hw => ?_)
  refine lv_aload_n hx hb dL_law_358 rfl (lv_at hl 2 rfl) ?_
  refine lv_aload_n hx hb dL_law_359 rfl (lv_at hl 0 rfl) ?_
  refine lv_iload_n hx hb dL_law_360 rfl (lv_at hl 3 rfl) ?_
  refine lv_iconst (v := (1 : Int32)) hx hb dL_law_361 (by decide) ?_
  refine lv_iadd hx hb dL_law_362 ?_
  revert hf
  refine k_req (fun h74 hf => ?_)
  refine va_sld hx hb hX hbl (law_b hG hbl) (law_S hG hw) (law_in h74) dL_law_363 ?_
  refine lv_aload_n hx hb dL_law_364 rfl (lv_at hl 0 rfl) ?_
  refine lv_iload_n hx hb dL_law_365 rfl (lv_at hl 3 rfl) ?_
  refine lv_iconst (v := (2 : Int32)) hx hb dL_law_366 (by decide) ?_
  refine lv_iadd hx hb dL_law_367 ?_
  revert hf
  refine k_req (fun h75 hf => ?_)
  refine va_sld hx hb hX hbl (law_b hG hbl) (law_S hG hw) (law_in h75) dL_law_368 ?_
  refine lv_aload_n hx hb dL_law_369 rfl (lv_at hl 0 rfl) ?_
  refine lv_iload_n hx hb dL_law_370 rfl (lv_at hl 3 rfl) ?_
  refine lv_iconst (v := (3 : Int32)) hx hb dL_law_371 (by decide) ?_
  refine lv_iadd hx hb dL_law_372 ?_
  revert hf
  refine k_req (fun h76 hf => ?_)
  refine va_sld hx hb hX hbl (law_b hG hbl) (law_S hG hw) (law_in h76) dL_law_373 ?_
  refine lv_aload_n hx hb dL_law_374 rfl (lv_at hl 0 rfl) ?_
  refine lv_iload_n hx hb dL_law_375 rfl (lv_at hl 3 rfl) ?_
  refine lv_iconst (v := (4 : Int32)) hx hb dL_law_376 (by decide) ?_
  refine lv_iadd hx hb dL_law_377 ?_
  revert hf
  refine k_req (fun h77 hf => ?_)
  refine va_sld hx hb hX hbl (law_b hG hbl) (law_S hG hw) (law_in h77) dL_law_378 ?_
  refine lv_aload_n hx hb dL_law_379 rfl (lv_at hl 0 rfl) ?_
  refine lv_iload_n hx hb dL_law_380 rfl (lv_at hl 3 rfl) ?_
  refine lv_iconst (v := (5 : Int32)) hx hb dL_law_381 (by decide) ?_
  refine lv_iadd hx hb dL_law_382 ?_
  revert hf
  refine k_req (fun h78 hf => ?_)
  refine va_sld hx hb hX hbl (law_b hG hbl) (law_S hG hw) (law_in h78) dL_law_383 ?_
  revert hf
  refine k_cal (fun z80 U81 h79 hf => ?_)
  refine w_afi hw (w_rV (As := [.int (xs (ixN (x3 + (1 : Int32)))), .int (xs (ixN (x3 + (2 : Int32)))), .int (xs (ixN (x3 + (3 : Int32)))), .int (xs (ixN (x3 + (4 : Int32)))), .int (xs (ixN (x3 + (5 : Int32))))]) C hw (ok_X5_feed h79) (cw_L_35 hts (Nat.le_of_ble_eq_true rfl) (Nat.le_of_ble_eq_true rfl)) rfl (by decide) (of_req h79).1 rfl hl.1 rfl (Nat.le_of_ble_eq_true rfl) ⟨by show _ + 0 ≤ 1200128; omega, by show _ + 0 ≤ 5501098; omega⟩ dL_law_384) (fun H locs hw => ?_)
  refine lv_icmp_eq (tgt := 1179) hx hb dL_law_387 (by decide) (fun c82 => ?_) (fun c82 => ?_)
  · replace hf := ite_t c82 hf
    exact jk_L_law_1179 C hr hG hX hbl hmc hms hf hn hk hw (lv_sub hl [0, 1, 2, 3] rfl) hkc18 hkx18_1185
  · replace hf := ite_f c82 hf
    cases hf
set_option maxHeartbeats 4000000 in
theorem jk_L_law_296 {l : Launch} {G : gG} {p : Program} {e : Env} {s : State} {m : MethodId} {below : List Frame} {meth : Method} {c : Code} {b L : Nat} {xs : Nat → Int32} {T : Tt} {V0 : Vt} {V' : Vt} {T' : Tt} {mc ms : Nat} (C : Cx G p s m #[Value.ref b] meth c code R_law 4) (hr : meth.sig.returnType = ret) (hG : G.2.2 = s) (hX : va_X b L xs s s.heap) (hbl : b < s.heap.size) (hmc : mc ≤ 1200128) (hms : ms ≤ 5501098) {x1 : Nat} {x2 : Nat} {x3 : Int32} {kc18 : Int32 → Vt → Tt → Option ((Vt × Tt) × Nat × Nat)} {kx18_1185 : Vt → Tt → Option ((Vt × Tt) × Nat × Nat)} {H : Heap} {locs : List Loc} {ls : Array Slot} {cells slots n k : Nat} (hf : f_law_J296 xs L T V0 x1 x2 x3 kc18 kx18_1185 = some ((V', T'), n, k)) (hn : cells + n = mc) (hk : slots + k = ms) (hw : wS G V0 T H locs) (hl : lv_has ls 4 [(0, .ref b), (1, .ref (gb G + x1)), (2, .ref (gb G + x2)), (3, .int x3)]) (hkc18 : ∀ (y3 : Int32) (W1 : Vt) (T1 : Tt) (H : Heap) (locs : List Loc) (ls : Array Slot) (cells slots n k : Nat), kc18 y3 W1 T1 = some ((V', T'), n, k) → cells + n = mc → slots + k = ms → wS G W1 T1 H locs → lv_has ls 4 [(0, .ref b), (1, .ref (gb G + x1)), (2, .ref (gb G + x2)), (3, .int y3)] → W p l e room_1 s m #[Value.ref b] below meth c H locs cells slots (lw_Z below #[Value.ref b] s) (F0 m 18 ls [])) (hkx18_1185 : ∀ (W1 : Vt) (T1 : Tt) (H : Heap) (locs : List Loc) (ls : Array Slot) (cells slots n k : Nat), kx18_1185 W1 T1 = some ((V', T'), n, k) → cells + n = mc → slots + k = ms → wS G W1 T1 H locs → lv_has ls 4 [] → W p l e room_1 s m #[Value.ref b] below meth c H locs cells slots (lw_Z below #[Value.ref b] s) (F0 m 1185 ls [])) : W p l e room_1 s m #[Value.ref b] below meth c H locs cells slots (lw_Z below #[Value.ref b] s) (F0 m 296 ls []) := by
  have hx := C.1
  have hb := C.2.1
  have hown := C.2.2.2.1
  have hts := C.2.2.2.2.1
  unfold f_law_J296 at hf
  refine lv_aload_n hx hb dL_law_296 rfl (lv_at hl 1 rfl) ?_
  refine lv_aload_n hx hb dL_law_297 rfl (lv_at hl 0 rfl) ?_
  refine lv_iload_n hx hb dL_law_298 rfl (lv_at hl 3 rfl) ?_
  refine lv_iconst (v := (1 : Int32)) hx hb dL_law_299 (by decide) ?_
  refine lv_iadd hx hb dL_law_300 ?_
  revert hf
  refine k_req (fun h54 hf => ?_)
  refine va_sld hx hb hX hbl (law_b hG hbl) (law_S hG hw) (law_in h54) dL_law_301 ?_
  refine lv_aload_n hx hb dL_law_302 rfl (lv_at hl 0 rfl) ?_
  refine lv_iload_n hx hb dL_law_303 rfl (lv_at hl 3 rfl) ?_
  refine lv_iconst (v := (2 : Int32)) hx hb dL_law_304 (by decide) ?_
  refine lv_iadd hx hb dL_law_305 ?_
  revert hf
  refine k_req (fun h55 hf => ?_)
  refine va_sld hx hb hX hbl (law_b hG hbl) (law_S hG hw) (law_in h55) dL_law_306 ?_
  revert hf
  refine k_cal (fun z57 U58 h56 hf => ?_)
  refine w_afi hw (w_rV (As := [.int (xs (ixN (x3 + (1 : Int32)))), .int (xs (ixN (x3 + (2 : Int32))))]) C hw (ok_X0_terms h56) (cw_L_27 hts (Nat.le_of_ble_eq_true rfl) (Nat.le_of_ble_eq_true rfl)) rfl (by decide) (of_req h56).1 rfl hl.1 rfl (Nat.le_of_ble_eq_true rfl) ⟨by show _ + 0 ≤ 1200128; omega, by show _ + 0 ≤ 5501098; omega⟩ dL_law_307) (fun H locs hw => ?_)
  refine lv_aload_n hx hb dL_law_310 rfl (lv_at hl 2 rfl) ?_
  refine lv_aload_n hx hb dL_law_311 rfl (lv_at hl 0 rfl) ?_
  refine lv_iload_n hx hb dL_law_312 rfl (lv_at hl 3 rfl) ?_
  refine lv_iconst (v := (1 : Int32)) hx hb dL_law_313 (by decide) ?_
  refine lv_iadd hx hb dL_law_314 ?_
  revert hf
  refine k_req (fun h59 hf => ?_)
  refine va_sld hx hb hX hbl (law_b hG hbl) (law_S hG hw) (law_in h59) dL_law_315 ?_
  refine lv_aload_n hx hb dL_law_316 rfl (lv_at hl 0 rfl) ?_
  refine lv_iload_n hx hb dL_law_317 rfl (lv_at hl 3 rfl) ?_
  refine lv_iconst (v := (2 : Int32)) hx hb dL_law_318 (by decide) ?_
  refine lv_iadd hx hb dL_law_319 ?_
  revert hf
  refine k_req (fun h60 hf => ?_)
  refine va_sld hx hb hX hbl (law_b hG hbl) (law_S hG hw) (law_in h60) dL_law_320 ?_
  revert hf
  refine k_cal (fun z62 U63 h61 hf => ?_)
  refine w_afi hw (w_rV (As := [.int (xs (ixN (x3 + (1 : Int32)))), .int (xs (ixN (x3 + (2 : Int32))))]) C hw (ok_X5_terms h61) (cw_L_30 hts (Nat.le_of_ble_eq_true rfl) (Nat.le_of_ble_eq_true rfl)) rfl (by decide) (of_req h61).1 rfl hl.1 rfl (Nat.le_of_ble_eq_true rfl) ⟨by show _ + 0 ≤ 1200128; omega, by show _ + 0 ≤ 5501098; omega⟩ dL_law_321) (fun H locs hw => ?_)
  refine lv_icmp_eq (tgt := 1179) hx hb dL_law_324 (by decide) (fun c64 => ?_) (fun c64 => ?_)
  · replace hf := ite_t c64 hf
    exact jk_L_law_1179 C hr hG hX hbl hmc hms hf hn hk hw (lv_sub hl [0, 1, 2, 3] rfl) hkc18 hkx18_1185
  · replace hf := ite_f c64 hf
    cases hf
set_option maxHeartbeats 4000000 in
theorem jk_L_law_262 {l : Launch} {G : gG} {p : Program} {e : Env} {s : State} {m : MethodId} {below : List Frame} {meth : Method} {c : Code} {b L : Nat} {xs : Nat → Int32} {T : Tt} {V0 : Vt} {V' : Vt} {T' : Tt} {mc ms : Nat} (C : Cx G p s m #[Value.ref b] meth c code R_law 4) (hr : meth.sig.returnType = ret) (hG : G.2.2 = s) (hX : va_X b L xs s s.heap) (hbl : b < s.heap.size) (hmc : mc ≤ 1200128) (hms : ms ≤ 5501098) {x1 : Nat} {x2 : Nat} {x3 : Int32} {kc18 : Int32 → Vt → Tt → Option ((Vt × Tt) × Nat × Nat)} {kx18_1185 : Vt → Tt → Option ((Vt × Tt) × Nat × Nat)} {H : Heap} {locs : List Loc} {ls : Array Slot} {cells slots n k : Nat} (hf : f_law_J262 xs L T V0 x1 x2 x3 kc18 kx18_1185 = some ((V', T'), n, k)) (hn : cells + n = mc) (hk : slots + k = ms) (hw : wS G V0 T H locs) (hl : lv_has ls 4 [(0, .ref b), (1, .ref (gb G + x1)), (2, .ref (gb G + x2)), (3, .int x3)]) (hkc18 : ∀ (y3 : Int32) (W1 : Vt) (T1 : Tt) (H : Heap) (locs : List Loc) (ls : Array Slot) (cells slots n k : Nat), kc18 y3 W1 T1 = some ((V', T'), n, k) → cells + n = mc → slots + k = ms → wS G W1 T1 H locs → lv_has ls 4 [(0, .ref b), (1, .ref (gb G + x1)), (2, .ref (gb G + x2)), (3, .int y3)] → W p l e room_1 s m #[Value.ref b] below meth c H locs cells slots (lw_Z below #[Value.ref b] s) (F0 m 18 ls [])) (hkx18_1185 : ∀ (W1 : Vt) (T1 : Tt) (H : Heap) (locs : List Loc) (ls : Array Slot) (cells slots n k : Nat), kx18_1185 W1 T1 = some ((V', T'), n, k) → cells + n = mc → slots + k = ms → wS G W1 T1 H locs → lv_has ls 4 [] → W p l e room_1 s m #[Value.ref b] below meth c H locs cells slots (lw_Z below #[Value.ref b] s) (F0 m 1185 ls [])) : W p l e room_1 s m #[Value.ref b] below meth c H locs cells slots (lw_Z below #[Value.ref b] s) (F0 m 262 ls []) := by
  have hx := C.1
  have hb := C.2.1
  have hown := C.2.2.2.1
  have hts := C.2.2.2.2.1
  unfold f_law_J262 at hf
  refine lv_aload_n hx hb dL_law_262 rfl (lv_at hl 1 rfl) ?_
  refine lv_aload_n hx hb dL_law_263 rfl (lv_at hl 0 rfl) ?_
  refine lv_iload_n hx hb dL_law_264 rfl (lv_at hl 3 rfl) ?_
  refine lv_iconst (v := (1 : Int32)) hx hb dL_law_265 (by decide) ?_
  refine lv_iadd hx hb dL_law_266 ?_
  revert hf
  refine k_req (fun h43 hf => ?_)
  refine va_sld hx hb hX hbl (law_b hG hbl) (law_S hG hw) (law_in h43) dL_law_267 ?_
  refine lv_aload_n hx hb dL_law_268 rfl (lv_at hl 0 rfl) ?_
  refine lv_iload_n hx hb dL_law_269 rfl (lv_at hl 3 rfl) ?_
  refine lv_iconst (v := (2 : Int32)) hx hb dL_law_270 (by decide) ?_
  refine lv_iadd hx hb dL_law_271 ?_
  revert hf
  refine k_req (fun h44 hf => ?_)
  refine va_sld hx hb hX hbl (law_b hG hbl) (law_S hG hw) (law_in h44) dL_law_272 ?_
  revert hf
  refine k_pcl (fun z46 h45 hf => ?_)
  refine w_afl hw (w_rV (As := [.int (xs (ixN (x3 + (1 : Int32)))), .int (xs (ixN (x3 + (2 : Int32))))]) C hw (ok_X0_old h45) (cw_L_22 hts (Nat.le_of_ble_eq_true rfl) (Nat.le_of_ble_eq_true rfl)) rfl (by decide) (of_req h45).1 rfl hl.1 rfl (Nat.le_of_ble_eq_true rfl) ⟨by show _ + 0 ≤ 1200128; omega, by show _ + 0 ≤ 5501098; omega⟩ dL_law_273) (fun H locs hw => ?_)
  refine lv_aload_n hx hb dL_law_276 rfl (lv_at hl 2 rfl) ?_
  refine lv_aload_n hx hb dL_law_277 rfl (lv_at hl 0 rfl) ?_
  refine lv_iload_n hx hb dL_law_278 rfl (lv_at hl 3 rfl) ?_
  refine lv_iconst (v := (1 : Int32)) hx hb dL_law_279 (by decide) ?_
  refine lv_iadd hx hb dL_law_280 ?_
  revert hf
  refine k_req (fun h47 hf => ?_)
  refine va_sld hx hb hX hbl (law_b hG hbl) (law_S hG hw) (law_in h47) dL_law_281 ?_
  refine lv_aload_n hx hb dL_law_282 rfl (lv_at hl 0 rfl) ?_
  refine lv_iload_n hx hb dL_law_283 rfl (lv_at hl 3 rfl) ?_
  refine lv_iconst (v := (2 : Int32)) hx hb dL_law_284 (by decide) ?_
  refine lv_iadd hx hb dL_law_285 ?_
  revert hf
  refine k_req (fun h48 hf => ?_)
  refine va_sld hx hb hX hbl (law_b hG hbl) (law_S hG hw) (law_in h48) dL_law_286 ?_
  revert hf
  refine k_cal (fun z50 U51 h49 hf => ?_)
  refine w_afl hw (w_rV (As := [.int (xs (ixN (x3 + (1 : Int32)))), .int (xs (ixN (x3 + (2 : Int32))))]) C hw (ok_X5_old h49) (cw_L_26 hts (Nat.le_of_ble_eq_true rfl) (Nat.le_of_ble_eq_true rfl)) rfl (by decide) (of_req h49).1 rfl hl.1 rfl (Nat.le_of_ble_eq_true rfl) ⟨by show _ + 0 ≤ 1200128; omega, by show _ + 0 ≤ 5501098; omega⟩ dL_law_287) (fun H locs hw => ?_)
  refine W.lcmp hx hb dL_law_290 ?_
  refine lv_if_eq (tgt := 1179) hx hb dL_law_291 (by decide) (fun c52 => ?_) (fun c52 => ?_)
  · replace hf := ite_t c52 hf
    exact jk_L_law_1179 C hr hG hX hbl hmc hms hf hn hk hw (lv_sub hl [0, 1, 2, 3] rfl) hkc18 hkx18_1185
  · replace hf := ite_f c52 hf
    cases hf
set_option maxHeartbeats 4000000 in
theorem jk_L_law_229 {l : Launch} {G : gG} {p : Program} {e : Env} {s : State} {m : MethodId} {below : List Frame} {meth : Method} {c : Code} {b L : Nat} {xs : Nat → Int32} {T : Tt} {V0 : Vt} {V' : Vt} {T' : Tt} {mc ms : Nat} (C : Cx G p s m #[Value.ref b] meth c code R_law 4) (hr : meth.sig.returnType = ret) (hG : G.2.2 = s) (hX : va_X b L xs s s.heap) (hbl : b < s.heap.size) (hmc : mc ≤ 1200128) (hms : ms ≤ 5501098) {x1 : Nat} {x2 : Nat} {x3 : Int32} {kc18 : Int32 → Vt → Tt → Option ((Vt × Tt) × Nat × Nat)} {kx18_1185 : Vt → Tt → Option ((Vt × Tt) × Nat × Nat)} {H : Heap} {locs : List Loc} {ls : Array Slot} {cells slots n k : Nat} (hf : f_law_J229 xs L T V0 x1 x2 x3 kc18 kx18_1185 = some ((V', T'), n, k)) (hn : cells + n = mc) (hk : slots + k = ms) (hw : wS G V0 T H locs) (hl : lv_has ls 4 [(0, .ref b), (1, .ref (gb G + x1)), (2, .ref (gb G + x2)), (3, .int x3)]) (hkc18 : ∀ (y3 : Int32) (W1 : Vt) (T1 : Tt) (H : Heap) (locs : List Loc) (ls : Array Slot) (cells slots n k : Nat), kc18 y3 W1 T1 = some ((V', T'), n, k) → cells + n = mc → slots + k = ms → wS G W1 T1 H locs → lv_has ls 4 [(0, .ref b), (1, .ref (gb G + x1)), (2, .ref (gb G + x2)), (3, .int y3)] → W p l e room_1 s m #[Value.ref b] below meth c H locs cells slots (lw_Z below #[Value.ref b] s) (F0 m 18 ls [])) (hkx18_1185 : ∀ (W1 : Vt) (T1 : Tt) (H : Heap) (locs : List Loc) (ls : Array Slot) (cells slots n k : Nat), kx18_1185 W1 T1 = some ((V', T'), n, k) → cells + n = mc → slots + k = ms → wS G W1 T1 H locs → lv_has ls 4 [] → W p l e room_1 s m #[Value.ref b] below meth c H locs cells slots (lw_Z below #[Value.ref b] s) (F0 m 1185 ls [])) : W p l e room_1 s m #[Value.ref b] below meth c H locs cells slots (lw_Z below #[Value.ref b] s) (F0 m 229 ls []) := by
  have hx := C.1
  have hb := C.2.1
  have hown := C.2.2.2.1
  have hts := C.2.2.2.2.1
  unfold f_law_J229 at hf
  refine lv_aload_n hx hb dL_law_229 rfl (lv_at hl 1 rfl) ?_
  refine lv_aload_n hx hb dL_law_230 rfl (lv_at hl 0 rfl) ?_
  refine lv_iload_n hx hb dL_law_231 rfl (lv_at hl 3 rfl) ?_
  refine lv_iconst (v := (1 : Int32)) hx hb dL_law_232 (by decide) ?_
  refine lv_iadd hx hb dL_law_233 ?_
  revert hf
  refine k_req (fun h31 hf => ?_)
  refine va_sld hx hb hX hbl (law_b hG hbl) (law_S hG hw) (law_in h31) dL_law_234 ?_
  refine lv_aload_n hx hb dL_law_235 rfl (lv_at hl 0 rfl) ?_
  refine lv_iload_n hx hb dL_law_236 rfl (lv_at hl 3 rfl) ?_
  refine lv_iconst (v := (2 : Int32)) hx hb dL_law_237 (by decide) ?_
  refine lv_iadd hx hb dL_law_238 ?_
  revert hf
  refine k_req (fun h32 hf => ?_)
  refine va_sld hx hb hX hbl (law_b hG hbl) (law_S hG hw) (law_in h32) dL_law_239 ?_
  revert hf
  refine k_cal (fun z34 U35 h33 hf => ?_)
  refine w_afi hw (w_rV (As := [.int (xs (ixN (x3 + (1 : Int32)))), .int (xs (ixN (x3 + (2 : Int32))))]) C hw (ok_X0_of h33) (cw_L_18 hts (Nat.le_of_ble_eq_true rfl) (Nat.le_of_ble_eq_true rfl)) rfl (by decide) (of_req h33).1 rfl hl.1 rfl (Nat.le_of_ble_eq_true rfl) ⟨by show _ + 0 ≤ 1200128; omega, by show _ + 0 ≤ 5501098; omega⟩ dL_law_240) (fun H locs hw => ?_)
  refine lv_aload_n hx hb dL_law_243 rfl (lv_at hl 2 rfl) ?_
  refine lv_aload_n hx hb dL_law_244 rfl (lv_at hl 0 rfl) ?_
  refine lv_iload_n hx hb dL_law_245 rfl (lv_at hl 3 rfl) ?_
  refine lv_iconst (v := (1 : Int32)) hx hb dL_law_246 (by decide) ?_
  refine lv_iadd hx hb dL_law_247 ?_
  revert hf
  refine k_req (fun h36 hf => ?_)
  refine va_sld hx hb hX hbl (law_b hG hbl) (law_S hG hw) (law_in h36) dL_law_248 ?_
  refine lv_aload_n hx hb dL_law_249 rfl (lv_at hl 0 rfl) ?_
  refine lv_iload_n hx hb dL_law_250 rfl (lv_at hl 3 rfl) ?_
  refine lv_iconst (v := (2 : Int32)) hx hb dL_law_251 (by decide) ?_
  refine lv_iadd hx hb dL_law_252 ?_
  revert hf
  refine k_req (fun h37 hf => ?_)
  refine va_sld hx hb hX hbl (law_b hG hbl) (law_S hG hw) (law_in h37) dL_law_253 ?_
  revert hf
  refine k_cal (fun z39 U40 h38 hf => ?_)
  refine w_afi hw (w_rV (As := [.int (xs (ixN (x3 + (1 : Int32)))), .int (xs (ixN (x3 + (2 : Int32))))]) C hw (ok_X5_of h38) (cw_L_21 hts (Nat.le_of_ble_eq_true rfl) (Nat.le_of_ble_eq_true rfl)) rfl (by decide) (of_req h38).1 rfl hl.1 rfl (Nat.le_of_ble_eq_true rfl) ⟨by show _ + 0 ≤ 1200128; omega, by show _ + 0 ≤ 5501098; omega⟩ dL_law_254) (fun H locs hw => ?_)
  refine lv_icmp_eq (tgt := 1179) hx hb dL_law_257 (by decide) (fun c41 => ?_) (fun c41 => ?_)
  · replace hf := ite_t c41 hf
    exact jk_L_law_1179 C hr hG hX hbl hmc hms hf hn hk hw (lv_sub hl [0, 1, 2, 3] rfl) hkc18 hkx18_1185
  · replace hf := ite_f c41 hf
    cases hf
set_option maxHeartbeats 4000000 in
theorem jk_L_law_196 {l : Launch} {G : gG} {p : Program} {e : Env} {s : State} {m : MethodId} {below : List Frame} {meth : Method} {c : Code} {b L : Nat} {xs : Nat → Int32} {T : Tt} {V0 : Vt} {V' : Vt} {T' : Tt} {mc ms : Nat} (C : Cx G p s m #[Value.ref b] meth c code R_law 4) (hr : meth.sig.returnType = ret) (hG : G.2.2 = s) (hX : va_X b L xs s s.heap) (hbl : b < s.heap.size) (hmc : mc ≤ 1200128) (hms : ms ≤ 5501098) {x1 : Nat} {x2 : Nat} {x3 : Int32} {kc18 : Int32 → Vt → Tt → Option ((Vt × Tt) × Nat × Nat)} {kx18_1185 : Vt → Tt → Option ((Vt × Tt) × Nat × Nat)} {H : Heap} {locs : List Loc} {ls : Array Slot} {cells slots n k : Nat} (hf : f_law_J196 xs L T V0 x1 x2 x3 kc18 kx18_1185 = some ((V', T'), n, k)) (hn : cells + n = mc) (hk : slots + k = ms) (hw : wS G V0 T H locs) (hl : lv_has ls 4 [(0, .ref b), (1, .ref (gb G + x1)), (2, .ref (gb G + x2)), (3, .int x3)]) (hkc18 : ∀ (y3 : Int32) (W1 : Vt) (T1 : Tt) (H : Heap) (locs : List Loc) (ls : Array Slot) (cells slots n k : Nat), kc18 y3 W1 T1 = some ((V', T'), n, k) → cells + n = mc → slots + k = ms → wS G W1 T1 H locs → lv_has ls 4 [(0, .ref b), (1, .ref (gb G + x1)), (2, .ref (gb G + x2)), (3, .int y3)] → W p l e room_1 s m #[Value.ref b] below meth c H locs cells slots (lw_Z below #[Value.ref b] s) (F0 m 18 ls [])) (hkx18_1185 : ∀ (W1 : Vt) (T1 : Tt) (H : Heap) (locs : List Loc) (ls : Array Slot) (cells slots n k : Nat), kx18_1185 W1 T1 = some ((V', T'), n, k) → cells + n = mc → slots + k = ms → wS G W1 T1 H locs → lv_has ls 4 [] → W p l e room_1 s m #[Value.ref b] below meth c H locs cells slots (lw_Z below #[Value.ref b] s) (F0 m 1185 ls [])) : W p l e room_1 s m #[Value.ref b] below meth c H locs cells slots (lw_Z below #[Value.ref b] s) (F0 m 196 ls []) := by
  have hx := C.1
  have hb := C.2.1
  have hown := C.2.2.2.1
  have hts := C.2.2.2.2.1
  unfold f_law_J196 at hf
  refine lv_aload_n hx hb dL_law_196 rfl (lv_at hl 1 rfl) ?_
  refine lv_aload_n hx hb dL_law_197 rfl (lv_at hl 0 rfl) ?_
  refine lv_iload_n hx hb dL_law_198 rfl (lv_at hl 3 rfl) ?_
  refine lv_iconst (v := (1 : Int32)) hx hb dL_law_199 (by decide) ?_
  refine lv_iadd hx hb dL_law_200 ?_
  revert hf
  refine k_req (fun h18 hf => ?_)
  refine va_sld hx hb hX hbl (law_b hG hbl) (law_S hG hw) (law_in h18) dL_law_201 ?_
  refine lv_aload_n hx hb dL_law_202 rfl (lv_at hl 0 rfl) ?_
  refine lv_iload_n hx hb dL_law_203 rfl (lv_at hl 3 rfl) ?_
  refine lv_iconst (v := (2 : Int32)) hx hb dL_law_204 (by decide) ?_
  refine lv_iadd hx hb dL_law_205 ?_
  revert hf
  refine k_req (fun h19 hf => ?_)
  refine va_sld hx hb hX hbl (law_b hG hbl) (law_S hG hw) (law_in h19) dL_law_206 ?_
  revert hf
  refine k_cal (fun z21 U22 h20 hf => ?_)
  refine w_afi hw (w_rV (As := [.int (xs (ixN (x3 + (1 : Int32)))), .int (xs (ixN (x3 + (2 : Int32))))]) C hw (ok_X0_cask h20) (cw_L_13 hts (Nat.le_of_ble_eq_true rfl) (Nat.le_of_ble_eq_true rfl)) rfl (by decide) (of_req h20).1 rfl hl.1 rfl (Nat.le_of_ble_eq_true rfl) ⟨by show _ + 0 ≤ 1200128; omega, by show _ + 0 ≤ 5501098; omega⟩ dL_law_207) (fun H locs hw => ?_)
  refine lv_aload_n hx hb dL_law_210 rfl (lv_at hl 2 rfl) ?_
  refine lv_aload_n hx hb dL_law_211 rfl (lv_at hl 0 rfl) ?_
  refine lv_iload_n hx hb dL_law_212 rfl (lv_at hl 3 rfl) ?_
  refine lv_iconst (v := (1 : Int32)) hx hb dL_law_213 (by decide) ?_
  refine lv_iadd hx hb dL_law_214 ?_
  revert hf
  refine k_req (fun h23 hf => ?_)
  refine va_sld hx hb hX hbl (law_b hG hbl) (law_S hG hw) (law_in h23) dL_law_215 ?_
  refine lv_aload_n hx hb dL_law_216 rfl (lv_at hl 0 rfl) ?_
  refine lv_iload_n hx hb dL_law_217 rfl (lv_at hl 3 rfl) ?_
  refine lv_iconst (v := (2 : Int32)) hx hb dL_law_218 (by decide) ?_
  refine lv_iadd hx hb dL_law_219 ?_
  revert hf
  refine k_req (fun h24 hf => ?_)
  refine va_sld hx hb hX hbl (law_b hG hbl) (law_S hG hw) (law_in h24) dL_law_220 ?_
  revert hf
  refine k_cal (fun z26 U27 h25 hf => ?_)
  refine w_afi hw (w_rV (As := [.int (xs (ixN (x3 + (1 : Int32)))), .int (xs (ixN (x3 + (2 : Int32))))]) C hw (ok_X5_cask h25) (cw_L_17 hts (Nat.le_of_ble_eq_true rfl) (Nat.le_of_ble_eq_true rfl)) rfl (by decide) (of_req h25).1 rfl hl.1 rfl (Nat.le_of_ble_eq_true rfl) ⟨by show _ + 0 ≤ 1200128; omega, by show _ + 0 ≤ 5501098; omega⟩ dL_law_221) (fun H locs hw => ?_)
  refine lv_icmp_eq (tgt := 1179) hx hb dL_law_224 (by decide) (fun c28 => ?_) (fun c28 => ?_)
  · replace hf := ite_t c28 hf
    exact jk_L_law_1179 C hr hG hX hbl hmc hms hf hn hk hw (lv_sub hl [0, 1, 2, 3] rfl) hkc18 hkx18_1185
  · replace hf := ite_f c28 hf
    cases hf
set_option maxHeartbeats 4000000 in
theorem lk_L_law_18 {l : Launch} {G : gG} {p : Program} {e : Env} {s : State} {m : MethodId} {below : List Frame} {meth : Method} {c : Code} {b L : Nat} {xs : Nat → Int32} {V' : Vt} {T' : Tt} {mc ms : Nat} (C : Cx G p s m #[Value.ref b] meth c code R_law 4) (hr : meth.sig.returnType = ret) (hG : G.2.2 = s) (hX : va_X b L xs s s.heap) (hbl : b < s.heap.size) (hmc : mc ≤ 1200128) (hms : ms ≤ 5501098) {x1 : Nat} {x2 : Nat} {kx18_1185 : Vt → Tt → Option ((Vt × Tt) × Nat × Nat)} (hkx18_1185 : ∀ (W1 : Vt) (T1 : Tt) (H : Heap) (locs : List Loc) (ls : Array Slot) (cells slots n k : Nat), kx18_1185 W1 T1 = some ((V', T'), n, k) → cells + n = mc → slots + k = ms → wS G W1 T1 H locs → lv_has ls 4 [] → W p l e room_1 s m #[Value.ref b] below meth c H locs cells slots (lw_Z below #[Value.ref b] s) (F0 m 1185 ls [])) : ∀ (nf : Nat) (x3 : Int32) (V1 : Vt) (T1 : Tt) (H : Heap) (locs : List Loc) (ls : Array Slot) (cells slots n k : Nat), f_law_L18 xs L x1 x2 kx18_1185 nf x3 V1 T1 = some ((V', T'), n, k) → cells + n = mc → slots + k = ms → wS G V1 T1 H locs → lv_has ls 4 [(0, .ref b), (1, .ref (gb G + x1)), (2, .ref (gb G + x2)), (3, .int x3)] → W p l e room_1 s m #[Value.ref b] below meth c H locs cells slots (lw_Z below #[Value.ref b] s) (F0 m 18 ls []) := by
  have hx := C.1
  have hb := C.2.1
  have hown := C.2.2.2.1
  have hts := C.2.2.2.2.1
  intro nf
  induction nf with
  | zero =>
    intro x3 V1 T1 H locs ls cells slots n k hf
    cases hf
  | succ nf ih =>
    intro x3 V1 T1 H locs ls cells slots n k hf hn hk hw hl
    unfold f_law_L18 at hf
    refine lv_iload_n hx hb dL_law_18 rfl (lv_at hl 3 rfl) ?_
    refine lv_aload_n hx hb dL_law_19 rfl (lv_at hl 0 rfl) ?_
    refine va_slen hx hb hX hbl (law_b hG hbl) (law_S hG hw) dL_law_20 ?_
    refine lv_bipush (v := (6 : Int32)) hx hb dL_law_21 (by decide) ?_
    refine lv_isub hx hb dL_law_23 ?_
    refine lv_icmp_gt (tgt := 1185) hx hb dL_law_24 (by decide) (fun c15 => ?_) (fun c15 => ?_)
    · replace hf := ite_t c15 hf
      exact hkx18_1185 _ _ _ _ _ _ _ _ _ hf hn hk hw (lv_sub hl [] rfl)
    · replace hf := ite_f c15 hf
      refine lv_aload_n hx hb dL_law_27 rfl (lv_at hl 0 rfl) ?_
      refine lv_iload_n hx hb dL_law_28 rfl (lv_at hl 3 rfl) ?_
      revert hf
      refine k_req (fun h16 hf => ?_)
      refine va_sld hx hb hX hbl (law_b hG hbl) (law_S hG hw) (law_in h16) dL_law_29 ?_
      refine lv_bipush (v := (63 : Int32)) hx hb dL_law_30 (by decide) ?_
      refine lv_iand hx hb dL_law_32 ?_
      by_cases c17 : ((xs (ixN x3)) &&& (63 : Int32)) = (0 : Int32)
      · replace hf := ite_t c17 hf
        refine lv_tableIn (tgt := 196) (off := 163) hx hb dL_law_33 (by rw [c17]; decide) (by rw [c17]; decide) (by rw [c17]; decide) (by decide) ?_
        exact jk_L_law_196 C hr hG hX hbl hmc hms hf hn hk hw (lv_sub hl [0, 1, 2, 3] rfl) ih hkx18_1185
      · replace hf := ite_f c17 hf
        by_cases c30 : ((xs (ixN x3)) &&& (63 : Int32)) = (1 : Int32)
        · replace hf := ite_t c30 hf
          refine lv_tableIn (tgt := 229) (off := 196) hx hb dL_law_33 (by rw [c30]; decide) (by rw [c30]; decide) (by rw [c30]; decide) (by decide) ?_
          exact jk_L_law_229 C hr hG hX hbl hmc hms hf hn hk hw (lv_sub hl [0, 1, 2, 3] rfl) ih hkx18_1185
        · replace hf := ite_f c30 hf
          by_cases c42 : ((xs (ixN x3)) &&& (63 : Int32)) = (2 : Int32)
          · replace hf := ite_t c42 hf
            refine lv_tableIn (tgt := 262) (off := 229) hx hb dL_law_33 (by rw [c42]; decide) (by rw [c42]; decide) (by rw [c42]; decide) (by decide) ?_
            exact jk_L_law_262 C hr hG hX hbl hmc hms hf hn hk hw (lv_sub hl [0, 1, 2, 3] rfl) ih hkx18_1185
          · replace hf := ite_f c42 hf
            by_cases c53 : ((xs (ixN x3)) &&& (63 : Int32)) = (3 : Int32)
            · replace hf := ite_t c53 hf
              refine lv_tableIn (tgt := 296) (off := 263) hx hb dL_law_33 (by rw [c53]; decide) (by rw [c53]; decide) (by rw [c53]; decide) (by decide) ?_
              exact jk_L_law_296 C hr hG hX hbl hmc hms hf hn hk hw (lv_sub hl [0, 1, 2, 3] rfl) ih hkx18_1185
            · replace hf := ite_f c53 hf
              by_cases c65 : ((xs (ixN x3)) &&& (63 : Int32)) = (4 : Int32)
              · replace hf := ite_t c65 hf
                refine lv_tableIn (tgt := 329) (off := 296) hx hb dL_law_33 (by rw [c65]; decide) (by rw [c65]; decide) (by rw [c65]; decide) (by decide) ?_
                exact jk_L_law_329 C hr hG hX hbl hmc hms hf hn hk hw (lv_sub hl [0, 1, 2, 3] rfl) ih hkx18_1185
              · replace hf := ite_f c65 hf
                by_cases c83 : ((xs (ixN x3)) &&& (63 : Int32)) = (5 : Int32)
                · replace hf := ite_t c83 hf
                  refine lv_tableIn (tgt := 392) (off := 359) hx hb dL_law_33 (by rw [c83]; decide) (by rw [c83]; decide) (by rw [c83]; decide) (by decide) ?_
                  exact jk_L_law_392 C hr hG hX hbl hmc hms hf hn hk hw (lv_sub hl [0, 1, 2, 3] rfl) ih hkx18_1185
                · replace hf := ite_f c83 hf
                  by_cases c93 : ((xs (ixN x3)) &&& (63 : Int32)) = (6 : Int32)
                  · replace hf := ite_t c93 hf
                    refine lv_tableIn (tgt := 415) (off := 382) hx hb dL_law_33 (by rw [c93]; decide) (by rw [c93]; decide) (by rw [c93]; decide) (by decide) ?_
                    exact jk_L_law_415 C hr hG hX hbl hmc hms hf hn hk hw (lv_sub hl [0, 1, 2, 3] rfl) ih hkx18_1185
                  · replace hf := ite_f c93 hf
                    by_cases c101 : ((xs (ixN x3)) &&& (63 : Int32)) = (7 : Int32)
                    · replace hf := ite_t c101 hf
                      refine lv_tableIn (tgt := 428) (off := 395) hx hb dL_law_33 (by rw [c101]; decide) (by rw [c101]; decide) (by rw [c101]; decide) (by decide) ?_
                      exact jk_L_law_428 C hr hG hX hbl hmc hms hf hn hk hw (lv_sub hl [0, 1, 2, 3] rfl) ih hkx18_1185
                    · replace hf := ite_f c101 hf
                      by_cases c108 : ((xs (ixN x3)) &&& (63 : Int32)) = (8 : Int32)
                      · replace hf := ite_t c108 hf
                        refine lv_tableIn (tgt := 441) (off := 408) hx hb dL_law_33 (by rw [c108]; decide) (by rw [c108]; decide) (by rw [c108]; decide) (by decide) ?_
                        exact jk_L_law_441 C hr hG hX hbl hmc hms hf hn hk hw (lv_sub hl [0, 1, 2, 3] rfl) ih hkx18_1185
                      · replace hf := ite_f c108 hf
                        by_cases c117 : ((xs (ixN x3)) &&& (63 : Int32)) = (9 : Int32)
                        · replace hf := ite_t c117 hf
                          refine lv_tableIn (tgt := 454) (off := 421) hx hb dL_law_33 (by rw [c117]; decide) (by rw [c117]; decide) (by rw [c117]; decide) (by decide) ?_
                          exact jk_L_law_454 C hr hG hX hbl hmc hms hf hn hk hw (lv_sub hl [0, 1, 2, 3] rfl) ih hkx18_1185
                        · replace hf := ite_f c117 hf
                          by_cases c126 : ((xs (ixN x3)) &&& (63 : Int32)) = (10 : Int32)
                          · replace hf := ite_t c126 hf
                            refine lv_tableIn (tgt := 467) (off := 434) hx hb dL_law_33 (by rw [c126]; decide) (by rw [c126]; decide) (by rw [c126]; decide) (by decide) ?_
                            exact jk_L_law_467 C hr hG hX hbl hmc hms hf hn hk hw (lv_sub hl [0, 1, 2, 3] rfl) ih hkx18_1185
                          · replace hf := ite_f c126 hf
                            by_cases c135 : ((xs (ixN x3)) &&& (63 : Int32)) = (11 : Int32)
                            · replace hf := ite_t c135 hf
                              refine lv_tableIn (tgt := 480) (off := 447) hx hb dL_law_33 (by rw [c135]; decide) (by rw [c135]; decide) (by rw [c135]; decide) (by decide) ?_
                              exact jk_L_law_480 C hr hG hX hbl hmc hms hf hn hk hw (lv_sub hl [0, 1, 2, 3] rfl) ih hkx18_1185
                            · replace hf := ite_f c135 hf
                              by_cases c142 : ((xs (ixN x3)) &&& (63 : Int32)) = (12 : Int32)
                              · replace hf := ite_t c142 hf
                                refine lv_tableIn (tgt := 493) (off := 460) hx hb dL_law_33 (by rw [c142]; decide) (by rw [c142]; decide) (by rw [c142]; decide) (by decide) ?_
                                exact jk_L_law_493 C hr hG hX hbl hmc hms hf hn hk hw (lv_sub hl [0, 1, 2, 3] rfl) ih hkx18_1185
                              · replace hf := ite_f c142 hf
                                by_cases c149 : ((xs (ixN x3)) &&& (63 : Int32)) = (13 : Int32)
                                · replace hf := ite_t c149 hf
                                  refine lv_tableIn (tgt := 506) (off := 473) hx hb dL_law_33 (by rw [c149]; decide) (by rw [c149]; decide) (by rw [c149]; decide) (by decide) ?_
                                  exact jk_L_law_506 C hr hG hX hbl hmc hms hf hn hk hw (lv_sub hl [0, 1, 2, 3] rfl) ih hkx18_1185
                                · replace hf := ite_f c149 hf
                                  by_cases c159 : ((xs (ixN x3)) &&& (63 : Int32)) = (14 : Int32)
                                  · replace hf := ite_t c159 hf
                                    refine lv_tableIn (tgt := 529) (off := 496) hx hb dL_law_33 (by rw [c159]; decide) (by rw [c159]; decide) (by rw [c159]; decide) (by decide) ?_
                                    exact jk_L_law_529 C hr hG hX hbl hmc hms hf hn hk hw (lv_sub hl [0, 1, 2, 3] rfl) ih hkx18_1185
                                  · replace hf := ite_f c159 hf
                                    by_cases c171 : ((xs (ixN x3)) &&& (63 : Int32)) = (15 : Int32)
                                    · replace hf := ite_t c171 hf
                                      refine lv_tableIn (tgt := 562) (off := 529) hx hb dL_law_33 (by rw [c171]; decide) (by rw [c171]; decide) (by rw [c171]; decide) (by decide) ?_
                                      exact jk_L_law_562 C hr hG hX hbl hmc hms hf hn hk hw (lv_sub hl [0, 1, 2, 3] rfl) ih hkx18_1185
                                    · replace hf := ite_f c171 hf
                                      by_cases c185 : ((xs (ixN x3)) &&& (63 : Int32)) = (16 : Int32)
                                      · replace hf := ite_t c185 hf
                                        refine lv_tableIn (tgt := 605) (off := 572) hx hb dL_law_33 (by rw [c185]; decide) (by rw [c185]; decide) (by rw [c185]; decide) (by decide) ?_
                                        exact jk_L_law_605 C hr hG hX hbl hmc hms hf hn hk hw (lv_sub hl [0, 1, 2, 3] rfl) ih hkx18_1185
                                      · replace hf := ite_f c185 hf
                                        by_cases c197 : ((xs (ixN x3)) &&& (63 : Int32)) = (17 : Int32)
                                        · replace hf := ite_t c197 hf
                                          refine lv_tableIn (tgt := 638) (off := 605) hx hb dL_law_33 (by rw [c197]; decide) (by rw [c197]; decide) (by rw [c197]; decide) (by decide) ?_
                                          exact jk_L_law_638 C hr hG hX hbl hmc hms hf hn hk hw (lv_sub hl [0, 1, 2, 3] rfl) ih hkx18_1185
                                        · replace hf := ite_f c197 hf
                                          by_cases c205 : ((xs (ixN x3)) &&& (63 : Int32)) = (18 : Int32)
                                          · replace hf := ite_t c205 hf
                                            refine lv_tableIn (tgt := 651) (off := 618) hx hb dL_law_33 (by rw [c205]; decide) (by rw [c205]; decide) (by rw [c205]; decide) (by decide) ?_
                                            exact jk_L_law_651 C hr hG hX hbl hmc hms hf hn hk hw (lv_sub hl [0, 1, 2, 3] rfl) ih hkx18_1185
                                          · replace hf := ite_f c205 hf
                                            by_cases c213 : ((xs (ixN x3)) &&& (63 : Int32)) = (19 : Int32)
                                            · replace hf := ite_t c213 hf
                                              refine lv_tableIn (tgt := 664) (off := 631) hx hb dL_law_33 (by rw [c213]; decide) (by rw [c213]; decide) (by rw [c213]; decide) (by decide) ?_
                                              exact jk_L_law_664 C hr hG hX hbl hmc hms hf hn hk hw (lv_sub hl [0, 1, 2, 3] rfl) ih hkx18_1185
                                            · replace hf := ite_f c213 hf
                                              by_cases c229 : ((xs (ixN x3)) &&& (63 : Int32)) = (20 : Int32)
                                              · replace hf := ite_t c229 hf
                                                refine lv_tableIn (tgt := 717) (off := 684) hx hb dL_law_33 (by rw [c229]; decide) (by rw [c229]; decide) (by rw [c229]; decide) (by decide) ?_
                                                exact jk_L_law_717 C hr hG hX hbl hmc hms hf hn hk hw (lv_sub hl [0, 1, 2, 3] rfl) ih hkx18_1185
                                              · replace hf := ite_f c229 hf
                                                by_cases c243 : ((xs (ixN x3)) &&& (63 : Int32)) = (21 : Int32)
                                                · replace hf := ite_t c243 hf
                                                  refine lv_tableIn (tgt := 760) (off := 727) hx hb dL_law_33 (by rw [c243]; decide) (by rw [c243]; decide) (by rw [c243]; decide) (by decide) ?_
                                                  exact jk_L_law_760 C hr hG hX hbl hmc hms hf hn hk hw (lv_sub hl [0, 1, 2, 3] rfl) ih hkx18_1185
                                                · replace hf := ite_f c243 hf
                                                  by_cases c255 : ((xs (ixN x3)) &&& (63 : Int32)) = (22 : Int32)
                                                  · replace hf := ite_t c255 hf
                                                    refine lv_tableIn (tgt := 793) (off := 760) hx hb dL_law_33 (by rw [c255]; decide) (by rw [c255]; decide) (by rw [c255]; decide) (by decide) ?_
                                                    exact jk_L_law_793 C hr hG hX hbl hmc hms hf hn hk hw (lv_sub hl [0, 1, 2, 3] rfl) ih hkx18_1185
                                                  · replace hf := ite_f c255 hf
                                                    by_cases c265 : ((xs (ixN x3)) &&& (63 : Int32)) = (23 : Int32)
                                                    · replace hf := ite_t c265 hf
                                                      refine lv_tableIn (tgt := 816) (off := 783) hx hb dL_law_33 (by rw [c265]; decide) (by rw [c265]; decide) (by rw [c265]; decide) (by decide) ?_
                                                      exact jk_L_law_816 C hr hG hX hbl hmc hms hf hn hk hw (lv_sub hl [0, 1, 2, 3] rfl) ih hkx18_1185
                                                    · replace hf := ite_f c265 hf
                                                      by_cases c277 : ((xs (ixN x3)) &&& (63 : Int32)) = (24 : Int32)
                                                      · replace hf := ite_t c277 hf
                                                        refine lv_tableIn (tgt := 849) (off := 816) hx hb dL_law_33 (by rw [c277]; decide) (by rw [c277]; decide) (by rw [c277]; decide) (by decide) ?_
                                                        exact jk_L_law_849 C hr hG hX hbl hmc hms hf hn hk hw (lv_sub hl [0, 1, 2, 3] rfl) ih hkx18_1185
                                                      · replace hf := ite_f c277 hf
                                                        by_cases c289 : ((xs (ixN x3)) &&& (63 : Int32)) = (25 : Int32)
                                                        · replace hf := ite_t c289 hf
                                                          refine lv_tableIn (tgt := 882) (off := 849) hx hb dL_law_33 (by rw [c289]; decide) (by rw [c289]; decide) (by rw [c289]; decide) (by decide) ?_
                                                          exact jk_L_law_882 C hr hG hX hbl hmc hms hf hn hk hw (lv_sub hl [0, 1, 2, 3] rfl) ih hkx18_1185
                                                        · replace hf := ite_f c289 hf
                                                          by_cases c301 : ((xs (ixN x3)) &&& (63 : Int32)) = (26 : Int32)
                                                          · replace hf := ite_t c301 hf
                                                            refine lv_tableIn (tgt := 915) (off := 882) hx hb dL_law_33 (by rw [c301]; decide) (by rw [c301]; decide) (by rw [c301]; decide) (by decide) ?_
                                                            exact jk_L_law_915 C hr hG hX hbl hmc hms hf hn hk hw (lv_sub hl [0, 1, 2, 3] rfl) ih hkx18_1185
                                                          · replace hf := ite_f c301 hf
                                                            by_cases c309 : ((xs (ixN x3)) &&& (63 : Int32)) = (27 : Int32)
                                                            · replace hf := ite_t c309 hf
                                                              refine lv_tableIn (tgt := 928) (off := 895) hx hb dL_law_33 (by rw [c309]; decide) (by rw [c309]; decide) (by rw [c309]; decide) (by decide) ?_
                                                              exact jk_L_law_928 C hr hG hX hbl hmc hms hf hn hk hw (lv_sub hl [0, 1, 2, 3] rfl) ih hkx18_1185
                                                            · replace hf := ite_f c309 hf
                                                              by_cases c316 : ((xs (ixN x3)) &&& (63 : Int32)) = (28 : Int32)
                                                              · replace hf := ite_t c316 hf
                                                                refine lv_tableIn (tgt := 941) (off := 908) hx hb dL_law_33 (by rw [c316]; decide) (by rw [c316]; decide) (by rw [c316]; decide) (by decide) ?_
                                                                exact jk_L_law_941 C hr hG hX hbl hmc hms hf hn hk hw (lv_sub hl [0, 1, 2, 3] rfl) ih hkx18_1185
                                                              · replace hf := ite_f c316 hf
                                                                by_cases c325 : ((xs (ixN x3)) &&& (63 : Int32)) = (29 : Int32)
                                                                · replace hf := ite_t c325 hf
                                                                  refine lv_tableIn (tgt := 964) (off := 931) hx hb dL_law_33 (by rw [c325]; decide) (by rw [c325]; decide) (by rw [c325]; decide) (by decide) ?_
                                                                  exact jk_L_law_964 C hr hG hX hbl hmc hms hf hn hk hw (lv_sub hl [0, 1, 2, 3] rfl) ih hkx18_1185
                                                                · replace hf := ite_f c325 hf
                                                                  by_cases c337 : ((xs (ixN x3)) &&& (63 : Int32)) = (30 : Int32)
                                                                  · replace hf := ite_t c337 hf
                                                                    refine lv_tableIn (tgt := 998) (off := 965) hx hb dL_law_33 (by rw [c337]; decide) (by rw [c337]; decide) (by rw [c337]; decide) (by decide) ?_
                                                                    exact jk_L_law_998 C hr hG hX hbl hmc hms hf hn hk hw (lv_sub hl [0, 1, 2, 3] rfl) ih hkx18_1185
                                                                  · replace hf := ite_f c337 hf
                                                                    by_cases c349 : ((xs (ixN x3)) &&& (63 : Int32)) = (31 : Int32)
                                                                    · replace hf := ite_t c349 hf
                                                                      refine lv_tableIn (tgt := 1031) (off := 998) hx hb dL_law_33 (by rw [c349]; decide) (by rw [c349]; decide) (by rw [c349]; decide) (by decide) ?_
                                                                      exact jk_L_law_1031 C hr hG hX hbl hmc hms hf hn hk hw (lv_sub hl [0, 1, 2, 3] rfl) ih hkx18_1185
                                                                    · replace hf := ite_f c349 hf
                                                                      by_cases c361 : ((xs (ixN x3)) &&& (63 : Int32)) = (32 : Int32)
                                                                      · replace hf := ite_t c361 hf
                                                                        refine lv_tableIn (tgt := 1064) (off := 1031) hx hb dL_law_33 (by rw [c361]; decide) (by rw [c361]; decide) (by rw [c361]; decide) (by decide) ?_
                                                                        exact jk_L_law_1064 C hr hG hX hbl hmc hms hf hn hk hw (lv_sub hl [0, 1, 2, 3] rfl) ih hkx18_1185
                                                                      · replace hf := ite_f c361 hf
                                                                        by_cases c372 : ((xs (ixN x3)) &&& (63 : Int32)) = (33 : Int32)
                                                                        · replace hf := ite_t c372 hf
                                                                          refine lv_tableIn (tgt := 1097) (off := 1064) hx hb dL_law_33 (by rw [c372]; decide) (by rw [c372]; decide) (by rw [c372]; decide) (by decide) ?_
                                                                          exact jk_L_law_1097 C hr hG hX hbl hmc hms hf hn hk hw (lv_sub hl [0, 1, 2, 3] rfl) ih hkx18_1185
                                                                        · replace hf := ite_f c372 hf
                                                                          by_cases c383 : ((xs (ixN x3)) &&& (63 : Int32)) = (34 : Int32)
                                                                          · replace hf := ite_t c383 hf
                                                                            refine lv_tableIn (tgt := 1120) (off := 1087) hx hb dL_law_33 (by rw [c383]; decide) (by rw [c383]; decide) (by rw [c383]; decide) (by decide) ?_
                                                                            exact jk_L_law_1120 C hr hG hX hbl hmc hms hf hn hk hw (lv_sub hl [0, 1, 2, 3] rfl) ih hkx18_1185
                                                                          · replace hf := ite_f c383 hf
                                                                            by_cases c394 : ((xs (ixN x3)) &&& (63 : Int32)) = (35 : Int32)
                                                                            · replace hf := ite_t c394 hf
                                                                              refine lv_tableIn (tgt := 1143) (off := 1110) hx hb dL_law_33 (by rw [c394]; decide) (by rw [c394]; decide) (by rw [c394]; decide) (by decide) ?_
                                                                              exact jk_L_law_1143 C hr hG hX hbl hmc hms hf hn hk hw (lv_sub hl [0, 1, 2, 3] rfl) ih hkx18_1185
                                                                            · replace hf := ite_f c394 hf
                                                                              by_cases c403 : ((xs (ixN x3)) &&& (63 : Int32)) = (36 : Int32)
                                                                              · replace hf := ite_t c403 hf
                                                                                refine lv_tableIn (tgt := 1166) (off := 1133) hx hb dL_law_33 (by rw [c403]; decide) (by rw [c403]; decide) (by rw [c403]; decide) (by decide) ?_
                                                                                exact jk_L_law_1166 C hr hG hX hbl hmc hms hf hn hk hw (lv_sub hl [0, 1, 2, 3] rfl) ih hkx18_1185
                                                                              · replace hf := ite_f c403 hf
                                                                                have gc17 := lv_neT (a := 0) c17 (by decide)
                                                                                have gc30 := lv_neT (a := 1) c30 (by decide)
                                                                                have gc42 := lv_neT (a := 2) c42 (by decide)
                                                                                have gc53 := lv_neT (a := 3) c53 (by decide)
                                                                                have gc65 := lv_neT (a := 4) c65 (by decide)
                                                                                have gc83 := lv_neT (a := 5) c83 (by decide)
                                                                                have gc93 := lv_neT (a := 6) c93 (by decide)
                                                                                have gc101 := lv_neT (a := 7) c101 (by decide)
                                                                                have gc108 := lv_neT (a := 8) c108 (by decide)
                                                                                have gc117 := lv_neT (a := 9) c117 (by decide)
                                                                                have gc126 := lv_neT (a := 10) c126 (by decide)
                                                                                have gc135 := lv_neT (a := 11) c135 (by decide)
                                                                                have gc142 := lv_neT (a := 12) c142 (by decide)
                                                                                have gc149 := lv_neT (a := 13) c149 (by decide)
                                                                                have gc159 := lv_neT (a := 14) c159 (by decide)
                                                                                have gc171 := lv_neT (a := 15) c171 (by decide)
                                                                                have gc185 := lv_neT (a := 16) c185 (by decide)
                                                                                have gc197 := lv_neT (a := 17) c197 (by decide)
                                                                                have gc205 := lv_neT (a := 18) c205 (by decide)
                                                                                have gc213 := lv_neT (a := 19) c213 (by decide)
                                                                                have gc229 := lv_neT (a := 20) c229 (by decide)
                                                                                have gc243 := lv_neT (a := 21) c243 (by decide)
                                                                                have gc255 := lv_neT (a := 22) c255 (by decide)
                                                                                have gc265 := lv_neT (a := 23) c265 (by decide)
                                                                                have gc277 := lv_neT (a := 24) c277 (by decide)
                                                                                have gc289 := lv_neT (a := 25) c289 (by decide)
                                                                                have gc301 := lv_neT (a := 26) c301 (by decide)
                                                                                have gc309 := lv_neT (a := 27) c309 (by decide)
                                                                                have gc316 := lv_neT (a := 28) c316 (by decide)
                                                                                have gc325 := lv_neT (a := 29) c325 (by decide)
                                                                                have gc337 := lv_neT (a := 30) c337 (by decide)
                                                                                have gc349 := lv_neT (a := 31) c349 (by decide)
                                                                                have gc361 := lv_neT (a := 32) c361 (by decide)
                                                                                have gc372 := lv_neT (a := 33) c372 (by decide)
                                                                                have gc383 := lv_neT (a := 34) c383 (by decide)
                                                                                have gc394 := lv_neT (a := 35) c394 (by decide)
                                                                                have gc403 := lv_neT (a := 36) c403 (by decide)
                                                                                refine lv_tableOut (tgt := 1179) hx hb dL_law_33 (by show Int32.toInt ((xs (ixN x3)) &&& (63 : Int32)) < 0 ∨ 36 < Int32.toInt ((xs (ixN x3)) &&& (63 : Int32)); omega) (by decide) ?_
                                                                                exact jk_L_law_1179 C hr hG hX hbl hmc hms hf hn hk hw (lv_sub hl [0, 1, 2, 3] rfl) ih hkx18_1185
set_option maxHeartbeats 4000000 in
theorem ok_law {l : Launch} {G : gG} {p : Program} {e : Env} {s : State} {m : MethodId} {below : List Frame} {meth : Method} {c : Code} {b L : Nat} {xs : Nat → Int32} {T : Tt} {V0 V' : Vt} {T' : Tt} {mc ms cells slots n k : Nat} (C : Cx G p s m #[Value.ref b] meth c code R_law 4) (hr : meth.sig.returnType = ret) (hG : G.2.2 = s) (hX : va_X b L xs s s.heap) (hbl : b < s.heap.size) (hmc : mc ≤ 1200128) (hms : ms ≤ 5501098) {H : Heap} {locs : List Loc} {ls : Array Slot} (hf : f_law xs L T V0 = some ((V', T'), n, k)) (hn : cells + n = mc) (hk : slots + k = ms) (hw : wS G V0 T H locs) (hl : lv_has ls 4 [(0, .ref b)]) : W p l e room_1 s m #[Value.ref b] below meth c H locs cells slots (lw_Z below #[Value.ref b] s) (F0 m 0 ls []) := by
  have hx := C.1
  have hb := C.2.1
  have hown := C.2.2.2.1
  have hts := C.2.2.2.2.1
  unfold f_law at hf
  revert hf
  refine k_inc (fun n1 k1 hf en ek => ?_)
  revert hf
  refine k_stp (fun q1 eq1 hf => ?_)
  revert hf
  refine k_stp (fun U2 eU2 hf => ?_)
  revert hf
  refine k_stp (fun T3 eT3 hf => ?_)
  refine nw_X0 C hw q168 (by show _ ≤ 1200128; omega) (by show _ ≤ 5501098; omega) eq1 eU2 eT3 dL_law_0 (fun H hw => ?_)
  replace hn := add_r hn en
  replace hk := add_r hk ek
  clear en ek
  generalize n1 = n at hf hn
  generalize k1 = k at hf hk
  refine lv_dup hx hb dL_law_3 rfl ?_
  revert hf
  refine k_dcv (fun U6 T7 na ka n1 k1 h4 hf en ek => ?_)
  refine w_afv hw (w_rI (As := []) C hw (ok_X0_init h4) (cw_L_9 hts (Nat.le_of_ble_eq_true rfl) (Nat.le_of_ble_eq_true rfl)) rfl hl.1 rfl (Nat.le_of_ble_eq_true rfl) ⟨by show _ ≤ 1200128; omega, by show _ ≤ 5501098; omega⟩ dL_law_4) (fun H locs hw => ?_)
  replace hn := add_r hn en
  replace hk := add_r hk ek
  clear en ek
  generalize n1 = n at hf hn
  generalize k1 = k at hf hk
  refine lv_astore_n (lv' := [(1, .ref (gb G + q1)), (0, .ref b)]) hx hb dL_law_7 rfl hl (by decide) rfl (fun ls hl => ?_)
  revert hf
  refine k_inc (fun n1 k1 hf en ek => ?_)
  revert hf
  refine k_stp (fun q8 eq8 hf => ?_)
  revert hf
  refine k_stp (fun U9 eU9 hf => ?_)
  revert hf
  refine k_stp (fun T10 eT10 hf => ?_)
  refine nw_X5 C hw q1502 (by show _ ≤ 1200128; omega) (by show _ ≤ 5501098; omega) eq8 eU9 eT10 dL_law_8 (fun H hw => ?_)
  replace hn := add_r hn en
  replace hk := add_r hk ek
  clear en ek
  generalize n1 = n at hf hn
  generalize k1 = k at hf hk
  refine lv_dup hx hb dL_law_11 rfl ?_
  revert hf
  refine k_dcv (fun U13 T14 na ka n1 k1 h11 hf en ek => ?_)
  refine w_afv hw (w_rI (As := []) C hw (ok_X5_init h11) (cw_L_12 hts (Nat.le_of_ble_eq_true rfl) (Nat.le_of_ble_eq_true rfl)) rfl hl.1 rfl (Nat.le_of_ble_eq_true rfl) ⟨by show _ ≤ 1200128; omega, by show _ ≤ 5501098; omega⟩ dL_law_12) (fun H locs hw => ?_)
  replace hn := add_r hn en
  replace hk := add_r hk ek
  clear en ek
  generalize n1 = n at hf hn
  generalize k1 = k at hf hk
  refine lv_astore_n (lv' := [(2, .ref (gb G + q8)), (1, .ref (gb G + q1)), (0, .ref b)]) hx hb dL_law_15 rfl hl (by decide) rfl (fun ls hl => ?_)
  refine lv_iconst (v := (0 : Int32)) hx hb dL_law_16 (by decide) ?_
  refine lv_istore_n (lv' := [(3, .int (0 : Int32)), (2, .ref (gb G + q8)), (1, .ref (gb G + q1)), (0, .ref b)]) hx hb dL_law_17 rfl hl (by decide) rfl (fun ls hl => ?_)
  refine lk_L_law_18 C hr hG hX hbl hmc hms (fun U410 T411 H locs ls cells slots n k hf hn hk hw hl => ?_) fuel _ _ _ _ _ _ _ _ _ _ hf hn hk hw (lv_sub hl [3, 2, 1, 0] rfl)
  refine lv_iconst (v := (1 : Int32)) hx hb dL_law_1185 (by decide) ?_
  cases hf
  cases hn
  cases hk
  exact law_ret C hr hG hmc hms hw dL_law_1186
