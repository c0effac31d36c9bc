set_option maxRecDepth 100000
set_option maxHeartbeats 4000000 in
theorem jk_X5_bottleIt_58 {l : Launch} {G : gG} {p : Program} {e : Env} {s : State} {m : MethodId} {args : Array Value} {below : List Frame} {meth : Method} {c : Code} {T : Tt} {V0 : Vt} {r : Int32} {V' : Vt} (C : Cx G p s m args meth c cX5_bottleIt RX5 4) (hr : meth.sig.returnType = (some .int)) {x3 : Int32} {s0 : Nat} {s1 : Int32} {H : Heap} {locs : List Loc} {ls : Array Slot} (hf : f_X5_bottleIt_J58 T V0 x3 s0 s1 = some (r, V')) (hw : wS G V0 T H locs) (hl : lv_has ls 4 [(3, .int x3)]) : W p l e (rmL 3 0 0) s m args below meth c H locs 0 0 (eQ G below (some (.int r)) V' T args s 0 0) (F0 m 58 ls [.int s1, .ref (gb G + s0)]) := by
  have hx := C.1
  have hb := C.2.1
  have hown := C.2.2.2.1
  have hts := C.2.2.2.2.1
  unfold f_X5_bottleIt_J58 at hf
  revert hf
  refine k_req (fun k13 hf => ?_)
  revert hf
  refine k_stp (fun U14 eU14 hf => ?_)
  refine pf_X5_447 C hw k13 eU14 dX5_bottleIt_58 (fun H locs hw => ?_)
  refine lv_iload_n hx hb dX5_bottleIt_61 rfl (lv_at hl 0 rfl) ?_
  cases hf
  exact w_iret C hr hw dX5_bottleIt_62
set_option maxHeartbeats 4000000 in
theorem ok_X5_bottleIt {l : Launch} {G : gG} {T : Tt} {V0 : Vt} {o : Nat} {a0 : Int32} {a1 : Int32} {r : Int32} {V' : Vt} (hf : f_X5_bottleIt T V0 o a0 a1 = some (r, V')) : okM l G yX5_bottleIt cX5_bottleIt 4 (some .int) 3 [.ref (gb G + o), .int a0, .int a1] V0 T (some (.int r)) V' T 0 0 := by
  refine ok_intro (by decide) (Nat.le_of_ble_eq_true rfl) ?_
  intro p e s m below meth c ls C hr hnm hw hl
  have hx := C.1
  have hb := C.2.1
  have hown := C.2.2.2.1
  have hts := C.2.2.2.2.1
  have hl : lv_has ls 4 [(0, .ref (gb G + o)), (1, .int a0), (2, .int a1)] := hl
  unfold f_X5_bottleIt at hf
  revert hf
  refine k_req (fun k0 hf => ?_)
  refine lv_aload_n hx hb dX5_bottleIt_0 rfl (lv_at hl 0 rfl) ?_
  refine lv_iload_n hx hb dX5_bottleIt_1 rfl (lv_at hl 1 rfl) ?_
  refine lv_iload_n hx hb dX5_bottleIt_2 rfl (lv_at hl 2 rfl) ?_
  revert hf
  refine k_cal (fun z2 U3 h1 hf => ?_)
  refine w_afi hw (w_rV (As := [.int a0, .int a1]) C hw (ok_X5_takeOut h1) (cw_X5_430 hts (Nat.le_of_ble_eq_true rfl) (Nat.le_of_ble_eq_true rfl)) rfl (by decide) (of_req h1).1 rfl hl.1 rfl (Nat.le_of_ble_eq_true rfl) ⟨Nat.zero_le _, Nat.zero_le _⟩ dX5_bottleIt_3) (fun H locs hw => ?_)
  refine lv_istore_n (lv' := [(3, .int z2), (0, .ref (gb G + o)), (1, .int a0), (2, .int a1)]) hx hb dX5_bottleIt_6 rfl hl (by decide) rfl (fun ls hl => ?_)
  refine lv_aload_n hx hb dX5_bottleIt_7 rfl (lv_at hl 1 rfl) ?_
  revert hf
  refine k_drf (fun r4 er4 hf => ?_)
  refine gf_X5_13 C hw k0 er4 dX5_bottleIt_8 ?_
  refine lv_bipush (v := (9 : Int32)) hx hb dX5_bottleIt_11 (by decide) ?_
  refine lv_aload_n hx hb dX5_bottleIt_13 rfl (lv_at hl 1 rfl) ?_
  revert hf
  refine k_drf (fun r5 er5 hf => ?_)
  refine gf_X5_13 C hw k0 er5 dX5_bottleIt_14 ?_
  refine lv_bipush (v := (9 : Int32)) hx hb dX5_bottleIt_17 (by decide) ?_
  revert hf
  refine k_req (fun h6 hf => ?_)
  refine w_iald C hw h6 rfl dX5_bottleIt_19 ?_
  refine lv_iload_n hx hb dX5_bottleIt_20 rfl (lv_at hl 3 rfl) ?_
  refine lv_iadd hx hb dX5_bottleIt_21 ?_
  refine lv_i2l hx hb dX5_bottleIt_22 rfl ?_
  refine lv_iconst (v := (0 : Int32)) hx hb dX5_bottleIt_23 (by decide) ?_
  refine lv_ldcw (v := (999999 : Int32)) hx hb hown (hts _ q2033) dX5_bottleIt_24 ?_
  revert hf
  refine k_pcl (fun z8 h7 hf => ?_)
  refine w_afi hw (w_rS (As := [.long (Int32.toInt64 ((U3.1 r5 (ixN (9 : Int32))) + a1)), .int (0 : Int32), .int (999999 : Int32)]) C hw (ok_X5_bounded h7) (cw_X5_414 hts (Nat.le_of_ble_eq_true rfl) (Nat.le_of_ble_eq_true rfl)) rfl hl.1 rfl (Nat.le_of_ble_eq_true rfl) ⟨Nat.zero_le _, Nat.zero_le _⟩ dX5_bottleIt_27) (fun H locs hw => ?_)
  revert hf
  refine k_req (fun h9 hf => ?_)
  revert hf
  refine k_stp (fun U10 eU10 hf => ?_)
  refine w_iast C hw h9 eU10 dX5_bottleIt_30 (fun H locs hw => ?_)
  refine lv_aload_n hx hb dX5_bottleIt_31 rfl (lv_at hl 1 rfl) ?_
  refine lv_dup hx hb dX5_bottleIt_32 rfl ?_
  refine gf_X5_444 C hw k0 dX5_bottleIt_33 ?_
  refine lv_iload_n hx hb dX5_bottleIt_36 rfl (lv_at hl 3 rfl) ?_
  refine lv_iadd hx hb dX5_bottleIt_37 ?_
  revert hf
  refine k_stp (fun U11 eU11 hf => ?_)
  refine pf_X5_444 C hw k0 eU11 dX5_bottleIt_38 (fun H locs hw => ?_)
  refine lv_aload_n hx hb dX5_bottleIt_41 rfl (lv_at hl 1 rfl) ?_
  refine lv_iload_n hx hb dX5_bottleIt_42 rfl (lv_at hl 0 rfl) ?_
  refine lv_aload_n hx hb dX5_bottleIt_43 rfl (lv_at hl 1 rfl) ?_
  refine gf_X5_447 C hw k0 dX5_bottleIt_44 ?_
  refine lv_icmp_ge (tgt := 54) hx hb dX5_bottleIt_47 (by decide) (fun c12 => ?_) (fun c12 => ?_)
  · replace hf := ite_t c12 hf
    refine lv_aload_n hx hb dX5_bottleIt_54 rfl (lv_at hl 1 rfl) ?_
    refine gf_X5_447 C hw k0 dX5_bottleIt_55 ?_
    exact jk_X5_bottleIt_58 C hr hf hw (lv_sub hl [0] rfl)
  · replace hf := ite_f c12 hf
    refine lv_iload_n hx hb dX5_bottleIt_50 rfl (lv_at hl 0 rfl) ?_
    refine lv_goto (tgt := 58) hx hb dX5_bottleIt_51 (by decide) ?_
    exact jk_X5_bottleIt_58 C hr hf hw (lv_sub hl [0] rfl)
set_option maxHeartbeats 4000000 in
theorem ok_X5_bottleNow {l : Launch} {G : gG} {T : Tt} {V0 : Vt} {o : Nat} {a0 : Int32} {a1 : Int32} {r : Int32} {V' : Vt} (hf : f_X5_bottleNow T V0 o a0 a1 = some (r, V')) : okM l G yX5_bottleNow cX5_bottleNow 4 (some .int) 10 [.ref (gb G + o), .int a0, .int a1] V0 T (some (.int r)) V' T 0 0 := by
  refine ok_intro (by decide) (Nat.le_of_ble_eq_true rfl) ?_
  intro p e s m below meth c ls C hr hnm hw hl
  have hx := C.1
  have hb := C.2.1
  have hown := C.2.2.2.1
  have hts := C.2.2.2.2.1
  have hl : lv_has ls 4 [(0, .ref (gb G + o)), (1, .int a0), (2, .int a1)] := hl
  unfold f_X5_bottleNow at hf
  revert hf
  refine k_req (fun k0 hf => ?_)
  refine lv_aload_n hx hb dX5_bottleNow_0 rfl (lv_at hl 0 rfl) ?_
  refine lv_iload_n hx hb dX5_bottleNow_1 rfl (lv_at hl 1 rfl) ?_
  refine lv_iload_n hx hb dX5_bottleNow_2 rfl (lv_at hl 2 rfl) ?_
  revert hf
  refine k_cal (fun z2 U3 h1 hf => ?_)
  refine w_afi hw (w_rV (As := [.int a0, .int a1]) C hw (ok_X5_whyNotBottle h1) (cw_X5_450 hts (Nat.le_of_ble_eq_true rfl) (Nat.le_of_ble_eq_true rfl)) rfl (by decide) (of_req h1).1 rfl hl.1 rfl (Nat.le_of_ble_eq_true rfl) ⟨Nat.zero_le _, Nat.zero_le _⟩ dX5_bottleNow_3) (fun H locs hw => ?_)
  refine lv_istore_n (lv' := [(3, .int z2), (0, .ref (gb G + o)), (1, .int a0), (2, .int a1)]) hx hb dX5_bottleNow_6 rfl hl (by decide) rfl (fun ls hl => ?_)
  refine lv_iload_n hx hb dX5_bottleNow_7 rfl (lv_at hl 0 rfl) ?_
  refine lv_if_ge (tgt := 13) hx hb dX5_bottleNow_8 (by decide) (fun c4 => ?_) (fun c4 => ?_)
  · replace hf := ite_t c4 hf
    refine lv_aload_n hx hb dX5_bottleNow_13 rfl (lv_at hl 1 rfl) ?_
    refine lv_iconst (v := (2 : Int32)) hx hb dX5_bottleNow_14 (by decide) ?_
    revert hf
    refine k_pcl (fun U7 h5 hf => ?_)
    refine w_afv hw (w_rV (As := [.int (2 : Int32)]) C hw (ok_X5_remember h5) (cw_X5_421 hts (Nat.le_of_ble_eq_true rfl) (Nat.le_of_ble_eq_true rfl)) rfl (by decide) (of_req h5).1 rfl hl.1 rfl (Nat.le_of_ble_eq_true rfl) ⟨Nat.zero_le _, Nat.zero_le _⟩ dX5_bottleNow_15) (fun H locs hw => ?_)
    refine lv_aload_n hx hb dX5_bottleNow_18 rfl (lv_at hl 1 rfl) ?_
    refine lv_iload_n hx hb dX5_bottleNow_19 rfl (lv_at hl 2 rfl) ?_
    refine lv_iload_n hx hb dX5_bottleNow_20 rfl (lv_at hl 3 rfl) ?_
    revert hf
    refine k_cal (fun z9 U10 h8 hf => ?_)
    refine w_afi hw (w_rV (As := [.int a0, .int a1]) C hw (ok_X5_bottleIt h8) (cw_X5_453 hts (Nat.le_of_ble_eq_true rfl) (Nat.le_of_ble_eq_true rfl)) rfl (by decide) (of_req h8).1 rfl hl.1 rfl (Nat.le_of_ble_eq_true rfl) ⟨Nat.zero_le _, Nat.zero_le _⟩ dX5_bottleNow_21) (fun H locs hw => ?_)
    cases hf
    exact w_iret C hr hw dX5_bottleNow_24
  · replace hf := ite_f c4 hf
    refine lv_iload_n hx hb dX5_bottleNow_11 rfl (lv_at hl 0 rfl) ?_
    cases hf
    exact w_iret C hr hw dX5_bottleNow_12
set_option maxHeartbeats 4000000 in
theorem ok_X5_bottle {l : Launch} {G : gG} {T : Tt} {V0 : Vt} {o : Nat} {a0 : Int32} {a1 : Int32} {r : Int32} {V' : Vt} (hf : f_X5_bottle T V0 o a0 a1 = some (r, V')) : okM l G yX5_bottle cX5_bottle 3 (some .int) 11 [.ref (gb G + o), .int a0, .int a1] V0 T (some (.int r)) V' T 0 0 := by
  refine ok_intro (by decide) (Nat.le_of_ble_eq_true rfl) ?_
  intro p e s m below meth c ls C hr hnm hw hl
  have hx := C.1
  have hb := C.2.1
  have hown := C.2.2.2.1
  have hts := C.2.2.2.2.1
  have hl : lv_has ls 3 [(0, .ref (gb G + o)), (1, .int a0), (2, .int a1)] := hl
  unfold f_X5_bottle at hf
  revert hf
  refine k_req (fun k0 hf => ?_)
  refine lv_aload_n hx hb dX5_bottle_0 rfl (lv_at hl 0 rfl) ?_
  refine lv_iconst (v := (0 : Int32)) hx hb dX5_bottle_1 (by decide) ?_
  revert hf
  refine k_stp (fun U1 eU1 hf => ?_)
  refine pf_X5_133 C hw k0 eU1 dX5_bottle_2 (fun H locs hw => ?_)
  refine lv_aload_n hx hb dX5_bottle_5 rfl (lv_at hl 0 rfl) ?_
  refine lv_aload_n hx hb dX5_bottle_6 rfl (lv_at hl 0 rfl) ?_
  refine lv_iload_n hx hb dX5_bottle_7 rfl (lv_at hl 1 rfl) ?_
  refine lv_iload_n hx hb dX5_bottle_8 rfl (lv_at hl 2 rfl) ?_
  revert hf
  refine k_cal (fun z3 U4 h2 hf => ?_)
  refine w_afi hw (w_rV (As := [.int a0, .int a1]) C hw (ok_X5_bottleNow h2) (cw_X5_456 hts (Nat.le_of_ble_eq_true rfl) (Nat.le_of_ble_eq_true rfl)) rfl (by decide) (of_req h2).1 rfl hl.1 rfl (Nat.le_of_ble_eq_true rfl) ⟨Nat.zero_le _, Nat.zero_le _⟩ dX5_bottle_9) (fun H locs hw => ?_)
  revert hf
  refine k_cal (fun z6 U7 h5 hf => ?_)
  refine w_afi hw (w_rV (As := [.int z3]) C hw (ok_X5_tell h5) (cw_X5_142 hts (Nat.le_of_ble_eq_true rfl) (Nat.le_of_ble_eq_true rfl)) rfl (by decide) (of_req h5).1 rfl hl.1 rfl (Nat.le_of_ble_eq_true rfl) ⟨Nat.zero_le _, Nat.zero_le _⟩ dX5_bottle_12) (fun H locs hw => ?_)
  cases hf
  exact w_iret C hr hw dX5_bottle_15
set_option maxHeartbeats 4000000 in
theorem lk_X5_passIt_115 {l : Launch} {G : gG} {p : Program} {e : Env} {s : State} {m : MethodId} {args : Array Value} {below : List Frame} {meth : Method} {c : Code} {T : Tt} {r : Int32} {V' : Vt} (C : Cx G p s m args meth c cX5_passIt RX5 7) (hr : meth.sig.returnType = (some .int)) {x0 : Nat} {x1 : Int32} {x2 : Int32} {x4 : Int32} {kc4 : Int32 → Int32 → Vt → Option (Int32 × Vt)} {kx4_162 : Int32 → Vt → Option (Int32 × Vt)} {kx115_148 : Vt → Option (Int32 × Vt)} (k0 : T.1 x0 = 6) (hkc4 : ∀ (y1 : Int32) (y2 : Int32) (W1 : Vt) (H : Heap) (locs : List Loc) (ls : Array Slot), kc4 y1 y2 W1 = some (r, V') → wS G W1 T H locs → lv_has ls 7 [(0, .ref (gb G + x0)), (1, .int y1), (2, .int y2)] → W p l e (rmL 9 0 0) s m args below meth c H locs 0 0 (eQ G below (some (.int r)) V' T args s 0 0) (F0 m 4 ls [])) (hkx4_162 : ∀ (y1 : Int32) (W1 : Vt) (H : Heap) (locs : List Loc) (ls : Array Slot), kx4_162 y1 W1 = some (r, V') → wS G W1 T H locs → lv_has ls 7 [(0, .ref (gb G + x0)), (1, .int y1)] → W p l e (rmL 9 0 0) s m args below meth c H locs 0 0 (eQ G below (some (.int r)) V' T args s 0 0) (F0 m 162 ls [])) (hkx115_148 : ∀ (W1 : Vt) (H : Heap) (locs : List Loc) (ls : Array Slot), kx115_148 W1 = some (r, V') → wS G W1 T H locs → lv_has ls 7 [(0, .ref (gb G + x0)), (1, .int x1), (2, .int x2), (4, .int x4)] → W p l e (rmL 9 0 0) s m args below meth c H locs 0 0 (eQ G below (some (.int r)) V' T args s 0 0) (F0 m 148 ls [])) : ∀ (n : Nat) (x5 : Int32) (V1 : Vt) (H : Heap) (locs : List Loc) (ls : Array Slot), f_X5_passIt_L115 T x0 x1 x2 x4 kc4 kx4_162 kx115_148 n x5 V1 = some (r, V') → wS G V1 T H locs → lv_has ls 7 [(0, .ref (gb G + x0)), (1, .int x1), (2, .int x2), (4, .int x4), (5, .int x5)] → W p l e (rmL 9 0 0) s m args below meth c H locs 0 0 (eQ G below (some (.int r)) V' T args s 0 0) (F0 m 115 ls []) := by
  have hx := C.1
  have hb := C.2.1
  have hown := C.2.2.2.1
  have hts := C.2.2.2.2.1
  intro n
  induction n with
  | zero =>
    intro x5 V1 H locs ls hf
    cases hf
  | succ n ih =>
    intro x5 V1 H locs ls hf hw hl
    unfold f_X5_passIt_L115 at hf
    refine lv_iload hx hb dX5_passIt_115 (lv_at hl 4 rfl) ?_
    refine lv_if_le (tgt := 148) hx hb dX5_passIt_117 (by decide) (fun c26 => ?_) (fun c26 => ?_)
    · replace hf := ite_t c26 hf
      exact hkx115_148 _ _ _ _ hf hw (lv_sub hl [0, 1, 2, 3] rfl)
    · replace hf := ite_f c26 hf
      refine lv_aload_n hx hb dX5_passIt_120 rfl (lv_at hl 0 rfl) ?_
      revert hf
      refine k_drf (fun r27 er27 hf => ?_)
      refine gf_X5_13 C hw k0 er27 dX5_passIt_121 ?_
      refine lv_iload hx hb dX5_passIt_124 (lv_at hl 3 rfl) ?_
      refine lv_iload hx hb dX5_passIt_126 (lv_at hl 4 rfl) ?_
      refine lv_iadd hx hb dX5_passIt_128 ?_
      refine lv_aload_n hx hb dX5_passIt_129 rfl (lv_at hl 0 rfl) ?_
      revert hf
      refine k_drf (fun r28 er28 hf => ?_)
      refine gf_X5_13 C hw k0 er28 dX5_passIt_130 ?_
      refine lv_iload hx hb dX5_passIt_133 (lv_at hl 3 rfl) ?_
      refine lv_iload hx hb dX5_passIt_135 (lv_at hl 4 rfl) ?_
      refine lv_iadd hx hb dX5_passIt_137 ?_
      refine lv_iconst (v := (1 : Int32)) hx hb dX5_passIt_138 (by decide) ?_
      refine lv_isub hx hb dX5_passIt_139 ?_
      revert hf
      refine k_req (fun h29 hf => ?_)
      refine w_iald C hw h29 rfl dX5_passIt_140 ?_
      revert hf
      refine k_req (fun h30 hf => ?_)
      revert hf
      refine k_stp (fun U31 eU31 hf => ?_)
      refine w_iast C hw h30 eU31 dX5_passIt_141 (fun H locs hw => ?_)
      revert hf
      refine k_stp (fun z32 ez32 hf => ?_)
      refine lv_iinc (k := 4) (lv' := [(5, .int z32), (0, .ref (gb G + x0)), (1, .int x1), (2, .int x2), (4, .int x4)]) hx hb dX5_passIt_142 hl rfl (inc_e (by decide) ez32) (by decide) rfl (fun ls hl => ?_)
      refine lv_goto (tgt := 115) hx hb dX5_passIt_145 (by decide) ?_
      exact ih _ _ _ _ _ hf hw (lv_sub hl [1, 2, 3, 4, 0] rfl)
set_option maxHeartbeats 4000000 in
theorem lk_X5_passIt_32 {l : Launch} {G : gG} {p : Program} {e : Env} {s : State} {m : MethodId} {args : Array Value} {below : List Frame} {meth : Method} {c : Code} {T : Tt} {r : Int32} {V' : Vt} (C : Cx G p s m args meth c cX5_passIt RX5 7) (hr : meth.sig.returnType = (some .int)) {x0 : Nat} {x2 : Int32} {x3 : Int32} {x4 : Int32} {kc4 : Int32 → Int32 → Vt → Option (Int32 × Vt)} {kx4_162 : Int32 → Vt → Option (Int32 × Vt)} {kx32_86 : Int32 → Vt → Option (Int32 × Vt)} (k0 : T.1 x0 = 6) (hkc4 : ∀ (y1 : Int32) (y2 : Int32) (W1 : Vt) (H : Heap) (locs : List Loc) (ls : Array Slot), kc4 y1 y2 W1 = some (r, V') → wS G W1 T H locs → lv_has ls 7 [(0, .ref (gb G + x0)), (1, .int y1), (2, .int y2)] → W p l e (rmL 9 0 0) s m args below meth c H locs 0 0 (eQ G below (some (.int r)) V' T args s 0 0) (F0 m 4 ls [])) (hkx4_162 : ∀ (y1 : Int32) (W1 : Vt) (H : Heap) (locs : List Loc) (ls : Array Slot), kx4_162 y1 W1 = some (r, V') → wS G W1 T H locs → lv_has ls 7 [(0, .ref (gb G + x0)), (1, .int y1)] → W p l e (rmL 9 0 0) s m args below meth c H locs 0 0 (eQ G below (some (.int r)) V' T args s 0 0) (F0 m 162 ls [])) (hkx32_86 : ∀ (y1 : Int32) (W1 : Vt) (H : Heap) (locs : List Loc) (ls : Array Slot), kx32_86 y1 W1 = some (r, V') → wS G W1 T H locs → lv_has ls 7 [(0, .ref (gb G + x0)), (1, .int y1), (2, .int x2), (4, .int x4)] → W p l e (rmL 9 0 0) s m args below meth c H locs 0 0 (eQ G below (some (.int r)) V' T args s 0 0) (F0 m 86 ls [])) : ∀ (n : Nat) (x1 : Int32) (x5 : Int32) (V1 : Vt) (H : Heap) (locs : List Loc) (ls : Array Slot), f_X5_passIt_L32 T x0 x2 x3 x4 kc4 kx4_162 kx32_86 n x1 x5 V1 = some (r, V') → wS G V1 T H locs → lv_has ls 7 [(0, .ref (gb G + x0)), (1, .int x1), (2, .int x2), (3, .int x3), (4, .int x4), (5, .int x5)] → W p l e (rmL 9 0 0) s m args below meth c H locs 0 0 (eQ G below (some (.int r)) V' T args s 0 0) (F0 m 32 ls []) := by
  have hx := C.1
  have hb := C.2.1
  have hown := C.2.2.2.1
  have hts := C.2.2.2.2.1
  intro n
  induction n with
  | zero =>
    intro x1 x5 V1 H locs ls hf
    cases hf
  | succ n ih =>
    intro x1 x5 V1 H locs ls hf hw hl
    unfold f_X5_passIt_L32 at hf
    refine lv_iload hx hb dX5_passIt_32 (lv_at hl 5 rfl) ?_
    refine lv_bipush (v := (20 : Int32)) hx hb dX5_passIt_34 (by decide) ?_
    refine lv_icmp_ge (tgt := 86) hx hb dX5_passIt_36 (by decide) (fun c8 => ?_) (fun c8 => ?_)
    · replace hf := ite_t c8 hf
      exact hkx32_86 _ _ _ _ _ hf hw (lv_sub hl [0, 1, 2, 4] rfl)
    · replace hf := ite_f c8 hf
      refine lv_aload_n hx hb dX5_passIt_39 rfl (lv_at hl 0 rfl) ?_
      revert hf
      refine k_drf (fun r9 er9 hf => ?_)
      refine gf_X5_13 C hw k0 er9 dX5_passIt_40 ?_
      refine lv_iload hx hb dX5_passIt_43 (lv_at hl 4 rfl) ?_
      refine lv_iload hx hb dX5_passIt_45 (lv_at hl 5 rfl) ?_
      refine lv_iadd hx hb dX5_passIt_47 ?_
      revert hf
      refine k_req (fun h10 hf => ?_)
      refine w_iald C hw h10 rfl dX5_passIt_48 ?_
      refine lv_i2l hx hb dX5_passIt_49 rfl ?_
      refine lv_iload_n hx hb dX5_passIt_50 rfl (lv_at hl 3 rfl) ?_
      refine lv_i2l hx hb dX5_passIt_51 rfl ?_
      refine lv_lmul hx hb dX5_passIt_52 ?_
      refine lv_ldc2 (v := (1000 : Int64)) hx hb hown (hts _ q1750) dX5_passIt_53 ?_
      refine lv_ldiv hx hb dX5_passIt_56 (by decide) ?_
      refine lv_l2i hx hb dX5_passIt_57 rfl ?_
      revert hf
      refine k_stp (fun z11 ez11 hf => ?_)
      refine w_nmI ez11 ?_
      refine lv_istore (lv' := [(6, .int z11), (0, .ref (gb G + x0)), (1, .int x1), (2, .int x2), (3, .int x3), (4, .int x4), (5, .int x5)]) hx hb dX5_passIt_58 hl (by decide) rfl (fun ls hl => ?_)
      refine lv_aload_n hx hb dX5_passIt_60 rfl (lv_at hl 1 rfl) ?_
      revert hf
      refine k_drf (fun r12 er12 hf => ?_)
      refine gf_X5_13 C hw k0 er12 dX5_passIt_61 ?_
      refine lv_iload hx hb dX5_passIt_64 (lv_at hl 5 rfl) ?_
      refine lv_iload hx hb dX5_passIt_66 (lv_at hl 6 rfl) ?_
      refine lv_iadd hx hb dX5_passIt_68 ?_
      refine lv_dup2_11 hx hb dX5_passIt_69 rfl rfl ?_
      revert hf
      refine k_req (fun h13 hf => ?_)
      refine w_iald C hw h13 rfl dX5_passIt_70 ?_
      refine lv_iload hx hb dX5_passIt_71 (lv_at hl 0 rfl) ?_
      refine lv_isub hx hb dX5_passIt_73 ?_
      revert hf
      refine k_req (fun h14 hf => ?_)
      revert hf
      refine k_stp (fun U15 eU15 hf => ?_)
      refine w_iast C hw h14 eU15 dX5_passIt_74 (fun H locs hw => ?_)
      refine lv_iload_n hx hb dX5_passIt_75 rfl (lv_at hl 2 rfl) ?_
      refine lv_iload hx hb dX5_passIt_76 (lv_at hl 0 rfl) ?_
      refine lv_iadd hx hb dX5_passIt_78 ?_
      revert hf
      refine k_stp (fun z16 ez16 hf => ?_)
      refine w_nmI ez16 ?_
      refine lv_istore_n (lv' := [(1, .int z16), (6, .int z11), (0, .ref (gb G + x0)), (2, .int x2), (3, .int x3), (4, .int x4), (5, .int x5)]) hx hb dX5_passIt_79 rfl hl (by decide) rfl (fun ls hl => ?_)
      revert hf
      refine k_stp (fun z17 ez17 hf => ?_)
      refine lv_iinc (k := 6) (lv' := [(5, .int z17), (1, .int z16), (6, .int z11), (0, .ref (gb G + x0)), (2, .int x2), (3, .int x3), (4, .int x4)]) hx hb dX5_passIt_80 hl rfl (inc_e (by decide) ez17) (by decide) rfl (fun ls hl => ?_)
      refine lv_goto (tgt := 32) hx hb dX5_passIt_83 (by decide) ?_
      exact ih _ _ _ _ _ _ hf hw (lv_sub hl [3, 1, 4, 5, 6, 0] rfl)
set_option maxHeartbeats 4000000 in
theorem lk_X5_passIt_4 {l : Launch} {G : gG} {p : Program} {e : Env} {s : State} {m : MethodId} {args : Array Value} {below : List Frame} {meth : Method} {c : Code} {T : Tt} {r : Int32} {V' : Vt} (C : Cx G p s m args meth c cX5_passIt RX5 7) (hr : meth.sig.returnType = (some .int)) {x0 : Nat} {kx4_162 : Int32 → Vt → Option (Int32 × Vt)} (k0 : T.1 x0 = 6) (hkx4_162 : ∀ (y1 : Int32) (W1 : Vt) (H : Heap) (locs : List Loc) (ls : Array Slot), kx4_162 y1 W1 = some (r, V') → wS G W1 T H locs → lv_has ls 7 [(0, .ref (gb G + x0)), (1, .int y1)] → W p l e (rmL 9 0 0) s m args below meth c H locs 0 0 (eQ G below (some (.int r)) V' T args s 0 0) (F0 m 162 ls [])) : ∀ (n : Nat) (x1 : Int32) (x2 : Int32) (V1 : Vt) (H : Heap) (locs : List Loc) (ls : Array Slot), f_X5_passIt_L4 T x0 kx4_162 n x1 x2 V1 = some (r, V') → wS G V1 T H locs → lv_has ls 7 [(0, .ref (gb G + x0)), (1, .int x1), (2, .int x2)] → W p l e (rmL 9 0 0) s m args below meth c H locs 0 0 (eQ G below (some (.int r)) V' T args s 0 0) (F0 m 4 ls []) := by
  have hx := C.1
  have hb := C.2.1
  have hown := C.2.2.2.1
  have hts := C.2.2.2.2.1
  intro n
  induction n with
  | zero =>
    intro x1 x2 V1 H locs ls hf
    cases hf
  | succ n ih =>
    intro x1 x2 V1 H locs ls hf hw hl
    unfold f_X5_passIt_L4 at hf
    refine lv_iload_n hx hb dX5_passIt_4 rfl (lv_at hl 2 rfl) ?_
    refine lv_aload_n hx hb dX5_passIt_5 rfl (lv_at hl 0 rfl) ?_
    revert hf
    refine k_drf (fun r1 er1 hf => ?_)
    refine gf_X5_13 C hw k0 er1 dX5_passIt_6 ?_
    refine lv_iconst (v := (0 : Int32)) hx hb dX5_passIt_9 (by decide) ?_
    revert hf
    refine k_req (fun h2 hf => ?_)
    refine w_iald C hw h2 rfl dX5_passIt_10 ?_
    refine lv_icmp_ge (tgt := 162) hx hb dX5_passIt_11 (by decide) (fun c3 => ?_) (fun c3 => ?_)
    · replace hf := ite_t c3 hf
      exact hkx4_162 _ _ _ _ _ hf hw (lv_sub hl [0, 1] rfl)
    · replace hf := ite_f c3 hf
      refine lv_aload_n hx hb dX5_passIt_14 rfl (lv_at hl 0 rfl) ?_
      refine lv_iload_n hx hb dX5_passIt_15 rfl (lv_at hl 2 rfl) ?_
      revert hf
      refine k_cal (fun z5 U6 h4 hf => ?_)
      refine w_afi hw (w_rV (As := [.int x2]) C hw (ok_X5_losesOf h4) (cw_X5_191 hts (Nat.le_of_ble_eq_true rfl) (Nat.le_of_ble_eq_true rfl)) rfl (by decide) (of_req h4).1 rfl hl.1 rfl (Nat.le_of_ble_eq_true rfl) ⟨Nat.zero_le _, Nat.zero_le _⟩ dX5_passIt_16) (fun H locs hw => ?_)
      refine lv_istore_n (lv' := [(3, .int z5), (0, .ref (gb G + x0)), (1, .int x1), (2, .int x2)]) hx hb dX5_passIt_19 rfl hl (by decide) rfl (fun ls hl => ?_)
      refine lv_bipush (v := (10 : Int32)) hx hb dX5_passIt_20 (by decide) ?_
      refine lv_bipush (v := (20 : Int32)) hx hb dX5_passIt_22 (by decide) ?_
      refine lv_iload_n hx hb dX5_passIt_24 rfl (lv_at hl 3 rfl) ?_
      refine lv_imul hx hb dX5_passIt_25 ?_
      refine lv_iadd hx hb dX5_passIt_26 ?_
      revert hf
      refine k_stp (fun z7 ez7 hf => ?_)
      refine w_nmI ez7 ?_
      refine lv_istore (lv' := [(4, .int z7), (3, .int z5), (0, .ref (gb G + x0)), (1, .int x1), (2, .int x2)]) hx hb dX5_passIt_27 hl (by decide) rfl (fun ls hl => ?_)
      refine lv_iconst (v := (0 : Int32)) hx hb dX5_passIt_29 (by decide) ?_
      refine lv_istore (lv' := [(5, .int (0 : Int32)), (4, .int z7), (3, .int z5), (0, .ref (gb G + x0)), (1, .int x1), (2, .int x2)]) hx hb dX5_passIt_30 hl (by decide) rfl (fun ls hl => ?_)
      refine lk_X5_passIt_32 C hr k0 ih hkx4_162 (fun z18 U19 H locs ls hf hw hl => ?_) fuel _ _ _ _ _ _ hf hw (lv_sub hl [3, 4, 5, 2, 1, 0] rfl)
      refine lv_aload_n hx hb dX5_passIt_86 rfl (lv_at hl 0 rfl) ?_
      revert hf
      refine k_drf (fun r20 er20 hf => ?_)
      refine gf_X5_13 C hw k0 er20 dX5_passIt_87 ?_
      refine lv_iload hx hb dX5_passIt_90 (lv_at hl 3 rfl) ?_
      refine lv_bipush (v := (19 : Int32)) hx hb dX5_passIt_92 (by decide) ?_
      refine lv_iadd hx hb dX5_passIt_94 ?_
      refine lv_dup2_11 hx hb dX5_passIt_95 rfl rfl ?_
      revert hf
      refine k_req (fun h21 hf => ?_)
      refine w_iald C hw h21 rfl dX5_passIt_96 ?_
      refine lv_aload_n hx hb dX5_passIt_97 rfl (lv_at hl 0 rfl) ?_
      revert hf
      refine k_drf (fun r22 er22 hf => ?_)
      refine gf_X5_13 C hw k0 er22 dX5_passIt_98 ?_
      refine lv_iload hx hb dX5_passIt_101 (lv_at hl 3 rfl) ?_
      refine lv_bipush (v := (19 : Int32)) hx hb dX5_passIt_103 (by decide) ?_
      refine lv_iadd hx hb dX5_passIt_105 ?_
      refine lv_iconst (v := (1 : Int32)) hx hb dX5_passIt_106 (by decide) ?_
      refine lv_isub hx hb dX5_passIt_107 ?_
      revert hf
      refine k_req (fun h23 hf => ?_)
      refine w_iald C hw h23 rfl dX5_passIt_108 ?_
      refine lv_iadd hx hb dX5_passIt_109 ?_
      revert hf
      refine k_req (fun h24 hf => ?_)
      revert hf
      refine k_stp (fun U25 eU25 hf => ?_)
      refine w_iast C hw h24 eU25 dX5_passIt_110 (fun H locs hw => ?_)
      refine lv_bipush (v := (18 : Int32)) hx hb dX5_passIt_111 (by decide) ?_
      refine lv_istore (lv' := [(5, .int (18 : Int32)), (0, .ref (gb G + x0)), (1, .int z18), (2, .int x2), (4, .int z7)]) hx hb dX5_passIt_113 hl (by decide) rfl (fun ls hl => ?_)
      refine lk_X5_passIt_115 C hr k0 ih hkx4_162 (fun U33 H locs ls hf hw hl => ?_) fuel _ _ _ _ _ hf hw (lv_sub hl [1, 2, 3, 4, 0] rfl)
      refine lv_aload_n hx hb dX5_passIt_148 rfl (lv_at hl 0 rfl) ?_
      revert hf
      refine k_drf (fun r34 er34 hf => ?_)
      refine gf_X5_13 C hw k0 er34 dX5_passIt_149 ?_
      refine lv_iload hx hb dX5_passIt_152 (lv_at hl 3 rfl) ?_
      refine lv_iconst (v := (0 : Int32)) hx hb dX5_passIt_154 (by decide) ?_
      revert hf
      refine k_req (fun h35 hf => ?_)
      revert hf
      refine k_stp (fun U36 eU36 hf => ?_)
      refine w_iast C hw h35 eU36 dX5_passIt_155 (fun H locs hw => ?_)
      revert hf
      refine k_stp (fun z37 ez37 hf => ?_)
      refine lv_iinc (k := 2) (lv' := [(2, .int z37), (0, .ref (gb G + x0)), (1, .int z18), (4, .int z7)]) hx hb dX5_passIt_156 hl rfl (inc_e (by decide) ez37) (by decide) rfl (fun ls hl => ?_)
      refine lv_goto (tgt := 4) hx hb dX5_passIt_159 (by decide) ?_
      exact ih _ _ _ _ _ _ hf hw (lv_sub hl [1, 2, 0] rfl)
set_option maxHeartbeats 4000000 in
theorem ok_X5_passIt {l : Launch} {G : gG} {T : Tt} {V0 : Vt} {o : Nat} {r : Int32} {V' : Vt} (hf : f_X5_passIt T V0 o = some (r, V')) : okM l G yX5_passIt cX5_passIt 7 (some .int) 9 [.ref (gb G + o)] V0 T (some (.int r)) V' T 0 0 := by
  refine ok_intro (by decide) (Nat.le_of_ble_eq_true rfl) ?_
  intro p e s m below meth c ls C hr hnm hw hl
  have hx := C.1
  have hb := C.2.1
  have hown := C.2.2.2.1
  have hts := C.2.2.2.2.1
  have hl : lv_has ls 7 [(0, .ref (gb G + o))] := hl
  unfold f_X5_passIt at hf
  revert hf
  refine k_req (fun k0 hf => ?_)
  refine lv_iconst (v := (0 : Int32)) hx hb dX5_passIt_0 (by decide) ?_
  refine lv_istore_n (lv' := [(1, .int (0 : Int32)), (0, .ref (gb G + o))]) hx hb dX5_passIt_1 rfl hl (by decide) rfl (fun ls hl => ?_)
  refine lv_iconst (v := (0 : Int32)) hx hb dX5_passIt_2 (by decide) ?_
  refine lv_istore_n (lv' := [(2, .int (0 : Int32)), (1, .int (0 : Int32)), (0, .ref (gb G + o))]) hx hb dX5_passIt_3 rfl hl (by decide) rfl (fun ls hl => ?_)
  refine lk_X5_passIt_4 C hr k0 (fun z38 U39 H locs ls hf hw hl => ?_) fuel _ _ _ _ _ _ hf hw (lv_sub hl [2, 1, 0] rfl)
  refine lv_aload_n hx hb dX5_passIt_162 rfl (lv_at hl 0 rfl) ?_
  revert hf
  refine k_drf (fun r40 er40 hf => ?_)
  refine gf_X5_13 C hw k0 er40 dX5_passIt_163 ?_
  refine lv_iconst (v := (5 : Int32)) hx hb dX5_passIt_166 (by decide) ?_
  refine lv_dup2_11 hx hb dX5_passIt_167 rfl rfl ?_
  revert hf
  refine k_req (fun h41 hf => ?_)
  refine w_iald C hw h41 rfl dX5_passIt_168 ?_
  refine lv_iconst (v := (1 : Int32)) hx hb dX5_passIt_169 (by decide) ?_
  refine lv_iadd hx hb dX5_passIt_170 ?_
  revert hf
  refine k_req (fun h42 hf => ?_)
  revert hf
  refine k_stp (fun U43 eU43 hf => ?_)
  refine w_iast C hw h42 eU43 dX5_passIt_171 (fun H locs hw => ?_)
  refine lv_iload_n hx hb dX5_passIt_172 rfl (lv_at hl 1 rfl) ?_
  cases hf
  exact w_iret C hr hw dX5_passIt_173
set_option maxHeartbeats 4000000 in
theorem ok_X5_passNow {l : Launch} {G : gG} {T : Tt} {V0 : Vt} {o : Nat} {r : Int32} {V' : Vt} (hf : f_X5_passNow T V0 o = some (r, V')) : okM l G yX5_passNow cX5_passNow 1 (some .int) 10 [.ref (gb G + o)] V0 T (some (.int r)) V' T 0 0 := by
  refine ok_intro (by decide) (Nat.le_of_ble_eq_true rfl) ?_
  intro p e s m below meth c ls C hr hnm hw hl
  have hx := C.1
  have hb := C.2.1
  have hown := C.2.2.2.1
  have hts := C.2.2.2.2.1
  have hl : lv_has ls 1 [(0, .ref (gb G + o))] := hl
  unfold f_X5_passNow at hf
  revert hf
  refine k_req (fun k0 hf => ?_)
  refine lv_aload_n hx hb dX5_passNow_0 rfl (lv_at hl 0 rfl) ?_
  revert hf
  refine k_drf (fun r1 er1 hf => ?_)
  refine gf_X5_13 C hw k0 er1 dX5_passNow_1 ?_
  refine lv_iconst (v := (5 : Int32)) hx hb dX5_passNow_4 (by decide) ?_
  revert hf
  refine k_req (fun h2 hf => ?_)
  refine w_iald C hw h2 rfl dX5_passNow_5 ?_
  refine lv_sipush (v := (999 : Int32)) hx hb dX5_passNow_6 (by decide) ?_
  refine lv_icmp_ne (tgt := 15) hx hb dX5_passNow_9 (by decide) (fun c3 => ?_) (fun c3 => ?_)
  · replace hf := ite_f c3 hf
    refine lv_aload_n hx hb dX5_passNow_15 rfl (lv_at hl 0 rfl) ?_
    refine lv_iconst (v := (3 : Int32)) hx hb dX5_passNow_16 (by decide) ?_
    revert hf
    refine k_pcl (fun U6 h4 hf => ?_)
    refine w_afv hw (w_rV (As := [.int (3 : Int32)]) C hw (ok_X5_remember h4) (cw_X5_421 hts (Nat.le_of_ble_eq_true rfl) (Nat.le_of_ble_eq_true rfl)) rfl (by decide) (of_req h4).1 rfl hl.1 rfl (Nat.le_of_ble_eq_true rfl) ⟨Nat.zero_le _, Nat.zero_le _⟩ dX5_passNow_17) (fun H locs hw => ?_)
    refine lv_aload_n hx hb dX5_passNow_20 rfl (lv_at hl 0 rfl) ?_
    revert hf
    refine k_cal (fun z8 U9 h7 hf => ?_)
    refine w_afi hw (w_rV (As := []) C hw (ok_X5_passIt h7) (cw_X5_459 hts (Nat.le_of_ble_eq_true rfl) (Nat.le_of_ble_eq_true rfl)) rfl (by decide) (of_req h7).1 rfl hl.1 rfl (Nat.le_of_ble_eq_true rfl) ⟨Nat.zero_le _, Nat.zero_le _⟩ dX5_passNow_21) (fun H locs hw => ?_)
    cases hf
    exact w_iret C hr hw dX5_passNow_24
  · replace hf := ite_t c3 hf
    refine lv_bipush (v := ((-3) : Int32)) hx hb dX5_passNow_12 (by decide) ?_
    cases hf
    exact w_iret C hr hw dX5_passNow_14
set_option maxHeartbeats 4000000 in
theorem ok_X5_pass {l : Launch} {G : gG} {T : Tt} {V0 : Vt} {o : Nat} {r : Int32} {V' : Vt} (hf : f_X5_pass T V0 o = some (r, V')) : okM l G yX5_pass cX5_pass 1 (some .int) 11 [.ref (gb G + o)] V0 T (some (.int r)) V' T 0 0 := by
  refine ok_intro (by decide) (Nat.le_of_ble_eq_true rfl) ?_
  intro p e s m below meth c ls C hr hnm hw hl
  have hx := C.1
  have hb := C.2.1
  have hown := C.2.2.2.1
  have hts := C.2.2.2.2.1
  have hl : lv_has ls 1 [(0, .ref (gb G + o))] := hl
  unfold f_X5_pass at hf
  revert hf
  refine k_req (fun k0 hf => ?_)
  refine lv_aload_n hx hb dX5_pass_0 rfl (lv_at hl 0 rfl) ?_
  refine lv_iconst (v := (0 : Int32)) hx hb dX5_pass_1 (by decide) ?_
  revert hf
  refine k_stp (fun U1 eU1 hf => ?_)
  refine pf_X5_133 C hw k0 eU1 dX5_pass_2 (fun H locs hw => ?_)
  refine lv_aload_n hx hb dX5_pass_5 rfl (lv_at hl 0 rfl) ?_
  refine lv_aload_n hx hb dX5_pass_6 rfl (lv_at hl 0 rfl) ?_
  revert hf
  refine k_cal (fun z3 U4 h2 hf => ?_)
  refine w_afi hw (w_rV (As := []) C hw (ok_X5_passNow h2) (cw_X5_462 hts (Nat.le_of_ble_eq_true rfl) (Nat.le_of_ble_eq_true rfl)) rfl (by decide) (of_req h2).1 rfl hl.1 rfl (Nat.le_of_ble_eq_true rfl) ⟨Nat.zero_le _, Nat.zero_le _⟩ dX5_pass_7) (fun H locs hw => ?_)
  revert hf
  refine k_cal (fun z6 U7 h5 hf => ?_)
  refine w_afi hw (w_rV (As := [.int z3]) C hw (ok_X5_tell h5) (cw_X5_142 hts (Nat.le_of_ble_eq_true rfl) (Nat.le_of_ble_eq_true rfl)) rfl (by decide) (of_req h5).1 rfl hl.1 rfl (Nat.le_of_ble_eq_true rfl) ⟨Nat.zero_le _, Nat.zero_le _⟩ dX5_pass_10) (fun H locs hw => ?_)
  cases hf
  exact w_iret C hr hw dX5_pass_13
set_option maxHeartbeats 4000000 in
theorem jk_X5_readSum_22 {l : Launch} {G : gG} {p : Program} {e : Env} {s : State} {m : MethodId} {args : Array Value} {below : List Frame} {meth : Method} {c : Code} {T : Tt} {V0 : Vt} {V' : Vt} (C : Cx G p s m args meth c cX5_readSum RX5 2) (hr : meth.sig.returnType = none) {x0 : Nat} {x1 : Int32} {H : Heap} {locs : List Loc} {ls : Array Slot} (k0 : T.1 x0 = 6) (hf : f_X5_readSum_J22 T V0 x0 x1 = some V') (hw : wS G V0 T H locs) (hl : lv_has ls 2 [(0, .ref (gb G + x0)), (1, .int x1)]) : W p l e (rmL 7 0 0) s m args below meth c H locs 0 0 (eQ G below none V' T args s 0 0) (F0 m 22 ls []) := by
  have hx := C.1
  have hb := C.2.1
  have hown := C.2.2.2.1
  have hts := C.2.2.2.2.1
  unfold f_X5_readSum_J22 at hf
  refine lv_aload_n hx hb dX5_readSum_22 rfl (lv_at hl 0 rfl) ?_
  revert hf
  refine k_drf (fun r5 er5 hf => ?_)
  refine gf_X5_118 C hw k0 er5 dX5_readSum_23 ?_
  refine lv_iload_n hx hb dX5_readSum_26 rfl (lv_at hl 1 rfl) ?_
  refine lv_iconst (v := (1 : Int32)) hx hb dX5_readSum_27 (by decide) ?_
  refine lv_iadd hx hb dX5_readSum_28 ?_
  refine lv_aload_n hx hb dX5_readSum_29 rfl (lv_at hl 0 rfl) ?_
  refine gf_X5_264 C hw k0 dX5_readSum_30 ?_
  revert hf
  refine k_req (fun h6 hf => ?_)
  revert hf
  refine k_stp (fun U7 eU7 hf => ?_)
  refine w_iast C hw h6 eU7 dX5_readSum_33 (fun H locs hw => ?_)
  cases hf
  exact w_vret C hr hw dX5_readSum_34
set_option maxHeartbeats 4000000 in
theorem ok_X5_readSum {l : Launch} {G : gG} {T : Tt} {V0 : Vt} {o : Nat} {a0 : Int32} {V' : Vt} (hf : f_X5_readSum T V0 o a0 = some V') : okM l G yX5_readSum cX5_readSum 2 none 7 [.ref (gb G + o), .int a0] V0 T none V' T 0 0 := by
  refine ok_intro (by decide) (Nat.le_of_ble_eq_true rfl) ?_
  intro p e s m below meth c ls C hr hnm hw hl
  have hx := C.1
  have hb := C.2.1
  have hown := C.2.2.2.1
  have hts := C.2.2.2.2.1
  have hl : lv_has ls 2 [(0, .ref (gb G + o)), (1, .int a0)] := hl
  unfold f_X5_readSum at hf
  revert hf
  refine k_req (fun k0 hf => ?_)
  refine lv_aload_n hx hb dX5_readSum_0 rfl (lv_at hl 0 rfl) ?_
  revert hf
  refine k_drf (fun r1 er1 hf => ?_)
  refine gf_X5_118 C hw k0 er1 dX5_readSum_1 ?_
  refine lv_iload_n hx hb dX5_readSum_4 rfl (lv_at hl 1 rfl) ?_
  refine lv_aload_n hx hb dX5_readSum_5 rfl (lv_at hl 0 rfl) ?_
  refine gf_X5_264 C hw k0 dX5_readSum_6 ?_
  revert hf
  refine k_req (fun h2 hf => ?_)
  revert hf
  refine k_stp (fun U3 eU3 hf => ?_)
  refine w_iast C hw h2 eU3 dX5_readSum_9 (fun H locs hw => ?_)
  refine lv_aload_n hx hb dX5_readSum_10 rfl (lv_at hl 0 rfl) ?_
  refine gf_X5_229 C hw k0 dX5_readSum_11 ?_
  refine lv_if_ne (tgt := 22) hx hb dX5_readSum_14 (by decide) (fun c4 => ?_) (fun c4 => ?_)
  · replace hf := ite_f c4 hf
    exact jk_X5_readSum_22 C hr k0 hf hw (lv_sub hl [0, 1] rfl)
  · replace hf := ite_t c4 hf
    refine lv_aload_n hx hb dX5_readSum_17 rfl (lv_at hl 0 rfl) ?_
    refine lv_iconst (v := (0 : Int32)) hx hb dX5_readSum_18 (by decide) ?_
    revert hf
    refine k_pcl (fun U10 h8 hf => ?_)
    refine w_afv hw (w_rV (As := [.int (0 : Int32)]) C hw (ok_X5_readExpression h8) (cw_X5_357 hts (Nat.le_of_ble_eq_true rfl) (Nat.le_of_ble_eq_true rfl)) rfl (by decide) (of_req h8).1 rfl hl.1 rfl (Nat.le_of_ble_eq_true rfl) ⟨Nat.zero_le _, Nat.zero_le _⟩ dX5_readSum_19) (fun H locs hw => ?_)
    exact jk_X5_readSum_22 C hr k0 hf hw (lv_sub hl [0, 1] rfl)
set_option maxHeartbeats 4000000 in
theorem jk_X5_readBehind_16 {l : Launch} {G : gG} {p : Program} {e : Env} {s : State} {m : MethodId} {args : Array Value} {below : List Frame} {meth : Method} {c : Code} {T : Tt} {V0 : Vt} {V' : Vt} (C : Cx G p s m args meth c cX5_readBehind RX5 4) (hr : meth.sig.returnType = none) {x0 : Nat} {x3 : Int32} {H : Heap} {locs : List Loc} {ls : Array Slot} (k0 : T.1 x0 = 6) (hf : f_X5_readBehind_J16 T V0 x0 x3 = some V') (hw : wS G V0 T H locs) (hl : lv_has ls 4 [(0, .ref (gb G + x0)), (3, .int x3)]) : W p l e (rmL 8 0 0) s m args below meth c H locs 0 0 (eQ G below none V' T args s 0 0) (F0 m 16 ls []) := by
  have hx := C.1
  have hb := C.2.1
  have hown := C.2.2.2.1
  have hts := C.2.2.2.2.1
  unfold f_X5_readBehind_J16 at hf
  refine lv_aload_n hx hb dX5_readBehind_16 rfl (lv_at hl 0 rfl) ?_
  refine lv_iload_n hx hb dX5_readBehind_17 rfl (lv_at hl 1 rfl) ?_
  revert hf
  refine k_pcl (fun U4 h2 hf => ?_)
  refine w_afv hw (w_rV (As := [.int x3]) C hw (ok_X5_readSum h2) (cw_X5_465 hts (Nat.le_of_ble_eq_true rfl) (Nat.le_of_ble_eq_true rfl)) rfl (by decide) (of_req h2).1 rfl hl.1 rfl (Nat.le_of_ble_eq_true rfl) ⟨Nat.zero_le _, Nat.zero_le _⟩ dX5_readBehind_18) (fun H locs hw => ?_)
  cases hf
  exact w_vret C hr hw dX5_readBehind_21
set_option maxHeartbeats 4000000 in
theorem ok_X5_readBehind {l : Launch} {G : gG} {T : Tt} {V0 : Vt} {o : Nat} {a0 : Int64} {a1 : Int32} {V' : Vt} (hf : f_X5_readBehind T V0 o a0 a1 = some V') : okM l G yX5_readBehind cX5_readBehind 4 none 8 [.ref (gb G + o), .long a0, .int a1] V0 T none V' T 0 0 := by
  refine ok_intro (by decide) (Nat.le_of_ble_eq_true rfl) ?_
  intro p e s m below meth c ls C hr hnm hw hl
  have hx := C.1
  have hb := C.2.1
  have hown := C.2.2.2.1
  have hts := C.2.2.2.2.1
  have hl : lv_has ls 4 [(0, .ref (gb G + o)), (1, .long a0), (3, .int a1)] := hl
  unfold f_X5_readBehind at hf
  revert hf
  refine k_req (fun k0 hf => ?_)
  refine lv_aload_n hx hb dX5_readBehind_0 rfl (lv_at hl 0 rfl) ?_
  refine gf_X5_229 C hw k0 dX5_readBehind_1 ?_
  refine lv_if_ne (tgt := 16) hx hb dX5_readBehind_4 (by decide) (fun c1 => ?_) (fun c1 => ?_)
  · replace hf := ite_f c1 hf
    exact jk_X5_readBehind_16 C hr k0 hf hw (lv_sub hl [0, 2] rfl)
  · replace hf := ite_t c1 hf
    refine lv_aload_n hx hb dX5_readBehind_7 rfl (lv_at hl 0 rfl) ?_
    refine lv_aload_n hx hb dX5_readBehind_8 rfl (lv_at hl 0 rfl) ?_
    refine lv_lload_n hx hb dX5_readBehind_9 rfl (lv_at hl 1 rfl) ?_
    revert hf
    refine k_pcl (fun z6 h5 hf => ?_)
    refine w_afi hw (w_rV (As := [.long a0]) C hw (ok_X5_isWord h5) (cw_X5_283 hts (Nat.le_of_ble_eq_true rfl) (Nat.le_of_ble_eq_true rfl)) rfl (by decide) (of_req h5).1 rfl hl.1 rfl (Nat.le_of_ble_eq_true rfl) ⟨Nat.zero_le _, Nat.zero_le _⟩ dX5_readBehind_10) (fun H locs hw => ?_)
    revert hf
    refine k_pcl (fun U9 h7 hf => ?_)
    refine w_afv hw (w_rV (As := [.int z6]) C hw (ok_X5_must h7) (cw_X5_260 hts (Nat.le_of_ble_eq_true rfl) (Nat.le_of_ble_eq_true rfl)) rfl (by decide) (of_req h7).1 rfl hl.1 rfl (Nat.le_of_ble_eq_true rfl) ⟨Nat.zero_le _, Nat.zero_le _⟩ dX5_readBehind_13) (fun H locs hw => ?_)
    exact jk_X5_readBehind_16 C hr k0 hf hw (lv_sub hl [0, 2] rfl)
set_option maxHeartbeats 4000000 in
theorem jk_X5_readOrder_251 {l : Launch} {G : gG} {p : Program} {e : Env} {s : State} {m : MethodId} {args : Array Value} {below : List Frame} {meth : Method} {c : Code} {T : Tt} {V0 : Vt} {V' : Vt} (C : Cx G p s m args meth c cX5_readOrder RX5 4) (hr : meth.sig.returnType = none) {x0 : Nat} {x2 : Int32} {H : Heap} {locs : List Loc} {ls : Array Slot} (k0 : T.1 x0 = 6) (hf : f_X5_readOrder_J251 T V0 x0 x2 = some V') (hw : wS G V0 T H locs) (hl : lv_has ls 4 [(0, .ref (gb G + x0)), (2, .int x2)]) : W p l e (rmL 9 0 0) s m args below meth c H locs 0 0 (eQ G below none V' T args s 0 0) (F0 m 251 ls []) := by
  have hx := C.1
  have hb := C.2.1
  have hown := C.2.2.2.1
  have hts := C.2.2.2.2.1
  unfold f_X5_readOrder_J251 at hf
  refine lv_aload_n hx hb dX5_readOrder_251 rfl (lv_at hl 0 rfl) ?_
  revert hf
  refine k_drf (fun r42 er42 hf => ?_)
  refine gf_X5_118 C hw k0 er42 dX5_readOrder_252 ?_
  refine lv_iload_n hx hb dX5_readOrder_255 rfl (lv_at hl 1 rfl) ?_
  refine lv_bipush (v := (8 : Int32)) hx hb dX5_readOrder_256 (by decide) ?_
  refine lv_iadd hx hb dX5_readOrder_258 ?_
  refine lv_aload_n hx hb dX5_readOrder_259 rfl (lv_at hl 0 rfl) ?_
  refine gf_X5_264 C hw k0 dX5_readOrder_260 ?_
  revert hf
  refine k_req (fun h43 hf => ?_)
  revert hf
  refine k_stp (fun U44 eU44 hf => ?_)
  refine w_iast C hw h43 eU44 dX5_readOrder_263 (fun H locs hw => ?_)
  cases hf
  exact w_vret C hr hw dX5_readOrder_264
set_option maxHeartbeats 4000000 in
theorem jk_X5_readOrder_212 {l : Launch} {G : gG} {p : Program} {e : Env} {s : State} {m : MethodId} {args : Array Value} {below : List Frame} {meth : Method} {c : Code} {T : Tt} {V0 : Vt} {V' : Vt} (C : Cx G p s m args meth c cX5_readOrder RX5 4) (hr : meth.sig.returnType = none) {x0 : Nat} {x2 : Int32} {H : Heap} {locs : List Loc} {ls : Array Slot} (k0 : T.1 x0 = 6) (hf : f_X5_readOrder_J212 T V0 x0 x2 = some V') (hw : wS G V0 T H locs) (hl : lv_has ls 4 [(0, .ref (gb G + x0)), (2, .int x2)]) : W p l e (rmL 9 0 0) s m args below meth c H locs 0 0 (eQ G below none V' T args s 0 0) (F0 m 212 ls []) := by
  have hx := C.1
  have hb := C.2.1
  have hown := C.2.2.2.1
  have hts := C.2.2.2.2.1
  unfold f_X5_readOrder_J212 at hf
  refine lv_aload_n hx hb dX5_readOrder_212 rfl (lv_at hl 0 rfl) ?_
  revert hf
  refine k_drf (fun r38 er38 hf => ?_)
  refine gf_X5_118 C hw k0 er38 dX5_readOrder_213 ?_
  refine lv_iload_n hx hb dX5_readOrder_216 rfl (lv_at hl 1 rfl) ?_
  refine lv_bipush (v := (7 : Int32)) hx hb dX5_readOrder_217 (by decide) ?_
  refine lv_iadd hx hb dX5_readOrder_219 ?_
  refine lv_aload_n hx hb dX5_readOrder_220 rfl (lv_at hl 0 rfl) ?_
  refine gf_X5_264 C hw k0 dX5_readOrder_221 ?_
  revert hf
  refine k_req (fun h39 hf => ?_)
  revert hf
  refine k_stp (fun U40 eU40 hf => ?_)
  refine w_iast C hw h39 eU40 dX5_readOrder_224 (fun H locs hw => ?_)
  refine lv_aload_n hx hb dX5_readOrder_225 rfl (lv_at hl 0 rfl) ?_
  refine gf_X5_229 C hw k0 dX5_readOrder_226 ?_
  refine lv_if_ne (tgt := 251) hx hb dX5_readOrder_229 (by decide) (fun c41 => ?_) (fun c41 => ?_)
  · replace hf := ite_f c41 hf
    exact jk_X5_readOrder_251 C hr k0 hf hw (lv_sub hl [0, 1] rfl)
  · replace hf := ite_t c41 hf
    refine lv_aload_n hx hb dX5_readOrder_232 rfl (lv_at hl 0 rfl) ?_
    refine lv_ldc2 (v := (294 : Int64)) hx hb hown (hts _ q1960) dX5_readOrder_233 ?_
    revert hf
    refine k_pcl (fun z46 h45 hf => ?_)
    refine w_afi hw (w_rV (As := [.long (294 : Int64)]) C hw (ok_X5_isWord h45) (cw_X5_283 hts (Nat.le_of_ble_eq_true rfl) (Nat.le_of_ble_eq_true rfl)) rfl (by decide) (of_req h45).1 rfl hl.1 rfl (Nat.le_of_ble_eq_true rfl) ⟨Nat.zero_le _, Nat.zero_le _⟩ dX5_readOrder_236) (fun H locs hw => ?_)
    refine lv_if_eq (tgt := 251) hx hb dX5_readOrder_239 (by decide) (fun c47 => ?_) (fun c47 => ?_)
    · replace hf := ite_t c47 hf
      exact jk_X5_readOrder_251 C hr k0 hf hw (lv_sub hl [0, 1] rfl)
    · replace hf := ite_f c47 hf
      refine lv_aload_n hx hb dX5_readOrder_242 rfl (lv_at hl 0 rfl) ?_
      revert hf
      refine k_pcl (fun U50 h48 hf => ?_)
      refine w_afv hw (w_rV (As := []) C hw (ok_X5_next h48) (cw_X5_233 hts (Nat.le_of_ble_eq_true rfl) (Nat.le_of_ble_eq_true rfl)) rfl (by decide) (of_req h48).1 rfl hl.1 rfl (Nat.le_of_ble_eq_true rfl) ⟨Nat.zero_le _, Nat.zero_le _⟩ dX5_readOrder_243) (fun H locs hw => ?_)
      refine lv_aload_n hx hb dX5_readOrder_246 rfl (lv_at hl 0 rfl) ?_
      refine lv_iconst (v := (1 : Int32)) hx hb dX5_readOrder_247 (by decide) ?_
      revert hf
      refine k_pcl (fun U53 h51 hf => ?_)
      refine w_afv hw (w_rV (As := [.int (1 : Int32)]) C hw (ok_X5_readExpression h51) (cw_X5_357 hts (Nat.le_of_ble_eq_true rfl) (Nat.le_of_ble_eq_true rfl)) rfl (by decide) (of_req h51).1 rfl hl.1 rfl (Nat.le_of_ble_eq_true rfl) ⟨Nat.zero_le _, Nat.zero_le _⟩ dX5_readOrder_248) (fun H locs hw => ?_)
      exact jk_X5_readOrder_251 C hr k0 hf hw (lv_sub hl [0, 1] rfl)
set_option maxHeartbeats 4000000 in
theorem jk_X5_readOrder_164 {l : Launch} {G : gG} {p : Program} {e : Env} {s : State} {m : MethodId} {args : Array Value} {below : List Frame} {meth : Method} {c : Code} {T : Tt} {V0 : Vt} {V' : Vt} (C : Cx G p s m args meth c cX5_readOrder RX5 4) (hr : meth.sig.returnType = none) {x0 : Nat} {x2 : Int32} {H : Heap} {locs : List Loc} {ls : Array Slot} (k0 : T.1 x0 = 6) (hf : f_X5_readOrder_J164 T V0 x0 x2 = some V') (hw : wS G V0 T H locs) (hl : lv_has ls 4 [(0, .ref (gb G + x0)), (2, .int x2)]) : W p l e (rmL 9 0 0) s m args below meth c H locs 0 0 (eQ G below none V' T args s 0 0) (F0 m 164 ls []) := by
  have hx := C.1
  have hb := C.2.1
  have hown := C.2.2.2.1
  have hts := C.2.2.2.2.1
  unfold f_X5_readOrder_J164 at hf
  refine lv_aload_n hx hb dX5_readOrder_164 rfl (lv_at hl 0 rfl) ?_
  revert hf
  refine k_drf (fun r34 er34 hf => ?_)
  refine gf_X5_118 C hw k0 er34 dX5_readOrder_165 ?_
  refine lv_iload_n hx hb dX5_readOrder_168 rfl (lv_at hl 1 rfl) ?_
  refine lv_bipush (v := (9 : Int32)) hx hb dX5_readOrder_169 (by decide) ?_
  refine lv_iadd hx hb dX5_readOrder_171 ?_
  refine lv_iconst (v := (1 : Int32)) hx hb dX5_readOrder_172 (by decide) ?_
  revert hf
  refine k_req (fun h35 hf => ?_)
  revert hf
  refine k_stp (fun U36 eU36 hf => ?_)
  refine w_iast C hw h35 eU36 dX5_readOrder_173 (fun H locs hw => ?_)
  refine lv_aload_n hx hb dX5_readOrder_174 rfl (lv_at hl 0 rfl) ?_
  refine gf_X5_229 C hw k0 dX5_readOrder_175 ?_
  refine lv_if_ne (tgt := 212) hx hb dX5_readOrder_178 (by decide) (fun c37 => ?_) (fun c37 => ?_)
  · replace hf := ite_f c37 hf
    exact jk_X5_readOrder_212 C hr k0 hf hw (lv_sub hl [0, 1] rfl)
  · replace hf := ite_t c37 hf
    refine lv_aload_n hx hb dX5_readOrder_181 rfl (lv_at hl 0 rfl) ?_
    refine lv_ldc2 (v := (21279923 : Int64)) hx hb hown (hts _ q2068) dX5_readOrder_182 ?_
    revert hf
    refine k_pcl (fun z55 h54 hf => ?_)
    refine w_afi hw (w_rV (As := [.long (21279923 : Int64)]) C hw (ok_X5_isWord h54) (cw_X5_283 hts (Nat.le_of_ble_eq_true rfl) (Nat.le_of_ble_eq_true rfl)) rfl (by decide) (of_req h54).1 rfl hl.1 rfl (Nat.le_of_ble_eq_true rfl) ⟨Nat.zero_le _, Nat.zero_le _⟩ dX5_readOrder_185) (fun H locs hw => ?_)
    refine lv_if_eq (tgt := 212) hx hb dX5_readOrder_188 (by decide) (fun c56 => ?_) (fun c56 => ?_)
    · replace hf := ite_t c56 hf
      exact jk_X5_readOrder_212 C hr k0 hf hw (lv_sub hl [0, 1] rfl)
    · replace hf := ite_f c56 hf
      refine lv_aload_n hx hb dX5_readOrder_191 rfl (lv_at hl 0 rfl) ?_
      revert hf
      refine k_pcl (fun U59 h57 hf => ?_)
      refine w_afv hw (w_rV (As := []) C hw (ok_X5_next h57) (cw_X5_233 hts (Nat.le_of_ble_eq_true rfl) (Nat.le_of_ble_eq_true rfl)) rfl (by decide) (of_req h57).1 rfl hl.1 rfl (Nat.le_of_ble_eq_true rfl) ⟨Nat.zero_le _, Nat.zero_le _⟩ dX5_readOrder_192) (fun H locs hw => ?_)
      refine lv_aload_n hx hb dX5_readOrder_195 rfl (lv_at hl 0 rfl) ?_
      revert hf
      refine k_drf (fun r60 er60 hf => ?_)
      refine gf_X5_118 C hw k0 er60 dX5_readOrder_196 ?_
      refine lv_iload_n hx hb dX5_readOrder_199 rfl (lv_at hl 1 rfl) ?_
      refine lv_bipush (v := (9 : Int32)) hx hb dX5_readOrder_200 (by decide) ?_
      refine lv_iadd hx hb dX5_readOrder_202 ?_
      refine lv_aload_n hx hb dX5_readOrder_203 rfl (lv_at hl 0 rfl) ?_
      refine lv_lconst (v := (1 : Int64)) hx hb dX5_readOrder_204 (by decide) ?_
      refine lv_ldc2 (v := (20 : Int64)) hx hb hown (hts _ q1951) dX5_readOrder_205 ?_
      revert hf
      refine k_cal (fun z62 U63 h61 hf => ?_)
      refine w_afi hw (w_rV (As := [.long (1 : Int64), .long (20 : Int64)]) C hw (ok_X5_number h61) (cw_X5_318 hts (Nat.le_of_ble_eq_true rfl) (Nat.le_of_ble_eq_true rfl)) rfl (by decide) (of_req h61).1 rfl hl.1 rfl (Nat.le_of_ble_eq_true rfl) ⟨Nat.zero_le _, Nat.zero_le _⟩ dX5_readOrder_208) (fun H locs hw => ?_)
      revert hf
      refine k_req (fun h64 hf => ?_)
      revert hf
      refine k_stp (fun U65 eU65 hf => ?_)
      refine w_iast C hw h64 eU65 dX5_readOrder_211 (fun H locs hw => ?_)
      exact jk_X5_readOrder_212 C hr k0 hf hw (lv_sub hl [0, 1] rfl)
set_option maxHeartbeats 4000000 in
theorem jk_X5_readOrder_154 {l : Launch} {G : gG} {p : Program} {e : Env} {s : State} {m : MethodId} {args : Array Value} {below : List Frame} {meth : Method} {c : Code} {T : Tt} {V0 : Vt} {V' : Vt} (C : Cx G p s m args meth c cX5_readOrder RX5 4) (hr : meth.sig.returnType = none) {x0 : Nat} {x2 : Int32} {H : Heap} {locs : List Loc} {ls : Array Slot} (k0 : T.1 x0 = 6) (hf : f_X5_readOrder_J154 T V0 x0 x2 = some V') (hw : wS G V0 T H locs) (hl : lv_has ls 4 [(0, .ref (gb G + x0)), (2, .int x2)]) : W p l e (rmL 9 0 0) s m args below meth c H locs 0 0 (eQ G below none V' T args s 0 0) (F0 m 154 ls []) := by
  have hx := C.1
  have hb := C.2.1
  have hown := C.2.2.2.1
  have hts := C.2.2.2.2.1
  unfold f_X5_readOrder_J154 at hf
  refine lv_aload_n hx hb dX5_readOrder_154 rfl (lv_at hl 0 rfl) ?_
  refine lv_ldc2 (v := (302 : Int64)) hx hb hown (hts _ q2067) dX5_readOrder_155 ?_
  refine lv_iload_n hx hb dX5_readOrder_158 rfl (lv_at hl 1 rfl) ?_
  refine lv_iconst (v := (5 : Int32)) hx hb dX5_readOrder_159 (by decide) ?_
  refine lv_iadd hx hb dX5_readOrder_160 ?_
  revert hf
  refine k_pcl (fun U33 h31 hf => ?_)
  refine w_afv hw (w_rV (As := [.long (302 : Int64), .int (x2 + (5 : Int32))]) C hw (ok_X5_readBehind h31) (cw_X5_470 hts (Nat.le_of_ble_eq_true rfl) (Nat.le_of_ble_eq_true rfl)) rfl (by decide) (of_req h31).1 rfl hl.1 rfl (Nat.le_of_ble_eq_true rfl) ⟨Nat.zero_le _, Nat.zero_le _⟩ dX5_readOrder_161) (fun H locs hw => ?_)
  exact jk_X5_readOrder_164 C hr k0 hf hw (lv_sub hl [0, 1] rfl)
set_option maxHeartbeats 4000000 in
theorem jk_X5_readOrder_145 {l : Launch} {G : gG} {p : Program} {e : Env} {s : State} {m : MethodId} {args : Array Value} {below : List Frame} {meth : Method} {c : Code} {T : Tt} {V0 : Vt} {V' : Vt} (C : Cx G p s m args meth c cX5_readOrder RX5 4) (hr : meth.sig.returnType = none) {x0 : Nat} {x1 : Int32} {x2 : Int32} {H : Heap} {locs : List Loc} {ls : Array Slot} (k0 : T.1 x0 = 6) (hf : f_X5_readOrder_J145 T V0 x0 x1 x2 = some V') (hw : wS G V0 T H locs) (hl : lv_has ls 4 [(0, .ref (gb G + x0)), (1, .int x1), (2, .int x2)]) : W p l e (rmL 9 0 0) s m args below meth c H locs 0 0 (eQ G below none V' T args s 0 0) (F0 m 145 ls []) := by
  have hx := C.1
  have hb := C.2.1
  have hown := C.2.2.2.1
  have hts := C.2.2.2.2.1
  unfold f_X5_readOrder_J145 at hf
  refine lv_iload_n hx hb dX5_readOrder_145 rfl (lv_at hl 1 rfl) ?_
  refine lv_iconst (v := (1 : Int32)) hx hb dX5_readOrder_146 (by decide) ?_
  refine lv_icmp_eq (tgt := 154) hx hb dX5_readOrder_147 (by decide) (fun c30 => ?_) (fun c30 => ?_)
  · replace hf := ite_t c30 hf
    exact jk_X5_readOrder_154 C hr k0 hf hw (lv_sub hl [0, 2] rfl)
  · replace hf := ite_f c30 hf
    refine lv_iload_n hx hb dX5_readOrder_150 rfl (lv_at hl 1 rfl) ?_
    refine lv_if_ne (tgt := 164) hx hb dX5_readOrder_151 (by decide) (fun c66 => ?_) (fun c66 => ?_)
    · replace hf := ite_f c66 hf
      exact jk_X5_readOrder_164 C hr k0 hf hw (lv_sub hl [0, 2] rfl)
    · replace hf := ite_t c66 hf
      exact jk_X5_readOrder_154 C hr k0 hf hw (lv_sub hl [0, 2] rfl)
set_option maxHeartbeats 4000000 in
theorem jk_X5_readOrder_135 {l : Launch} {G : gG} {p : Program} {e : Env} {s : State} {m : MethodId} {args : Array Value} {below : List Frame} {meth : Method} {c : Code} {T : Tt} {V0 : Vt} {V' : Vt} (C : Cx G p s m args meth c cX5_readOrder RX5 4) (hr : meth.sig.returnType = none) {x0 : Nat} {x1 : Int32} {x2 : Int32} {H : Heap} {locs : List Loc} {ls : Array Slot} (k0 : T.1 x0 = 6) (hf : f_X5_readOrder_J135 T V0 x0 x1 x2 = some V') (hw : wS G V0 T H locs) (hl : lv_has ls 4 [(0, .ref (gb G + x0)), (1, .int x1), (2, .int x2)]) : W p l e (rmL 9 0 0) s m args below meth c H locs 0 0 (eQ G below none V' T args s 0 0) (F0 m 135 ls []) := by
  have hx := C.1
  have hb := C.2.1
  have hown := C.2.2.2.1
  have hts := C.2.2.2.2.1
  unfold f_X5_readOrder_J135 at hf
  refine lv_aload_n hx hb dX5_readOrder_135 rfl (lv_at hl 0 rfl) ?_
  refine lv_ldc2 (v := (215533 : Int64)) hx hb hown (hts _ q2062) dX5_readOrder_136 ?_
  refine lv_iload_n hx hb dX5_readOrder_139 rfl (lv_at hl 2 rfl) ?_
  refine lv_iconst (v := (3 : Int32)) hx hb dX5_readOrder_140 (by decide) ?_
  refine lv_iadd hx hb dX5_readOrder_141 ?_
  revert hf
  refine k_pcl (fun U29 h27 hf => ?_)
  refine w_afv hw (w_rV (As := [.long (215533 : Int64), .int (x2 + (3 : Int32))]) C hw (ok_X5_readBehind h27) (cw_X5_470 hts (Nat.le_of_ble_eq_true rfl) (Nat.le_of_ble_eq_true rfl)) rfl (by decide) (of_req h27).1 rfl hl.1 rfl (Nat.le_of_ble_eq_true rfl) ⟨Nat.zero_le _, Nat.zero_le _⟩ dX5_readOrder_142) (fun H locs hw => ?_)
  exact jk_X5_readOrder_145 C hr k0 hf hw (lv_sub hl [0, 1, 2] rfl)
set_option maxHeartbeats 4000000 in
theorem jk_X5_readOrder_125 {l : Launch} {G : gG} {p : Program} {e : Env} {s : State} {m : MethodId} {args : Array Value} {below : List Frame} {meth : Method} {c : Code} {T : Tt} {V0 : Vt} {V' : Vt} (C : Cx G p s m args meth c cX5_readOrder RX5 4) (hr : meth.sig.returnType = none) {x0 : Nat} {x1 : Int32} {x2 : Int32} {H : Heap} {locs : List Loc} {ls : Array Slot} (k0 : T.1 x0 = 6) (hf : f_X5_readOrder_J125 T V0 x0 x1 x2 = some V') (hw : wS G V0 T H locs) (hl : lv_has ls 4 [(0, .ref (gb G + x0)), (1, .int x1), (2, .int x2)]) : W p l e (rmL 9 0 0) s m args below meth c H locs 0 0 (eQ G below none V' T args s 0 0) (F0 m 125 ls []) := by
  have hx := C.1
  have hb := C.2.1
  have hown := C.2.2.2.1
  have hts := C.2.2.2.2.1
  unfold f_X5_readOrder_J125 at hf
  refine lv_iload_n hx hb dX5_readOrder_125 rfl (lv_at hl 1 rfl) ?_
  refine lv_iconst (v := (1 : Int32)) hx hb dX5_readOrder_126 (by decide) ?_
  refine lv_icmp_eq (tgt := 135) hx hb dX5_readOrder_127 (by decide) (fun c26 => ?_) (fun c26 => ?_)
  · replace hf := ite_t c26 hf
    exact jk_X5_readOrder_135 C hr k0 hf hw (lv_sub hl [0, 1, 2] rfl)
  · replace hf := ite_f c26 hf
    refine lv_iload_n hx hb dX5_readOrder_130 rfl (lv_at hl 1 rfl) ?_
    refine lv_iconst (v := (2 : Int32)) hx hb dX5_readOrder_131 (by decide) ?_
    refine lv_icmp_ne (tgt := 145) hx hb dX5_readOrder_132 (by decide) (fun c67 => ?_) (fun c67 => ?_)
    · replace hf := ite_f c67 hf
      exact jk_X5_readOrder_145 C hr k0 hf hw (lv_sub hl [0, 1, 2] rfl)
    · replace hf := ite_t c67 hf
      exact jk_X5_readOrder_135 C hr k0 hf hw (lv_sub hl [0, 1, 2] rfl)
set_option maxHeartbeats 4000000 in
theorem lk_X5_readOrder_85 {l : Launch} {G : gG} {p : Program} {e : Env} {s : State} {m : MethodId} {args : Array Value} {below : List Frame} {meth : Method} {c : Code} {T : Tt} {V' : Vt} (C : Cx G p s m args meth c cX5_readOrder RX5 4) (hr : meth.sig.returnType = none) {x0 : Nat} {x1 : Int32} {x2 : Int32} {kx85_106 : Vt → Option (Vt)} (k0 : T.1 x0 = 6) (hkx85_106 : ∀ (W1 : Vt) (H : Heap) (locs : List Loc) (ls : Array Slot), kx85_106 W1 = some V' → wS G W1 T H locs → lv_has ls 4 [(0, .ref (gb G + x0)), (1, .int x1), (2, .int x2)] → W p l e (rmL 9 0 0) s m args below meth c H locs 0 0 (eQ G below none V' T args s 0 0) (F0 m 106 ls [])) : ∀ (n : Nat) (x3 : Int32) (V1 : Vt) (H : Heap) (locs : List Loc) (ls : Array Slot), f_X5_readOrder_L85 T x0 x1 x2 kx85_106 n x3 V1 = some V' → wS G V1 T H locs → lv_has ls 4 [(0, .ref (gb G + x0)), (1, .int x1), (2, .int x2), (3, .int x3)] → W p l e (rmL 9 0 0) s m args below meth c H locs 0 0 (eQ G below none V' T args s 0 0) (F0 m 85 ls []) := by
  have hx := C.1
  have hb := C.2.1
  have hown := C.2.2.2.1
  have hts := C.2.2.2.2.1
  intro n
  induction n with
  | zero =>
    intro x3 V1 H locs ls hf
    cases hf
  | succ n ih =>
    intro x3 V1 H locs ls hf hw hl
    unfold f_X5_readOrder_L85 at hf
    refine lv_iload_n hx hb dX5_readOrder_85 rfl (lv_at hl 3 rfl) ?_
    refine lv_bipush (v := (10 : Int32)) hx hb dX5_readOrder_86 (by decide) ?_
    refine lv_icmp_ge (tgt := 106) hx hb dX5_readOrder_88 (by decide) (fun c16 => ?_) (fun c16 => ?_)
    · replace hf := ite_t c16 hf
      exact hkx85_106 _ _ _ _ hf hw (lv_sub hl [0, 1, 2] rfl)
    · replace hf := ite_f c16 hf
      refine lv_aload_n hx hb dX5_readOrder_91 rfl (lv_at hl 0 rfl) ?_
      revert hf
      refine k_drf (fun r17 er17 hf => ?_)
      refine gf_X5_118 C hw k0 er17 dX5_readOrder_92 ?_
      refine lv_iload_n hx hb dX5_readOrder_95 rfl (lv_at hl 2 rfl) ?_
      refine lv_iload_n hx hb dX5_readOrder_96 rfl (lv_at hl 3 rfl) ?_
      refine lv_iadd hx hb dX5_readOrder_97 ?_
      refine lv_iconst (v := (0 : Int32)) hx hb dX5_readOrder_98 (by decide) ?_
      revert hf
      refine k_req (fun h18 hf => ?_)
      revert hf
      refine k_stp (fun U19 eU19 hf => ?_)
      refine w_iast C hw h18 eU19 dX5_readOrder_99 (fun H locs hw => ?_)
      revert hf
      refine k_stp (fun z20 ez20 hf => ?_)
      refine lv_iinc (k := 3) (lv' := [(3, .int z20), (0, .ref (gb G + x0)), (1, .int x1), (2, .int x2)]) hx hb dX5_readOrder_100 hl rfl (inc_e (by decide) ez20) (by decide) rfl (fun ls hl => ?_)
      refine lv_goto (tgt := 85) hx hb dX5_readOrder_103 (by decide) ?_
      exact ih _ _ _ _ _ hf hw (lv_sub hl [1, 2, 3, 0] rfl)
set_option maxHeartbeats 4000000 in
theorem jk_X5_readOrder_54 {l : Launch} {G : gG} {p : Program} {e : Env} {s : State} {m : MethodId} {args : Array Value} {below : List Frame} {meth : Method} {c : Code} {T : Tt} {V0 : Vt} {V' : Vt} (C : Cx G p s m args meth c cX5_readOrder RX5 4) (hr : meth.sig.returnType = none) {x0 : Nat} {x1 : Int32} {s0 : Nat} {s1 : Int32} {H : Heap} {locs : List Loc} {ls : Array Slot} (k0 : T.1 x0 = 6) (hf : f_X5_readOrder_J54 T V0 x0 x1 s0 s1 = some V') (hw : wS G V0 T H locs) (hl : lv_has ls 4 [(0, .ref (gb G + x0)), (1, .int x1)]) : W p l e (rmL 9 0 0) s m args below meth c H locs 0 0 (eQ G below none V' T args s 0 0) (F0 m 54 ls [.int s1, .ref (gb G + s0)]) := by
  have hx := C.1
  have hb := C.2.1
  have hown := C.2.2.2.1
  have hts := C.2.2.2.2.1
  unfold f_X5_readOrder_J54 at hf
  revert hf
  refine k_pcl (fun U12 h10 hf => ?_)
  refine w_afv hw (w_rV (As := [.int s1]) C hw (ok_X5_must h10) (cw_X5_260 hts (Nat.le_of_ble_eq_true rfl) (Nat.le_of_ble_eq_true rfl)) rfl (by decide) (of_req h10).1 rfl hl.1 rfl (Nat.le_of_ble_eq_true rfl) ⟨Nat.zero_le _, Nat.zero_le _⟩ dX5_readOrder_54) (fun H locs hw => ?_)
  refine lv_aload_n hx hb dX5_readOrder_57 rfl (lv_at hl 0 rfl) ?_
  refine gf_X5_229 C hw k0 dX5_readOrder_58 ?_
  refine lv_if_eq (tgt := 65) hx hb dX5_readOrder_61 (by decide) (fun c13 => ?_) (fun c13 => ?_)
  · replace hf := ite_t c13 hf
    refine lv_bipush (v := (10 : Int32)) hx hb dX5_readOrder_65 (by decide) ?_
    refine lv_aload_n hx hb dX5_readOrder_67 rfl (lv_at hl 0 rfl) ?_
    refine gf_X5_354 C hw k0 dX5_readOrder_68 ?_
    refine lv_imul hx hb dX5_readOrder_71 ?_
    revert hf
    refine k_stp (fun z14 ez14 hf => ?_)
    refine w_nmI ez14 ?_
    refine lv_istore_n (lv' := [(2, .int z14), (0, .ref (gb G + x0)), (1, .int x1)]) hx hb dX5_readOrder_72 rfl hl (by decide) rfl (fun ls hl => ?_)
    refine lv_aload_n hx hb dX5_readOrder_73 rfl (lv_at hl 1 rfl) ?_
    refine lv_dup hx hb dX5_readOrder_74 rfl ?_
    refine gf_X5_354 C hw k0 dX5_readOrder_75 ?_
    refine lv_iconst (v := (1 : Int32)) hx hb dX5_readOrder_78 (by decide) ?_
    refine lv_iadd hx hb dX5_readOrder_79 ?_
    revert hf
    refine k_stp (fun U15 eU15 hf => ?_)
    refine pf_X5_354 C hw k0 eU15 dX5_readOrder_80 (fun H locs hw => ?_)
    refine lv_iconst (v := (0 : Int32)) hx hb dX5_readOrder_83 (by decide) ?_
    refine lv_istore_n (lv' := [(3, .int (0 : Int32)), (2, .int z14), (0, .ref (gb G + x0)), (1, .int x1)]) hx hb dX5_readOrder_84 rfl hl (by decide) rfl (fun ls hl => ?_)
    refine lk_X5_readOrder_85 C hr k0 (fun U21 H locs ls hf hw hl => ?_) fuel _ _ _ _ _ hf hw (lv_sub hl [2, 3, 1, 0] rfl)
    refine lv_aload_n hx hb dX5_readOrder_106 rfl (lv_at hl 0 rfl) ?_
    revert hf
    refine k_drf (fun r22 er22 hf => ?_)
    refine gf_X5_118 C hw k0 er22 dX5_readOrder_107 ?_
    refine lv_iload_n hx hb dX5_readOrder_110 rfl (lv_at hl 2 rfl) ?_
    refine lv_iload_n hx hb dX5_readOrder_111 rfl (lv_at hl 1 rfl) ?_
    revert hf
    refine k_req (fun h23 hf => ?_)
    revert hf
    refine k_stp (fun U24 eU24 hf => ?_)
    refine w_iast C hw h23 eU24 dX5_readOrder_112 (fun H locs hw => ?_)
    refine lv_iload_n hx hb dX5_readOrder_113 rfl (lv_at hl 1 rfl) ?_
    refine lv_iconst (v := (3 : Int32)) hx hb dX5_readOrder_114 (by decide) ?_
    refine lv_icmp_eq (tgt := 125) hx hb dX5_readOrder_115 (by decide) (fun c25 => ?_) (fun c25 => ?_)
    · replace hf := ite_t c25 hf
      exact jk_X5_readOrder_125 C hr k0 hf hw (lv_sub hl [0, 1, 2] rfl)
    · replace hf := ite_f c25 hf
      refine lv_aload_n hx hb dX5_readOrder_118 rfl (lv_at hl 0 rfl) ?_
      refine lv_iload_n hx hb dX5_readOrder_119 rfl (lv_at hl 2 rfl) ?_
      refine lv_iconst (v := (1 : Int32)) hx hb dX5_readOrder_120 (by decide) ?_
      refine lv_iadd hx hb dX5_readOrder_121 ?_
      revert hf
      refine k_pcl (fun U70 h68 hf => ?_)
      refine w_afv hw (w_rV (As := [.int (z14 + (1 : Int32))]) C hw (ok_X5_readSum h68) (cw_X5_465 hts (Nat.le_of_ble_eq_true rfl) (Nat.le_of_ble_eq_true rfl)) rfl (by decide) (of_req h68).1 rfl hl.1 rfl (Nat.le_of_ble_eq_true rfl) ⟨Nat.zero_le _, Nat.zero_le _⟩ dX5_readOrder_122) (fun H locs hw => ?_)
      exact jk_X5_readOrder_125 C hr k0 hf hw (lv_sub hl [0, 1, 2] rfl)
  · replace hf := ite_f c13 hf
    cases hf
    exact w_vret C hr hw dX5_readOrder_64
set_option maxHeartbeats 4000000 in
theorem jk_X5_readOrder_53 {l : Launch} {G : gG} {p : Program} {e : Env} {s : State} {m : MethodId} {args : Array Value} {below : List Frame} {meth : Method} {c : Code} {T : Tt} {V0 : Vt} {V' : Vt} (C : Cx G p s m args meth c cX5_readOrder RX5 4) (hr : meth.sig.returnType = none) {x0 : Nat} {x1 : Int32} {s0 : Nat} {H : Heap} {locs : List Loc} {ls : Array Slot} (k0 : T.1 x0 = 6) (hf : f_X5_readOrder_J53 T V0 x0 x1 s0 = some V') (hw : wS G V0 T H locs) (hl : lv_has ls 4 [(0, .ref (gb G + x0)), (1, .int x1)]) : W p l e (rmL 9 0 0) s m args below meth c H locs 0 0 (eQ G below none V' T args s 0 0) (F0 m 53 ls [.ref (gb G + s0)]) := by
  have hx := C.1
  have hb := C.2.1
  have hown := C.2.2.2.1
  have hts := C.2.2.2.2.1
  unfold f_X5_readOrder_J53 at hf
  refine lv_iconst (v := (0 : Int32)) hx hb dX5_readOrder_53 (by decide) ?_
  exact jk_X5_readOrder_54 C hr k0 hf hw (lv_sub hl [0, 1] rfl)
set_option maxHeartbeats 4000000 in
theorem jk_X5_readOrder_27 {l : Launch} {G : gG} {p : Program} {e : Env} {s : State} {m : MethodId} {args : Array Value} {below : List Frame} {meth : Method} {c : Code} {T : Tt} {V0 : Vt} {V' : Vt} (C : Cx G p s m args meth c cX5_readOrder RX5 4) (hr : meth.sig.returnType = none) {x0 : Nat} {x2 : Int32} {s0 : Int32} {kc4 : Int32 → Int32 → Option (Vt)} {kx4_34 : Int32 → Option (Vt)} {H : Heap} {locs : List Loc} {ls : Array Slot} (k0 : T.1 x0 = 6) (hf : f_X5_readOrder_J27 T V0 x0 x2 s0 kc4 kx4_34 = some V') (hw : wS G V0 T H locs) (hl : lv_has ls 4 [(0, .ref (gb G + x0)), (2, .int x2)]) (hkc4 : ∀ (y1 : Int32) (y2 : Int32) (H : Heap) (locs : List Loc) (ls : Array Slot), kc4 y1 y2 = some V' → wS G V0 T H locs → lv_has ls 4 [(0, .ref (gb G + x0)), (1, .int y1), (2, .int y2)] → W p l e (rmL 9 0 0) s m args below meth c H locs 0 0 (eQ G below none V' T args s 0 0) (F0 m 4 ls [])) (hkx4_34 : ∀ (y1 : Int32) (H : Heap) (locs : List Loc) (ls : Array Slot), kx4_34 y1 = some V' → wS G V0 T H locs → lv_has ls 4 [(0, .ref (gb G + x0)), (1, .int y1)] → W p l e (rmL 9 0 0) s m args below meth c H locs 0 0 (eQ G below none V' T args s 0 0) (F0 m 34 ls [])) : W p l e (rmL 9 0 0) s m args below meth c H locs 0 0 (eQ G below none V' T args s 0 0) (F0 m 27 ls [.int s0]) := by
  have hx := C.1
  have hb := C.2.1
  have hown := C.2.2.2.1
  have hts := C.2.2.2.2.1
  unfold f_X5_readOrder_J27 at hf
  refine lv_istore_n (lv' := [(1, .int s0), (0, .ref (gb G + x0)), (2, .int x2)]) hx hb dX5_readOrder_27 rfl hl (by decide) rfl (fun ls hl => ?_)
  revert hf
  refine k_stp (fun z7 ez7 hf => ?_)
  refine lv_iinc (k := 2) (lv' := [(2, .int z7), (1, .int s0), (0, .ref (gb G + x0))]) hx hb dX5_readOrder_28 hl rfl (inc_e (by decide) ez7) (by decide) rfl (fun ls hl => ?_)
  refine lv_goto (tgt := 4) hx hb dX5_readOrder_31 (by decide) ?_
  exact hkc4 _ _ _ _ _ hf hw (lv_sub hl [2, 1, 0] rfl)
set_option maxHeartbeats 4000000 in
theorem lk_X5_readOrder_4 {l : Launch} {G : gG} {p : Program} {e : Env} {s : State} {m : MethodId} {args : Array Value} {below : List Frame} {meth : Method} {c : Code} {T : Tt} {V0 : Vt} {V' : Vt} (C : Cx G p s m args meth c cX5_readOrder RX5 4) (hr : meth.sig.returnType = none) {x0 : Nat} {kx4_34 : Int32 → Option (Vt)} (k0 : T.1 x0 = 6) (hkx4_34 : ∀ (y1 : Int32) (H : Heap) (locs : List Loc) (ls : Array Slot), kx4_34 y1 = some V' → wS G V0 T H locs → lv_has ls 4 [(0, .ref (gb G + x0)), (1, .int y1)] → W p l e (rmL 9 0 0) s m args below meth c H locs 0 0 (eQ G below none V' T args s 0 0) (F0 m 34 ls [])) : ∀ (n : Nat) (x1 : Int32) (x2 : Int32) (H : Heap) (locs : List Loc) (ls : Array Slot), f_X5_readOrder_L4 T V0 x0 kx4_34 n x1 x2 = some V' → wS G V0 T H locs → lv_has ls 4 [(0, .ref (gb G + x0)), (1, .int x1), (2, .int x2)] → W p l e (rmL 9 0 0) s m args below meth c H locs 0 0 (eQ G below none V' T args s 0 0) (F0 m 4 ls []) := by
  have hx := C.1
  have hb := C.2.1
  have hown := C.2.2.2.1
  have hts := C.2.2.2.2.1
  intro n
  induction n with
  | zero =>
    intro x1 x2 H locs ls hf
    cases hf
  | succ n ih =>
    intro x1 x2 H locs ls hf hw hl
    unfold f_X5_readOrder_L4 at hf
    refine lv_iload_n hx hb dX5_readOrder_4 rfl (lv_at hl 2 rfl) ?_
    refine lv_iconst (v := (4 : Int32)) hx hb dX5_readOrder_5 (by decide) ?_
    refine lv_icmp_ge (tgt := 34) hx hb dX5_readOrder_6 (by decide) (fun c1 => ?_) (fun c1 => ?_)
    · replace hf := ite_t c1 hf
      exact hkx4_34 _ _ _ _ hf hw (lv_sub hl [0, 1] rfl)
    · replace hf := ite_f c1 hf
      refine lv_aload_n hx hb dX5_readOrder_9 rfl (lv_at hl 0 rfl) ?_
      refine lv_aload_n hx hb dX5_readOrder_10 rfl (lv_at hl 0 rfl) ?_
      revert hf
      refine k_drf (fun r2 er2 hf => ?_)
      refine gf_X5_115 C hw k0 er2 dX5_readOrder_11 ?_
      refine lv_iload_n hx hb dX5_readOrder_14 rfl (lv_at hl 2 rfl) ?_
      revert hf
      refine k_req (fun h3 hf => ?_)
      refine w_lald C hw h3 rfl dX5_readOrder_15 ?_
      revert hf
      refine k_pcl (fun z5 h4 hf => ?_)
      refine w_afi hw (w_rV (As := [.long (V0.2.1 r2 (ixN x2))]) C hw (ok_X5_isWord h4) (cw_X5_283 hts (Nat.le_of_ble_eq_true rfl) (Nat.le_of_ble_eq_true rfl)) rfl (by decide) (of_req h4).1 rfl hl.1 rfl (Nat.le_of_ble_eq_true rfl) ⟨Nat.zero_le _, Nat.zero_le _⟩ dX5_readOrder_16) (fun H locs hw => ?_)
      refine lv_if_eq (tgt := 26) hx hb dX5_readOrder_19 (by decide) (fun c6 => ?_) (fun c6 => ?_)
      · replace hf := ite_t c6 hf
        refine lv_iload_n hx hb dX5_readOrder_26 rfl (lv_at hl 1 rfl) ?_
        exact jk_X5_readOrder_27 C hr k0 hf hw (lv_sub hl [0, 2] rfl) ih hkx4_34
      · replace hf := ite_f c6 hf
        refine lv_iload_n hx hb dX5_readOrder_22 rfl (lv_at hl 2 rfl) ?_
        refine lv_goto (tgt := 27) hx hb dX5_readOrder_23 (by decide) ?_
        exact jk_X5_readOrder_27 C hr k0 hf hw (lv_sub hl [0, 2] rfl) ih hkx4_34
set_option maxHeartbeats 4000000 in
theorem ok_X5_readOrder {l : Launch} {G : gG} {T : Tt} {V0 : Vt} {o : Nat} {V' : Vt} (hf : f_X5_readOrder T V0 o = some V') : okM l G yX5_readOrder cX5_readOrder 4 none 9 [.ref (gb G + o)] V0 T none V' T 0 0 := by
  refine ok_intro (by decide) (Nat.le_of_ble_eq_true rfl) ?_
  intro p e s m below meth c ls C hr hnm hw hl
  have hx := C.1
  have hb := C.2.1
  have hown := C.2.2.2.1
  have hts := C.2.2.2.2.1
  have hl : lv_has ls 4 [(0, .ref (gb G + o))] := hl
  unfold f_X5_readOrder at hf
  revert hf
  refine k_req (fun k0 hf => ?_)
  refine lv_iconst (v := ((-1) : Int32)) hx hb dX5_readOrder_0 (by decide) ?_
  refine lv_istore_n (lv' := [(1, .int ((-1) : Int32)), (0, .ref (gb G + o))]) hx hb dX5_readOrder_1 rfl hl (by decide) rfl (fun ls hl => ?_)
  refine lv_iconst (v := (0 : Int32)) hx hb dX5_readOrder_2 (by decide) ?_
  refine lv_istore_n (lv' := [(2, .int (0 : Int32)), (1, .int ((-1) : Int32)), (0, .ref (gb G + o))]) hx hb dX5_readOrder_3 rfl hl (by decide) rfl (fun ls hl => ?_)
  refine lk_X5_readOrder_4 C hr k0 (fun z8 H locs ls hf hw hl => ?_) fuel _ _ _ _ _ hf hw (lv_sub hl [2, 1, 0] rfl)
  refine lv_aload_n hx hb dX5_readOrder_34 rfl (lv_at hl 0 rfl) ?_
  refine lv_iload_n hx hb dX5_readOrder_35 rfl (lv_at hl 1 rfl) ?_
  refine lv_iconst (v := ((-1) : Int32)) hx hb dX5_readOrder_36 (by decide) ?_
  refine lv_icmp_eq (tgt := 53) hx hb dX5_readOrder_37 (by decide) (fun c9 => ?_) (fun c9 => ?_)
  · replace hf := ite_t c9 hf
    exact jk_X5_readOrder_53 C hr k0 hf hw (lv_sub hl [0, 1] rfl)
  · replace hf := ite_f c9 hf
    refine lv_aload_n hx hb dX5_readOrder_40 rfl (lv_at hl 0 rfl) ?_
    refine gf_X5_354 C hw k0 dX5_readOrder_41 ?_
    refine lv_bipush (v := (12 : Int32)) hx hb dX5_readOrder_44 (by decide) ?_
    refine lv_icmp_ge (tgt := 53) hx hb dX5_readOrder_46 (by decide) (fun c71 => ?_) (fun c71 => ?_)
    · replace hf := ite_t c71 hf
      exact jk_X5_readOrder_53 C hr k0 hf hw (lv_sub hl [0, 1] rfl)
    · replace hf := ite_f c71 hf
      refine lv_iconst (v := (1 : Int32)) hx hb dX5_readOrder_49 (by decide) ?_
      refine lv_goto (tgt := 54) hx hb dX5_readOrder_50 (by decide) ?_
      exact jk_X5_readOrder_54 C hr k0 hf hw (lv_sub hl [0, 1] rfl)
set_option maxHeartbeats 4000000 in
theorem jk_X5_readOrders_36 {l : Launch} {G : gG} {p : Program} {e : Env} {s : State} {m : MethodId} {args : Array Value} {below : List Frame} {meth : Method} {c : Code} {T : Tt} {V0 : Vt} {V' : Vt} (C : Cx G p s m args meth c cX5_readOrders RX5 1) (hr : meth.sig.returnType = none) {x0 : Nat} {H : Heap} {locs : List Loc} {ls : Array Slot} (k0 : T.1 x0 = 6) (hf : f_X5_readOrders_J36 T V0 x0 = some V') (hw : wS G V0 T H locs) (hl : lv_has ls 1 [(0, .ref (gb G + x0))]) : W p l e (rmL 10 0 0) s m args below meth c H locs 0 0 (eQ G below none V' T args s 0 0) (F0 m 36 ls []) := by
  have hx := C.1
  have hb := C.2.1
  have hown := C.2.2.2.1
  have hts := C.2.2.2.2.1
  unfold f_X5_readOrders_J36 at hf
  refine lv_aload_n hx hb dX5_readOrders_36 rfl (lv_at hl 0 rfl) ?_
  revert hf
  refine k_pcl (fun U20 h18 hf => ?_)
  refine w_afv hw (w_rV (As := []) C hw (ok_X5_endText h18) (cw_X5_368 hts (Nat.le_of_ble_eq_true rfl) (Nat.le_of_ble_eq_true rfl)) rfl (by decide) (of_req h18).1 rfl hl.1 rfl (Nat.le_of_ble_eq_true rfl) ⟨Nat.zero_le _, Nat.zero_le _⟩ dX5_readOrders_37) (fun H locs hw => ?_)
  cases hf
  exact w_vret C hr hw dX5_readOrders_40
set_option maxHeartbeats 4000000 in
theorem lk_X5_readOrders_9 {l : Launch} {G : gG} {p : Program} {e : Env} {s : State} {m : MethodId} {args : Array Value} {below : List Frame} {meth : Method} {c : Code} {T : Tt} {V' : Vt} (C : Cx G p s m args meth c cX5_readOrders RX5 1) (hr : meth.sig.returnType = none) {x0 : Nat} {kx9_36 : Vt → Option (Vt)} (k0 : T.1 x0 = 6) (hkx9_36 : ∀ (W1 : Vt) (H : Heap) (locs : List Loc) (ls : Array Slot), kx9_36 W1 = some V' → wS G W1 T H locs → lv_has ls 1 [(0, .ref (gb G + x0))] → W p l e (rmL 10 0 0) s m args below meth c H locs 0 0 (eQ G below none V' T args s 0 0) (F0 m 36 ls [])) : ∀ (n : Nat) (V1 : Vt) (H : Heap) (locs : List Loc) (ls : Array Slot), f_X5_readOrders_L9 T x0 kx9_36 n V1 = some V' → wS G V1 T H locs → lv_has ls 1 [(0, .ref (gb G + x0))] → W p l e (rmL 10 0 0) s m args below meth c H locs 0 0 (eQ G below none V' T args s 0 0) (F0 m 9 ls []) := by
  have hx := C.1
  have hb := C.2.1
  have hown := C.2.2.2.1
  have hts := C.2.2.2.2.1
  intro n
  induction n with
  | zero =>
    intro V1 H locs ls hf
    cases hf
  | succ n ih =>
    intro V1 H locs ls hf hw hl
    unfold f_X5_readOrders_L9 at hf
    refine lv_aload_n hx hb dX5_readOrders_9 rfl (lv_at hl 0 rfl) ?_
    refine gf_X5_229 C hw k0 dX5_readOrders_10 ?_
    refine lv_if_ne (tgt := 36) hx hb dX5_readOrders_13 (by decide) (fun c7 => ?_) (fun c7 => ?_)
    · replace hf := ite_f c7 hf
      exact hkx9_36 _ _ _ _ hf hw (lv_sub hl [0] rfl)
    · replace hf := ite_t c7 hf
      refine lv_aload_n hx hb dX5_readOrders_16 rfl (lv_at hl 0 rfl) ?_
      refine lv_bipush (v := (59 : Int32)) hx hb dX5_readOrders_17 (by decide) ?_
      revert hf
      refine k_pcl (fun z9 h8 hf => ?_)
      refine w_afi hw (w_rV (As := [.int (59 : Int32)]) C hw (ok_X5_isSign h8) (cw_X5_296 hts (Nat.le_of_ble_eq_true rfl) (Nat.le_of_ble_eq_true rfl)) rfl (by decide) (of_req h8).1 rfl hl.1 rfl (Nat.le_of_ble_eq_true rfl) ⟨Nat.zero_le _, Nat.zero_le _⟩ dX5_readOrders_19) (fun H locs hw => ?_)
      refine lv_if_eq (tgt := 36) hx hb dX5_readOrders_22 (by decide) (fun c10 => ?_) (fun c10 => ?_)
      · replace hf := ite_t c10 hf
        exact hkx9_36 _ _ _ _ hf hw (lv_sub hl [0] rfl)
      · replace hf := ite_f c10 hf
        refine lv_aload_n hx hb dX5_readOrders_25 rfl (lv_at hl 0 rfl) ?_
        revert hf
        refine k_pcl (fun U13 h11 hf => ?_)
        refine w_afv hw (w_rV (As := []) C hw (ok_X5_next h11) (cw_X5_233 hts (Nat.le_of_ble_eq_true rfl) (Nat.le_of_ble_eq_true rfl)) rfl (by decide) (of_req h11).1 rfl hl.1 rfl (Nat.le_of_ble_eq_true rfl) ⟨Nat.zero_le _, Nat.zero_le _⟩ dX5_readOrders_26) (fun H locs hw => ?_)
        refine lv_aload_n hx hb dX5_readOrders_29 rfl (lv_at hl 0 rfl) ?_
        revert hf
        refine k_pcl (fun U16 h14 hf => ?_)
        refine w_afv hw (w_rV (As := []) C hw (ok_X5_readOrder h14) (cw_X5_478 hts (Nat.le_of_ble_eq_true rfl) (Nat.le_of_ble_eq_true rfl)) rfl (by decide) (of_req h14).1 rfl hl.1 rfl (Nat.le_of_ble_eq_true rfl) ⟨Nat.zero_le _, Nat.zero_le _⟩ dX5_readOrders_30) (fun H locs hw => ?_)
        refine lv_goto (tgt := 9) hx hb dX5_readOrders_33 (by decide) ?_
        exact ih _ _ _ _ hf hw (lv_sub hl [0] rfl)
set_option maxHeartbeats 4000000 in
theorem ok_X5_readOrders {l : Launch} {G : gG} {T : Tt} {V0 : Vt} {o : Nat} {V' : Vt} (hf : f_X5_readOrders T V0 o = some V') : okM l G yX5_readOrders cX5_readOrders 1 none 10 [.ref (gb G + o)] V0 T none V' T 0 0 := by
  refine ok_intro (by decide) (Nat.le_of_ble_eq_true rfl) ?_
  intro p e s m below meth c ls C hr hnm hw hl
  have hx := C.1
  have hb := C.2.1
  have hown := C.2.2.2.1
  have hts := C.2.2.2.2.1
  have hl : lv_has ls 1 [(0, .ref (gb G + o))] := hl
  unfold f_X5_readOrders at hf
  revert hf
  refine k_req (fun k0 hf => ?_)
  refine lv_aload_n hx hb dX5_readOrders_0 rfl (lv_at hl 0 rfl) ?_
  refine lv_iconst (v := (1 : Int32)) hx hb dX5_readOrders_1 (by decide) ?_
  revert hf
  refine k_pcl (fun U3 h1 hf => ?_)
  refine w_afv hw (w_rV (As := [.int (1 : Int32)]) C hw (ok_X5_beginText h1) (cw_X5_362 hts (Nat.le_of_ble_eq_true rfl) (Nat.le_of_ble_eq_true rfl)) rfl (by decide) (of_req h1).1 rfl hl.1 rfl (Nat.le_of_ble_eq_true rfl) ⟨Nat.zero_le _, Nat.zero_le _⟩ dX5_readOrders_2) (fun H locs hw => ?_)
  refine lv_aload_n hx hb dX5_readOrders_5 rfl (lv_at hl 0 rfl) ?_
  revert hf
  refine k_pcl (fun U6 h4 hf => ?_)
  refine w_afv hw (w_rV (As := []) C hw (ok_X5_readOrder h4) (cw_X5_478 hts (Nat.le_of_ble_eq_true rfl) (Nat.le_of_ble_eq_true rfl)) rfl (by decide) (of_req h4).1 rfl hl.1 rfl (Nat.le_of_ble_eq_true rfl) ⟨Nat.zero_le _, Nat.zero_le _⟩ dX5_readOrders_6) (fun H locs hw => ?_)
  refine lk_X5_readOrders_9 C hr k0 (fun U17 H locs ls hf hw hl => ?_) fuel _ _ _ _ hf hw (lv_sub hl [0] rfl)
  exact jk_X5_readOrders_36 C hr k0 hf hw (lv_sub hl [0] rfl)
set_option maxHeartbeats 4000000 in
theorem lk_X5_plan_119 {l : Launch} {G : gG} {p : Program} {e : Env} {s : State} {m : MethodId} {args : Array Value} {below : List Frame} {meth : Method} {c : Code} {T : Tt} {r : Int32} {V' : Vt} (C : Cx G p s m args meth c cX5_plan RX5 3) (hr : meth.sig.returnType = (some .int)) {x0 : Nat} {x1 : Int32} {kx119_175 : Vt → Option (Int32 × Vt)} (k0 : T.1 x0 = 6) (hkx119_175 : ∀ (W1 : Vt) (H : Heap) (locs : List Loc) (ls : Array Slot), kx119_175 W1 = some (r, V') → wS G W1 T H locs → lv_has ls 3 [(0, .ref (gb G + x0))] → W p l e (rmL 11 0 0) s m args below meth c H locs 0 0 (eQ G below (some (.int r)) V' T args s 0 0) (F0 m 175 ls [])) : ∀ (n : Nat) (x2 : Int32) (V1 : Vt) (H : Heap) (locs : List Loc) (ls : Array Slot), f_X5_plan_L119 T x0 x1 kx119_175 n x2 V1 = some (r, V') → wS G V1 T H locs → lv_has ls 3 [(0, .ref (gb G + x0)), (1, .int x1), (2, .int x2)] → W p l e (rmL 11 0 0) s m args below meth c H locs 0 0 (eQ G below (some (.int r)) V' T args s 0 0) (F0 m 119 ls []) := by
  have hx := C.1
  have hb := C.2.1
  have hown := C.2.2.2.1
  have hts := C.2.2.2.2.1
  intro n
  induction n with
  | zero =>
    intro x2 V1 H locs ls hf
    cases hf
  | succ n ih =>
    intro x2 V1 H locs ls hf hw hl
    unfold f_X5_plan_L119 at hf
    refine lv_iload_n hx hb dX5_plan_119 rfl (lv_at hl 2 rfl) ?_
    refine lv_aload_n hx hb dX5_plan_120 rfl (lv_at hl 0 rfl) ?_
    refine gf_X5_264 C hw k0 dX5_plan_121 ?_
    refine lv_icmp_ge (tgt := 175) hx hb dX5_plan_124 (by decide) (fun c26 => ?_) (fun c26 => ?_)
    · replace hf := ite_t c26 hf
      exact hkx119_175 _ _ _ _ hf hw (lv_sub hl [0] rfl)
    · replace hf := ite_f c26 hf
      refine lv_aload_n hx hb dX5_plan_127 rfl (lv_at hl 0 rfl) ?_
      revert hf
      refine k_drf (fun r27 er27 hf => ?_)
      refine gf_X5_13 C hw k0 er27 dX5_plan_128 ?_
      refine lv_iload_n hx hb dX5_plan_131 rfl (lv_at hl 1 rfl) ?_
      refine lv_sipush (v := (146 : Int32)) hx hb dX5_plan_132 (by decide) ?_
      refine lv_iadd hx hb dX5_plan_135 ?_
      refine lv_iconst (v := (2 : Int32)) hx hb dX5_plan_136 (by decide) ?_
      refine lv_iload_n hx hb dX5_plan_137 rfl (lv_at hl 2 rfl) ?_
      refine lv_imul hx hb dX5_plan_138 ?_
      refine lv_iadd hx hb dX5_plan_139 ?_
      refine lv_aload_n hx hb dX5_plan_140 rfl (lv_at hl 0 rfl) ?_
      revert hf
      refine k_drf (fun r28 er28 hf => ?_)
      refine gf_X5_45 C hw k0 er28 dX5_plan_141 ?_
      refine lv_iload_n hx hb dX5_plan_144 rfl (lv_at hl 2 rfl) ?_
      revert hf
      refine k_req (fun h29 hf => ?_)
      refine w_iald C hw h29 rfl dX5_plan_145 ?_
      revert hf
      refine k_req (fun h30 hf => ?_)
      revert hf
      refine k_stp (fun U31 eU31 hf => ?_)
      refine w_iast C hw h30 eU31 dX5_plan_146 (fun H locs hw => ?_)
      refine lv_aload_n hx hb dX5_plan_147 rfl (lv_at hl 0 rfl) ?_
      revert hf
      refine k_drf (fun r32 er32 hf => ?_)
      refine gf_X5_13 C hw k0 er32 dX5_plan_148 ?_
      refine lv_iload_n hx hb dX5_plan_151 rfl (lv_at hl 1 rfl) ?_
      refine lv_sipush (v := (146 : Int32)) hx hb dX5_plan_152 (by decide) ?_
      refine lv_iadd hx hb dX5_plan_155 ?_
      refine lv_iconst (v := (2 : Int32)) hx hb dX5_plan_156 (by decide) ?_
      refine lv_iload_n hx hb dX5_plan_157 rfl (lv_at hl 2 rfl) ?_
      refine lv_imul hx hb dX5_plan_158 ?_
      refine lv_iadd hx hb dX5_plan_159 ?_
      refine lv_iconst (v := (1 : Int32)) hx hb dX5_plan_160 (by decide) ?_
      refine lv_iadd hx hb dX5_plan_161 ?_
      refine lv_aload_n hx hb dX5_plan_162 rfl (lv_at hl 0 rfl) ?_
      revert hf
      refine k_drf (fun r33 er33 hf => ?_)
      refine gf_X5_48 C hw k0 er33 dX5_plan_163 ?_
      refine lv_iload_n hx hb dX5_plan_166 rfl (lv_at hl 2 rfl) ?_
      revert hf
      refine k_req (fun h34 hf => ?_)
      refine w_iald C hw h34 rfl dX5_plan_167 ?_
      revert hf
      refine k_req (fun h35 hf => ?_)
      revert hf
      refine k_stp (fun U36 eU36 hf => ?_)
      refine w_iast C hw h35 eU36 dX5_plan_168 (fun H locs hw => ?_)
      revert hf
      refine k_stp (fun z37 ez37 hf => ?_)
      refine lv_iinc (k := 2) (lv' := [(2, .int z37), (0, .ref (gb G + x0)), (1, .int x1)]) hx hb dX5_plan_169 hl rfl (inc_e (by decide) ez37) (by decide) rfl (fun ls hl => ?_)
      refine lv_goto (tgt := 119) hx hb dX5_plan_172 (by decide) ?_
      exact ih _ _ _ _ _ hf hw (lv_sub hl [1, 2, 0] rfl)
set_option maxHeartbeats 4000000 in
theorem lk_X5_plan_84 {l : Launch} {G : gG} {p : Program} {e : Env} {s : State} {m : MethodId} {args : Array Value} {below : List Frame} {meth : Method} {c : Code} {T : Tt} {r : Int32} {V' : Vt} (C : Cx G p s m args meth c cX5_plan RX5 3) (hr : meth.sig.returnType = (some .int)) {x0 : Nat} {x1 : Int32} {kx84_117 : Vt → Option (Int32 × Vt)} (k0 : T.1 x0 = 6) (hkx84_117 : ∀ (W1 : Vt) (H : Heap) (locs : List Loc) (ls : Array Slot), kx84_117 W1 = some (r, V') → wS G W1 T H locs → lv_has ls 3 [(0, .ref (gb G + x0)), (1, .int x1)] → W p l e (rmL 11 0 0) s m args below meth c H locs 0 0 (eQ G below (some (.int r)) V' T args s 0 0) (F0 m 117 ls [])) : ∀ (n : Nat) (x2 : Int32) (V1 : Vt) (H : Heap) (locs : List Loc) (ls : Array Slot), f_X5_plan_L84 T x0 x1 kx84_117 n x2 V1 = some (r, V') → wS G V1 T H locs → lv_has ls 3 [(0, .ref (gb G + x0)), (1, .int x1), (2, .int x2)] → W p l e (rmL 11 0 0) s m args below meth c H locs 0 0 (eQ G below (some (.int r)) V' T args s 0 0) (F0 m 84 ls []) := by
  have hx := C.1
  have hb := C.2.1
  have hown := C.2.2.2.1
  have hts := C.2.2.2.2.1
  intro n
  induction n with
  | zero =>
    intro x2 V1 H locs ls hf
    cases hf
  | succ n ih =>
    intro x2 V1 H locs ls hf hw hl
    unfold f_X5_plan_L84 at hf
    refine lv_iload_n hx hb dX5_plan_84 rfl (lv_at hl 2 rfl) ?_
    refine lv_bipush (v := (10 : Int32)) hx hb dX5_plan_85 (by decide) ?_
    refine lv_aload_n hx hb dX5_plan_87 rfl (lv_at hl 0 rfl) ?_
    refine gf_X5_354 C hw k0 dX5_plan_88 ?_
    refine lv_imul hx hb dX5_plan_91 ?_
    refine lv_icmp_ge (tgt := 117) hx hb dX5_plan_92 (by decide) (fun c18 => ?_) (fun c18 => ?_)
    · replace hf := ite_t c18 hf
      exact hkx84_117 _ _ _ _ hf hw (lv_sub hl [0, 1] rfl)
    · replace hf := ite_f c18 hf
      refine lv_aload_n hx hb dX5_plan_95 rfl (lv_at hl 0 rfl) ?_
      revert hf
      refine k_drf (fun r19 er19 hf => ?_)
      refine gf_X5_13 C hw k0 er19 dX5_plan_96 ?_
      refine lv_iload_n hx hb dX5_plan_99 rfl (lv_at hl 1 rfl) ?_
      refine lv_iconst (v := (2 : Int32)) hx hb dX5_plan_100 (by decide) ?_
      refine lv_iadd hx hb dX5_plan_101 ?_
      refine lv_iload_n hx hb dX5_plan_102 rfl (lv_at hl 2 rfl) ?_
      refine lv_iadd hx hb dX5_plan_103 ?_
      refine lv_aload_n hx hb dX5_plan_104 rfl (lv_at hl 0 rfl) ?_
      revert hf
      refine k_drf (fun r20 er20 hf => ?_)
      refine gf_X5_118 C hw k0 er20 dX5_plan_105 ?_
      refine lv_iload_n hx hb dX5_plan_108 rfl (lv_at hl 2 rfl) ?_
      revert hf
      refine k_req (fun h21 hf => ?_)
      refine w_iald C hw h21 rfl dX5_plan_109 ?_
      revert hf
      refine k_req (fun h22 hf => ?_)
      revert hf
      refine k_stp (fun U23 eU23 hf => ?_)
      refine w_iast C hw h22 eU23 dX5_plan_110 (fun H locs hw => ?_)
      revert hf
      refine k_stp (fun z24 ez24 hf => ?_)
      refine lv_iinc (k := 2) (lv' := [(2, .int z24), (0, .ref (gb G + x0)), (1, .int x1)]) hx hb dX5_plan_111 hl rfl (inc_e (by decide) ez24) (by decide) rfl (fun ls hl => ?_)
      refine lv_goto (tgt := 84) hx hb dX5_plan_114 (by decide) ?_
      exact ih _ _ _ _ _ hf hw (lv_sub hl [1, 2, 0] rfl)
set_option maxHeartbeats 4000000 in
theorem ok_X5_plan {l : Launch} {G : gG} {T : Tt} {V0 : Vt} {o : Nat} {r : Int32} {V' : Vt} (hf : f_X5_plan T V0 o = some (r, V')) : okM l G yX5_plan cX5_plan 3 (some .int) 11 [.ref (gb G + o)] V0 T (some (.int r)) V' T 0 0 := by
  refine ok_intro (by decide) (Nat.le_of_ble_eq_true rfl) ?_
  intro p e s m below meth c ls C hr hnm hw hl
  have hx := C.1
  have hb := C.2.1
  have hown := C.2.2.2.1
  have hts := C.2.2.2.2.1
  have hl : lv_has ls 3 [(0, .ref (gb G + o))] := hl
  unfold f_X5_plan at hf
  revert hf
  refine k_req (fun k0 hf => ?_)
  refine lv_aload_n hx hb dX5_plan_0 rfl (lv_at hl 0 rfl) ?_
  refine lv_iconst (v := (0 : Int32)) hx hb dX5_plan_1 (by decide) ?_
  revert hf
  refine k_stp (fun U1 eU1 hf => ?_)
  refine pf_X5_133 C hw k0 eU1 dX5_plan_2 (fun H locs hw => ?_)
  refine lv_aload_n hx hb dX5_plan_5 rfl (lv_at hl 0 rfl) ?_
  revert hf
  refine k_drf (fun r2 er2 hf => ?_)
  refine gf_X5_13 C hw k0 er2 dX5_plan_6 ?_
  refine lv_iconst (v := (3 : Int32)) hx hb dX5_plan_9 (by decide) ?_
  revert hf
  refine k_req (fun h3 hf => ?_)
  refine w_iald C hw h3 rfl dX5_plan_10 ?_
  refine lv_iconst (v := (4 : Int32)) hx hb dX5_plan_11 (by decide) ?_
  refine lv_icmp_ne (tgt := 27) hx hb dX5_plan_12 (by decide) (fun c4 => ?_) (fun c4 => ?_)
  · replace hf := ite_f c4 hf
    refine lv_aload_n hx hb dX5_plan_27 rfl (lv_at hl 0 rfl) ?_
    revert hf
    refine k_pcl (fun U7 h5 hf => ?_)
    refine w_afv hw (w_rV (As := []) C hw (ok_X5_readOrders h5) (cw_X5_481 hts (Nat.le_of_ble_eq_true rfl) (Nat.le_of_ble_eq_true rfl)) rfl (by decide) (of_req h5).1 rfl hl.1 rfl (Nat.le_of_ble_eq_true rfl) ⟨Nat.zero_le _, Nat.zero_le _⟩ dX5_plan_28) (fun H locs hw => ?_)
    refine lv_aload_n hx hb dX5_plan_31 rfl (lv_at hl 0 rfl) ?_
    refine gf_X5_229 C hw k0 dX5_plan_32 ?_
    refine lv_if_eq (tgt := 45) hx hb dX5_plan_35 (by decide) (fun c8 => ?_) (fun c8 => ?_)
    · replace hf := ite_t c8 hf
      refine lv_sipush (v := (198 : Int32)) hx hb dX5_plan_45 (by decide) ?_
      refine lv_sipush (v := (948 : Int32)) hx hb dX5_plan_48 (by decide) ?_
      refine lv_aload_n hx hb dX5_plan_51 rfl (lv_at hl 0 rfl) ?_
      revert hf
      refine k_drf (fun r9 er9 hf => ?_)
      refine gf_X5_13 C hw k0 er9 dX5_plan_52 ?_
      refine lv_iconst (v := (3 : Int32)) hx hb dX5_plan_55 (by decide) ?_
      revert hf
      refine k_req (fun h10 hf => ?_)
      refine w_iald C hw h10 rfl dX5_plan_56 ?_
      refine lv_imul hx hb dX5_plan_57 ?_
      refine lv_iadd hx hb dX5_plan_58 ?_
      revert hf
      refine k_stp (fun z11 ez11 hf => ?_)
      refine w_nmI ez11 ?_
      refine lv_istore_n (lv' := [(1, .int z11), (0, .ref (gb G + o))]) hx hb dX5_plan_59 rfl hl (by decide) rfl (fun ls hl => ?_)
      refine lv_aload_n hx hb dX5_plan_60 rfl (lv_at hl 1 rfl) ?_
      revert hf
      refine k_drf (fun r12 er12 hf => ?_)
      refine gf_X5_13 C hw k0 er12 dX5_plan_61 ?_
      refine lv_iload_n hx hb dX5_plan_64 rfl (lv_at hl 0 rfl) ?_
      refine lv_aload_n hx hb dX5_plan_65 rfl (lv_at hl 1 rfl) ?_
      refine gf_X5_354 C hw k0 dX5_plan_66 ?_
      revert hf
      refine k_req (fun h13 hf => ?_)
      revert hf
      refine k_stp (fun U14 eU14 hf => ?_)
      refine w_iast C hw h13 eU14 dX5_plan_69 (fun H locs hw => ?_)
      refine lv_aload_n hx hb dX5_plan_70 rfl (lv_at hl 1 rfl) ?_
      revert hf
      refine k_drf (fun r15 er15 hf => ?_)
      refine gf_X5_13 C hw k0 er15 dX5_plan_71 ?_
      refine lv_iload_n hx hb dX5_plan_74 rfl (lv_at hl 0 rfl) ?_
      refine lv_iconst (v := (1 : Int32)) hx hb dX5_plan_75 (by decide) ?_
      refine lv_iadd hx hb dX5_plan_76 ?_
      refine lv_aload_n hx hb dX5_plan_77 rfl (lv_at hl 1 rfl) ?_
      refine gf_X5_264 C hw k0 dX5_plan_78 ?_
      revert hf
      refine k_req (fun h16 hf => ?_)
      revert hf
      refine k_stp (fun U17 eU17 hf => ?_)
      refine w_iast C hw h16 eU17 dX5_plan_81 (fun H locs hw => ?_)
      refine lv_iconst (v := (0 : Int32)) hx hb dX5_plan_82 (by decide) ?_
      refine lv_istore_n (lv' := [(2, .int (0 : Int32)), (1, .int z11), (0, .ref (gb G + o))]) hx hb dX5_plan_83 rfl hl (by decide) rfl (fun ls hl => ?_)
      refine lk_X5_plan_84 C hr k0 (fun U25 H locs ls hf hw hl => ?_) fuel _ _ _ _ _ hf hw (lv_sub hl [2, 1, 0] rfl)
      refine lv_iconst (v := (0 : Int32)) hx hb dX5_plan_117 (by decide) ?_
      refine lv_istore_n (lv' := [(2, .int (0 : Int32)), (0, .ref (gb G + o)), (1, .int z11)]) hx hb dX5_plan_118 rfl hl (by decide) rfl (fun ls hl => ?_)
      refine lk_X5_plan_119 C hr k0 (fun U38 H locs ls hf hw hl => ?_) fuel _ _ _ _ _ hf hw (lv_sub hl [1, 2, 0] rfl)
      refine lv_aload_n hx hb dX5_plan_175 rfl (lv_at hl 0 rfl) ?_
      revert hf
      refine k_drf (fun r39 er39 hf => ?_)
      refine gf_X5_13 C hw k0 er39 dX5_plan_176 ?_
      refine lv_iconst (v := (3 : Int32)) hx hb dX5_plan_179 (by decide) ?_
      refine lv_dup2_11 hx hb dX5_plan_180 rfl rfl ?_
      revert hf
      refine k_req (fun h40 hf => ?_)
      refine w_iald C hw h40 rfl dX5_plan_181 ?_
      refine lv_iconst (v := (1 : Int32)) hx hb dX5_plan_182 (by decide) ?_
      refine lv_iadd hx hb dX5_plan_183 ?_
      revert hf
      refine k_req (fun h41 hf => ?_)
      revert hf
      refine k_stp (fun U42 eU42 hf => ?_)
      refine w_iast C hw h41 eU42 dX5_plan_184 (fun H locs hw => ?_)
      refine lv_aload_n hx hb dX5_plan_185 rfl (lv_at hl 0 rfl) ?_
      refine lv_aload_n hx hb dX5_plan_186 rfl (lv_at hl 0 rfl) ?_
      revert hf
      refine k_drf (fun r43 er43 hf => ?_)
      refine gf_X5_13 C hw k0 er43 dX5_plan_187 ?_
      refine lv_iconst (v := (3 : Int32)) hx hb dX5_plan_190 (by decide) ?_
      revert hf
      refine k_req (fun h44 hf => ?_)
      refine w_iald C hw h44 rfl dX5_plan_191 ?_
      refine lv_iconst (v := (1 : Int32)) hx hb dX5_plan_192 (by decide) ?_
      refine lv_isub hx hb dX5_plan_193 ?_
      revert hf
      refine k_cal (fun z46 U47 h45 hf => ?_)
      refine w_afi hw (w_rV (As := [.int ((U42.1 r43 (ixN (3 : Int32))) - (1 : Int32))]) C hw (ok_X5_tell h45) (cw_X5_142 hts (Nat.le_of_ble_eq_true rfl) (Nat.le_of_ble_eq_true rfl)) rfl (by decide) (of_req h45).1 rfl hl.1 rfl (Nat.le_of_ble_eq_true rfl) ⟨Nat.zero_le _, Nat.zero_le _⟩ dX5_plan_194) (fun H locs hw => ?_)
      cases hf
      exact w_iret C hr hw dX5_plan_197
    · replace hf := ite_f c8 hf
      refine lv_aload_n hx hb dX5_plan_38 rfl (lv_at hl 0 rfl) ?_
      refine lv_bipush (v := ((-6) : Int32)) hx hb dX5_plan_39 (by decide) ?_
      revert hf
      refine k_cal (fun z49 U50 h48 hf => ?_)
      refine w_afi hw (w_rV (As := [.int ((-6) : Int32)]) C hw (ok_X5_tell h48) (cw_X5_142 hts (Nat.le_of_ble_eq_true rfl) (Nat.le_of_ble_eq_true rfl)) rfl (by decide) (of_req h48).1 rfl hl.1 rfl (Nat.le_of_ble_eq_true rfl) ⟨Nat.zero_le _, Nat.zero_le _⟩ dX5_plan_41) (fun H locs hw => ?_)
      cases hf
      exact w_iret C hr hw dX5_plan_44
  · replace hf := ite_t c4 hf
    refine lv_aload_n hx hb dX5_plan_15 rfl (lv_at hl 0 rfl) ?_
    refine lv_iconst (v := (0 : Int32)) hx hb dX5_plan_16 (by decide) ?_
    revert hf
    refine k_stp (fun U51 eU51 hf => ?_)
    refine pf_X5_217 C hw k0 eU51 dX5_plan_17 (fun H locs hw => ?_)
    refine lv_aload_n hx hb dX5_plan_20 rfl (lv_at hl 0 rfl) ?_
    refine lv_bipush (v := ((-5) : Int32)) hx hb dX5_plan_21 (by decide) ?_
    revert hf
    refine k_cal (fun z53 U54 h52 hf => ?_)
    refine w_afi hw (w_rV (As := [.int ((-5) : Int32)]) C hw (ok_X5_tell h52) (cw_X5_142 hts (Nat.le_of_ble_eq_true rfl) (Nat.le_of_ble_eq_true rfl)) rfl (by decide) (of_req h52).1 rfl hl.1 rfl (Nat.le_of_ble_eq_true rfl) ⟨Nat.zero_le _, Nat.zero_le _⟩ dX5_plan_23) (fun H locs hw => ?_)
    cases hf
    exact w_iret C hr hw dX5_plan_26
set_option maxHeartbeats 4000000 in
theorem lk_X5_keepUndos_29 {l : Launch} {G : gG} {p : Program} {e : Env} {s : State} {m : MethodId} {args : Array Value} {below : List Frame} {meth : Method} {c : Code} {T : Tt} {V' : Vt} (C : Cx G p s m args meth c cX5_keepUndos RX5 2) (hr : meth.sig.returnType = none) {x0 : Nat} {kx29_53 : Vt → Option (Vt)} (k0 : T.1 x0 = 6) (hkx29_53 : ∀ (W1 : Vt) (H : Heap) (locs : List Loc) (ls : Array Slot), kx29_53 W1 = some V' → wS G W1 T H locs → lv_has ls 2 [] → W p l e (rmL 0 0 0) s m args below meth c H locs 0 0 (eQ G below none V' T args s 0 0) (F0 m 53 ls [])) : ∀ (n : Nat) (x1 : Int32) (V1 : Vt) (H : Heap) (locs : List Loc) (ls : Array Slot), f_X5_keepUndos_L29 T x0 kx29_53 n x1 V1 = some V' → wS G V1 T H locs → lv_has ls 2 [(0, .ref (gb G + x0)), (1, .int x1)] → W p l e (rmL 0 0 0) s m args below meth c H locs 0 0 (eQ G below none V' T args s 0 0) (F0 m 29 ls []) := by
  have hx := C.1
  have hb := C.2.1
  have hown := C.2.2.2.1
  have hts := C.2.2.2.2.1
  intro n
  induction n with
  | zero =>
    intro x1 V1 H locs ls hf
    cases hf
  | succ n ih =>
    intro x1 V1 H locs ls hf hw hl
    unfold f_X5_keepUndos_L29 at hf
    refine lv_iload_n hx hb dX5_keepUndos_29 rfl (lv_at hl 1 rfl) ?_
    refine lv_bipush (v := (16 : Int32)) hx hb dX5_keepUndos_30 (by decide) ?_
    refine lv_icmp_ge (tgt := 53) hx hb dX5_keepUndos_32 (by decide) (fun c9 => ?_) (fun c9 => ?_)
    · replace hf := ite_t c9 hf
      exact hkx29_53 _ _ _ _ hf hw (lv_sub hl [] rfl)
    · replace hf := ite_f c9 hf
      refine lv_aload_n hx hb dX5_keepUndos_35 rfl (lv_at hl 0 rfl) ?_
      revert hf
      refine k_drf (fun r10 er10 hf => ?_)
      refine gf_X5_32 C hw k0 er10 dX5_keepUndos_36 ?_
      refine lv_iload_n hx hb dX5_keepUndos_39 rfl (lv_at hl 1 rfl) ?_
      refine lv_aload_n hx hb dX5_keepUndos_40 rfl (lv_at hl 0 rfl) ?_
      revert hf
      refine k_drf (fun r11 er11 hf => ?_)
      refine gf_X5_26 C hw k0 er11 dX5_keepUndos_41 ?_
      refine lv_iload_n hx hb dX5_keepUndos_44 rfl (lv_at hl 1 rfl) ?_
      revert hf
      refine k_req (fun h12 hf => ?_)
      refine w_iald C hw h12 rfl dX5_keepUndos_45 ?_
      revert hf
      refine k_req (fun h13 hf => ?_)
      revert hf
      refine k_stp (fun U14 eU14 hf => ?_)
      refine w_iast C hw h13 eU14 dX5_keepUndos_46 (fun H locs hw => ?_)
      revert hf
      refine k_stp (fun z15 ez15 hf => ?_)
      refine lv_iinc (k := 1) (lv' := [(1, .int z15), (0, .ref (gb G + x0))]) hx hb dX5_keepUndos_47 hl rfl (inc_e (by decide) ez15) (by decide) rfl (fun ls hl => ?_)
      refine lv_goto (tgt := 29) hx hb dX5_keepUndos_50 (by decide) ?_
      exact ih _ _ _ _ _ hf hw (lv_sub hl [1, 0] rfl)
set_option maxHeartbeats 4000000 in
theorem lk_X5_keepUndos_2 {l : Launch} {G : gG} {p : Program} {e : Env} {s : State} {m : MethodId} {args : Array Value} {below : List Frame} {meth : Method} {c : Code} {T : Tt} {V' : Vt} (C : Cx G p s m args meth c cX5_keepUndos RX5 2) (hr : meth.sig.returnType = none) {x0 : Nat} {kx2_27 : Vt → Option (Vt)} (k0 : T.1 x0 = 6) (hkx2_27 : ∀ (W1 : Vt) (H : Heap) (locs : List Loc) (ls : Array Slot), kx2_27 W1 = some V' → wS G W1 T H locs → lv_has ls 2 [(0, .ref (gb G + x0))] → W p l e (rmL 0 0 0) s m args below meth c H locs 0 0 (eQ G below none V' T args s 0 0) (F0 m 27 ls [])) : ∀ (n : Nat) (x1 : Int32) (V1 : Vt) (H : Heap) (locs : List Loc) (ls : Array Slot), f_X5_keepUndos_L2 T x0 kx2_27 n x1 V1 = some V' → wS G V1 T H locs → lv_has ls 2 [(0, .ref (gb G + x0)), (1, .int x1)] → W p l e (rmL 0 0 0) s m args below meth c H locs 0 0 (eQ G below none V' T args s 0 0) (F0 m 2 ls []) := by
  have hx := C.1
  have hb := C.2.1
  have hown := C.2.2.2.1
  have hts := C.2.2.2.2.1
  intro n
  induction n with
  | zero =>
    intro x1 V1 H locs ls hf
    cases hf
  | succ n ih =>
    intro x1 V1 H locs ls hf hw hl
    unfold f_X5_keepUndos_L2 at hf
    refine lv_iload_n hx hb dX5_keepUndos_2 rfl (lv_at hl 1 rfl) ?_
    refine lv_sipush (v := (2640 : Int32)) hx hb dX5_keepUndos_3 (by decide) ?_
    refine lv_icmp_ge (tgt := 27) hx hb dX5_keepUndos_6 (by decide) (fun c1 => ?_) (fun c1 => ?_)
    · replace hf := ite_t c1 hf
      exact hkx2_27 _ _ _ _ hf hw (lv_sub hl [0] rfl)
    · replace hf := ite_f c1 hf
      refine lv_aload_n hx hb dX5_keepUndos_9 rfl (lv_at hl 0 rfl) ?_
      revert hf
      refine k_drf (fun r2 er2 hf => ?_)
      refine gf_X5_29 C hw k0 er2 dX5_keepUndos_10 ?_
      refine lv_iload_n hx hb dX5_keepUndos_13 rfl (lv_at hl 1 rfl) ?_
      refine lv_aload_n hx hb dX5_keepUndos_14 rfl (lv_at hl 0 rfl) ?_
      revert hf
      refine k_drf (fun r3 er3 hf => ?_)
      refine gf_X5_23 C hw k0 er3 dX5_keepUndos_15 ?_
      refine lv_iload_n hx hb dX5_keepUndos_18 rfl (lv_at hl 1 rfl) ?_
      revert hf
      refine k_req (fun h4 hf => ?_)
      refine w_iald C hw h4 rfl dX5_keepUndos_19 ?_
      revert hf
      refine k_req (fun h5 hf => ?_)
      revert hf
      refine k_stp (fun U6 eU6 hf => ?_)
      refine w_iast C hw h5 eU6 dX5_keepUndos_20 (fun H locs hw => ?_)
      revert hf
      refine k_stp (fun z7 ez7 hf => ?_)
      refine lv_iinc (k := 1) (lv' := [(1, .int z7), (0, .ref (gb G + x0))]) hx hb dX5_keepUndos_21 hl rfl (inc_e (by decide) ez7) (by decide) rfl (fun ls hl => ?_)
      refine lv_goto (tgt := 2) hx hb dX5_keepUndos_24 (by decide) ?_
      exact ih _ _ _ _ _ hf hw (lv_sub hl [1, 0] rfl)
set_option maxHeartbeats 4000000 in
theorem ok_X5_keepUndos {l : Launch} {G : gG} {T : Tt} {V0 : Vt} {o : Nat} {V' : Vt} (hf : f_X5_keepUndos T V0 o = some V') : okM l G yX5_keepUndos cX5_keepUndos 2 none 0 [.ref (gb G + o)] V0 T none V' T 0 0 := by
  refine ok_intro (by decide) (Nat.le_of_ble_eq_true rfl) ?_
  intro p e s m below meth c ls C hr hnm hw hl
  have hx := C.1
  have hb := C.2.1
  have hown := C.2.2.2.1
  have hts := C.2.2.2.2.1
  have hl : lv_has ls 2 [(0, .ref (gb G + o))] := hl
  unfold f_X5_keepUndos at hf
  revert hf
  refine k_req (fun k0 hf => ?_)
  refine lv_iconst (v := (0 : Int32)) hx hb dX5_keepUndos_0 (by decide) ?_
  refine lv_istore_n (lv' := [(1, .int (0 : Int32)), (0, .ref (gb G + o))]) hx hb dX5_keepUndos_1 rfl hl (by decide) rfl (fun ls hl => ?_)
  refine lk_X5_keepUndos_2 C hr k0 (fun U8 H locs ls hf hw hl => ?_) fuel _ _ _ _ _ hf hw (lv_sub hl [1, 0] rfl)
  refine lv_iconst (v := (0 : Int32)) hx hb dX5_keepUndos_27 (by decide) ?_
  refine lv_istore_n (lv' := [(1, .int (0 : Int32)), (0, .ref (gb G + o))]) hx hb dX5_keepUndos_28 rfl hl (by decide) rfl (fun ls hl => ?_)
  refine lk_X5_keepUndos_29 C hr k0 (fun U16 H locs ls hf hw hl => ?_) fuel _ _ _ _ _ hf hw (lv_sub hl [1, 0] rfl)
  cases hf
  exact w_vret C hr hw dX5_keepUndos_53
set_option maxHeartbeats 4000000 in
theorem ok_X5_setNow {l : Launch} {G : gG} {T : Tt} {V0 : Vt} {o : Nat} {V' : Vt} (hf : f_X5_setNow T V0 o = some V') : okM l G yX5_setNow cX5_setNow 1 none 0 [.ref (gb G + o)] V0 T none V' T 0 0 := by
  refine ok_intro (by decide) (Nat.le_of_ble_eq_true rfl) ?_
  intro p e s m below meth c ls C hr hnm hw hl
  have hx := C.1
  have hb := C.2.1
  have hown := C.2.2.2.1
  have hts := C.2.2.2.2.1
  have hl : lv_has ls 1 [(0, .ref (gb G + o))] := hl
  unfold f_X5_setNow at hf
  revert hf
  refine k_req (fun k0 hf => ?_)
  refine lv_aload_n hx hb dX5_setNow_0 rfl (lv_at hl 0 rfl) ?_
  revert hf
  refine k_drf (fun r1 er1 hf => ?_)
  refine gf_X5_98 C hw k0 er1 dX5_setNow_1 ?_
  refine lv_iconst (v := (1 : Int32)) hx hb dX5_setNow_4 (by decide) ?_
  refine lv_aload_n hx hb dX5_setNow_5 rfl (lv_at hl 0 rfl) ?_
  revert hf
  refine k_drf (fun r2 er2 hf => ?_)
  refine gf_X5_13 C hw k0 er2 dX5_setNow_6 ?_
  refine lv_iconst (v := (5 : Int32)) hx hb dX5_setNow_9 (by decide) ?_
  revert hf
  refine k_req (fun h3 hf => ?_)
  refine w_iald C hw h3 rfl dX5_setNow_10 ?_
  refine lv_i2l hx hb dX5_setNow_11 rfl ?_
  revert hf
  refine k_req (fun h4 hf => ?_)
  revert hf
  refine k_stp (fun U5 eU5 hf => ?_)
  refine w_last C hw h4 eU5 dX5_setNow_12 (fun H locs hw => ?_)
  refine lv_aload_n hx hb dX5_setNow_13 rfl (lv_at hl 0 rfl) ?_
  revert hf
  refine k_drf (fun r6 er6 hf => ?_)
  refine gf_X5_98 C hw k0 er6 dX5_setNow_14 ?_
  refine lv_iconst (v := (2 : Int32)) hx hb dX5_setNow_17 (by decide) ?_
  refine lv_aload_n hx hb dX5_setNow_18 rfl (lv_at hl 0 rfl) ?_
  refine gf_X5_487 C hw k0 dX5_setNow_19 ?_
  refine lv_i2l hx hb dX5_setNow_22 rfl ?_
  revert hf
  refine k_req (fun h7 hf => ?_)
  revert hf
  refine k_stp (fun U8 eU8 hf => ?_)
  refine w_last C hw h7 eU8 dX5_setNow_23 (fun H locs hw => ?_)
  refine lv_aload_n hx hb dX5_setNow_24 rfl (lv_at hl 0 rfl) ?_
  revert hf
  refine k_drf (fun r9 er9 hf => ?_)
  refine gf_X5_98 C hw k0 er9 dX5_setNow_25 ?_
  refine lv_iconst (v := (3 : Int32)) hx hb dX5_setNow_28 (by decide) ?_
  refine lv_aload_n hx hb dX5_setNow_29 rfl (lv_at hl 0 rfl) ?_
  refine gf_X5_490 C hw k0 dX5_setNow_30 ?_
  refine lv_i2l hx hb dX5_setNow_33 rfl ?_
  revert hf
  refine k_req (fun h10 hf => ?_)
  revert hf
  refine k_stp (fun U11 eU11 hf => ?_)
  refine w_last C hw h10 eU11 dX5_setNow_34 (fun H locs hw => ?_)
  refine lv_aload_n hx hb dX5_setNow_35 rfl (lv_at hl 0 rfl) ?_
  revert hf
  refine k_drf (fun r12 er12 hf => ?_)
  refine gf_X5_98 C hw k0 er12 dX5_setNow_36 ?_
  refine lv_iconst (v := (4 : Int32)) hx hb dX5_setNow_39 (by decide) ?_
  refine lv_aload_n hx hb dX5_setNow_40 rfl (lv_at hl 0 rfl) ?_
  revert hf
  refine k_drf (fun r13 er13 hf => ?_)
  refine gf_X5_13 C hw k0 er13 dX5_setNow_41 ?_
  refine lv_bipush (v := (9 : Int32)) hx hb dX5_setNow_44 (by decide) ?_
  revert hf
  refine k_req (fun h14 hf => ?_)
  refine w_iald C hw h14 rfl dX5_setNow_46 ?_
  refine lv_i2l hx hb dX5_setNow_47 rfl ?_
  revert hf
  refine k_req (fun h15 hf => ?_)
  revert hf
  refine k_stp (fun U16 eU16 hf => ?_)
  refine w_last C hw h15 eU16 dX5_setNow_48 (fun H locs hw => ?_)
  refine lv_aload_n hx hb dX5_setNow_49 rfl (lv_at hl 0 rfl) ?_
  refine lv_iconst (v := (0 : Int32)) hx hb dX5_setNow_50 (by decide) ?_
  revert hf
  refine k_stp (fun U17 eU17 hf => ?_)
  refine pf_X5_484 C hw k0 (by decide) eU17 dX5_setNow_51 (fun H locs hw => ?_)
  cases hf
  exact w_vret C hr hw dX5_setNow_54
set_option maxHeartbeats 4000000 in
theorem ok_X5_sumOf {l : Launch} {G : gG} {T : Tt} {V0 : Vt} {o : Nat} {a0 : Int32} {r : Int32} {V' : Vt} (hf : f_X5_sumOf T V0 o a0 = some (r, V')) : okM l G yX5_sumOf cX5_sumOf 2 (some .int) 6 [.ref (gb G + o), .int a0] V0 T (some (.int r)) V' T 0 0 := by
  refine ok_intro (by decide) (Nat.le_of_ble_eq_true rfl) ?_
  intro p e s m below meth c ls C hr hnm hw hl
  have hx := C.1
  have hb := C.2.1
  have hown := C.2.2.2.1
  have hts := C.2.2.2.2.1
  have hl : lv_has ls 2 [(0, .ref (gb G + o)), (1, .int a0)] := hl
  unfold f_X5_sumOf at hf
  revert hf
  refine k_req (fun k0 hf => ?_)
  refine lv_aload_n hx hb dX5_sumOf_0 rfl (lv_at hl 0 rfl) ?_
  refine gf_X5_484 C hw k0 dX5_sumOf_1 ?_
  refine lv_if_ne (tgt := 24) hx hb dX5_sumOf_4 (by decide) (fun c1 => ?_) (fun c1 => ?_)
  · replace hf := ite_f c1 hf
    refine lv_iconst (v := ((-1) : Int32)) hx hb dX5_sumOf_24 (by decide) ?_
    cases hf
    exact w_iret C hr hw dX5_sumOf_25
  · replace hf := ite_t c1 hf
    refine lv_aload_n hx hb dX5_sumOf_7 rfl (lv_at hl 0 rfl) ?_
    revert hf
    refine k_drf (fun r2 er2 hf => ?_)
    refine gf_X5_118 C hw k0 er2 dX5_sumOf_8 ?_
    refine lv_iload_n hx hb dX5_sumOf_11 rfl (lv_at hl 1 rfl) ?_
    revert hf
    refine k_req (fun h3 hf => ?_)
    refine w_iald C hw h3 rfl dX5_sumOf_12 ?_
    refine lv_aload_n hx hb dX5_sumOf_13 rfl (lv_at hl 0 rfl) ?_
    revert hf
    refine k_drf (fun r4 er4 hf => ?_)
    refine gf_X5_118 C hw k0 er4 dX5_sumOf_14 ?_
    refine lv_iload_n hx hb dX5_sumOf_17 rfl (lv_at hl 1 rfl) ?_
    refine lv_iconst (v := (1 : Int32)) hx hb dX5_sumOf_18 (by decide) ?_
    refine lv_iadd hx hb dX5_sumOf_19 ?_
    revert hf
    refine k_req (fun h5 hf => ?_)
    refine w_iald C hw h5 rfl dX5_sumOf_20 ?_
    refine lv_icmp_ne (tgt := 26) hx hb dX5_sumOf_21 (by decide) (fun c6 => ?_) (fun c6 => ?_)
    · replace hf := ite_f c6 hf
      refine lv_aload_n hx hb dX5_sumOf_26 rfl (lv_at hl 0 rfl) ?_
      refine lv_iconst (v := (1 : Int32)) hx hb dX5_sumOf_27 (by decide) ?_
      revert hf
      refine k_stp (fun U7 eU7 hf => ?_)
      refine pf_X5_302 C hw k0 (by decide) eU7 dX5_sumOf_28 (fun H locs hw => ?_)
      refine lv_aload_n hx hb dX5_sumOf_31 rfl (lv_at hl 0 rfl) ?_
      refine lv_aload_n hx hb dX5_sumOf_32 rfl (lv_at hl 0 rfl) ?_
      revert hf
      refine k_drf (fun r8 er8 hf => ?_)
      refine gf_X5_118 C hw k0 er8 dX5_sumOf_33 ?_
      refine lv_iload_n hx hb dX5_sumOf_36 rfl (lv_at hl 1 rfl) ?_
      revert hf
      refine k_req (fun h9 hf => ?_)
      refine w_iald C hw h9 rfl dX5_sumOf_37 ?_
      refine lv_aload_n hx hb dX5_sumOf_38 rfl (lv_at hl 0 rfl) ?_
      revert hf
      refine k_drf (fun r10 er10 hf => ?_)
      refine gf_X5_118 C hw k0 er10 dX5_sumOf_39 ?_
      refine lv_iload_n hx hb dX5_sumOf_42 rfl (lv_at hl 1 rfl) ?_
      refine lv_iconst (v := (1 : Int32)) hx hb dX5_sumOf_43 (by decide) ?_
      refine lv_iadd hx hb dX5_sumOf_44 ?_
      revert hf
      refine k_req (fun h11 hf => ?_)
      refine w_iald C hw h11 rfl dX5_sumOf_45 ?_
      revert hf
      refine k_pcl (fun U14 h12 hf => ?_)
      refine w_afv hw (w_rV (As := [.int (U7.1 r8 (ixN a0)), .int (U7.1 r10 (ixN (a0 + (1 : Int32))))]) C hw (ok_X5_reckonAll h12) (cw_X5_401 hts (Nat.le_of_ble_eq_true rfl) (Nat.le_of_ble_eq_true rfl)) rfl (by decide) (of_req h12).1 rfl hl.1 rfl (Nat.le_of_ble_eq_true rfl) ⟨Nat.zero_le _, Nat.zero_le _⟩ dX5_sumOf_46) (fun H locs hw => ?_)
      refine lv_aload_n hx hb dX5_sumOf_49 rfl (lv_at hl 0 rfl) ?_
      refine lv_iconst (v := (0 : Int32)) hx hb dX5_sumOf_50 (by decide) ?_
      revert hf
      refine k_stp (fun U15 eU15 hf => ?_)
      refine pf_X5_302 C hw k0 (by decide) eU15 dX5_sumOf_51 (fun H locs hw => ?_)
      refine lv_aload_n hx hb dX5_sumOf_54 rfl (lv_at hl 0 rfl) ?_
      refine lv_aload_n hx hb dX5_sumOf_55 rfl (lv_at hl 0 rfl) ?_
      refine gf_X5_380 C hw k0 dX5_sumOf_56 ?_
      revert hf
      refine k_req (fun h16 hf => ?_)
      revert hf
      refine k_stp (fun U17 eU17 hf => ?_)
      refine pf_X5_484 C hw k0 h16 eU17 dX5_sumOf_59 (fun H locs hw => ?_)
      refine lv_aload_n hx hb dX5_sumOf_62 rfl (lv_at hl 0 rfl) ?_
      refine gf_X5_398 C hw k0 dX5_sumOf_63 ?_
      refine lv_l2i hx hb dX5_sumOf_66 rfl ?_
      cases hf
      exact w_iret C hr hw dX5_sumOf_67
    · replace hf := ite_t c6 hf
      refine lv_iconst (v := ((-1) : Int32)) hx hb dX5_sumOf_24 (by decide) ?_
      cases hf
      exact w_iret C hr hw dX5_sumOf_25
set_option maxHeartbeats 4000000 in
theorem jk_X5_isAsked_52 {l : Launch} {G : gG} {p : Program} {e : Env} {s : State} {m : MethodId} {args : Array Value} {below : List Frame} {meth : Method} {c : Code} {T : Tt} {V0 : Vt} {r : Int32} {V' : Vt} (C : Cx G p s m args meth c cX5_isAsked RX5 4) (hr : meth.sig.returnType = (some .boolean)) {x0 : Nat} {s0 : Int32} {H : Heap} {locs : List Loc} {ls : Array Slot} (k0 : T.1 x0 = 6) (hf : f_X5_isAsked_J52 T V0 x0 s0 = some (r, V')) (hw : wS G V0 T H locs) (hl : lv_has ls 4 [(0, .ref (gb G + x0))]) : W p l e (rmL 7 0 0) s m args below meth c H locs 0 0 (eQ G below (some (.int r)) V' T args s 0 0) (F0 m 52 ls [.int s0]) := by
  have hx := C.1
  have hb := C.2.1
  have hown := C.2.2.2.1
  have hts := C.2.2.2.2.1
  unfold f_X5_isAsked_J52 at hf
  refine lv_istore_n (lv' := [(3, .int s0), (0, .ref (gb G + x0))]) hx hb dX5_isAsked_52 rfl hl (by decide) rfl (fun ls hl => ?_)
  refine lv_aload_n hx hb dX5_isAsked_53 rfl (lv_at hl 1 rfl) ?_
  refine lv_iconst (v := (0 : Int32)) hx hb dX5_isAsked_54 (by decide) ?_
  revert hf
  refine k_stp (fun U13 eU13 hf => ?_)
  refine pf_X5_484 C hw k0 (by decide) eU13 dX5_isAsked_55 (fun H locs hw => ?_)
  refine lv_iload_n hx hb dX5_isAsked_58 rfl (lv_at hl 0 rfl) ?_
  revert hf
  refine k_req (fun h14 hf => ?_)
  cases hf
  exact w_zret C hr hw h14 dX5_isAsked_59
set_option maxHeartbeats 4000000 in
theorem jk_X5_isAsked_51 {l : Launch} {G : gG} {p : Program} {e : Env} {s : State} {m : MethodId} {args : Array Value} {below : List Frame} {meth : Method} {c : Code} {T : Tt} {V0 : Vt} {r : Int32} {V' : Vt} (C : Cx G p s m args meth c cX5_isAsked RX5 4) (hr : meth.sig.returnType = (some .boolean)) {x0 : Nat} {H : Heap} {locs : List Loc} {ls : Array Slot} (k0 : T.1 x0 = 6) (hf : f_X5_isAsked_J51 T V0 x0 = some (r, V')) (hw : wS G V0 T H locs) (hl : lv_has ls 4 [(0, .ref (gb G + x0))]) : W p l e (rmL 7 0 0) s m args below meth c H locs 0 0 (eQ G below (some (.int r)) V' T args s 0 0) (F0 m 51 ls []) := by
  have hx := C.1
  have hb := C.2.1
  have hown := C.2.2.2.1
  have hts := C.2.2.2.2.1
  unfold f_X5_isAsked_J51 at hf
  refine lv_iconst (v := (0 : Int32)) hx hb dX5_isAsked_51 (by decide) ?_
  exact jk_X5_isAsked_52 C hr k0 hf hw (lv_sub hl [0] rfl)
set_option maxHeartbeats 4000000 in
theorem ok_X5_isAsked {l : Launch} {G : gG} {T : Tt} {V0 : Vt} {o : Nat} {a0 : Int32} {r : Int32} {V' : Vt} (hf : f_X5_isAsked T V0 o a0 = some (r, V')) : okM l G yX5_isAsked cX5_isAsked 4 (some .boolean) 7 [.ref (gb G + o), .int a0] V0 T (some (.int r)) V' T 0 0 := by
  refine ok_intro (by decide) (Nat.le_of_ble_eq_true rfl) ?_
  intro p e s m below meth c ls C hr hnm hw hl
  have hx := C.1
  have hb := C.2.1
  have hown := C.2.2.2.1
  have hts := C.2.2.2.2.1
  have hl : lv_has ls 4 [(0, .ref (gb G + o)), (1, .int a0)] := hl
  unfold f_X5_isAsked at hf
  revert hf
  refine k_req (fun k0 hf => ?_)
  refine lv_aload_n hx hb dX5_isAsked_0 rfl (lv_at hl 0 rfl) ?_
  revert hf
  refine k_pcl (fun U3 h1 hf => ?_)
  refine w_afv hw (w_rV (As := []) C hw (ok_X5_setNow h1) (cw_X5_493 hts (Nat.le_of_ble_eq_true rfl) (Nat.le_of_ble_eq_true rfl)) rfl (by decide) (of_req h1).1 rfl hl.1 rfl (Nat.le_of_ble_eq_true rfl) ⟨Nat.zero_le _, Nat.zero_le _⟩ dX5_isAsked_1) (fun H locs hw => ?_)
  refine lv_aload_n hx hb dX5_isAsked_4 rfl (lv_at hl 0 rfl) ?_
  revert hf
  refine k_drf (fun r4 er4 hf => ?_)
  refine gf_X5_118 C hw k0 er4 dX5_isAsked_5 ?_
  refine lv_iload_n hx hb dX5_isAsked_8 rfl (lv_at hl 1 rfl) ?_
  refine lv_bipush (v := (7 : Int32)) hx hb dX5_isAsked_9 (by decide) ?_
  refine lv_iadd hx hb dX5_isAsked_11 ?_
  revert hf
  refine k_req (fun h5 hf => ?_)
  refine w_iald C hw h5 rfl dX5_isAsked_12 ?_
  refine lv_aload_n hx hb dX5_isAsked_13 rfl (lv_at hl 0 rfl) ?_
  revert hf
  refine k_drf (fun r6 er6 hf => ?_)
  refine gf_X5_118 C hw k0 er6 dX5_isAsked_14 ?_
  refine lv_iload_n hx hb dX5_isAsked_17 rfl (lv_at hl 1 rfl) ?_
  refine lv_bipush (v := (8 : Int32)) hx hb dX5_isAsked_18 (by decide) ?_
  refine lv_iadd hx hb dX5_isAsked_20 ?_
  revert hf
  refine k_req (fun h7 hf => ?_)
  refine w_iald C hw h7 rfl dX5_isAsked_21 ?_
  refine lv_icmp_ne (tgt := 27) hx hb dX5_isAsked_22 (by decide) (fun c8 => ?_) (fun c8 => ?_)
  · replace hf := ite_f c8 hf
    refine lv_aload_n hx hb dX5_isAsked_27 rfl (lv_at hl 0 rfl) ?_
    refine lv_iload_n hx hb dX5_isAsked_28 rfl (lv_at hl 1 rfl) ?_
    refine lv_bipush (v := (7 : Int32)) hx hb dX5_isAsked_29 (by decide) ?_
    refine lv_iadd hx hb dX5_isAsked_31 ?_
    revert hf
    refine k_cal (fun z10 U11 h9 hf => ?_)
    refine w_afi hw (w_rV (As := [.int (a0 + (7 : Int32))]) C hw (ok_X5_sumOf h9) (cw_X5_496 hts (Nat.le_of_ble_eq_true rfl) (Nat.le_of_ble_eq_true rfl)) rfl (by decide) (of_req h9).1 rfl hl.1 rfl (Nat.le_of_ble_eq_true rfl) ⟨Nat.zero_le _, Nat.zero_le _⟩ dX5_isAsked_32) (fun H locs hw => ?_)
    refine lv_istore_n (lv' := [(2, .int z10), (0, .ref (gb G + o)), (1, .int a0)]) hx hb dX5_isAsked_35 rfl hl (by decide) rfl (fun ls hl => ?_)
    refine lv_aload_n hx hb dX5_isAsked_36 rfl (lv_at hl 1 rfl) ?_
    refine gf_X5_484 C hw k0 dX5_isAsked_37 ?_
    refine lv_if_ne (tgt := 51) hx hb dX5_isAsked_40 (by decide) (fun c12 => ?_) (fun c12 => ?_)
    · replace hf := ite_f c12 hf
      exact jk_X5_isAsked_51 C hr k0 hf hw (lv_sub hl [1] rfl)
    · replace hf := ite_t c12 hf
      refine lv_iload_n hx hb dX5_isAsked_43 rfl (lv_at hl 0 rfl) ?_
      refine lv_if_eq (tgt := 51) hx hb dX5_isAsked_44 (by decide) (fun c15 => ?_) (fun c15 => ?_)
      · replace hf := ite_t c15 hf
        exact jk_X5_isAsked_51 C hr k0 hf hw (lv_sub hl [1] rfl)
      · replace hf := ite_f c15 hf
        refine lv_iconst (v := (1 : Int32)) hx hb dX5_isAsked_47 (by decide) ?_
        refine lv_goto (tgt := 52) hx hb dX5_isAsked_48 (by decide) ?_
        exact jk_X5_isAsked_52 C hr k0 hf hw (lv_sub hl [1] rfl)
  · replace hf := ite_t c8 hf
    refine lv_iconst (v := (1 : Int32)) hx hb dX5_isAsked_25 (by decide) ?_
    cases hf
    exact w_zret C hr hw (by decide) dX5_isAsked_26
set_option maxHeartbeats 4000000 in
theorem ok_X5_act {l : Launch} {G : gG} {T : Tt} {V0 : Vt} {o : Nat} {a0 : Int32} {a1 : Int32} {a2 : Int32} {a3 : Int32} {r : Int32} {V' : Vt} (hf : f_X5_act T V0 o a0 a1 a2 a3 = some (r, V')) : okM l G yX5_act cX5_act 5 (some .int) 11 [.ref (gb G + o), .int a0, .int a1, .int a2, .int a3] V0 T (some (.int r)) V' T 0 0 := by
  refine ok_intro (by decide) (Nat.le_of_ble_eq_true rfl) ?_
  intro p e s m below meth c ls C hr hnm hw hl
  have hx := C.1
  have hb := C.2.1
  have hown := C.2.2.2.1
  have hts := C.2.2.2.2.1
  have hl : lv_has ls 5 [(0, .ref (gb G + o)), (1, .int a0), (2, .int a1), (3, .int a2), (4, .int a3)] := hl
  unfold f_X5_act at hf
  revert hf
  refine k_req (fun k0 hf => ?_)
  refine lv_iload_n hx hb dX5_act_0 rfl (lv_at hl 1 rfl) ?_
  by_cases c1 : a0 = (0 : Int32)
  · replace hf := ite_t c1 hf
    refine lv_tableIn (tgt := 28) (off := 27) hx hb dX5_act_1 (by rw [c1]; decide) (by rw [c1]; decide) (by rw [c1]; decide) (by decide) ?_
    refine lv_aload_n hx hb dX5_act_28 rfl (lv_at hl 0 rfl) ?_
    refine lv_iload hx hb dX5_act_29 (lv_at hl 4 rfl) ?_
    refine lv_iload_n hx hb dX5_act_31 rfl (lv_at hl 2 rfl) ?_
    revert hf
    refine k_cal (fun z3 U4 h2 hf => ?_)
    refine w_afi hw (w_rV (As := [.int a3, .int a1]) C hw (ok_X5_pourNow h2) (cw_X5_427 hts (Nat.le_of_ble_eq_true rfl) (Nat.le_of_ble_eq_true rfl)) rfl (by decide) (of_req h2).1 rfl hl.1 rfl (Nat.le_of_ble_eq_true rfl) ⟨Nat.zero_le _, Nat.zero_le _⟩ dX5_act_32) (fun H locs hw => ?_)
    cases hf
    exact w_iret C hr hw dX5_act_35
  · replace hf := ite_f c1 hf
    by_cases c5 : a0 = (1 : Int32)
    · replace hf := ite_t c5 hf
      refine lv_tableIn (tgt := 36) (off := 35) hx hb dX5_act_1 (by rw [c5]; decide) (by rw [c5]; decide) (by rw [c5]; decide) (by decide) ?_
      refine lv_aload_n hx hb dX5_act_36 rfl (lv_at hl 0 rfl) ?_
      refine lv_iload_n hx hb dX5_act_37 rfl (lv_at hl 3 rfl) ?_
      refine lv_iload hx hb dX5_act_38 (lv_at hl 4 rfl) ?_
      refine lv_iload_n hx hb dX5_act_40 rfl (lv_at hl 2 rfl) ?_
      revert hf
      refine k_cal (fun z7 U8 h6 hf => ?_)
      refine w_afi hw (w_rV (As := [.int a2, .int a3, .int a1]) C hw (ok_X5_rackNow h6) (cw_X5_440 hts (Nat.le_of_ble_eq_true rfl) (Nat.le_of_ble_eq_true rfl)) rfl (by decide) (of_req h6).1 rfl hl.1 rfl (Nat.le_of_ble_eq_true rfl) ⟨Nat.zero_le _, Nat.zero_le _⟩ dX5_act_41) (fun H locs hw => ?_)
      cases hf
      exact w_iret C hr hw dX5_act_44
    · replace hf := ite_f c5 hf
      by_cases c9 : a0 = (2 : Int32)
      · replace hf := ite_t c9 hf
        refine lv_tableIn (tgt := 45) (off := 44) hx hb dX5_act_1 (by rw [c9]; decide) (by rw [c9]; decide) (by rw [c9]; decide) (by decide) ?_
        refine lv_aload_n hx hb dX5_act_45 rfl (lv_at hl 0 rfl) ?_
        refine lv_iload_n hx hb dX5_act_46 rfl (lv_at hl 3 rfl) ?_
        refine lv_iload_n hx hb dX5_act_47 rfl (lv_at hl 2 rfl) ?_
        revert hf
        refine k_cal (fun z11 U12 h10 hf => ?_)
        refine w_afi hw (w_rV (As := [.int a2, .int a1]) C hw (ok_X5_bottleNow h10) (cw_X5_456 hts (Nat.le_of_ble_eq_true rfl) (Nat.le_of_ble_eq_true rfl)) rfl (by decide) (of_req h10).1 rfl hl.1 rfl (Nat.le_of_ble_eq_true rfl) ⟨Nat.zero_le _, Nat.zero_le _⟩ dX5_act_48) (fun H locs hw => ?_)
        cases hf
        exact w_iret C hr hw dX5_act_51
      · replace hf := ite_f c9 hf
        have gc1 := lv_neT (a := 0) c1 (by decide)
        have gc5 := lv_neT (a := 1) c5 (by decide)
        have gc9 := lv_neT (a := 2) c9 (by decide)
        refine lv_tableOut (tgt := 52) hx hb dX5_act_1 (by show Int32.toInt a0 < 0 ∨ 2 < Int32.toInt a0; omega) (by decide) ?_
        refine lv_aload_n hx hb dX5_act_52 rfl (lv_at hl 0 rfl) ?_
        revert hf
        refine k_cal (fun z14 U15 h13 hf => ?_)
        refine w_afi hw (w_rV (As := []) C hw (ok_X5_passNow h13) (cw_X5_462 hts (Nat.le_of_ble_eq_true rfl) (Nat.le_of_ble_eq_true rfl)) rfl (by decide) (of_req h13).1 rfl hl.1 rfl (Nat.le_of_ble_eq_true rfl) ⟨Nat.zero_le _, Nat.zero_le _⟩ dX5_act_53) (fun H locs hw => ?_)
        cases hf
        exact w_iret C hr hw dX5_act_56
set_option maxHeartbeats 4000000 in
theorem jk_X5_runOnce_79 {l : Launch} {G : gG} {p : Program} {e : Env} {s : State} {m : MethodId} {args : Array Value} {below : List Frame} {meth : Method} {c : Code} {T : Tt} {V0 : Vt} {r : Int32} {V' : Vt} (C : Cx G p s m args meth c cX5_runOnce RX5 6) (hr : meth.sig.returnType = (some .int)) {x0 : Nat} {s0 : Nat} {s1 : Int32} {H : Heap} {locs : List Loc} {ls : Array Slot} (k0 : T.1 x0 = 6) (hf : f_X5_runOnce_J79 T V0 x0 s0 s1 = some (r, V')) (hw : wS G V0 T H locs) (hl : lv_has ls 6 [(0, .ref (gb G + x0))]) : W p l e (rmL 12 0 0) s m args below meth c H locs 0 0 (eQ G below (some (.int r)) V' T args s 0 0) (F0 m 79 ls [.int s1, .ref (gb G + s0)]) := by
  have hx := C.1
  have hb := C.2.1
  have hown := C.2.2.2.1
  have hts := C.2.2.2.2.1
  unfold f_X5_runOnce_J79 at hf
  revert hf
  refine k_req (fun k20 hf => ?_)
  revert hf
  refine k_stp (fun U21 eU21 hf => ?_)
  refine pf_X5_490 C hw k20 eU21 dX5_runOnce_79 (fun H locs hw => ?_)
  refine lv_aload_n hx hb dX5_runOnce_82 rfl (lv_at hl 0 rfl) ?_
  refine lv_dup hx hb dX5_runOnce_83 rfl ?_
  refine gf_X5_487 C hw k0 dX5_runOnce_84 ?_
  refine lv_iconst (v := (1 : Int32)) hx hb dX5_runOnce_87 (by decide) ?_
  refine lv_iadd hx hb dX5_runOnce_88 ?_
  revert hf
  refine k_stp (fun U22 eU22 hf => ?_)
  refine pf_X5_487 C hw k0 eU22 dX5_runOnce_89 (fun H locs hw => ?_)
  refine lv_iconst (v := (0 : Int32)) hx hb dX5_runOnce_92 (by decide) ?_
  cases hf
  exact w_iret C hr hw dX5_runOnce_93
set_option maxHeartbeats 4000000 in
theorem ok_X5_runOnce {l : Launch} {G : gG} {T : Tt} {V0 : Vt} {o : Nat} {a0 : Int32} {r : Int32} {V' : Vt} (hf : f_X5_runOnce T V0 o a0 = some (r, V')) : okM l G yX5_runOnce cX5_runOnce 6 (some .int) 12 [.ref (gb G + o), .int a0] V0 T (some (.int r)) V' T 0 0 := by
  refine ok_intro (by decide) (Nat.le_of_ble_eq_true rfl) ?_
  intro p e s m below meth c ls C hr hnm hw hl
  have hx := C.1
  have hb := C.2.1
  have hown := C.2.2.2.1
  have hts := C.2.2.2.2.1
  have hl : lv_has ls 6 [(0, .ref (gb G + o)), (1, .int a0)] := hl
  unfold f_X5_runOnce at hf
  revert hf
  refine k_req (fun k0 hf => ?_)
  refine lv_aload_n hx hb dX5_runOnce_0 rfl (lv_at hl 0 rfl) ?_
  refine lv_iload_n hx hb dX5_runOnce_1 rfl (lv_at hl 1 rfl) ?_
  refine lv_iconst (v := (1 : Int32)) hx hb dX5_runOnce_2 (by decide) ?_
  refine lv_iadd hx hb dX5_runOnce_3 ?_
  revert hf
  refine k_cal (fun z2 U3 h1 hf => ?_)
  refine w_afi hw (w_rV (As := [.int (a0 + (1 : Int32))]) C hw (ok_X5_sumOf h1) (cw_X5_496 hts (Nat.le_of_ble_eq_true rfl) (Nat.le_of_ble_eq_true rfl)) rfl (by decide) (of_req h1).1 rfl hl.1 rfl (Nat.le_of_ble_eq_true rfl) ⟨Nat.zero_le _, Nat.zero_le _⟩ dX5_runOnce_4) (fun H locs hw => ?_)
  refine lv_istore_n (lv' := [(2, .int z2), (0, .ref (gb G + o)), (1, .int a0)]) hx hb dX5_runOnce_7 rfl hl (by decide) rfl (fun ls hl => ?_)
  refine lv_aload_n hx hb dX5_runOnce_8 rfl (lv_at hl 1 rfl) ?_
  refine lv_iload_n hx hb dX5_runOnce_9 rfl (lv_at hl 2 rfl) ?_
  refine lv_iconst (v := (3 : Int32)) hx hb dX5_runOnce_10 (by decide) ?_
  refine lv_iadd hx hb dX5_runOnce_11 ?_
  revert hf
  refine k_cal (fun z5 U6 h4 hf => ?_)
  refine w_afi hw (w_rV (As := [.int (a0 + (3 : Int32))]) C hw (ok_X5_sumOf h4) (cw_X5_496 hts (Nat.le_of_ble_eq_true rfl) (Nat.le_of_ble_eq_true rfl)) rfl (by decide) (of_req h4).1 rfl hl.1 rfl (Nat.le_of_ble_eq_true rfl) ⟨Nat.zero_le _, Nat.zero_le _⟩ dX5_runOnce_12) (fun H locs hw => ?_)
  refine lv_istore_n (lv' := [(3, .int z5), (2, .int z2), (0, .ref (gb G + o)), (1, .int a0)]) hx hb dX5_runOnce_15 rfl hl (by decide) rfl (fun ls hl => ?_)
  refine lv_aload_n hx hb dX5_runOnce_16 rfl (lv_at hl 2 rfl) ?_
  refine lv_iload_n hx hb dX5_runOnce_17 rfl (lv_at hl 3 rfl) ?_
  refine lv_iconst (v := (5 : Int32)) hx hb dX5_runOnce_18 (by decide) ?_
  refine lv_iadd hx hb dX5_runOnce_19 ?_
  revert hf
  refine k_cal (fun z8 U9 h7 hf => ?_)
  refine w_afi hw (w_rV (As := [.int (a0 + (5 : Int32))]) C hw (ok_X5_sumOf h7) (cw_X5_496 hts (Nat.le_of_ble_eq_true rfl) (Nat.le_of_ble_eq_true rfl)) rfl (by decide) (of_req h7).1 rfl hl.1 rfl (Nat.le_of_ble_eq_true rfl) ⟨Nat.zero_le _, Nat.zero_le _⟩ dX5_runOnce_20) (fun H locs hw => ?_)
  refine lv_istore (lv' := [(4, .int z8), (3, .int z5), (2, .int z2), (0, .ref (gb G + o)), (1, .int a0)]) hx hb dX5_runOnce_23 hl (by decide) rfl (fun ls hl => ?_)
  refine lv_aload_n hx hb dX5_runOnce_25 rfl (lv_at hl 3 rfl) ?_
  refine gf_X5_484 C hw k0 dX5_runOnce_26 ?_
  refine lv_if_eq (tgt := 35) hx hb dX5_runOnce_29 (by decide) (fun c10 => ?_) (fun c10 => ?_)
  · replace hf := ite_t c10 hf
    refine lv_aload_n hx hb dX5_runOnce_35 rfl (lv_at hl 3 rfl) ?_
    refine lv_aload_n hx hb dX5_runOnce_36 rfl (lv_at hl 3 rfl) ?_
    revert hf
    refine k_drf (fun r11 er11 hf => ?_)
    refine gf_X5_118 C hw k0 er11 dX5_runOnce_37 ?_
    refine lv_iload_n hx hb dX5_runOnce_40 rfl (lv_at hl 4 rfl) ?_
    revert hf
    refine k_req (fun h12 hf => ?_)
    refine w_iald C hw h12 rfl dX5_runOnce_41 ?_
    refine lv_iload_n hx hb dX5_runOnce_42 rfl (lv_at hl 2 rfl) ?_
    refine lv_iload_n hx hb dX5_runOnce_43 rfl (lv_at hl 1 rfl) ?_
    refine lv_iload hx hb dX5_runOnce_44 (lv_at hl 0 rfl) ?_
    revert hf
    refine k_cal (fun z14 U15 h13 hf => ?_)
    refine w_afi hw (w_rV (As := [.int (U9.1 r11 (ixN a0)), .int z2, .int z5, .int z8]) C hw (ok_X5_act h13) (cw_X5_499 hts (Nat.le_of_ble_eq_true rfl) (Nat.le_of_ble_eq_true rfl)) rfl (by decide) (of_req h13).1 rfl hl.1 rfl (Nat.le_of_ble_eq_true rfl) ⟨Nat.zero_le _, Nat.zero_le _⟩ dX5_runOnce_46) (fun H locs hw => ?_)
    refine lv_istore (lv' := [(5, .int z14), (4, .int z8), (3, .int z5), (2, .int z2), (0, .ref (gb G + o)), (1, .int a0)]) hx hb dX5_runOnce_49 hl (by decide) rfl (fun ls hl => ?_)
    refine lv_iload hx hb dX5_runOnce_51 (lv_at hl 0 rfl) ?_
    refine lv_if_ge (tgt := 59) hx hb dX5_runOnce_53 (by decide) (fun c16 => ?_) (fun c16 => ?_)
    · replace hf := ite_t c16 hf
      refine lv_aload_n hx hb dX5_runOnce_59 rfl (lv_at hl 4 rfl) ?_
      refine lv_aload_n hx hb dX5_runOnce_60 rfl (lv_at hl 4 rfl) ?_
      revert hf
      refine k_drf (fun r17 er17 hf => ?_)
      refine gf_X5_118 C hw k0 er17 dX5_runOnce_61 ?_
      refine lv_iload_n hx hb dX5_runOnce_64 rfl (lv_at hl 5 rfl) ?_
      revert hf
      refine k_req (fun h18 hf => ?_)
      refine w_iald C hw h18 rfl dX5_runOnce_65 ?_
      refine lv_iconst (v := (2 : Int32)) hx hb dX5_runOnce_66 (by decide) ?_
      refine lv_icmp_ne (tgt := 75) hx hb dX5_runOnce_67 (by decide) (fun c19 => ?_) (fun c19 => ?_)
      · replace hf := ite_f c19 hf
        refine lv_aload_n hx hb dX5_runOnce_75 rfl (lv_at hl 4 rfl) ?_
        refine gf_X5_490 C hw k0 dX5_runOnce_76 ?_
        exact jk_X5_runOnce_79 C hr k0 hf hw (lv_sub hl [4] rfl)
      · replace hf := ite_t c19 hf
        refine lv_iload hx hb dX5_runOnce_70 (lv_at hl 0 rfl) ?_
        refine lv_goto (tgt := 79) hx hb dX5_runOnce_72 (by decide) ?_
        exact jk_X5_runOnce_79 C hr k0 hf hw (lv_sub hl [4] rfl)
    · replace hf := ite_f c16 hf
      refine lv_bipush (v := ((-3) : Int32)) hx hb dX5_runOnce_56 (by decide) ?_
      cases hf
      exact w_iret C hr hw dX5_runOnce_58
  · replace hf := ite_f c10 hf
    refine lv_bipush (v := ((-3) : Int32)) hx hb dX5_runOnce_32 (by decide) ?_
    cases hf
    exact w_iret C hr hw dX5_runOnce_34
set_option maxHeartbeats 4000000 in
theorem lk_X5_giveBack_35 {l : Launch} {G : gG} {p : Program} {e : Env} {s : State} {m : MethodId} {args : Array Value} {below : List Frame} {meth : Method} {c : Code} {T : Tt} {V' : Vt} (C : Cx G p s m args meth c cX5_giveBack RX5 3) (hr : meth.sig.returnType = none) {x0 : Nat} {x1 : Int32} {kx35_59 : Vt → Option (Vt)} (k0 : T.1 x0 = 6) (hkx35_59 : ∀ (W1 : Vt) (H : Heap) (locs : List Loc) (ls : Array Slot), kx35_59 W1 = some V' → wS G W1 T H locs → lv_has ls 3 [(0, .ref (gb G + x0)), (1, .int x1)] → W p l e (rmL 1 0 0) s m args below meth c H locs 0 0 (eQ G below none V' T args s 0 0) (F0 m 59 ls [])) : ∀ (n : Nat) (x2 : Int32) (V1 : Vt) (H : Heap) (locs : List Loc) (ls : Array Slot), f_X5_giveBack_L35 T x0 x1 kx35_59 n x2 V1 = some V' → wS G V1 T H locs → lv_has ls 3 [(0, .ref (gb G + x0)), (1, .int x1), (2, .int x2)] → W p l e (rmL 1 0 0) s m args below meth c H locs 0 0 (eQ G below none V' T args s 0 0) (F0 m 35 ls []) := by
  have hx := C.1
  have hb := C.2.1
  have hown := C.2.2.2.1
  have hts := C.2.2.2.2.1
  intro n
  induction n with
  | zero =>
    intro x2 V1 H locs ls hf
    cases hf
  | succ n ih =>
    intro x2 V1 H locs ls hf hw hl
    unfold f_X5_giveBack_L35 at hf
    refine lv_iload_n hx hb dX5_giveBack_35 rfl (lv_at hl 2 rfl) ?_
    refine lv_bipush (v := (16 : Int32)) hx hb dX5_giveBack_36 (by decide) ?_
    refine lv_icmp_ge (tgt := 59) hx hb dX5_giveBack_38 (by decide) (fun c12 => ?_) (fun c12 => ?_)
    · replace hf := ite_t c12 hf
      exact hkx35_59 _ _ _ _ hf hw (lv_sub hl [0, 1] rfl)
    · replace hf := ite_f c12 hf
      refine lv_aload_n hx hb dX5_giveBack_41 rfl (lv_at hl 0 rfl) ?_
      revert hf
      refine k_drf (fun r13 er13 hf => ?_)
      refine gf_X5_26 C hw k0 er13 dX5_giveBack_42 ?_
      refine lv_iload_n hx hb dX5_giveBack_45 rfl (lv_at hl 2 rfl) ?_
      refine lv_aload_n hx hb dX5_giveBack_46 rfl (lv_at hl 0 rfl) ?_
      revert hf
      refine k_drf (fun r14 er14 hf => ?_)
      refine gf_X5_32 C hw k0 er14 dX5_giveBack_47 ?_
      refine lv_iload_n hx hb dX5_giveBack_50 rfl (lv_at hl 2 rfl) ?_
      revert hf
      refine k_req (fun h15 hf => ?_)
      refine w_iald C hw h15 rfl dX5_giveBack_51 ?_
      revert hf
      refine k_req (fun h16 hf => ?_)
      revert hf
      refine k_stp (fun U17 eU17 hf => ?_)
      refine w_iast C hw h16 eU17 dX5_giveBack_52 (fun H locs hw => ?_)
      revert hf
      refine k_stp (fun z18 ez18 hf => ?_)
      refine lv_iinc (k := 2) (lv' := [(2, .int z18), (0, .ref (gb G + x0)), (1, .int x1)]) hx hb dX5_giveBack_53 hl rfl (inc_e (by decide) ez18) (by decide) rfl (fun ls hl => ?_)
      refine lv_goto (tgt := 35) hx hb dX5_giveBack_56 (by decide) ?_
      exact ih _ _ _ _ _ hf hw (lv_sub hl [1, 2, 0] rfl)
set_option maxHeartbeats 4000000 in
theorem lk_X5_giveBack_8 {l : Launch} {G : gG} {p : Program} {e : Env} {s : State} {m : MethodId} {args : Array Value} {below : List Frame} {meth : Method} {c : Code} {T : Tt} {V' : Vt} (C : Cx G p s m args meth c cX5_giveBack RX5 3) (hr : meth.sig.returnType = none) {x0 : Nat} {x1 : Int32} {kx8_33 : Vt → Option (Vt)} (k0 : T.1 x0 = 6) (hkx8_33 : ∀ (W1 : Vt) (H : Heap) (locs : List Loc) (ls : Array Slot), kx8_33 W1 = some V' → wS G W1 T H locs → lv_has ls 3 [(0, .ref (gb G + x0)), (1, .int x1)] → W p l e (rmL 1 0 0) s m args below meth c H locs 0 0 (eQ G below none V' T args s 0 0) (F0 m 33 ls [])) : ∀ (n : Nat) (x2 : Int32) (V1 : Vt) (H : Heap) (locs : List Loc) (ls : Array Slot), f_X5_giveBack_L8 T x0 x1 kx8_33 n x2 V1 = some V' → wS G V1 T H locs → lv_has ls 3 [(0, .ref (gb G + x0)), (1, .int x1), (2, .int x2)] → W p l e (rmL 1 0 0) s m args below meth c H locs 0 0 (eQ G below none V' T args s 0 0) (F0 m 8 ls []) := by
  have hx := C.1
  have hb := C.2.1
  have hown := C.2.2.2.1
  have hts := C.2.2.2.2.1
  intro n
  induction n with
  | zero =>
    intro x2 V1 H locs ls hf
    cases hf
  | succ n ih =>
    intro x2 V1 H locs ls hf hw hl
    unfold f_X5_giveBack_L8 at hf
    refine lv_iload_n hx hb dX5_giveBack_8 rfl (lv_at hl 2 rfl) ?_
    refine lv_sipush (v := (2640 : Int32)) hx hb dX5_giveBack_9 (by decide) ?_
    refine lv_icmp_ge (tgt := 33) hx hb dX5_giveBack_12 (by decide) (fun c4 => ?_) (fun c4 => ?_)
    · replace hf := ite_t c4 hf
      exact hkx8_33 _ _ _ _ hf hw (lv_sub hl [0, 1] rfl)
    · replace hf := ite_f c4 hf
      refine lv_aload_n hx hb dX5_giveBack_15 rfl (lv_at hl 0 rfl) ?_
      revert hf
      refine k_drf (fun r5 er5 hf => ?_)
      refine gf_X5_23 C hw k0 er5 dX5_giveBack_16 ?_
      refine lv_iload_n hx hb dX5_giveBack_19 rfl (lv_at hl 2 rfl) ?_
      refine lv_aload_n hx hb dX5_giveBack_20 rfl (lv_at hl 0 rfl) ?_
      revert hf
      refine k_drf (fun r6 er6 hf => ?_)
      refine gf_X5_29 C hw k0 er6 dX5_giveBack_21 ?_
      refine lv_iload_n hx hb dX5_giveBack_24 rfl (lv_at hl 2 rfl) ?_
      revert hf
      refine k_req (fun h7 hf => ?_)
      refine w_iald C hw h7 rfl dX5_giveBack_25 ?_
      revert hf
      refine k_req (fun h8 hf => ?_)
      revert hf
      refine k_stp (fun U9 eU9 hf => ?_)
      refine w_iast C hw h8 eU9 dX5_giveBack_26 (fun H locs hw => ?_)
      revert hf
      refine k_stp (fun z10 ez10 hf => ?_)
      refine lv_iinc (k := 2) (lv' := [(2, .int z10), (0, .ref (gb G + x0)), (1, .int x1)]) hx hb dX5_giveBack_27 hl rfl (inc_e (by decide) ez10) (by decide) rfl (fun ls hl => ?_)
      refine lv_goto (tgt := 8) hx hb dX5_giveBack_30 (by decide) ?_
      exact ih _ _ _ _ _ hf hw (lv_sub hl [1, 2, 0] rfl)
set_option maxHeartbeats 4000000 in
theorem ok_X5_giveBack {l : Launch} {G : gG} {T : Tt} {V0 : Vt} {o : Nat} {a0 : Int32} {V' : Vt} (hf : f_X5_giveBack T V0 o a0 = some V') : okM l G yX5_giveBack cX5_giveBack 3 none 1 [.ref (gb G + o), .int a0] V0 T none V' T 0 0 := by
  refine ok_intro (by decide) (Nat.le_of_ble_eq_true rfl) ?_
  intro p e s m below meth c ls C hr hnm hw hl
  have hx := C.1
  have hb := C.2.1
  have hown := C.2.2.2.1
  have hts := C.2.2.2.2.1
  have hl : lv_has ls 3 [(0, .ref (gb G + o)), (1, .int a0)] := hl
  unfold f_X5_giveBack at hf
  revert hf
  refine k_req (fun k0 hf => ?_)
  refine lv_aload_n hx hb dX5_giveBack_0 rfl (lv_at hl 0 rfl) ?_
  refine lv_bipush (v := (17 : Int32)) hx hb dX5_giveBack_1 (by decide) ?_
  revert hf
  refine k_pcl (fun U3 h1 hf => ?_)
  refine w_afv hw (w_rV (As := [.int (17 : Int32)]) C hw (ok_X5_putBack h1) (cw_X5_150 hts (Nat.le_of_ble_eq_true rfl) (Nat.le_of_ble_eq_true rfl)) rfl (by decide) (of_req h1).1 rfl hl.1 rfl (Nat.le_of_ble_eq_true rfl) ⟨Nat.zero_le _, Nat.zero_le _⟩ dX5_giveBack_3) (fun H locs hw => ?_)
  refine lv_iconst (v := (0 : Int32)) hx hb dX5_giveBack_6 (by decide) ?_
  refine lv_istore_n (lv' := [(2, .int (0 : Int32)), (0, .ref (gb G + o)), (1, .int a0)]) hx hb dX5_giveBack_7 rfl hl (by decide) rfl (fun ls hl => ?_)
  refine lk_X5_giveBack_8 C hr k0 (fun U11 H locs ls hf hw hl => ?_) fuel _ _ _ _ _ hf hw (lv_sub hl [1, 2, 0] rfl)
  refine lv_iconst (v := (0 : Int32)) hx hb dX5_giveBack_33 (by decide) ?_
  refine lv_istore_n (lv' := [(2, .int (0 : Int32)), (0, .ref (gb G + o)), (1, .int a0)]) hx hb dX5_giveBack_34 rfl hl (by decide) rfl (fun ls hl => ?_)
  refine lk_X5_giveBack_35 C hr k0 (fun U19 H locs ls hf hw hl => ?_) fuel _ _ _ _ _ hf hw (lv_sub hl [1, 2, 0] rfl)
  refine lv_aload_n hx hb dX5_giveBack_59 rfl (lv_at hl 0 rfl) ?_
  refine lv_iload_n hx hb dX5_giveBack_60 rfl (lv_at hl 1 rfl) ?_
  revert hf
  refine k_stp (fun U20 eU20 hf => ?_)
  refine pf_X5_139 C hw k0 eU20 dX5_giveBack_61 (fun H locs hw => ?_)
  cases hf
  exact w_vret C hr hw dX5_giveBack_64
set_option maxHeartbeats 4000000 in
theorem jk_X5_orders_120 {l : Launch} {G : gG} {p : Program} {e : Env} {s : State} {m : MethodId} {args : Array Value} {below : List Frame} {meth : Method} {c : Code} {T : Tt} {V0 : Vt} {r : Int32} {V' : Vt} (C : Cx G p s m args meth c cX5_orders RX5 4) (hr : meth.sig.returnType = (some .int)) {x0 : Nat} {x1 : Int32} {x2 : Int32} {x3 : Int32} {kc55 : Int32 → Vt → Option (Int32 × Vt)} {kx55_103 : Int32 → Vt → Option (Int32 × Vt)} {kx55_132 : Vt → Option (Int32 × Vt)} {kc65 : Int32 → Vt → Option (Int32 × Vt)} {kx65_103 : Vt → Option (Int32 × Vt)} {kx65_126 : Vt → Option (Int32 × Vt)} {H : Heap} {locs : List Loc} {ls : Array Slot} (k0 : T.1 x0 = 6) (hf : f_X5_orders_J120 T V0 x0 x1 x2 x3 kc55 kx55_103 kx55_132 kc65 kx65_103 kx65_126 = some (r, V')) (hw : wS G V0 T H locs) (hl : lv_has ls 4 [(0, .ref (gb G + x0)), (1, .int x1), (2, .int x2), (3, .int x3)]) (hkc55 : ∀ (y2 : Int32) (W1 : Vt) (H : Heap) (locs : List Loc) (ls : Array Slot), kc55 y2 W1 = some (r, V') → wS G W1 T H locs → lv_has ls 4 [(0, .ref (gb G + x0)), (1, .int x1), (2, .int y2)] → W p l e (rmL 13 0 0) s m args below meth c H locs 0 0 (eQ G below (some (.int r)) V' T args s 0 0) (F0 m 55 ls [])) (hkx55_103 : ∀ (y2 : Int32) (W1 : Vt) (H : Heap) (locs : List Loc) (ls : Array Slot), kx55_103 y2 W1 = some (r, V') → wS G W1 T H locs → lv_has ls 4 [(0, .ref (gb G + x0)), (1, .int x1), (2, .int y2)] → W p l e (rmL 13 0 0) s m args below meth c H locs 0 0 (eQ G below (some (.int r)) V' T args s 0 0) (F0 m 103 ls [])) (hkx55_132 : ∀ (W1 : Vt) (H : Heap) (locs : List Loc) (ls : Array Slot), kx55_132 W1 = some (r, V') → wS G W1 T H locs → lv_has ls 4 [(0, .ref (gb G + x0))] → W p l e (rmL 13 0 0) s m args below meth c H locs 0 0 (eQ G below (some (.int r)) V' T args s 0 0) (F0 m 132 ls [])) (hkc65 : ∀ (y3 : Int32) (W1 : Vt) (H : Heap) (locs : List Loc) (ls : Array Slot), kc65 y3 W1 = some (r, V') → wS G W1 T H locs → lv_has ls 4 [(0, .ref (gb G + x0)), (1, .int x1), (2, .int x2), (3, .int y3)] → W p l e (rmL 13 0 0) s m args below meth c H locs 0 0 (eQ G below (some (.int r)) V' T args s 0 0) (F0 m 65 ls [])) (hkx65_103 : ∀ (W1 : Vt) (H : Heap) (locs : List Loc) (ls : Array Slot), kx65_103 W1 = some (r, V') → wS G W1 T H locs → lv_has ls 4 [(0, .ref (gb G + x0)), (1, .int x1), (2, .int x2)] → W p l e (rmL 13 0 0) s m args below meth c H locs 0 0 (eQ G below (some (.int r)) V' T args s 0 0) (F0 m 103 ls [])) (hkx65_126 : ∀ (W1 : Vt) (H : Heap) (locs : List Loc) (ls : Array Slot), kx65_126 W1 = some (r, V') → wS G W1 T H locs → lv_has ls 4 [(0, .ref (gb G + x0)), (1, .int x1), (2, .int x2)] → W p l e (rmL 13 0 0) s m args below meth c H locs 0 0 (eQ G below (some (.int r)) V' T args s 0 0) (F0 m 126 ls [])) : W p l e (rmL 13 0 0) s m args below meth c H locs 0 0 (eQ G below (some (.int r)) V' T args s 0 0) (F0 m 120 ls []) := by
  have hx := C.1
  have hb := C.2.1
  have hown := C.2.2.2.1
  have hts := C.2.2.2.2.1
  unfold f_X5_orders_J120 at hf
  revert hf
  refine k_stp (fun z24 ez24 hf => ?_)
  refine lv_iinc (k := 3) (lv' := [(3, .int z24), (0, .ref (gb G + x0)), (1, .int x1), (2, .int x2)]) hx hb dX5_orders_120 hl rfl (inc_e (by decide) ez24) (by decide) rfl (fun ls hl => ?_)
  refine lv_goto (tgt := 65) hx hb dX5_orders_123 (by decide) ?_
  exact hkc65 _ _ _ _ _ hf hw (lv_sub hl [1, 2, 3, 0] rfl)
set_option maxHeartbeats 4000000 in
theorem lk_X5_orders_65 {l : Launch} {G : gG} {p : Program} {e : Env} {s : State} {m : MethodId} {args : Array Value} {below : List Frame} {meth : Method} {c : Code} {T : Tt} {r : Int32} {V' : Vt} (C : Cx G p s m args meth c cX5_orders RX5 4) (hr : meth.sig.returnType = (some .int)) {x0 : Nat} {x1 : Int32} {x2 : Int32} {kc55 : Int32 → Vt → Option (Int32 × Vt)} {kx55_103 : Int32 → Vt → Option (Int32 × Vt)} {kx55_132 : Vt → Option (Int32 × Vt)} {kx65_103 : Vt → Option (Int32 × Vt)} {kx65_126 : Vt → Option (Int32 × Vt)} (k0 : T.1 x0 = 6) (hkc55 : ∀ (y2 : Int32) (W1 : Vt) (H : Heap) (locs : List Loc) (ls : Array Slot), kc55 y2 W1 = some (r, V') → wS G W1 T H locs → lv_has ls 4 [(0, .ref (gb G + x0)), (1, .int x1), (2, .int y2)] → W p l e (rmL 13 0 0) s m args below meth c H locs 0 0 (eQ G below (some (.int r)) V' T args s 0 0) (F0 m 55 ls [])) (hkx55_103 : ∀ (y2 : Int32) (W1 : Vt) (H : Heap) (locs : List Loc) (ls : Array Slot), kx55_103 y2 W1 = some (r, V') → wS G W1 T H locs → lv_has ls 4 [(0, .ref (gb G + x0)), (1, .int x1), (2, .int y2)] → W p l e (rmL 13 0 0) s m args below meth c H locs 0 0 (eQ G below (some (.int r)) V' T args s 0 0) (F0 m 103 ls [])) (hkx55_132 : ∀ (W1 : Vt) (H : Heap) (locs : List Loc) (ls : Array Slot), kx55_132 W1 = some (r, V') → wS G W1 T H locs → lv_has ls 4 [(0, .ref (gb G + x0))] → W p l e (rmL 13 0 0) s m args below meth c H locs 0 0 (eQ G below (some (.int r)) V' T args s 0 0) (F0 m 132 ls [])) (hkx65_103 : ∀ (W1 : Vt) (H : Heap) (locs : List Loc) (ls : Array Slot), kx65_103 W1 = some (r, V') → wS G W1 T H locs → lv_has ls 4 [(0, .ref (gb G + x0)), (1, .int x1), (2, .int x2)] → W p l e (rmL 13 0 0) s m args below meth c H locs 0 0 (eQ G below (some (.int r)) V' T args s 0 0) (F0 m 103 ls [])) (hkx65_126 : ∀ (W1 : Vt) (H : Heap) (locs : List Loc) (ls : Array Slot), kx65_126 W1 = some (r, V') → wS G W1 T H locs → lv_has ls 4 [(0, .ref (gb G + x0)), (1, .int x1), (2, .int x2)] → W p l e (rmL 13 0 0) s m args below meth c H locs 0 0 (eQ G below (some (.int r)) V' T args s 0 0) (F0 m 126 ls [])) : ∀ (n : Nat) (x3 : Int32) (V1 : Vt) (H : Heap) (locs : List Loc) (ls : Array Slot), f_X5_orders_L65 T x0 x1 x2 kc55 kx55_103 kx55_132 kx65_103 kx65_126 n x3 V1 = some (r, V') → wS G V1 T H locs → lv_has ls 4 [(0, .ref (gb G + x0)), (1, .int x1), (2, .int x2), (3, .int x3)] → W p l e (rmL 13 0 0) s m args below meth c H locs 0 0 (eQ G below (some (.int r)) V' T args s 0 0) (F0 m 65 ls []) := by
  have hx := C.1
  have hb := C.2.1
  have hown := C.2.2.2.1
  have hts := C.2.2.2.2.1
  intro n
  induction n with
  | zero =>
    intro x3 V1 H locs ls hf
    cases hf
  | succ n ih =>
    intro x3 V1 H locs ls hf hw hl
    unfold f_X5_orders_L65 at hf
    refine lv_iload_n hx hb dX5_orders_65 rfl (lv_at hl 3 rfl) ?_
    refine lv_aload_n hx hb dX5_orders_66 rfl (lv_at hl 0 rfl) ?_
    revert hf
    refine k_drf (fun r17 er17 hf => ?_)
    refine gf_X5_118 C hw k0 er17 dX5_orders_67 ?_
    refine lv_bipush (v := (10 : Int32)) hx hb dX5_orders_70 (by decide) ?_
    refine lv_iload_n hx hb dX5_orders_72 rfl (lv_at hl 2 rfl) ?_
    refine lv_imul hx hb dX5_orders_73 ?_
    refine lv_bipush (v := (9 : Int32)) hx hb dX5_orders_74 (by decide) ?_
    refine lv_iadd hx hb dX5_orders_76 ?_
    revert hf
    refine k_req (fun h18 hf => ?_)
    refine w_iald C hw h18 rfl dX5_orders_77 ?_
    refine lv_icmp_ge (tgt := 126) hx hb dX5_orders_78 (by decide) (fun c19 => ?_) (fun c19 => ?_)
    · replace hf := ite_t c19 hf
      exact hkx65_126 _ _ _ _ hf hw (lv_sub hl [0, 1, 2] rfl)
    · replace hf := ite_f c19 hf
      refine lv_aload_n hx hb dX5_orders_81 rfl (lv_at hl 0 rfl) ?_
      refine lv_bipush (v := (10 : Int32)) hx hb dX5_orders_82 (by decide) ?_
      refine lv_iload_n hx hb dX5_orders_84 rfl (lv_at hl 2 rfl) ?_
      refine lv_imul hx hb dX5_orders_85 ?_
      revert hf
      refine k_cal (fun z21 U22 h20 hf => ?_)
      refine w_afi hw (w_rV (As := [.int ((10 : Int32) * x2)]) C hw (ok_X5_isAsked h20) (cw_X5_506 hts (Nat.le_of_ble_eq_true rfl) (Nat.le_of_ble_eq_true rfl)) rfl (by decide) (of_req h20).1 rfl hl.1 rfl (Nat.le_of_ble_eq_true rfl) ⟨Nat.zero_le _, Nat.zero_le _⟩ dX5_orders_86) (fun H locs hw => ?_)
      refine lv_if_eq (tgt := 120) hx hb dX5_orders_89 (by decide) (fun c23 => ?_) (fun c23 => ?_)
      · replace hf := ite_t c23 hf
        exact jk_X5_orders_120 C hr k0 hf hw (lv_sub hl [0, 1, 2, 3] rfl) hkc55 hkx55_103 hkx55_132 ih hkx65_103 hkx65_126
      · replace hf := ite_f c23 hf
        refine lv_aload_n hx hb dX5_orders_92 rfl (lv_at hl 0 rfl) ?_
        refine lv_bipush (v := (10 : Int32)) hx hb dX5_orders_93 (by decide) ?_
        refine lv_iload_n hx hb dX5_orders_95 rfl (lv_at hl 2 rfl) ?_
        refine lv_imul hx hb dX5_orders_96 ?_
        revert hf
        refine k_cal (fun z26 U27 h25 hf => ?_)
        refine w_afi hw (w_rV (As := [.int ((10 : Int32) * x2)]) C hw (ok_X5_runOnce h25) (cw_X5_509 hts (Nat.le_of_ble_eq_true rfl) (Nat.le_of_ble_eq_true rfl)) rfl (by decide) (of_req h25).1 rfl hl.1 rfl (Nat.le_of_ble_eq_true rfl) ⟨Nat.zero_le _, Nat.zero_le _⟩ dX5_orders_97) (fun H locs hw => ?_)
        refine lv_if_ge (tgt := 120) hx hb dX5_orders_100 (by decide) (fun c28 => ?_) (fun c28 => ?_)
        · replace hf := ite_t c28 hf
          exact jk_X5_orders_120 C hr k0 hf hw (lv_sub hl [0, 1, 2, 3] rfl) hkc55 hkx55_103 hkx55_132 ih hkx65_103 hkx65_126
        · replace hf := ite_f c28 hf
          exact hkx65_103 _ _ _ _ hf hw (lv_sub hl [0, 1, 2] rfl)
set_option maxHeartbeats 4000000 in
theorem lk_X5_orders_55 {l : Launch} {G : gG} {p : Program} {e : Env} {s : State} {m : MethodId} {args : Array Value} {below : List Frame} {meth : Method} {c : Code} {T : Tt} {r : Int32} {V' : Vt} (C : Cx G p s m args meth c cX5_orders RX5 4) (hr : meth.sig.returnType = (some .int)) {x0 : Nat} {x1 : Int32} {kx55_103 : Int32 → Vt → Option (Int32 × Vt)} {kx55_132 : Vt → Option (Int32 × Vt)} (k0 : T.1 x0 = 6) (hkx55_103 : ∀ (y2 : Int32) (W1 : Vt) (H : Heap) (locs : List Loc) (ls : Array Slot), kx55_103 y2 W1 = some (r, V') → wS G W1 T H locs → lv_has ls 4 [(0, .ref (gb G + x0)), (1, .int x1), (2, .int y2)] → W p l e (rmL 13 0 0) s m args below meth c H locs 0 0 (eQ G below (some (.int r)) V' T args s 0 0) (F0 m 103 ls [])) (hkx55_132 : ∀ (W1 : Vt) (H : Heap) (locs : List Loc) (ls : Array Slot), kx55_132 W1 = some (r, V') → wS G W1 T H locs → lv_has ls 4 [(0, .ref (gb G + x0))] → W p l e (rmL 13 0 0) s m args below meth c H locs 0 0 (eQ G below (some (.int r)) V' T args s 0 0) (F0 m 132 ls [])) : ∀ (n : Nat) (x2 : Int32) (V1 : Vt) (H : Heap) (locs : List Loc) (ls : Array Slot), f_X5_orders_L55 T x0 x1 kx55_103 kx55_132 n x2 V1 = some (r, V') → wS G V1 T H locs → lv_has ls 4 [(0, .ref (gb G + x0)), (1, .int x1), (2, .int x2)] → W p l e (rmL 13 0 0) s m args below meth c H locs 0 0 (eQ G below (some (.int r)) V' T args s 0 0) (F0 m 55 ls []) := by
  have hx := C.1
  have hb := C.2.1
  have hown := C.2.2.2.1
  have hts := C.2.2.2.2.1
  intro n
  induction n with
  | zero =>
    intro x2 V1 H locs ls hf
    cases hf
  | succ n ih =>
    intro x2 V1 H locs ls hf hw hl
    unfold f_X5_orders_L55 at hf
    refine lv_iload_n hx hb dX5_orders_55 rfl (lv_at hl 2 rfl) ?_
    refine lv_aload_n hx hb dX5_orders_56 rfl (lv_at hl 0 rfl) ?_
    refine gf_X5_354 C hw k0 dX5_orders_57 ?_
    refine lv_icmp_ge (tgt := 132) hx hb dX5_orders_60 (by decide) (fun c16 => ?_) (fun c16 => ?_)
    · replace hf := ite_t c16 hf
      exact hkx55_132 _ _ _ _ hf hw (lv_sub hl [0] rfl)
    · replace hf := ite_f c16 hf
      refine lv_iconst (v := (0 : Int32)) hx hb dX5_orders_63 (by decide) ?_
      refine lv_istore_n (lv' := [(3, .int (0 : Int32)), (0, .ref (gb G + x0)), (1, .int x1), (2, .int x2)]) hx hb dX5_orders_64 rfl hl (by decide) rfl (fun ls hl => ?_)
      refine lk_X5_orders_65 C hr k0 ih hkx55_103 hkx55_132 (fun U29 H locs ls hf hw hl => ?_) (fun U30 H locs ls hf hw hl => ?_) fuel _ _ _ _ _ hf hw (lv_sub hl [1, 2, 3, 0] rfl)
      · exact hkx55_103 _ _ _ _ _ hf hw (lv_sub hl [0, 1, 2] rfl)
      · revert hf
        refine k_stp (fun z31 ez31 hf => ?_)
        refine lv_iinc (k := 2) (lv' := [(2, .int z31), (0, .ref (gb G + x0)), (1, .int x1)]) hx hb dX5_orders_126 hl rfl (inc_e (by decide) ez31) (by decide) rfl (fun ls hl => ?_)
        refine lv_goto (tgt := 55) hx hb dX5_orders_129 (by decide) ?_
        exact ih _ _ _ _ _ hf hw (lv_sub hl [1, 2, 0] rfl)
set_option maxHeartbeats 4000000 in
theorem ok_X5_orders {l : Launch} {G : gG} {T : Tt} {V0 : Vt} {o : Nat} {r : Int32} {V' : Vt} (hf : f_X5_orders T V0 o = some (r, V')) : okM l G yX5_orders cX5_orders 4 (some .int) 13 [.ref (gb G + o)] V0 T (some (.int r)) V' T 0 0 := by
  refine ok_intro (by decide) (Nat.le_of_ble_eq_true rfl) ?_
  intro p e s m below meth c ls C hr hnm hw hl
  have hx := C.1
  have hb := C.2.1
  have hown := C.2.2.2.1
  have hts := C.2.2.2.2.1
  have hl : lv_has ls 4 [(0, .ref (gb G + o))] := hl
  unfold f_X5_orders at hf
  revert hf
  refine k_req (fun k0 hf => ?_)
  refine lv_aload_n hx hb dX5_orders_0 rfl (lv_at hl 0 rfl) ?_
  refine lv_iconst (v := (0 : Int32)) hx hb dX5_orders_1 (by decide) ?_
  revert hf
  refine k_stp (fun U1 eU1 hf => ?_)
  refine pf_X5_133 C hw k0 eU1 dX5_orders_2 (fun H locs hw => ?_)
  refine lv_aload_n hx hb dX5_orders_5 rfl (lv_at hl 0 rfl) ?_
  refine lv_iconst (v := ((-1) : Int32)) hx hb dX5_orders_6 (by decide) ?_
  revert hf
  refine k_stp (fun U2 eU2 hf => ?_)
  refine pf_X5_121 C hw k0 eU2 dX5_orders_7 (fun H locs hw => ?_)
  refine lv_aload_n hx hb dX5_orders_10 rfl (lv_at hl 0 rfl) ?_
  revert hf
  refine k_pcl (fun U5 h3 hf => ?_)
  refine w_afv hw (w_rV (As := []) C hw (ok_X5_readOrders h3) (cw_X5_481 hts (Nat.le_of_ble_eq_true rfl) (Nat.le_of_ble_eq_true rfl)) rfl (by decide) (of_req h3).1 rfl hl.1 rfl (Nat.le_of_ble_eq_true rfl) ⟨Nat.zero_le _, Nat.zero_le _⟩ dX5_orders_11) (fun H locs hw => ?_)
  refine lv_aload_n hx hb dX5_orders_14 rfl (lv_at hl 0 rfl) ?_
  refine gf_X5_229 C hw k0 dX5_orders_15 ?_
  refine lv_if_eq (tgt := 28) hx hb dX5_orders_18 (by decide) (fun c6 => ?_) (fun c6 => ?_)
  · replace hf := ite_t c6 hf
    refine lv_aload_n hx hb dX5_orders_28 rfl (lv_at hl 0 rfl) ?_
    refine lv_bipush (v := (17 : Int32)) hx hb dX5_orders_29 (by decide) ?_
    revert hf
    refine k_pcl (fun U9 h7 hf => ?_)
    refine w_afv hw (w_rV (As := [.int (17 : Int32)]) C hw (ok_X5_keepAll h7) (cw_X5_146 hts (Nat.le_of_ble_eq_true rfl) (Nat.le_of_ble_eq_true rfl)) rfl (by decide) (of_req h7).1 rfl hl.1 rfl (Nat.le_of_ble_eq_true rfl) ⟨Nat.zero_le _, Nat.zero_le _⟩ dX5_orders_31) (fun H locs hw => ?_)
    refine lv_aload_n hx hb dX5_orders_34 rfl (lv_at hl 0 rfl) ?_
    refine gf_X5_139 C hw k0 dX5_orders_35 ?_
    revert hf
    refine k_stp (fun z10 ez10 hf => ?_)
    refine w_nmI ez10 ?_
    refine lv_istore_n (lv' := [(1, .int z10), (0, .ref (gb G + o))]) hx hb dX5_orders_38 rfl hl (by decide) rfl (fun ls hl => ?_)
    refine lv_aload_n hx hb dX5_orders_39 rfl (lv_at hl 1 rfl) ?_
    revert hf
    refine k_pcl (fun U13 h11 hf => ?_)
    refine w_afv hw (w_rV (As := []) C hw (ok_X5_keepUndos h11) (cw_X5_503 hts (Nat.le_of_ble_eq_true rfl) (Nat.le_of_ble_eq_true rfl)) rfl (by decide) (of_req h11).1 rfl hl.1 rfl (Nat.le_of_ble_eq_true rfl) ⟨Nat.zero_le _, Nat.zero_le _⟩ dX5_orders_40) (fun H locs hw => ?_)
    refine lv_aload_n hx hb dX5_orders_43 rfl (lv_at hl 1 rfl) ?_
    refine lv_iconst (v := (0 : Int32)) hx hb dX5_orders_44 (by decide) ?_
    revert hf
    refine k_stp (fun U14 eU14 hf => ?_)
    refine pf_X5_487 C hw k0 eU14 dX5_orders_45 (fun H locs hw => ?_)
    refine lv_aload_n hx hb dX5_orders_48 rfl (lv_at hl 1 rfl) ?_
    refine lv_iconst (v := ((-1) : Int32)) hx hb dX5_orders_49 (by decide) ?_
    revert hf
    refine k_stp (fun U15 eU15 hf => ?_)
    refine pf_X5_490 C hw k0 eU15 dX5_orders_50 (fun H locs hw => ?_)
    refine lv_iconst (v := (0 : Int32)) hx hb dX5_orders_53 (by decide) ?_
    refine lv_istore_n (lv' := [(2, .int (0 : Int32)), (1, .int z10), (0, .ref (gb G + o))]) hx hb dX5_orders_54 rfl hl (by decide) rfl (fun ls hl => ?_)
    refine lk_X5_orders_55 C hr k0 (fun z32 U33 H locs ls hf hw hl => ?_) (fun U41 H locs ls hf hw hl => ?_) fuel _ _ _ _ _ hf hw (lv_sub hl [2, 1, 0] rfl)
    · refine lv_aload_n hx hb dX5_orders_103 rfl (lv_at hl 0 rfl) ?_
      refine lv_iload_n hx hb dX5_orders_104 rfl (lv_at hl 1 rfl) ?_
      revert hf
      refine k_pcl (fun U36 h34 hf => ?_)
      refine w_afv hw (w_rV (As := [.int z10]) C hw (ok_X5_giveBack h34) (cw_X5_512 hts (Nat.le_of_ble_eq_true rfl) (Nat.le_of_ble_eq_true rfl)) rfl (by decide) (of_req h34).1 rfl hl.1 rfl (Nat.le_of_ble_eq_true rfl) ⟨Nat.zero_le _, Nat.zero_le _⟩ dX5_orders_105) (fun H locs hw => ?_)
      refine lv_aload_n hx hb dX5_orders_108 rfl (lv_at hl 0 rfl) ?_
      refine lv_iload_n hx hb dX5_orders_109 rfl (lv_at hl 2 rfl) ?_
      revert hf
      refine k_stp (fun U37 eU37 hf => ?_)
      refine pf_X5_121 C hw k0 eU37 dX5_orders_110 (fun H locs hw => ?_)
      refine lv_aload_n hx hb dX5_orders_113 rfl (lv_at hl 0 rfl) ?_
      refine lv_bipush (v := ((-3) : Int32)) hx hb dX5_orders_114 (by decide) ?_
      revert hf
      refine k_cal (fun z39 U40 h38 hf => ?_)
      refine w_afi hw (w_rV (As := [.int ((-3) : Int32)]) C hw (ok_X5_tell h38) (cw_X5_142 hts (Nat.le_of_ble_eq_true rfl) (Nat.le_of_ble_eq_true rfl)) rfl (by decide) (of_req h38).1 rfl hl.1 rfl (Nat.le_of_ble_eq_true rfl) ⟨Nat.zero_le _, Nat.zero_le _⟩ dX5_orders_116) (fun H locs hw => ?_)
      cases hf
      exact w_iret C hr hw dX5_orders_119
    · refine lv_aload_n hx hb dX5_orders_132 rfl (lv_at hl 0 rfl) ?_
      refine lv_aload_n hx hb dX5_orders_133 rfl (lv_at hl 0 rfl) ?_
      refine gf_X5_487 C hw k0 dX5_orders_134 ?_
      revert hf
      refine k_cal (fun z43 U44 h42 hf => ?_)
      refine w_afi hw (w_rV (As := [.int (U41.1 o 46)]) C hw (ok_X5_tell h42) (cw_X5_142 hts (Nat.le_of_ble_eq_true rfl) (Nat.le_of_ble_eq_true rfl)) rfl (by decide) (of_req h42).1 rfl hl.1 rfl (Nat.le_of_ble_eq_true rfl) ⟨Nat.zero_le _, Nat.zero_le _⟩ dX5_orders_137) (fun H locs hw => ?_)
      cases hf
      exact w_iret C hr hw dX5_orders_140
  · replace hf := ite_f c6 hf
    refine lv_aload_n hx hb dX5_orders_21 rfl (lv_at hl 0 rfl) ?_
    refine lv_bipush (v := ((-6) : Int32)) hx hb dX5_orders_22 (by decide) ?_
    revert hf
    refine k_cal (fun z46 U47 h45 hf => ?_)
    refine w_afi hw (w_rV (As := [.int ((-6) : Int32)]) C hw (ok_X5_tell h45) (cw_X5_142 hts (Nat.le_of_ble_eq_true rfl) (Nat.le_of_ble_eq_true rfl)) rfl (by decide) (of_req h45).1 rfl hl.1 rfl (Nat.le_of_ble_eq_true rfl) ⟨Nat.zero_le _, Nat.zero_le _⟩ dX5_orders_24) (fun H locs hw => ?_)
    cases hf
    exact w_iret C hr hw dX5_orders_27
set_option maxHeartbeats 4000000 in
theorem ok_X5_stopped {l : Launch} {G : gG} {T : Tt} {V0 : Vt} {o : Nat} {r : Int32} {V' : Vt} (hf : f_X5_stopped T V0 o = some (r, V')) : okM l G yX5_stopped cX5_stopped 1 (some .int) 0 [.ref (gb G + o)] V0 T (some (.int r)) V' T 0 0 := by
  refine ok_intro (by decide) (Nat.le_of_ble_eq_true rfl) ?_
  intro p e s m below meth c ls C hr hnm hw hl
  have hx := C.1
  have hb := C.2.1
  have hown := C.2.2.2.1
  have hts := C.2.2.2.2.1
  have hl : lv_has ls 1 [(0, .ref (gb G + o))] := hl
  unfold f_X5_stopped at hf
  revert hf
  refine k_req (fun k0 hf => ?_)
  refine lv_aload_n hx hb dX5_stopped_0 rfl (lv_at hl 0 rfl) ?_
  refine lv_iconst (v := (0 : Int32)) hx hb dX5_stopped_1 (by decide) ?_
  revert hf
  refine k_stp (fun U1 eU1 hf => ?_)
  refine pf_X5_133 C hw k0 eU1 dX5_stopped_2 (fun H locs hw => ?_)
  refine lv_aload_n hx hb dX5_stopped_5 rfl (lv_at hl 0 rfl) ?_
  refine gf_X5_121 C hw k0 dX5_stopped_6 ?_
  cases hf
  exact w_iret C hr hw dX5_stopped_9
set_option maxHeartbeats 4000000 in
theorem ok_X5_isPlan {l : Launch} {G : gG} {T : Tt} {V0 : Vt} {o : Nat} {a0 : Int32} {r : Int32} (hf : f_X5_isPlan T V0 o a0 = some r) : okM l G yX5_isPlan cX5_isPlan 2 (some .boolean) 1 [.ref (gb G + o), .int a0] V0 T (some (.int r)) V0 T 0 0 := by
  refine ok_intro (by decide) (Nat.le_of_ble_eq_true rfl) ?_
  intro p e s m below meth c ls C hr hnm hw hl
  have hx := C.1
  have hb := C.2.1
  have hown := C.2.2.2.1
  have hts := C.2.2.2.2.1
  have hl : lv_has ls 2 [(0, .ref (gb G + o)), (1, .int a0)] := hl
  unfold f_X5_isPlan at hf
  revert hf
  refine k_req (fun k0 hf => ?_)
  refine lv_iload_n hx hb dX5_isPlan_0 rfl (lv_at hl 1 rfl) ?_
  refine lv_i2l hx hb dX5_isPlan_1 rfl ?_
  refine lv_lconst (v := (0 : Int64)) hx hb dX5_isPlan_2 (by decide) ?_
  refine lv_aload_n hx hb dX5_isPlan_3 rfl (lv_at hl 0 rfl) ?_
  revert hf
  refine k_drf (fun r1 er1 hf => ?_)
  refine gf_X5_13 C hw k0 er1 dX5_isPlan_4 ?_
  refine lv_iconst (v := (3 : Int32)) hx hb dX5_isPlan_7 (by decide) ?_
  revert hf
  refine k_req (fun h2 hf => ?_)
  refine w_iald C hw h2 rfl dX5_isPlan_8 ?_
  refine lv_i2l hx hb dX5_isPlan_9 rfl ?_
  refine lv_lconst (v := (1 : Int64)) hx hb dX5_isPlan_10 (by decide) ?_
  refine lv_lsub hx hb dX5_isPlan_11 ?_
  revert hf
  refine k_pcl (fun z4 h3 hf => ?_)
  refine w_afi hw (w_rS (As := [.long (Int32.toInt64 a0), .long (0 : Int64), .long ((Int32.toInt64 (V0.1 r1 (ixN (3 : Int32)))) - (1 : Int64))]) C hw (ok_X5_in h3) (cw_X5_153 hts (Nat.le_of_ble_eq_true rfl) (Nat.le_of_ble_eq_true rfl)) rfl hl.1 rfl (Nat.le_of_ble_eq_true rfl) ⟨Nat.zero_le _, Nat.zero_le _⟩ dX5_isPlan_12) (fun H locs hw => ?_)
  revert hf
  refine k_req (fun h5 hf => ?_)
  cases hf
  exact w_zret C hr hw h5 dX5_isPlan_15
set_option maxHeartbeats 4000000 in
theorem lk_X5_loadPlan_69 {l : Launch} {G : gG} {p : Program} {e : Env} {s : State} {m : MethodId} {args : Array Value} {below : List Frame} {meth : Method} {c : Code} {T : Tt} {V' : Vt} (C : Cx G p s m args meth c cX5_loadPlan RX5 4) (hr : meth.sig.returnType = none) {x0 : Nat} {x2 : Int32} {kx69_125 : Vt → Option (Vt)} (k0 : T.1 x0 = 6) (hkx69_125 : ∀ (W1 : Vt) (H : Heap) (locs : List Loc) (ls : Array Slot), kx69_125 W1 = some V' → wS G W1 T H locs → lv_has ls 4 [] → W p l e (rmL 0 0 0) s m args below meth c H locs 0 0 (eQ G below none V' T args s 0 0) (F0 m 125 ls [])) : ∀ (n : Nat) (x3 : Int32) (V1 : Vt) (H : Heap) (locs : List Loc) (ls : Array Slot), f_X5_loadPlan_L69 T x0 x2 kx69_125 n x3 V1 = some V' → wS G V1 T H locs → lv_has ls 4 [(0, .ref (gb G + x0)), (2, .int x2), (3, .int x3)] → W p l e (rmL 0 0 0) s m args below meth c H locs 0 0 (eQ G below none V' T args s 0 0) (F0 m 69 ls []) := by
  have hx := C.1
  have hb := C.2.1
  have hown := C.2.2.2.1
  have hts := C.2.2.2.2.1
  intro n
  induction n with
  | zero =>
    intro x3 V1 H locs ls hf
    cases hf
  | succ n ih =>
    intro x3 V1 H locs ls hf hw hl
    unfold f_X5_loadPlan_L69 at hf
    refine lv_iload_n hx hb dX5_loadPlan_69 rfl (lv_at hl 2 rfl) ?_
    refine lv_aload_n hx hb dX5_loadPlan_70 rfl (lv_at hl 0 rfl) ?_
    refine gf_X5_264 C hw k0 dX5_loadPlan_71 ?_
    refine lv_icmp_ge (tgt := 125) hx hb dX5_loadPlan_74 (by decide) (fun c16 => ?_) (fun c16 => ?_)
    · replace hf := ite_t c16 hf
      exact hkx69_125 _ _ _ _ hf hw (lv_sub hl [] rfl)
    · replace hf := ite_f c16 hf
      refine lv_aload_n hx hb dX5_loadPlan_77 rfl (lv_at hl 0 rfl) ?_
      revert hf
      refine k_drf (fun r17 er17 hf => ?_)
      refine gf_X5_45 C hw k0 er17 dX5_loadPlan_78 ?_
      refine lv_iload_n hx hb dX5_loadPlan_81 rfl (lv_at hl 2 rfl) ?_
      refine lv_aload_n hx hb dX5_loadPlan_82 rfl (lv_at hl 0 rfl) ?_
      revert hf
      refine k_drf (fun r18 er18 hf => ?_)
      refine gf_X5_13 C hw k0 er18 dX5_loadPlan_83 ?_
      refine lv_iload_n hx hb dX5_loadPlan_86 rfl (lv_at hl 1 rfl) ?_
      refine lv_sipush (v := (146 : Int32)) hx hb dX5_loadPlan_87 (by decide) ?_
      refine lv_iadd hx hb dX5_loadPlan_90 ?_
      refine lv_iconst (v := (2 : Int32)) hx hb dX5_loadPlan_91 (by decide) ?_
      refine lv_iload_n hx hb dX5_loadPlan_92 rfl (lv_at hl 2 rfl) ?_
      refine lv_imul hx hb dX5_loadPlan_93 ?_
      refine lv_iadd hx hb dX5_loadPlan_94 ?_
      revert hf
      refine k_req (fun h19 hf => ?_)
      refine w_iald C hw h19 rfl dX5_loadPlan_95 ?_
      revert hf
      refine k_req (fun h20 hf => ?_)
      revert hf
      refine k_stp (fun U21 eU21 hf => ?_)
      refine w_iast C hw h20 eU21 dX5_loadPlan_96 (fun H locs hw => ?_)
      refine lv_aload_n hx hb dX5_loadPlan_97 rfl (lv_at hl 0 rfl) ?_
      revert hf
      refine k_drf (fun r22 er22 hf => ?_)
      refine gf_X5_48 C hw k0 er22 dX5_loadPlan_98 ?_
      refine lv_iload_n hx hb dX5_loadPlan_101 rfl (lv_at hl 2 rfl) ?_
      refine lv_aload_n hx hb dX5_loadPlan_102 rfl (lv_at hl 0 rfl) ?_
      revert hf
      refine k_drf (fun r23 er23 hf => ?_)
      refine gf_X5_13 C hw k0 er23 dX5_loadPlan_103 ?_
      refine lv_iload_n hx hb dX5_loadPlan_106 rfl (lv_at hl 1 rfl) ?_
      refine lv_sipush (v := (146 : Int32)) hx hb dX5_loadPlan_107 (by decide) ?_
      refine lv_iadd hx hb dX5_loadPlan_110 ?_
      refine lv_iconst (v := (2 : Int32)) hx hb dX5_loadPlan_111 (by decide) ?_
      refine lv_iload_n hx hb dX5_loadPlan_112 rfl (lv_at hl 2 rfl) ?_
      refine lv_imul hx hb dX5_loadPlan_113 ?_
      refine lv_iadd hx hb dX5_loadPlan_114 ?_
      refine lv_iconst (v := (1 : Int32)) hx hb dX5_loadPlan_115 (by decide) ?_
      refine lv_iadd hx hb dX5_loadPlan_116 ?_
      revert hf
      refine k_req (fun h24 hf => ?_)
      refine w_iald C hw h24 rfl dX5_loadPlan_117 ?_
      revert hf
      refine k_req (fun h25 hf => ?_)
      revert hf
      refine k_stp (fun U26 eU26 hf => ?_)
      refine w_iast C hw h25 eU26 dX5_loadPlan_118 (fun H locs hw => ?_)
      revert hf
      refine k_stp (fun z27 ez27 hf => ?_)
      refine lv_iinc (k := 2) (lv' := [(3, .int z27), (0, .ref (gb G + x0)), (2, .int x2)]) hx hb dX5_loadPlan_119 hl rfl (inc_e (by decide) ez27) (by decide) rfl (fun ls hl => ?_)
      refine lv_goto (tgt := 69) hx hb dX5_loadPlan_122 (by decide) ?_
      exact ih _ _ _ _ _ hf hw (lv_sub hl [1, 2, 0] rfl)
set_option maxHeartbeats 4000000 in
theorem lk_X5_loadPlan_34 {l : Launch} {G : gG} {p : Program} {e : Env} {s : State} {m : MethodId} {args : Array Value} {below : List Frame} {meth : Method} {c : Code} {T : Tt} {V' : Vt} (C : Cx G p s m args meth c cX5_loadPlan RX5 4) (hr : meth.sig.returnType = none) {x0 : Nat} {x2 : Int32} {kx34_67 : Vt → Option (Vt)} (k0 : T.1 x0 = 6) (hkx34_67 : ∀ (W1 : Vt) (H : Heap) (locs : List Loc) (ls : Array Slot), kx34_67 W1 = some V' → wS G W1 T H locs → lv_has ls 4 [(0, .ref (gb G + x0)), (2, .int x2)] → W p l e (rmL 0 0 0) s m args below meth c H locs 0 0 (eQ G below none V' T args s 0 0) (F0 m 67 ls [])) : ∀ (n : Nat) (x3 : Int32) (V1 : Vt) (H : Heap) (locs : List Loc) (ls : Array Slot), f_X5_loadPlan_L34 T x0 x2 kx34_67 n x3 V1 = some V' → wS G V1 T H locs → lv_has ls 4 [(0, .ref (gb G + x0)), (2, .int x2), (3, .int x3)] → W p l e (rmL 0 0 0) s m args below meth c H locs 0 0 (eQ G below none V' T args s 0 0) (F0 m 34 ls []) := by
  have hx := C.1
  have hb := C.2.1
  have hown := C.2.2.2.1
  have hts := C.2.2.2.2.1
  intro n
  induction n with
  | zero =>
    intro x3 V1 H locs ls hf
    cases hf
  | succ n ih =>
    intro x3 V1 H locs ls hf hw hl
    unfold f_X5_loadPlan_L34 at hf
    refine lv_iload_n hx hb dX5_loadPlan_34 rfl (lv_at hl 2 rfl) ?_
    refine lv_bipush (v := (10 : Int32)) hx hb dX5_loadPlan_35 (by decide) ?_
    refine lv_aload_n hx hb dX5_loadPlan_37 rfl (lv_at hl 0 rfl) ?_
    refine gf_X5_354 C hw k0 dX5_loadPlan_38 ?_
    refine lv_imul hx hb dX5_loadPlan_41 ?_
    refine lv_icmp_ge (tgt := 67) hx hb dX5_loadPlan_42 (by decide) (fun c8 => ?_) (fun c8 => ?_)
    · replace hf := ite_t c8 hf
      exact hkx34_67 _ _ _ _ hf hw (lv_sub hl [0, 1] rfl)
    · replace hf := ite_f c8 hf
      refine lv_aload_n hx hb dX5_loadPlan_45 rfl (lv_at hl 0 rfl) ?_
      revert hf
      refine k_drf (fun r9 er9 hf => ?_)
      refine gf_X5_118 C hw k0 er9 dX5_loadPlan_46 ?_
      refine lv_iload_n hx hb dX5_loadPlan_49 rfl (lv_at hl 2 rfl) ?_
      refine lv_aload_n hx hb dX5_loadPlan_50 rfl (lv_at hl 0 rfl) ?_
      revert hf
      refine k_drf (fun r10 er10 hf => ?_)
      refine gf_X5_13 C hw k0 er10 dX5_loadPlan_51 ?_
      refine lv_iload_n hx hb dX5_loadPlan_54 rfl (lv_at hl 1 rfl) ?_
      refine lv_iconst (v := (2 : Int32)) hx hb dX5_loadPlan_55 (by decide) ?_
      refine lv_iadd hx hb dX5_loadPlan_56 ?_
      refine lv_iload_n hx hb dX5_loadPlan_57 rfl (lv_at hl 2 rfl) ?_
      refine lv_iadd hx hb dX5_loadPlan_58 ?_
      revert hf
      refine k_req (fun h11 hf => ?_)
      refine w_iald C hw h11 rfl dX5_loadPlan_59 ?_
      revert hf
      refine k_req (fun h12 hf => ?_)
      revert hf
      refine k_stp (fun U13 eU13 hf => ?_)
      refine w_iast C hw h12 eU13 dX5_loadPlan_60 (fun H locs hw => ?_)
      revert hf
      refine k_stp (fun z14 ez14 hf => ?_)
      refine lv_iinc (k := 2) (lv' := [(3, .int z14), (0, .ref (gb G + x0)), (2, .int x2)]) hx hb dX5_loadPlan_61 hl rfl (inc_e (by decide) ez14) (by decide) rfl (fun ls hl => ?_)
      refine lv_goto (tgt := 34) hx hb dX5_loadPlan_64 (by decide) ?_
      exact ih _ _ _ _ _ hf hw (lv_sub hl [1, 2, 0] rfl)
set_option maxHeartbeats 4000000 in
theorem ok_X5_loadPlan {l : Launch} {G : gG} {T : Tt} {V0 : Vt} {o : Nat} {a0 : Int32} {V' : Vt} (hf : f_X5_loadPlan T V0 o a0 = some V') : okM l G yX5_loadPlan cX5_loadPlan 4 none 0 [.ref (gb G + o), .int a0] V0 T none V' T 0 0 := by
  refine ok_intro (by decide) (Nat.le_of_ble_eq_true rfl) ?_
  intro p e s m below meth c ls C hr hnm hw hl
  have hx := C.1
  have hb := C.2.1
  have hown := C.2.2.2.1
  have hts := C.2.2.2.2.1
  have hl : lv_has ls 4 [(0, .ref (gb G + o)), (1, .int a0)] := hl
  unfold f_X5_loadPlan at hf
  revert hf
  refine k_req (fun k0 hf => ?_)
  refine lv_sipush (v := (198 : Int32)) hx hb dX5_loadPlan_0 (by decide) ?_
  refine lv_sipush (v := (948 : Int32)) hx hb dX5_loadPlan_3 (by decide) ?_
  refine lv_iload_n hx hb dX5_loadPlan_6 rfl (lv_at hl 1 rfl) ?_
  refine lv_imul hx hb dX5_loadPlan_7 ?_
  refine lv_iadd hx hb dX5_loadPlan_8 ?_
  revert hf
  refine k_stp (fun z1 ez1 hf => ?_)
  refine w_nmI ez1 ?_
  refine lv_istore_n (lv' := [(2, .int z1), (0, .ref (gb G + o)), (1, .int a0)]) hx hb dX5_loadPlan_9 rfl hl (by decide) rfl (fun ls hl => ?_)
  refine lv_aload_n hx hb dX5_loadPlan_10 rfl (lv_at hl 1 rfl) ?_
  refine lv_aload_n hx hb dX5_loadPlan_11 rfl (lv_at hl 1 rfl) ?_
  revert hf
  refine k_drf (fun r2 er2 hf => ?_)
  refine gf_X5_13 C hw k0 er2 dX5_loadPlan_12 ?_
  refine lv_iload_n hx hb dX5_loadPlan_15 rfl (lv_at hl 0 rfl) ?_
  revert hf
  refine k_req (fun h3 hf => ?_)
  refine w_iald C hw h3 rfl dX5_loadPlan_16 ?_
  revert hf
  refine k_stp (fun U4 eU4 hf => ?_)
  refine pf_X5_354 C hw k0 eU4 dX5_loadPlan_17 (fun H locs hw => ?_)
  refine lv_aload_n hx hb dX5_loadPlan_20 rfl (lv_at hl 1 rfl) ?_
  refine lv_aload_n hx hb dX5_loadPlan_21 rfl (lv_at hl 1 rfl) ?_
  revert hf
  refine k_drf (fun r5 er5 hf => ?_)
  refine gf_X5_13 C hw k0 er5 dX5_loadPlan_22 ?_
  refine lv_iload_n hx hb dX5_loadPlan_25 rfl (lv_at hl 0 rfl) ?_
  refine lv_iconst (v := (1 : Int32)) hx hb dX5_loadPlan_26 (by decide) ?_
  refine lv_iadd hx hb dX5_loadPlan_27 ?_
  revert hf
  refine k_req (fun h6 hf => ?_)
  refine w_iald C hw h6 rfl dX5_loadPlan_28 ?_
  revert hf
  refine k_stp (fun U7 eU7 hf => ?_)
  refine pf_X5_264 C hw k0 eU7 dX5_loadPlan_29 (fun H locs hw => ?_)
  refine lv_iconst (v := (0 : Int32)) hx hb dX5_loadPlan_32 (by decide) ?_
  refine lv_istore_n (lv' := [(3, .int (0 : Int32)), (2, .int z1), (0, .ref (gb G + o)), (1, .int a0)]) hx hb dX5_loadPlan_33 rfl hl (by decide) rfl (fun ls hl => ?_)
  refine lk_X5_loadPlan_34 C hr k0 (fun U15 H locs ls hf hw hl => ?_) fuel _ _ _ _ _ hf hw (lv_sub hl [2, 1, 0] rfl)
  refine lv_iconst (v := (0 : Int32)) hx hb dX5_loadPlan_67 (by decide) ?_
  refine lv_istore_n (lv' := [(3, .int (0 : Int32)), (0, .ref (gb G + o)), (2, .int z1)]) hx hb dX5_loadPlan_68 rfl hl (by decide) rfl (fun ls hl => ?_)
  refine lk_X5_loadPlan_69 C hr k0 (fun U28 H locs ls hf hw hl => ?_) fuel _ _ _ _ _ hf hw (lv_sub hl [1, 2, 0] rfl)
  cases hf
  exact w_vret C hr hw dX5_loadPlan_125
set_option maxHeartbeats 4000000 in
theorem ok_X5_beginPlan {l : Launch} {G : gG} {T : Tt} {V0 : Vt} {o : Nat} {a0 : Int32} {V' : Vt} (hf : f_X5_beginPlan T V0 o a0 = some V') : okM l G yX5_beginPlan cX5_beginPlan 2 none 1 [.ref (gb G + o), .int a0] V0 T none V' T 0 0 := by
  refine ok_intro (by decide) (Nat.le_of_ble_eq_true rfl) ?_
  intro p e s m below meth c ls C hr hnm hw hl
  have hx := C.1
  have hb := C.2.1
  have hown := C.2.2.2.1
  have hts := C.2.2.2.2.1
  have hl : lv_has ls 2 [(0, .ref (gb G + o)), (1, .int a0)] := hl
  unfold f_X5_beginPlan at hf
  revert hf
  refine k_req (fun k0 hf => ?_)
  refine lv_aload_n hx hb dX5_beginPlan_0 rfl (lv_at hl 0 rfl) ?_
  refine lv_iload_n hx hb dX5_beginPlan_1 rfl (lv_at hl 1 rfl) ?_
  revert hf
  refine k_pcl (fun U3 h1 hf => ?_)
  refine w_afv hw (w_rV (As := [.int a0]) C hw (ok_X5_loadPlan h1) (cw_X5_521 hts (Nat.le_of_ble_eq_true rfl) (Nat.le_of_ble_eq_true rfl)) rfl (by decide) (of_req h1).1 rfl hl.1 rfl (Nat.le_of_ble_eq_true rfl) ⟨Nat.zero_le _, Nat.zero_le _⟩ dX5_beginPlan_2) (fun H locs hw => ?_)
  refine lv_aload_n hx hb dX5_beginPlan_5 rfl (lv_at hl 0 rfl) ?_
  refine lv_bipush (v := (16 : Int32)) hx hb dX5_beginPlan_6 (by decide) ?_
  revert hf
  refine k_pcl (fun U6 h4 hf => ?_)
  refine w_afv hw (w_rV (As := [.int (16 : Int32)]) C hw (ok_X5_keepAll h4) (cw_X5_146 hts (Nat.le_of_ble_eq_true rfl) (Nat.le_of_ble_eq_true rfl)) rfl (by decide) (of_req h4).1 rfl hl.1 rfl (Nat.le_of_ble_eq_true rfl) ⟨Nat.zero_le _, Nat.zero_le _⟩ dX5_beginPlan_8) (fun H locs hw => ?_)
  refine lv_aload_n hx hb dX5_beginPlan_11 rfl (lv_at hl 0 rfl) ?_
  refine lv_iconst (v := (0 : Int32)) hx hb dX5_beginPlan_12 (by decide) ?_
  revert hf
  refine k_stp (fun U7 eU7 hf => ?_)
  refine pf_X5_444 C hw k0 eU7 dX5_beginPlan_13 (fun H locs hw => ?_)
  refine lv_aload_n hx hb dX5_beginPlan_16 rfl (lv_at hl 0 rfl) ?_
  refine lv_ldcw (v := (100000000 : Int32)) hx hb hown (hts _ q2123) dX5_beginPlan_17 ?_
  revert hf
  refine k_stp (fun U8 eU8 hf => ?_)
  refine pf_X5_447 C hw k0 eU8 dX5_beginPlan_20 (fun H locs hw => ?_)
  cases hf
  exact w_vret C hr hw dX5_beginPlan_23
set_option maxHeartbeats 4000000 in
theorem jk_X5_planOnce_135 {l : Launch} {G : gG} {p : Program} {e : Env} {s : State} {m : MethodId} {args : Array Value} {below : List Frame} {meth : Method} {c : Code} {T : Tt} {V0 : Vt} {r : Int32} {V' : Vt} (C : Cx G p s m args meth c cX5_planOnce RX5 7) (hr : meth.sig.returnType = (some .int)) {x0 : Nat} {H : Heap} {locs : List Loc} {ls : Array Slot} (k0 : T.1 x0 = 6) (hf : f_X5_planOnce_J135 T V0 x0 = some (r, V')) (hw : wS G V0 T H locs) (hl : lv_has ls 7 [(0, .ref (gb G + x0))]) : W p l e (rmL 10 0 0) s m args below meth c H locs 0 0 (eQ G below (some (.int r)) V' T args s 0 0) (F0 m 135 ls []) := by
  have hx := C.1
  have hb := C.2.1
  have hown := C.2.2.2.1
  have hts := C.2.2.2.2.1
  unfold f_X5_planOnce_J135 at hf
  refine lv_aload_n hx hb dX5_planOnce_135 rfl (lv_at hl 0 rfl) ?_
  refine lv_dup hx hb dX5_planOnce_136 rfl ?_
  refine gf_X5_487 C hw k0 dX5_planOnce_137 ?_
  refine lv_iconst (v := (1 : Int32)) hx hb dX5_planOnce_140 (by decide) ?_
  refine lv_iadd hx hb dX5_planOnce_141 ?_
  revert hf
  refine k_stp (fun U26 eU26 hf => ?_)
  refine pf_X5_487 C hw k0 eU26 dX5_planOnce_142 (fun H locs hw => ?_)
  refine lv_iconst (v := (0 : Int32)) hx hb dX5_planOnce_145 (by decide) ?_
  cases hf
  exact w_iret C hr hw dX5_planOnce_146
set_option maxHeartbeats 4000000 in
theorem jk_X5_planOnce_81 {l : Launch} {G : gG} {p : Program} {e : Env} {s : State} {m : MethodId} {args : Array Value} {below : List Frame} {meth : Method} {c : Code} {T : Tt} {V0 : Vt} {r : Int32} {V' : Vt} (C : Cx G p s m args meth c cX5_planOnce RX5 7) (hr : meth.sig.returnType = (some .int)) {x0 : Nat} {x2 : Int32} {x3 : Int32} {x4 : Int32} {x5 : Int32} {s0 : Int32} {H : Heap} {locs : List Loc} {ls : Array Slot} (k0 : T.1 x0 = 6) (hf : f_X5_planOnce_J81 T V0 x0 x2 x3 x4 x5 s0 = some (r, V')) (hw : wS G V0 T H locs) (hl : lv_has ls 7 [(0, .ref (gb G + x0)), (2, .int x2), (3, .int x3), (4, .int x4), (5, .int x5)]) : W p l e (rmL 10 0 0) s m args below meth c H locs 0 0 (eQ G below (some (.int r)) V' T args s 0 0) (F0 m 81 ls [.int s0]) := by
  have hx := C.1
  have hb := C.2.1
  have hown := C.2.2.2.1
  have hts := C.2.2.2.2.1
  unfold f_X5_planOnce_J81 at hf
  refine lv_istore (lv' := [(6, .int s0), (0, .ref (gb G + x0)), (2, .int x2), (3, .int x3), (4, .int x4), (5, .int x5)]) hx hb dX5_planOnce_81 hl (by decide) rfl (fun ls hl => ?_)
  refine lv_iload hx hb dX5_planOnce_83 (lv_at hl 0 rfl) ?_
  refine lv_if_ge (tgt := 91) hx hb dX5_planOnce_85 (by decide) (fun c19 => ?_) (fun c19 => ?_)
  · replace hf := ite_t c19 hf
    refine lv_iload hx hb dX5_planOnce_91 (lv_at hl 5 rfl) ?_
    refine lv_if_ne (tgt := 107) hx hb dX5_planOnce_93 (by decide) (fun c20 => ?_) (fun c20 => ?_)
    · replace hf := ite_f c20 hf
      refine lv_iload hx hb dX5_planOnce_107 (lv_at hl 5 rfl) ?_
      refine lv_iconst (v := (1 : Int32)) hx hb dX5_planOnce_109 (by decide) ?_
      refine lv_icmp_ne (tgt := 125) hx hb dX5_planOnce_110 (by decide) (fun c21 => ?_) (fun c21 => ?_)
      · replace hf := ite_f c21 hf
        refine lv_aload_n hx hb dX5_planOnce_125 rfl (lv_at hl 1 rfl) ?_
        refine lv_aload_n hx hb dX5_planOnce_126 rfl (lv_at hl 1 rfl) ?_
        refine lv_iload_n hx hb dX5_planOnce_127 rfl (lv_at hl 3 rfl) ?_
        refine lv_iload_n hx hb dX5_planOnce_128 rfl (lv_at hl 2 rfl) ?_
        revert hf
        refine k_cal (fun z23 U24 h22 hf => ?_)
        refine w_afi hw (w_rV (As := [.int x3, .int x2]) C hw (ok_X5_bottleIt h22) (cw_X5_453 hts (Nat.le_of_ble_eq_true rfl) (Nat.le_of_ble_eq_true rfl)) rfl (by decide) (of_req h22).1 rfl hl.1 rfl (Nat.le_of_ble_eq_true rfl) ⟨Nat.zero_le _, Nat.zero_le _⟩ dX5_planOnce_129) (fun H locs hw => ?_)
        revert hf
        refine k_stp (fun U25 eU25 hf => ?_)
        refine pf_X5_490 C hw k0 eU25 dX5_planOnce_132 (fun H locs hw => ?_)
        exact jk_X5_planOnce_135 C hr k0 hf hw (lv_sub hl [1] rfl)
      · replace hf := ite_t c21 hf
        refine lv_aload_n hx hb dX5_planOnce_113 rfl (lv_at hl 1 rfl) ?_
        refine lv_iload_n hx hb dX5_planOnce_114 rfl (lv_at hl 3 rfl) ?_
        refine lv_iload hx hb dX5_planOnce_115 (lv_at hl 4 rfl) ?_
        refine lv_iload_n hx hb dX5_planOnce_117 rfl (lv_at hl 2 rfl) ?_
        revert hf
        refine k_cal (fun z28 U29 h27 hf => ?_)
        refine w_afi hw (w_rV (As := [.int x3, .int x4, .int x2]) C hw (ok_X5_rackIt h27) (cw_X5_437 hts (Nat.le_of_ble_eq_true rfl) (Nat.le_of_ble_eq_true rfl)) rfl (by decide) (of_req h27).1 rfl hl.1 rfl (Nat.le_of_ble_eq_true rfl) ⟨Nat.zero_le _, Nat.zero_le _⟩ dX5_planOnce_118) (fun H locs hw => ?_)
        refine lv_pop hx hb dX5_planOnce_121 rfl ?_
        refine lv_goto (tgt := 135) hx hb dX5_planOnce_122 (by decide) ?_
        exact jk_X5_planOnce_135 C hr k0 hf hw (lv_sub hl [1] rfl)
    · replace hf := ite_t c20 hf
      refine lv_aload_n hx hb dX5_planOnce_96 rfl (lv_at hl 1 rfl) ?_
      refine lv_iload hx hb dX5_planOnce_97 (lv_at hl 4 rfl) ?_
      refine lv_iload_n hx hb dX5_planOnce_99 rfl (lv_at hl 2 rfl) ?_
      revert hf
      refine k_cal (fun z31 U32 h30 hf => ?_)
      refine w_afi hw (w_rV (As := [.int x4, .int x2]) C hw (ok_X5_pourIt h30) (cw_X5_424 hts (Nat.le_of_ble_eq_true rfl) (Nat.le_of_ble_eq_true rfl)) rfl (by decide) (of_req h30).1 rfl hl.1 rfl (Nat.le_of_ble_eq_true rfl) ⟨Nat.zero_le _, Nat.zero_le _⟩ dX5_planOnce_100) (fun H locs hw => ?_)
      refine lv_pop hx hb dX5_planOnce_103 rfl ?_
      refine lv_goto (tgt := 135) hx hb dX5_planOnce_104 (by decide) ?_
      exact jk_X5_planOnce_135 C hr k0 hf hw (lv_sub hl [1] rfl)
  · replace hf := ite_f c19 hf
    refine lv_bipush (v := ((-3) : Int32)) hx hb dX5_planOnce_88 (by decide) ?_
    cases hf
    exact w_iret C hr hw dX5_planOnce_90
set_option maxHeartbeats 4000000 in
theorem ok_X5_planOnce {l : Launch} {G : gG} {T : Tt} {V0 : Vt} {o : Nat} {a0 : Int32} {r : Int32} {V' : Vt} (hf : f_X5_planOnce T V0 o a0 = some (r, V')) : okM l G yX5_planOnce cX5_planOnce 7 (some .int) 10 [.ref (gb G + o), .int a0] V0 T (some (.int r)) V' T 0 0 := by
  refine ok_intro (by decide) (Nat.le_of_ble_eq_true rfl) ?_
  intro p e s m below meth c ls C hr hnm hw hl
  have hx := C.1
  have hb := C.2.1
  have hown := C.2.2.2.1
  have hts := C.2.2.2.2.1
  have hl : lv_has ls 7 [(0, .ref (gb G + o)), (1, .int a0)] := hl
  unfold f_X5_planOnce at hf
  revert hf
  refine k_req (fun k0 hf => ?_)
  refine lv_aload_n hx hb dX5_planOnce_0 rfl (lv_at hl 0 rfl) ?_
  refine lv_iload_n hx hb dX5_planOnce_1 rfl (lv_at hl 1 rfl) ?_
  refine lv_iconst (v := (1 : Int32)) hx hb dX5_planOnce_2 (by decide) ?_
  refine lv_iadd hx hb dX5_planOnce_3 ?_
  revert hf
  refine k_cal (fun z2 U3 h1 hf => ?_)
  refine w_afi hw (w_rV (As := [.int (a0 + (1 : Int32))]) C hw (ok_X5_sumOf h1) (cw_X5_496 hts (Nat.le_of_ble_eq_true rfl) (Nat.le_of_ble_eq_true rfl)) rfl (by decide) (of_req h1).1 rfl hl.1 rfl (Nat.le_of_ble_eq_true rfl) ⟨Nat.zero_le _, Nat.zero_le _⟩ dX5_planOnce_4) (fun H locs hw => ?_)
  refine lv_istore_n (lv' := [(2, .int z2), (0, .ref (gb G + o)), (1, .int a0)]) hx hb dX5_planOnce_7 rfl hl (by decide) rfl (fun ls hl => ?_)
  refine lv_aload_n hx hb dX5_planOnce_8 rfl (lv_at hl 1 rfl) ?_
  refine lv_iload_n hx hb dX5_planOnce_9 rfl (lv_at hl 2 rfl) ?_
  refine lv_iconst (v := (3 : Int32)) hx hb dX5_planOnce_10 (by decide) ?_
  refine lv_iadd hx hb dX5_planOnce_11 ?_
  revert hf
  refine k_cal (fun z5 U6 h4 hf => ?_)
  refine w_afi hw (w_rV (As := [.int (a0 + (3 : Int32))]) C hw (ok_X5_sumOf h4) (cw_X5_496 hts (Nat.le_of_ble_eq_true rfl) (Nat.le_of_ble_eq_true rfl)) rfl (by decide) (of_req h4).1 rfl hl.1 rfl (Nat.le_of_ble_eq_true rfl) ⟨Nat.zero_le _, Nat.zero_le _⟩ dX5_planOnce_12) (fun H locs hw => ?_)
  refine lv_istore_n (lv' := [(3, .int z5), (2, .int z2), (0, .ref (gb G + o)), (1, .int a0)]) hx hb dX5_planOnce_15 rfl hl (by decide) rfl (fun ls hl => ?_)
  refine lv_aload_n hx hb dX5_planOnce_16 rfl (lv_at hl 2 rfl) ?_
  refine lv_iload_n hx hb dX5_planOnce_17 rfl (lv_at hl 3 rfl) ?_
  refine lv_iconst (v := (5 : Int32)) hx hb dX5_planOnce_18 (by decide) ?_
  refine lv_iadd hx hb dX5_planOnce_19 ?_
  revert hf
  refine k_cal (fun z8 U9 h7 hf => ?_)
  refine w_afi hw (w_rV (As := [.int (a0 + (5 : Int32))]) C hw (ok_X5_sumOf h7) (cw_X5_496 hts (Nat.le_of_ble_eq_true rfl) (Nat.le_of_ble_eq_true rfl)) rfl (by decide) (of_req h7).1 rfl hl.1 rfl (Nat.le_of_ble_eq_true rfl) ⟨Nat.zero_le _, Nat.zero_le _⟩ dX5_planOnce_20) (fun H locs hw => ?_)
  refine lv_istore (lv' := [(4, .int z8), (3, .int z5), (2, .int z2), (0, .ref (gb G + o)), (1, .int a0)]) hx hb dX5_planOnce_23 hl (by decide) rfl (fun ls hl => ?_)
  refine lv_aload_n hx hb dX5_planOnce_25 rfl (lv_at hl 3 rfl) ?_
  refine gf_X5_484 C hw k0 dX5_planOnce_26 ?_
  refine lv_if_eq (tgt := 35) hx hb dX5_planOnce_29 (by decide) (fun c10 => ?_) (fun c10 => ?_)
  · replace hf := ite_t c10 hf
    refine lv_aload_n hx hb dX5_planOnce_35 rfl (lv_at hl 3 rfl) ?_
    revert hf
    refine k_drf (fun r11 er11 hf => ?_)
    refine gf_X5_118 C hw k0 er11 dX5_planOnce_36 ?_
    refine lv_iload_n hx hb dX5_planOnce_39 rfl (lv_at hl 4 rfl) ?_
    revert hf
    refine k_req (fun h12 hf => ?_)
    refine w_iald C hw h12 rfl dX5_planOnce_40 ?_
    revert hf
    refine k_stp (fun z13 ez13 hf => ?_)
    refine w_nmI ez13 ?_
    refine lv_istore (lv' := [(5, .int z13), (4, .int z8), (3, .int z5), (2, .int z2), (0, .ref (gb G + o)), (1, .int a0)]) hx hb dX5_planOnce_41 hl (by decide) rfl (fun ls hl => ?_)
    refine lv_iload hx hb dX5_planOnce_43 (lv_at hl 0 rfl) ?_
    refine lv_if_ne (tgt := 58) hx hb dX5_planOnce_45 (by decide) (fun c14 => ?_) (fun c14 => ?_)
    · replace hf := ite_f c14 hf
      refine lv_iload hx hb dX5_planOnce_58 (lv_at hl 0 rfl) ?_
      refine lv_iconst (v := (1 : Int32)) hx hb dX5_planOnce_60 (by decide) ?_
      refine lv_icmp_ne (tgt := 75) hx hb dX5_planOnce_61 (by decide) (fun c15 => ?_) (fun c15 => ?_)
      · replace hf := ite_f c15 hf
        refine lv_aload_n hx hb dX5_planOnce_75 rfl (lv_at hl 4 rfl) ?_
        refine lv_iload_n hx hb dX5_planOnce_76 rfl (lv_at hl 2 rfl) ?_
        refine lv_iload_n hx hb dX5_planOnce_77 rfl (lv_at hl 3 rfl) ?_
        revert hf
        refine k_cal (fun z17 U18 h16 hf => ?_)
        refine w_afi hw (w_rV (As := [.int z5, .int z2]) C hw (ok_X5_whyNotBottle h16) (cw_X5_450 hts (Nat.le_of_ble_eq_true rfl) (Nat.le_of_ble_eq_true rfl)) rfl (by decide) (of_req h16).1 rfl hl.1 rfl (Nat.le_of_ble_eq_true rfl) ⟨Nat.zero_le _, Nat.zero_le _⟩ dX5_planOnce_78) (fun H locs hw => ?_)
        exact jk_X5_planOnce_81 C hr k0 hf hw (lv_sub hl [4, 3, 2, 1, 0] rfl)
      · replace hf := ite_t c15 hf
        refine lv_aload_n hx hb dX5_planOnce_64 rfl (lv_at hl 4 rfl) ?_
        refine lv_iload_n hx hb dX5_planOnce_65 rfl (lv_at hl 2 rfl) ?_
        refine lv_iload hx hb dX5_planOnce_66 (lv_at hl 1 rfl) ?_
        refine lv_iload_n hx hb dX5_planOnce_68 rfl (lv_at hl 3 rfl) ?_
        revert hf
        refine k_cal (fun z34 U35 h33 hf => ?_)
        refine w_afi hw (w_rV (As := [.int z5, .int z8, .int z2]) C hw (ok_X5_whyNotRack h33) (cw_X5_433 hts (Nat.le_of_ble_eq_true rfl) (Nat.le_of_ble_eq_true rfl)) rfl (by decide) (of_req h33).1 rfl hl.1 rfl (Nat.le_of_ble_eq_true rfl) ⟨Nat.zero_le _, Nat.zero_le _⟩ dX5_planOnce_69) (fun H locs hw => ?_)
        refine lv_goto (tgt := 81) hx hb dX5_planOnce_72 (by decide) ?_
        exact jk_X5_planOnce_81 C hr k0 hf hw (lv_sub hl [4, 3, 2, 1, 0] rfl)
    · replace hf := ite_t c14 hf
      refine lv_aload_n hx hb dX5_planOnce_48 rfl (lv_at hl 4 rfl) ?_
      refine lv_iload hx hb dX5_planOnce_49 (lv_at hl 1 rfl) ?_
      refine lv_iload_n hx hb dX5_planOnce_51 rfl (lv_at hl 3 rfl) ?_
      revert hf
      refine k_pcl (fun z37 h36 hf => ?_)
      refine w_afi hw (w_rV (As := [.int z8, .int z2]) C hw (ok_X5_whyNotPour h36) (cw_X5_418 hts (Nat.le_of_ble_eq_true rfl) (Nat.le_of_ble_eq_true rfl)) rfl (by decide) (of_req h36).1 rfl hl.1 rfl (Nat.le_of_ble_eq_true rfl) ⟨Nat.zero_le _, Nat.zero_le _⟩ dX5_planOnce_52) (fun H locs hw => ?_)
      refine lv_goto (tgt := 81) hx hb dX5_planOnce_55 (by decide) ?_
      exact jk_X5_planOnce_81 C hr k0 hf hw (lv_sub hl [4, 3, 2, 1, 0] rfl)
  · replace hf := ite_f c10 hf
    refine lv_bipush (v := ((-3) : Int32)) hx hb dX5_planOnce_32 (by decide) ?_
    cases hf
    exact w_iret C hr hw dX5_planOnce_34
set_option maxHeartbeats 4000000 in
theorem jk_X5_planYear_82 {l : Launch} {G : gG} {p : Program} {e : Env} {s : State} {m : MethodId} {args : Array Value} {below : List Frame} {meth : Method} {c : Code} {T : Tt} {V0 : Vt} {V' : Vt} (C : Cx G p s m args meth c cX5_planYear RX5 4) (hr : meth.sig.returnType = none) {x0 : Nat} {x1 : Int32} {kc17 : Int32 → Vt → Option (Vt)} {kx17_88 : Vt → Option (Vt)} {H : Heap} {locs : List Loc} {ls : Array Slot} (k0 : T.1 x0 = 6) (hf : f_X5_planYear_J82 T V0 x0 x1 kc17 kx17_88 = some V') (hw : wS G V0 T H locs) (hl : lv_has ls 4 [(0, .ref (gb G + x0)), (1, .int x1)]) (hkc17 : ∀ (y1 : Int32) (W1 : Vt) (H : Heap) (locs : List Loc) (ls : Array Slot), kc17 y1 W1 = some V' → wS G W1 T H locs → lv_has ls 4 [(0, .ref (gb G + x0)), (1, .int y1)] → W p l e (rmL 11 0 0) s m args below meth c H locs 0 0 (eQ G below none V' T args s 0 0) (F0 m 17 ls [])) (hkx17_88 : ∀ (W1 : Vt) (H : Heap) (locs : List Loc) (ls : Array Slot), kx17_88 W1 = some V' → wS G W1 T H locs → lv_has ls 4 [(0, .ref (gb G + x0))] → W p l e (rmL 11 0 0) s m args below meth c H locs 0 0 (eQ G below none V' T args s 0 0) (F0 m 88 ls [])) : W p l e (rmL 11 0 0) s m args below meth c H locs 0 0 (eQ G below none V' T args s 0 0) (F0 m 82 ls []) := by
  have hx := C.1
  have hb := C.2.1
  have hown := C.2.2.2.1
  have hts := C.2.2.2.2.1
  unfold f_X5_planYear_J82 at hf
  revert hf
  refine k_stp (fun z23 ez23 hf => ?_)
  refine lv_iinc (k := 1) (lv' := [(1, .int z23), (0, .ref (gb G + x0))]) hx hb dX5_planYear_82 hl rfl (inc_e (by decide) ez23) (by decide) rfl (fun ls hl => ?_)
  refine lv_goto (tgt := 17) hx hb dX5_planYear_85 (by decide) ?_
  exact hkc17 _ _ _ _ _ hf hw (lv_sub hl [1, 0] rfl)
set_option maxHeartbeats 4000000 in
theorem jk_X5_planYear_76 {l : Launch} {G : gG} {p : Program} {e : Env} {s : State} {m : MethodId} {args : Array Value} {below : List Frame} {meth : Method} {c : Code} {T : Tt} {V0 : Vt} {V' : Vt} (C : Cx G p s m args meth c cX5_planYear RX5 4) (hr : meth.sig.returnType = none) {x0 : Nat} {x1 : Int32} {x2 : Int32} {x3 : Int32} {kc17 : Int32 → Vt → Option (Vt)} {kx17_88 : Vt → Option (Vt)} {kc32 : Int32 → Vt → Option (Vt)} {kx32_82 : Vt → Option (Vt)} {H : Heap} {locs : List Loc} {ls : Array Slot} (k0 : T.1 x0 = 6) (hf : f_X5_planYear_J76 T V0 x0 x1 x2 x3 kc17 kx17_88 kc32 kx32_82 = some V') (hw : wS G V0 T H locs) (hl : lv_has ls 4 [(0, .ref (gb G + x0)), (1, .int x1), (2, .int x2), (3, .int x3)]) (hkc17 : ∀ (y1 : Int32) (W1 : Vt) (H : Heap) (locs : List Loc) (ls : Array Slot), kc17 y1 W1 = some V' → wS G W1 T H locs → lv_has ls 4 [(0, .ref (gb G + x0)), (1, .int y1)] → W p l e (rmL 11 0 0) s m args below meth c H locs 0 0 (eQ G below none V' T args s 0 0) (F0 m 17 ls [])) (hkx17_88 : ∀ (W1 : Vt) (H : Heap) (locs : List Loc) (ls : Array Slot), kx17_88 W1 = some V' → wS G W1 T H locs → lv_has ls 4 [(0, .ref (gb G + x0))] → W p l e (rmL 11 0 0) s m args below meth c H locs 0 0 (eQ G below none V' T args s 0 0) (F0 m 88 ls [])) (hkc32 : ∀ (y3 : Int32) (W1 : Vt) (H : Heap) (locs : List Loc) (ls : Array Slot), kc32 y3 W1 = some V' → wS G W1 T H locs → lv_has ls 4 [(0, .ref (gb G + x0)), (1, .int x1), (2, .int x2), (3, .int y3)] → W p l e (rmL 11 0 0) s m args below meth c H locs 0 0 (eQ G below none V' T args s 0 0) (F0 m 32 ls [])) (hkx32_82 : ∀ (W1 : Vt) (H : Heap) (locs : List Loc) (ls : Array Slot), kx32_82 W1 = some V' → wS G W1 T H locs → lv_has ls 4 [(0, .ref (gb G + x0)), (1, .int x1)] → W p l e (rmL 11 0 0) s m args below meth c H locs 0 0 (eQ G below none V' T args s 0 0) (F0 m 82 ls [])) : W p l e (rmL 11 0 0) s m args below meth c H locs 0 0 (eQ G below none V' T args s 0 0) (F0 m 76 ls []) := by
  have hx := C.1
  have hb := C.2.1
  have hown := C.2.2.2.1
  have hts := C.2.2.2.2.1
  unfold f_X5_planYear_J76 at hf
  revert hf
  refine k_stp (fun z16 ez16 hf => ?_)
  refine lv_iinc (k := 3) (lv' := [(3, .int z16), (0, .ref (gb G + x0)), (1, .int x1), (2, .int x2)]) hx hb dX5_planYear_76 hl rfl (inc_e (by decide) ez16) (by decide) rfl (fun ls hl => ?_)
  refine lv_goto (tgt := 32) hx hb dX5_planYear_79 (by decide) ?_
  exact hkc32 _ _ _ _ _ hf hw (lv_sub hl [1, 2, 3, 0] rfl)
set_option maxHeartbeats 4000000 in
theorem lk_X5_planYear_32 {l : Launch} {G : gG} {p : Program} {e : Env} {s : State} {m : MethodId} {args : Array Value} {below : List Frame} {meth : Method} {c : Code} {T : Tt} {V' : Vt} (C : Cx G p s m args meth c cX5_planYear RX5 4) (hr : meth.sig.returnType = none) {x0 : Nat} {x1 : Int32} {x2 : Int32} {kc17 : Int32 → Vt → Option (Vt)} {kx17_88 : Vt → Option (Vt)} {kx32_82 : Vt → Option (Vt)} (k0 : T.1 x0 = 6) (hkc17 : ∀ (y1 : Int32) (W1 : Vt) (H : Heap) (locs : List Loc) (ls : Array Slot), kc17 y1 W1 = some V' → wS G W1 T H locs → lv_has ls 4 [(0, .ref (gb G + x0)), (1, .int y1)] → W p l e (rmL 11 0 0) s m args below meth c H locs 0 0 (eQ G below none V' T args s 0 0) (F0 m 17 ls [])) (hkx17_88 : ∀ (W1 : Vt) (H : Heap) (locs : List Loc) (ls : Array Slot), kx17_88 W1 = some V' → wS G W1 T H locs → lv_has ls 4 [(0, .ref (gb G + x0))] → W p l e (rmL 11 0 0) s m args below meth c H locs 0 0 (eQ G below none V' T args s 0 0) (F0 m 88 ls [])) (hkx32_82 : ∀ (W1 : Vt) (H : Heap) (locs : List Loc) (ls : Array Slot), kx32_82 W1 = some V' → wS G W1 T H locs → lv_has ls 4 [(0, .ref (gb G + x0)), (1, .int x1)] → W p l e (rmL 11 0 0) s m args below meth c H locs 0 0 (eQ G below none V' T args s 0 0) (F0 m 82 ls [])) : ∀ (n : Nat) (x3 : Int32) (V1 : Vt) (H : Heap) (locs : List Loc) (ls : Array Slot), f_X5_planYear_L32 T x0 x1 x2 kc17 kx17_88 kx32_82 n x3 V1 = some V' → wS G V1 T H locs → lv_has ls 4 [(0, .ref (gb G + x0)), (1, .int x1), (2, .int x2), (3, .int x3)] → W p l e (rmL 11 0 0) s m args below meth c H locs 0 0 (eQ G below none V' T args s 0 0) (F0 m 32 ls []) := by
  have hx := C.1
  have hb := C.2.1
  have hown := C.2.2.2.1
  have hts := C.2.2.2.2.1
  intro n
  induction n with
  | zero =>
    intro x3 V1 H locs ls hf
    cases hf
  | succ n ih =>
    intro x3 V1 H locs ls hf hw hl
    unfold f_X5_planYear_L32 at hf
    refine lv_iload_n hx hb dX5_planYear_32 rfl (lv_at hl 3 rfl) ?_
    refine lv_aload_n hx hb dX5_planYear_33 rfl (lv_at hl 0 rfl) ?_
    revert hf
    refine k_drf (fun r6 er6 hf => ?_)
    refine gf_X5_118 C hw k0 er6 dX5_planYear_34 ?_
    refine lv_iload_n hx hb dX5_planYear_37 rfl (lv_at hl 2 rfl) ?_
    refine lv_bipush (v := (9 : Int32)) hx hb dX5_planYear_38 (by decide) ?_
    refine lv_iadd hx hb dX5_planYear_40 ?_
    revert hf
    refine k_req (fun h7 hf => ?_)
    refine w_iald C hw h7 rfl dX5_planYear_41 ?_
    refine lv_icmp_ge (tgt := 82) hx hb dX5_planYear_42 (by decide) (fun c8 => ?_) (fun c8 => ?_)
    · replace hf := ite_t c8 hf
      exact hkx32_82 _ _ _ _ hf hw (lv_sub hl [0, 1] rfl)
    · replace hf := ite_f c8 hf
      refine lv_aload_n hx hb dX5_planYear_45 rfl (lv_at hl 0 rfl) ?_
      revert hf
      refine k_drf (fun r9 er9 hf => ?_)
      refine gf_X5_118 C hw k0 er9 dX5_planYear_46 ?_
      refine lv_iload_n hx hb dX5_planYear_49 rfl (lv_at hl 2 rfl) ?_
      revert hf
      refine k_req (fun h10 hf => ?_)
      refine w_iald C hw h10 rfl dX5_planYear_50 ?_
      refine lv_iconst (v := (3 : Int32)) hx hb dX5_planYear_51 (by decide) ?_
      refine lv_icmp_eq (tgt := 82) hx hb dX5_planYear_52 (by decide) (fun c11 => ?_) (fun c11 => ?_)
      · replace hf := ite_t c11 hf
        exact hkx32_82 _ _ _ _ hf hw (lv_sub hl [0, 1] rfl)
      · replace hf := ite_f c11 hf
        refine lv_aload_n hx hb dX5_planYear_55 rfl (lv_at hl 0 rfl) ?_
        refine lv_iload_n hx hb dX5_planYear_56 rfl (lv_at hl 2 rfl) ?_
        revert hf
        refine k_cal (fun z13 U14 h12 hf => ?_)
        refine w_afi hw (w_rV (As := [.int x2]) C hw (ok_X5_isAsked h12) (cw_X5_506 hts (Nat.le_of_ble_eq_true rfl) (Nat.le_of_ble_eq_true rfl)) rfl (by decide) (of_req h12).1 rfl hl.1 rfl (Nat.le_of_ble_eq_true rfl) ⟨Nat.zero_le _, Nat.zero_le _⟩ dX5_planYear_57) (fun H locs hw => ?_)
        refine lv_if_eq (tgt := 76) hx hb dX5_planYear_60 (by decide) (fun c15 => ?_) (fun c15 => ?_)
        · replace hf := ite_t c15 hf
          exact jk_X5_planYear_76 C hr k0 hf hw (lv_sub hl [0, 1, 2, 3] rfl) hkc17 hkx17_88 ih hkx32_82
        · replace hf := ite_f c15 hf
          refine lv_aload_n hx hb dX5_planYear_63 rfl (lv_at hl 0 rfl) ?_
          refine lv_iload_n hx hb dX5_planYear_64 rfl (lv_at hl 2 rfl) ?_
          revert hf
          refine k_cal (fun z18 U19 h17 hf => ?_)
          refine w_afi hw (w_rV (As := [.int x2]) C hw (ok_X5_planOnce h17) (cw_X5_518 hts (Nat.le_of_ble_eq_true rfl) (Nat.le_of_ble_eq_true rfl)) rfl (by decide) (of_req h17).1 rfl hl.1 rfl (Nat.le_of_ble_eq_true rfl) ⟨Nat.zero_le _, Nat.zero_le _⟩ dX5_planYear_65) (fun H locs hw => ?_)
          refine lv_if_ge (tgt := 76) hx hb dX5_planYear_68 (by decide) (fun c20 => ?_) (fun c20 => ?_)
          · replace hf := ite_t c20 hf
            exact jk_X5_planYear_76 C hr k0 hf hw (lv_sub hl [0, 1, 2, 3] rfl) hkc17 hkx17_88 ih hkx32_82
          · replace hf := ite_f c20 hf
            refine lv_aload_n hx hb dX5_planYear_71 rfl (lv_at hl 0 rfl) ?_
            refine lv_iconst (v := (1 : Int32)) hx hb dX5_planYear_72 (by decide) ?_
            revert hf
            refine k_stp (fun U21 eU21 hf => ?_)
            refine pf_X5_515 C hw k0 (by decide) eU21 dX5_planYear_73 (fun H locs hw => ?_)
            exact jk_X5_planYear_76 C hr k0 hf hw (lv_sub hl [0, 1, 2, 3] rfl) hkc17 hkx17_88 ih hkx32_82
set_option maxHeartbeats 4000000 in
theorem lk_X5_planYear_17 {l : Launch} {G : gG} {p : Program} {e : Env} {s : State} {m : MethodId} {args : Array Value} {below : List Frame} {meth : Method} {c : Code} {T : Tt} {V' : Vt} (C : Cx G p s m args meth c cX5_planYear RX5 4) (hr : meth.sig.returnType = none) {x0 : Nat} {kx17_88 : Vt → Option (Vt)} (k0 : T.1 x0 = 6) (hkx17_88 : ∀ (W1 : Vt) (H : Heap) (locs : List Loc) (ls : Array Slot), kx17_88 W1 = some V' → wS G W1 T H locs → lv_has ls 4 [(0, .ref (gb G + x0))] → W p l e (rmL 11 0 0) s m args below meth c H locs 0 0 (eQ G below none V' T args s 0 0) (F0 m 88 ls [])) : ∀ (n : Nat) (x1 : Int32) (V1 : Vt) (H : Heap) (locs : List Loc) (ls : Array Slot), f_X5_planYear_L17 T x0 kx17_88 n x1 V1 = some V' → wS G V1 T H locs → lv_has ls 4 [(0, .ref (gb G + x0)), (1, .int x1)] → W p l e (rmL 11 0 0) s m args below meth c H locs 0 0 (eQ G below none V' T args s 0 0) (F0 m 17 ls []) := by
  have hx := C.1
  have hb := C.2.1
  have hown := C.2.2.2.1
  have hts := C.2.2.2.2.1
  intro n
  induction n with
  | zero =>
    intro x1 V1 H locs ls hf
    cases hf
  | succ n ih =>
    intro x1 V1 H locs ls hf hw hl
    unfold f_X5_planYear_L17 at hf
    refine lv_iload_n hx hb dX5_planYear_17 rfl (lv_at hl 1 rfl) ?_
    refine lv_aload_n hx hb dX5_planYear_18 rfl (lv_at hl 0 rfl) ?_
    refine gf_X5_354 C hw k0 dX5_planYear_19 ?_
    refine lv_icmp_ge (tgt := 88) hx hb dX5_planYear_22 (by decide) (fun c4 => ?_) (fun c4 => ?_)
    · replace hf := ite_t c4 hf
      exact hkx17_88 _ _ _ _ hf hw (lv_sub hl [0] rfl)
    · replace hf := ite_f c4 hf
      refine lv_bipush (v := (10 : Int32)) hx hb dX5_planYear_25 (by decide) ?_
      refine lv_iload_n hx hb dX5_planYear_27 rfl (lv_at hl 1 rfl) ?_
      refine lv_imul hx hb dX5_planYear_28 ?_
      revert hf
      refine k_stp (fun z5 ez5 hf => ?_)
      refine w_nmI ez5 ?_
      refine lv_istore_n (lv' := [(2, .int z5), (0, .ref (gb G + x0)), (1, .int x1)]) hx hb dX5_planYear_29 rfl hl (by decide) rfl (fun ls hl => ?_)
      refine lv_iconst (v := (0 : Int32)) hx hb dX5_planYear_30 (by decide) ?_
      refine lv_istore_n (lv' := [(3, .int (0 : Int32)), (2, .int z5), (0, .ref (gb G + x0)), (1, .int x1)]) hx hb dX5_planYear_31 rfl hl (by decide) rfl (fun ls hl => ?_)
      refine lk_X5_planYear_32 C hr k0 ih hkx17_88 (fun U22 H locs ls hf hw hl => ?_) fuel _ _ _ _ _ hf hw (lv_sub hl [2, 3, 1, 0] rfl)
      exact jk_X5_planYear_82 C hr k0 hf hw (lv_sub hl [0, 1] rfl) ih hkx17_88
set_option maxHeartbeats 4000000 in
theorem ok_X5_planYear {l : Launch} {G : gG} {T : Tt} {V0 : Vt} {o : Nat} {V' : Vt} (hf : f_X5_planYear T V0 o = some V') : okM l G yX5_planYear cX5_planYear 4 none 11 [.ref (gb G + o)] V0 T none V' T 0 0 := by
  refine ok_intro (by decide) (Nat.le_of_ble_eq_true rfl) ?_
  intro p e s m below meth c ls C hr hnm hw hl
  have hx := C.1
  have hb := C.2.1
  have hown := C.2.2.2.1
  have hts := C.2.2.2.2.1
  have hl : lv_has ls 4 [(0, .ref (gb G + o))] := hl
  unfold f_X5_planYear at hf
  revert hf
  refine k_req (fun k0 hf => ?_)
  refine lv_aload_n hx hb dX5_planYear_0 rfl (lv_at hl 0 rfl) ?_
  refine lv_iconst (v := (0 : Int32)) hx hb dX5_planYear_1 (by decide) ?_
  revert hf
  refine k_stp (fun U1 eU1 hf => ?_)
  refine pf_X5_487 C hw k0 eU1 dX5_planYear_2 (fun H locs hw => ?_)
  refine lv_aload_n hx hb dX5_planYear_5 rfl (lv_at hl 0 rfl) ?_
  refine lv_iconst (v := ((-1) : Int32)) hx hb dX5_planYear_6 (by decide) ?_
  revert hf
  refine k_stp (fun U2 eU2 hf => ?_)
  refine pf_X5_490 C hw k0 eU2 dX5_planYear_7 (fun H locs hw => ?_)
  refine lv_aload_n hx hb dX5_planYear_10 rfl (lv_at hl 0 rfl) ?_
  refine lv_iconst (v := (0 : Int32)) hx hb dX5_planYear_11 (by decide) ?_
  revert hf
  refine k_stp (fun U3 eU3 hf => ?_)
  refine pf_X5_515 C hw k0 (by decide) eU3 dX5_planYear_12 (fun H locs hw => ?_)
  refine lv_iconst (v := (0 : Int32)) hx hb dX5_planYear_15 (by decide) ?_
  refine lv_istore_n (lv' := [(1, .int (0 : Int32)), (0, .ref (gb G + o))]) hx hb dX5_planYear_16 rfl hl (by decide) rfl (fun ls hl => ?_)
  refine lk_X5_planYear_17 C hr k0 (fun U24 H locs ls hf hw hl => ?_) fuel _ _ _ _ _ hf hw (lv_sub hl [1, 0] rfl)
  refine lv_aload_n hx hb dX5_planYear_88 rfl (lv_at hl 0 rfl) ?_
  revert hf
  refine k_cal (fun z26 U27 h25 hf => ?_)
  refine w_afi hw (w_rV (As := []) C hw (ok_X5_passIt h25) (cw_X5_459 hts (Nat.le_of_ble_eq_true rfl) (Nat.le_of_ble_eq_true rfl)) rfl (by decide) (of_req h25).1 rfl hl.1 rfl (Nat.le_of_ble_eq_true rfl) ⟨Nat.zero_le _, Nat.zero_le _⟩ dX5_planYear_89) (fun H locs hw => ?_)
  refine lv_pop hx hb dX5_planYear_92 rfl ?_
  cases hf
  exact w_vret C hr hw dX5_planYear_93
set_option maxHeartbeats 4000000 in
theorem jk_X5_byPlan_104 {l : Launch} {G : gG} {p : Program} {e : Env} {s : State} {m : MethodId} {args : Array Value} {below : List Frame} {meth : Method} {c : Code} {T : Tt} {V0 : Vt} {r : Int32} {V' : Vt} (C : Cx G p s m args meth c cX5_byPlan RX5 6) (hr : meth.sig.returnType = (some .int)) {x0 : Nat} {s0 : Int32} {H : Heap} {locs : List Loc} {ls : Array Slot} (k0 : T.1 x0 = 6) (hf : f_X5_byPlan_J104 T V0 x0 s0 = some (r, V')) (hw : wS G V0 T H locs) (hl : lv_has ls 6 [(0, .ref (gb G + x0))]) : W p l e (rmL 12 0 0) s m args below meth c H locs 0 0 (eQ G below (some (.int r)) V' T args s 0 0) (F0 m 104 ls [.int s0]) := by
  have hx := C.1
  have hb := C.2.1
  have hown := C.2.2.2.1
  have hts := C.2.2.2.2.1
  unfold f_X5_byPlan_J104 at hf
  refine lv_istore (lv' := [(5, .int s0), (0, .ref (gb G + x0))]) hx hb dX5_byPlan_104 hl (by decide) rfl (fun ls hl => ?_)
  refine lv_aload_n hx hb dX5_byPlan_106 rfl (lv_at hl 1 rfl) ?_
  refine lv_bipush (v := (16 : Int32)) hx hb dX5_byPlan_107 (by decide) ?_
  revert hf
  refine k_pcl (fun U29 h27 hf => ?_)
  refine w_afv hw (w_rV (As := [.int (16 : Int32)]) C hw (ok_X5_putBack h27) (cw_X5_150 hts (Nat.le_of_ble_eq_true rfl) (Nat.le_of_ble_eq_true rfl)) rfl (by decide) (of_req h27).1 rfl hl.1 rfl (Nat.le_of_ble_eq_true rfl) ⟨Nat.zero_le _, Nat.zero_le _⟩ dX5_byPlan_109) (fun H locs hw => ?_)
  refine lv_iload hx hb dX5_byPlan_112 (lv_at hl 0 rfl) ?_
  cases hf
  exact w_iret C hr hw dX5_byPlan_114
set_option maxHeartbeats 4000000 in
theorem lk_X5_byPlan_56 {l : Launch} {G : gG} {p : Program} {e : Env} {s : State} {m : MethodId} {args : Array Value} {below : List Frame} {meth : Method} {c : Code} {T : Tt} {r : Int32} {V' : Vt} (C : Cx G p s m args meth c cX5_byPlan RX5 6) (hr : meth.sig.returnType = (some .int)) {x0 : Nat} {x2 : Int32} {x3 : Int32} {x4 : Int32} {kx56_72 : Vt → Option (Int32 × Vt)} (k0 : T.1 x0 = 6) (hkx56_72 : ∀ (W1 : Vt) (H : Heap) (locs : List Loc) (ls : Array Slot), kx56_72 W1 = some (r, V') → wS G W1 T H locs → lv_has ls 6 [(0, .ref (gb G + x0)), (3, .int x3), (4, .int x4)] → W p l e (rmL 12 0 0) s m args below meth c H locs 0 0 (eQ G below (some (.int r)) V' T args s 0 0) (F0 m 72 ls [])) : ∀ (n : Nat) (x5 : Int32) (V1 : Vt) (H : Heap) (locs : List Loc) (ls : Array Slot), f_X5_byPlan_L56 T x0 x2 x3 x4 kx56_72 n x5 V1 = some (r, V') → wS G V1 T H locs → lv_has ls 6 [(0, .ref (gb G + x0)), (2, .int x2), (3, .int x3), (4, .int x4), (5, .int x5)] → W p l e (rmL 12 0 0) s m args below meth c H locs 0 0 (eQ G below (some (.int r)) V' T args s 0 0) (F0 m 56 ls []) := by
  have hx := C.1
  have hb := C.2.1
  have hown := C.2.2.2.1
  have hts := C.2.2.2.2.1
  intro n
  induction n with
  | zero =>
    intro x5 V1 H locs ls hf
    cases hf
  | succ n ih =>
    intro x5 V1 H locs ls hf hw hl
    unfold f_X5_byPlan_L56 at hf
    refine lv_iload hx hb dX5_byPlan_56 (lv_at hl 4 rfl) ?_
    refine lv_iload_n hx hb dX5_byPlan_58 rfl (lv_at hl 1 rfl) ?_
    refine lv_icmp_ge (tgt := 72) hx hb dX5_byPlan_59 (by decide) (fun c17 => ?_) (fun c17 => ?_)
    · replace hf := ite_t c17 hf
      exact hkx56_72 _ _ _ _ hf hw (lv_sub hl [0, 2, 3] rfl)
    · replace hf := ite_f c17 hf
      refine lv_aload_n hx hb dX5_byPlan_62 rfl (lv_at hl 0 rfl) ?_
      revert hf
      refine k_pcl (fun U20 h18 hf => ?_)
      refine w_afv hw (w_rV (As := []) C hw (ok_X5_planYear h18) (cw_X5_535 hts (Nat.le_of_ble_eq_true rfl) (Nat.le_of_ble_eq_true rfl)) rfl (by decide) (of_req h18).1 rfl hl.1 rfl (Nat.le_of_ble_eq_true rfl) ⟨Nat.zero_le _, Nat.zero_le _⟩ dX5_byPlan_63) (fun H locs hw => ?_)
      revert hf
      refine k_stp (fun z21 ez21 hf => ?_)
      refine lv_iinc (k := 4) (lv' := [(5, .int z21), (0, .ref (gb G + x0)), (2, .int x2), (3, .int x3), (4, .int x4)]) hx hb dX5_byPlan_66 hl rfl (inc_e (by decide) ez21) (by decide) rfl (fun ls hl => ?_)
      refine lv_goto (tgt := 56) hx hb dX5_byPlan_69 (by decide) ?_
      exact ih _ _ _ _ _ hf hw (lv_sub hl [1, 2, 3, 4, 0] rfl)
set_option maxHeartbeats 4000000 in
theorem ok_X5_byPlan {l : Launch} {G : gG} {T : Tt} {V0 : Vt} {o : Nat} {a0 : Int32} {a1 : Int32} {a2 : Int32} {a3 : Int32} {r : Int32} {V' : Vt} (hf : f_X5_byPlan T V0 o a0 a1 a2 a3 = some (r, V')) : okM l G yX5_byPlan cX5_byPlan 6 (some .int) 12 [.ref (gb G + o), .int a0, .int a1, .int a2, .int a3] V0 T (some (.int r)) V' T 0 0 := by
  refine ok_intro (by decide) (Nat.le_of_ble_eq_true rfl) ?_
  intro p e s m below meth c ls C hr hnm hw hl
  have hx := C.1
  have hb := C.2.1
  have hown := C.2.2.2.1
  have hts := C.2.2.2.2.1
  have hl : lv_has ls 6 [(0, .ref (gb G + o)), (1, .int a0), (2, .int a1), (3, .int a2), (4, .int a3)] := hl
  unfold f_X5_byPlan at hf
  revert hf
  refine k_req (fun k0 hf => ?_)
  refine lv_aload_n hx hb dX5_byPlan_0 rfl (lv_at hl 0 rfl) ?_
  refine lv_iconst (v := (0 : Int32)) hx hb dX5_byPlan_1 (by decide) ?_
  revert hf
  refine k_stp (fun U1 eU1 hf => ?_)
  refine pf_X5_133 C hw k0 eU1 dX5_byPlan_2 (fun H locs hw => ?_)
  refine lv_aload_n hx hb dX5_byPlan_5 rfl (lv_at hl 0 rfl) ?_
  refine lv_iload_n hx hb dX5_byPlan_6 rfl (lv_at hl 1 rfl) ?_
  revert hf
  refine k_pcl (fun z3 h2 hf => ?_)
  refine w_afi hw (w_rV (As := [.int a0]) C hw (ok_X5_isPlan h2) (cw_X5_525 hts (Nat.le_of_ble_eq_true rfl) (Nat.le_of_ble_eq_true rfl)) rfl (by decide) (of_req h2).1 rfl hl.1 rfl (Nat.le_of_ble_eq_true rfl) ⟨Nat.zero_le _, Nat.zero_le _⟩ dX5_byPlan_7) (fun H locs hw => ?_)
  refine lv_if_eq (tgt := 46) hx hb dX5_byPlan_10 (by decide) (fun c4 => ?_) (fun c4 => ?_)
  · replace hf := ite_t c4 hf
    refine lv_iconst (v := ((-1) : Int32)) hx hb dX5_byPlan_46 (by decide) ?_
    cases hf
    exact w_iret C hr hw dX5_byPlan_47
  · replace hf := ite_f c4 hf
    refine lv_iload_n hx hb dX5_byPlan_13 rfl (lv_at hl 2 rfl) ?_
    refine lv_i2l hx hb dX5_byPlan_14 rfl ?_
    refine lv_lconst (v := (0 : Int64)) hx hb dX5_byPlan_15 (by decide) ?_
    refine lv_ldc2 (v := (60 : Int64)) hx hb hown (hts _ q2113) dX5_byPlan_16 ?_
    revert hf
    refine k_pcl (fun z6 h5 hf => ?_)
    refine w_afi hw (w_rS (As := [.long (Int32.toInt64 a1), .long (0 : Int64), .long (60 : Int64)]) C hw (ok_X5_in h5) (cw_X5_153 hts (Nat.le_of_ble_eq_true rfl) (Nat.le_of_ble_eq_true rfl)) rfl hl.1 rfl (Nat.le_of_ble_eq_true rfl) ⟨Nat.zero_le _, Nat.zero_le _⟩ dX5_byPlan_19) (fun H locs hw => ?_)
    refine lv_if_eq (tgt := 46) hx hb dX5_byPlan_22 (by decide) (fun c7 => ?_) (fun c7 => ?_)
    · replace hf := ite_t c7 hf
      refine lv_iconst (v := ((-1) : Int32)) hx hb dX5_byPlan_46 (by decide) ?_
      cases hf
      exact w_iret C hr hw dX5_byPlan_47
    · replace hf := ite_f c7 hf
      refine lv_aload_n hx hb dX5_byPlan_25 rfl (lv_at hl 0 rfl) ?_
      refine lv_iload_n hx hb dX5_byPlan_26 rfl (lv_at hl 3 rfl) ?_
      revert hf
      refine k_pcl (fun z9 h8 hf => ?_)
      refine w_afi hw (w_rV (As := [.int a2]) C hw (ok_X5_isCask h8) (cw_X5_184 hts (Nat.le_of_ble_eq_true rfl) (Nat.le_of_ble_eq_true rfl)) rfl (by decide) (of_req h8).1 rfl hl.1 rfl (Nat.le_of_ble_eq_true rfl) ⟨Nat.zero_le _, Nat.zero_le _⟩ dX5_byPlan_27) (fun H locs hw => ?_)
      refine lv_if_eq (tgt := 46) hx hb dX5_byPlan_30 (by decide) (fun c10 => ?_) (fun c10 => ?_)
      · replace hf := ite_t c10 hf
        refine lv_iconst (v := ((-1) : Int32)) hx hb dX5_byPlan_46 (by decide) ?_
        cases hf
        exact w_iret C hr hw dX5_byPlan_47
      · replace hf := ite_f c10 hf
        refine lv_iload hx hb dX5_byPlan_33 (lv_at hl 4 rfl) ?_
        refine lv_i2l hx hb dX5_byPlan_35 rfl ?_
        refine lv_lconst (v := (0 : Int64)) hx hb dX5_byPlan_36 (by decide) ?_
        refine lv_ldc2 (v := (2 : Int64)) hx hb hown (hts _ q2114) dX5_byPlan_37 ?_
        revert hf
        refine k_pcl (fun z12 h11 hf => ?_)
        refine w_afi hw (w_rS (As := [.long (Int32.toInt64 a3), .long (0 : Int64), .long (2 : Int64)]) C hw (ok_X5_in h11) (cw_X5_153 hts (Nat.le_of_ble_eq_true rfl) (Nat.le_of_ble_eq_true rfl)) rfl hl.1 rfl (Nat.le_of_ble_eq_true rfl) ⟨Nat.zero_le _, Nat.zero_le _⟩ dX5_byPlan_40) (fun H locs hw => ?_)
        refine lv_if_ne (tgt := 48) hx hb dX5_byPlan_43 (by decide) (fun c13 => ?_) (fun c13 => ?_)
        · replace hf := ite_f c13 hf
          refine lv_aload_n hx hb dX5_byPlan_48 rfl (lv_at hl 0 rfl) ?_
          refine lv_iload_n hx hb dX5_byPlan_49 rfl (lv_at hl 1 rfl) ?_
          revert hf
          refine k_pcl (fun U16 h14 hf => ?_)
          refine w_afv hw (w_rV (As := [.int a0]) C hw (ok_X5_beginPlan h14) (cw_X5_532 hts (Nat.le_of_ble_eq_true rfl) (Nat.le_of_ble_eq_true rfl)) rfl (by decide) (of_req h14).1 rfl hl.1 rfl (Nat.le_of_ble_eq_true rfl) ⟨Nat.zero_le _, Nat.zero_le _⟩ dX5_byPlan_50) (fun H locs hw => ?_)
          refine lv_iconst (v := (0 : Int32)) hx hb dX5_byPlan_53 (by decide) ?_
          refine lv_istore (lv' := [(5, .int (0 : Int32)), (0, .ref (gb G + o)), (1, .int a0), (2, .int a1), (3, .int a2), (4, .int a3)]) hx hb dX5_byPlan_54 hl (by decide) rfl (fun ls hl => ?_)
          refine lk_X5_byPlan_56 C hr k0 (fun U22 H locs ls hf hw hl => ?_) fuel _ _ _ _ _ hf hw (lv_sub hl [1, 3, 4, 5, 0] rfl)
          refine lv_iload hx hb dX5_byPlan_72 (lv_at hl 2 rfl) ?_
          refine lv_if_ne (tgt := 85) hx hb dX5_byPlan_74 (by decide) (fun c23 => ?_) (fun c23 => ?_)
          · replace hf := ite_f c23 hf
            refine lv_iload hx hb dX5_byPlan_85 (lv_at hl 2 rfl) ?_
            refine lv_iconst (v := (1 : Int32)) hx hb dX5_byPlan_87 (by decide) ?_
            refine lv_icmp_ne (tgt := 99) hx hb dX5_byPlan_88 (by decide) (fun c24 => ?_) (fun c24 => ?_)
            · replace hf := ite_f c24 hf
              refine lv_aload_n hx hb dX5_byPlan_99 rfl (lv_at hl 0 rfl) ?_
              refine lv_iload_n hx hb dX5_byPlan_100 rfl (lv_at hl 1 rfl) ?_
              revert hf
              refine k_pcl (fun z26 h25 hf => ?_)
              refine w_afi hw (w_rV (As := [.int a2]) C hw (ok_X5_labelOf h25) (cw_X5_188 hts (Nat.le_of_ble_eq_true rfl) (Nat.le_of_ble_eq_true rfl)) rfl (by decide) (of_req h25).1 rfl hl.1 rfl (Nat.le_of_ble_eq_true rfl) ⟨Nat.zero_le _, Nat.zero_le _⟩ dX5_byPlan_101) (fun H locs hw => ?_)
              exact jk_X5_byPlan_104 C hr k0 hf hw (lv_sub hl [0] rfl)
            · replace hf := ite_t c24 hf
              refine lv_aload_n hx hb dX5_byPlan_91 rfl (lv_at hl 0 rfl) ?_
              refine lv_iload_n hx hb dX5_byPlan_92 rfl (lv_at hl 1 rfl) ?_
              revert hf
              refine k_pcl (fun z31 h30 hf => ?_)
              refine w_afi hw (w_rV (As := [.int a2]) C hw (ok_X5_meanOf h30) (cw_X5_169 hts (Nat.le_of_ble_eq_true rfl) (Nat.le_of_ble_eq_true rfl)) rfl (by decide) (of_req h30).1 rfl hl.1 rfl (Nat.le_of_ble_eq_true rfl) ⟨Nat.zero_le _, Nat.zero_le _⟩ dX5_byPlan_93) (fun H locs hw => ?_)
              refine lv_goto (tgt := 104) hx hb dX5_byPlan_96 (by decide) ?_
              exact jk_X5_byPlan_104 C hr k0 hf hw (lv_sub hl [0] rfl)
          · replace hf := ite_t c23 hf
            refine lv_aload_n hx hb dX5_byPlan_77 rfl (lv_at hl 0 rfl) ?_
            refine lv_iload_n hx hb dX5_byPlan_78 rfl (lv_at hl 1 rfl) ?_
            revert hf
            refine k_pcl (fun z33 h32 hf => ?_)
            refine w_afi hw (w_rV (As := [.int a2]) C hw (ok_X5_allOf h32) (cw_X5_166 hts (Nat.le_of_ble_eq_true rfl) (Nat.le_of_ble_eq_true rfl)) rfl (by decide) (of_req h32).1 rfl hl.1 rfl (Nat.le_of_ble_eq_true rfl) ⟨Nat.zero_le _, Nat.zero_le _⟩ dX5_byPlan_79) (fun H locs hw => ?_)
            refine lv_goto (tgt := 104) hx hb dX5_byPlan_82 (by decide) ?_
            exact jk_X5_byPlan_104 C hr k0 hf hw (lv_sub hl [0] rfl)
        · replace hf := ite_t c13 hf
          refine lv_iconst (v := ((-1) : Int32)) hx hb dX5_byPlan_46 (by decide) ?_
          cases hf
          exact w_iret C hr hw dX5_byPlan_47
set_option maxHeartbeats 4000000 in
theorem jk_X5_oldEnough_69 {l : Launch} {G : gG} {p : Program} {e : Env} {s : State} {m : MethodId} {args : Array Value} {below : List Frame} {meth : Method} {c : Code} {T : Tt} {V0 : Vt} {r : Int32} {V' : Vt} (C : Cx G p s m args meth c cX5_oldEnough RX5 5) (hr : meth.sig.returnType = (some .int)) {x0 : Nat} {x4 : Int32} {H : Heap} {locs : List Loc} {ls : Array Slot} (k0 : T.1 x0 = 6) (hf : f_X5_oldEnough_J69 T V0 x0 x4 = some (r, V')) (hw : wS G V0 T H locs) (hl : lv_has ls 5 [(0, .ref (gb G + x0)), (4, .int x4)]) : W p l e (rmL 12 0 0) s m args below meth c H locs 0 0 (eQ G below (some (.int r)) V' T args s 0 0) (F0 m 69 ls []) := by
  have hx := C.1
  have hb := C.2.1
  have hown := C.2.2.2.1
  have hts := C.2.2.2.2.1
  unfold f_X5_oldEnough_J69 at hf
  refine lv_aload_n hx hb dX5_oldEnough_69 rfl (lv_at hl 0 rfl) ?_
  refine lv_bipush (v := (16 : Int32)) hx hb dX5_oldEnough_70 (by decide) ?_
  revert hf
  refine k_pcl (fun U26 h24 hf => ?_)
  refine w_afv hw (w_rV (As := [.int (16 : Int32)]) C hw (ok_X5_putBack h24) (cw_X5_150 hts (Nat.le_of_ble_eq_true rfl) (Nat.le_of_ble_eq_true rfl)) rfl (by decide) (of_req h24).1 rfl hl.1 rfl (Nat.le_of_ble_eq_true rfl) ⟨Nat.zero_le _, Nat.zero_le _⟩ dX5_oldEnough_72) (fun H locs hw => ?_)
  refine lv_iload hx hb dX5_oldEnough_75 (lv_at hl 1 rfl) ?_
  refine lv_bipush (v := (60 : Int32)) hx hb dX5_oldEnough_77 (by decide) ?_
  refine lv_icmp_le (tgt := 86) hx hb dX5_oldEnough_79 (by decide) (fun c27 => ?_) (fun c27 => ?_)
  · replace hf := ite_t c27 hf
    refine lv_iload hx hb dX5_oldEnough_86 (lv_at hl 1 rfl) ?_
    cases hf
    exact w_iret C hr hw dX5_oldEnough_88
  · replace hf := ite_f c27 hf
    refine lv_iconst (v := ((-1) : Int32)) hx hb dX5_oldEnough_82 (by decide) ?_
    refine lv_goto (tgt := 88) hx hb dX5_oldEnough_83 (by decide) ?_
    cases hf
    exact w_iret C hr hw dX5_oldEnough_88
set_option maxHeartbeats 4000000 in
theorem lk_X5_oldEnough_43 {l : Launch} {G : gG} {p : Program} {e : Env} {s : State} {m : MethodId} {args : Array Value} {below : List Frame} {meth : Method} {c : Code} {T : Tt} {r : Int32} {V' : Vt} (C : Cx G p s m args meth c cX5_oldEnough RX5 5) (hr : meth.sig.returnType = (some .int)) {x0 : Nat} {x2 : Int32} {x3 : Int32} {kx43_69 : Int32 → Vt → Option (Int32 × Vt)} (k0 : T.1 x0 = 6) (hkx43_69 : ∀ (y4 : Int32) (W1 : Vt) (H : Heap) (locs : List Loc) (ls : Array Slot), kx43_69 y4 W1 = some (r, V') → wS G W1 T H locs → lv_has ls 5 [(0, .ref (gb G + x0)), (4, .int y4)] → W p l e (rmL 12 0 0) s m args below meth c H locs 0 0 (eQ G below (some (.int r)) V' T args s 0 0) (F0 m 69 ls [])) : ∀ (n : Nat) (x4 : Int32) (V1 : Vt) (H : Heap) (locs : List Loc) (ls : Array Slot), f_X5_oldEnough_L43 T x0 x2 x3 kx43_69 n x4 V1 = some (r, V') → wS G V1 T H locs → lv_has ls 5 [(0, .ref (gb G + x0)), (2, .int x2), (3, .int x3), (4, .int x4)] → W p l e (rmL 12 0 0) s m args below meth c H locs 0 0 (eQ G below (some (.int r)) V' T args s 0 0) (F0 m 43 ls []) := by
  have hx := C.1
  have hb := C.2.1
  have hown := C.2.2.2.1
  have hts := C.2.2.2.2.1
  intro n
  induction n with
  | zero =>
    intro x4 V1 H locs ls hf
    cases hf
  | succ n ih =>
    intro x4 V1 H locs ls hf hw hl
    unfold f_X5_oldEnough_L43 at hf
    refine lv_iload hx hb dX5_oldEnough_43 (lv_at hl 3 rfl) ?_
    refine lv_bipush (v := (60 : Int32)) hx hb dX5_oldEnough_45 (by decide) ?_
    refine lv_icmp_gt (tgt := 69) hx hb dX5_oldEnough_47 (by decide) (fun c14 => ?_) (fun c14 => ?_)
    · replace hf := ite_t c14 hf
      exact hkx43_69 _ _ _ _ _ hf hw (lv_sub hl [0, 3] rfl)
    · replace hf := ite_f c14 hf
      refine lv_aload_n hx hb dX5_oldEnough_50 rfl (lv_at hl 0 rfl) ?_
      refine lv_iload_n hx hb dX5_oldEnough_51 rfl (lv_at hl 1 rfl) ?_
      revert hf
      refine k_pcl (fun z16 h15 hf => ?_)
      refine w_afi hw (w_rV (As := [.int x2]) C hw (ok_X5_meanOf h15) (cw_X5_169 hts (Nat.le_of_ble_eq_true rfl) (Nat.le_of_ble_eq_true rfl)) rfl (by decide) (of_req h15).1 rfl hl.1 rfl (Nat.le_of_ble_eq_true rfl) ⟨Nat.zero_le _, Nat.zero_le _⟩ dX5_oldEnough_52) (fun H locs hw => ?_)
      refine lv_iload_n hx hb dX5_oldEnough_55 rfl (lv_at hl 2 rfl) ?_
      refine lv_icmp_ge (tgt := 69) hx hb dX5_oldEnough_56 (by decide) (fun c17 => ?_) (fun c17 => ?_)
      · replace hf := ite_t c17 hf
        exact hkx43_69 _ _ _ _ _ hf hw (lv_sub hl [0, 3] rfl)
      · replace hf := ite_f c17 hf
        refine lv_aload_n hx hb dX5_oldEnough_59 rfl (lv_at hl 0 rfl) ?_
        revert hf
        refine k_pcl (fun U20 h18 hf => ?_)
        refine w_afv hw (w_rV (As := []) C hw (ok_X5_planYear h18) (cw_X5_535 hts (Nat.le_of_ble_eq_true rfl) (Nat.le_of_ble_eq_true rfl)) rfl (by decide) (of_req h18).1 rfl hl.1 rfl (Nat.le_of_ble_eq_true rfl) ⟨Nat.zero_le _, Nat.zero_le _⟩ dX5_oldEnough_60) (fun H locs hw => ?_)
        revert hf
        refine k_stp (fun z21 ez21 hf => ?_)
        refine lv_iinc (k := 3) (lv' := [(4, .int z21), (0, .ref (gb G + x0)), (2, .int x2), (3, .int x3)]) hx hb dX5_oldEnough_63 hl rfl (inc_e (by decide) ez21) (by decide) rfl (fun ls hl => ?_)
        refine lv_goto (tgt := 43) hx hb dX5_oldEnough_66 (by decide) ?_
        exact ih _ _ _ _ _ hf hw (lv_sub hl [1, 2, 3, 0] rfl)
set_option maxHeartbeats 4000000 in
theorem ok_X5_oldEnough {l : Launch} {G : gG} {T : Tt} {V0 : Vt} {o : Nat} {a0 : Int32} {a1 : Int32} {a2 : Int32} {r : Int32} {V' : Vt} (hf : f_X5_oldEnough T V0 o a0 a1 a2 = some (r, V')) : okM l G yX5_oldEnough cX5_oldEnough 5 (some .int) 12 [.ref (gb G + o), .int a0, .int a1, .int a2] V0 T (some (.int r)) V' T 0 0 := by
  refine ok_intro (by decide) (Nat.le_of_ble_eq_true rfl) ?_
  intro p e s m below meth c ls C hr hnm hw hl
  have hx := C.1
  have hb := C.2.1
  have hown := C.2.2.2.1
  have hts := C.2.2.2.2.1
  have hl : lv_has ls 5 [(0, .ref (gb G + o)), (1, .int a0), (2, .int a1), (3, .int a2)] := hl
  unfold f_X5_oldEnough at hf
  revert hf
  refine k_req (fun k0 hf => ?_)
  refine lv_aload_n hx hb dX5_oldEnough_0 rfl (lv_at hl 0 rfl) ?_
  refine lv_iconst (v := (0 : Int32)) hx hb dX5_oldEnough_1 (by decide) ?_
  revert hf
  refine k_stp (fun U1 eU1 hf => ?_)
  refine pf_X5_133 C hw k0 eU1 dX5_oldEnough_2 (fun H locs hw => ?_)
  refine lv_aload_n hx hb dX5_oldEnough_5 rfl (lv_at hl 0 rfl) ?_
  refine lv_iload_n hx hb dX5_oldEnough_6 rfl (lv_at hl 1 rfl) ?_
  revert hf
  refine k_pcl (fun z3 h2 hf => ?_)
  refine w_afi hw (w_rV (As := [.int a0]) C hw (ok_X5_isPlan h2) (cw_X5_525 hts (Nat.le_of_ble_eq_true rfl) (Nat.le_of_ble_eq_true rfl)) rfl (by decide) (of_req h2).1 rfl hl.1 rfl (Nat.le_of_ble_eq_true rfl) ⟨Nat.zero_le _, Nat.zero_le _⟩ dX5_oldEnough_7) (fun H locs hw => ?_)
  refine lv_if_eq (tgt := 33) hx hb dX5_oldEnough_10 (by decide) (fun c4 => ?_) (fun c4 => ?_)
  · replace hf := ite_t c4 hf
    refine lv_iconst (v := ((-1) : Int32)) hx hb dX5_oldEnough_33 (by decide) ?_
    cases hf
    exact w_iret C hr hw dX5_oldEnough_34
  · replace hf := ite_f c4 hf
    refine lv_aload_n hx hb dX5_oldEnough_13 rfl (lv_at hl 0 rfl) ?_
    refine lv_iload_n hx hb dX5_oldEnough_14 rfl (lv_at hl 2 rfl) ?_
    revert hf
    refine k_pcl (fun z6 h5 hf => ?_)
    refine w_afi hw (w_rV (As := [.int a1]) C hw (ok_X5_isCask h5) (cw_X5_184 hts (Nat.le_of_ble_eq_true rfl) (Nat.le_of_ble_eq_true rfl)) rfl (by decide) (of_req h5).1 rfl hl.1 rfl (Nat.le_of_ble_eq_true rfl) ⟨Nat.zero_le _, Nat.zero_le _⟩ dX5_oldEnough_15) (fun H locs hw => ?_)
    refine lv_if_eq (tgt := 33) hx hb dX5_oldEnough_18 (by decide) (fun c7 => ?_) (fun c7 => ?_)
    · replace hf := ite_t c7 hf
      refine lv_iconst (v := ((-1) : Int32)) hx hb dX5_oldEnough_33 (by decide) ?_
      cases hf
      exact w_iret C hr hw dX5_oldEnough_34
    · replace hf := ite_f c7 hf
      refine lv_iload_n hx hb dX5_oldEnough_21 rfl (lv_at hl 3 rfl) ?_
      refine lv_i2l hx hb dX5_oldEnough_22 rfl ?_
      refine lv_lconst (v := (0 : Int64)) hx hb dX5_oldEnough_23 (by decide) ?_
      refine lv_ldc2 (v := (19000 : Int64)) hx hb hown (hts _ q2136) dX5_oldEnough_24 ?_
      revert hf
      refine k_pcl (fun z9 h8 hf => ?_)
      refine w_afi hw (w_rS (As := [.long (Int32.toInt64 a2), .long (0 : Int64), .long (19000 : Int64)]) C hw (ok_X5_in h8) (cw_X5_153 hts (Nat.le_of_ble_eq_true rfl) (Nat.le_of_ble_eq_true rfl)) rfl hl.1 rfl (Nat.le_of_ble_eq_true rfl) ⟨Nat.zero_le _, Nat.zero_le _⟩ dX5_oldEnough_27) (fun H locs hw => ?_)
      refine lv_if_ne (tgt := 35) hx hb dX5_oldEnough_30 (by decide) (fun c10 => ?_) (fun c10 => ?_)
      · replace hf := ite_f c10 hf
        refine lv_aload_n hx hb dX5_oldEnough_35 rfl (lv_at hl 0 rfl) ?_
        refine lv_iload_n hx hb dX5_oldEnough_36 rfl (lv_at hl 1 rfl) ?_
        revert hf
        refine k_pcl (fun U13 h11 hf => ?_)
        refine w_afv hw (w_rV (As := [.int a0]) C hw (ok_X5_beginPlan h11) (cw_X5_532 hts (Nat.le_of_ble_eq_true rfl) (Nat.le_of_ble_eq_true rfl)) rfl (by decide) (of_req h11).1 rfl hl.1 rfl (Nat.le_of_ble_eq_true rfl) ⟨Nat.zero_le _, Nat.zero_le _⟩ dX5_oldEnough_37) (fun H locs hw => ?_)
        refine lv_iconst (v := (0 : Int32)) hx hb dX5_oldEnough_40 (by decide) ?_
        refine lv_istore (lv' := [(4, .int (0 : Int32)), (0, .ref (gb G + o)), (1, .int a0), (2, .int a1), (3, .int a2)]) hx hb dX5_oldEnough_41 hl (by decide) rfl (fun ls hl => ?_)
        refine lk_X5_oldEnough_43 C hr k0 (fun z22 U23 H locs ls hf hw hl => ?_) fuel _ _ _ _ _ hf hw (lv_sub hl [1, 3, 4, 0] rfl)
        exact jk_X5_oldEnough_69 C hr k0 hf hw (lv_sub hl [0, 1] rfl)
      · replace hf := ite_t c10 hf
        refine lv_iconst (v := ((-1) : Int32)) hx hb dX5_oldEnough_33 (by decide) ?_
        cases hf
        exact w_iret C hr hw dX5_oldEnough_34
set_option maxHeartbeats 4000000 in
theorem jk_X5_settled_85 {l : Launch} {G : gG} {p : Program} {e : Env} {s : State} {m : MethodId} {args : Array Value} {below : List Frame} {meth : Method} {c : Code} {T : Tt} {V0 : Vt} {r : Int32} {V' : Vt} (C : Cx G p s m args meth c cX5_settled RX5 6) (hr : meth.sig.returnType = (some .int)) {x0 : Nat} {x3 : Int32} {H : Heap} {locs : List Loc} {ls : Array Slot} (k0 : T.1 x0 = 6) (hf : f_X5_settled_J85 T V0 x0 x3 = some (r, V')) (hw : wS G V0 T H locs) (hl : lv_has ls 6 [(0, .ref (gb G + x0)), (3, .int x3)]) : W p l e (rmL 12 0 0) s m args below meth c H locs 0 0 (eQ G below (some (.int r)) V' T args s 0 0) (F0 m 85 ls []) := by
  have hx := C.1
  have hb := C.2.1
  have hown := C.2.2.2.1
  have hts := C.2.2.2.2.1
  unfold f_X5_settled_J85 at hf
  refine lv_aload_n hx hb dX5_settled_85 rfl (lv_at hl 0 rfl) ?_
  refine lv_bipush (v := (16 : Int32)) hx hb dX5_settled_86 (by decide) ?_
  revert hf
  refine k_pcl (fun U27 h25 hf => ?_)
  refine w_afv hw (w_rV (As := [.int (16 : Int32)]) C hw (ok_X5_putBack h25) (cw_X5_150 hts (Nat.le_of_ble_eq_true rfl) (Nat.le_of_ble_eq_true rfl)) rfl (by decide) (of_req h25).1 rfl hl.1 rfl (Nat.le_of_ble_eq_true rfl) ⟨Nat.zero_le _, Nat.zero_le _⟩ dX5_settled_88) (fun H locs hw => ?_)
  refine lv_iload_n hx hb dX5_settled_91 rfl (lv_at hl 1 rfl) ?_
  cases hf
  exact w_iret C hr hw dX5_settled_92
set_option maxHeartbeats 4000000 in
theorem jk_X5_settled_78 {l : Launch} {G : gG} {p : Program} {e : Env} {s : State} {m : MethodId} {args : Array Value} {below : List Frame} {meth : Method} {c : Code} {T : Tt} {V0 : Vt} {r : Int32} {V' : Vt} (C : Cx G p s m args meth c cX5_settled RX5 6) (hr : meth.sig.returnType = (some .int)) {x0 : Nat} {x2 : Int32} {x4 : Int32} {s0 : Int32} {kc33 : Int32 → Int32 → Vt → Option (Int32 × Vt)} {kx33_85 : Int32 → Vt → Option (Int32 × Vt)} {H : Heap} {locs : List Loc} {ls : Array Slot} (k0 : T.1 x0 = 6) (hf : f_X5_settled_J78 T V0 x0 x2 x4 s0 kc33 kx33_85 = some (r, V')) (hw : wS G V0 T H locs) (hl : lv_has ls 6 [(0, .ref (gb G + x0)), (2, .int x2), (4, .int x4)]) (hkc33 : ∀ (y3 : Int32) (y4 : Int32) (W1 : Vt) (H : Heap) (locs : List Loc) (ls : Array Slot), kc33 y3 y4 W1 = some (r, V') → wS G W1 T H locs → lv_has ls 6 [(0, .ref (gb G + x0)), (2, .int x2), (3, .int y3), (4, .int y4)] → W p l e (rmL 12 0 0) s m args below meth c H locs 0 0 (eQ G below (some (.int r)) V' T args s 0 0) (F0 m 33 ls [])) (hkx33_85 : ∀ (y3 : Int32) (W1 : Vt) (H : Heap) (locs : List Loc) (ls : Array Slot), kx33_85 y3 W1 = some (r, V') → wS G W1 T H locs → lv_has ls 6 [(0, .ref (gb G + x0)), (3, .int y3)] → W p l e (rmL 12 0 0) s m args below meth c H locs 0 0 (eQ G below (some (.int r)) V' T args s 0 0) (F0 m 85 ls [])) : W p l e (rmL 12 0 0) s m args below meth c H locs 0 0 (eQ G below (some (.int r)) V' T args s 0 0) (F0 m 78 ls [.int s0]) := by
  have hx := C.1
  have hb := C.2.1
  have hown := C.2.2.2.1
  have hts := C.2.2.2.2.1
  unfold f_X5_settled_J78 at hf
  refine lv_istore_n (lv' := [(3, .int s0), (0, .ref (gb G + x0)), (2, .int x2), (4, .int x4)]) hx hb dX5_settled_78 rfl hl (by decide) rfl (fun ls hl => ?_)
  revert hf
  refine k_stp (fun z19 ez19 hf => ?_)
  refine lv_iinc (k := 3) (lv' := [(4, .int z19), (3, .int s0), (0, .ref (gb G + x0)), (2, .int x2)]) hx hb dX5_settled_79 hl rfl (inc_e (by decide) ez19) (by decide) rfl (fun ls hl => ?_)
  refine lv_goto (tgt := 33) hx hb dX5_settled_82 (by decide) ?_
  exact hkc33 _ _ _ _ _ _ hf hw (lv_sub hl [2, 3, 1, 0] rfl)
set_option maxHeartbeats 4000000 in
theorem jk_X5_settled_77 {l : Launch} {G : gG} {p : Program} {e : Env} {s : State} {m : MethodId} {args : Array Value} {below : List Frame} {meth : Method} {c : Code} {T : Tt} {V0 : Vt} {r : Int32} {V' : Vt} (C : Cx G p s m args meth c cX5_settled RX5 6) (hr : meth.sig.returnType = (some .int)) {x0 : Nat} {x2 : Int32} {x3 : Int32} {x4 : Int32} {kc33 : Int32 → Int32 → Vt → Option (Int32 × Vt)} {kx33_85 : Int32 → Vt → Option (Int32 × Vt)} {H : Heap} {locs : List Loc} {ls : Array Slot} (k0 : T.1 x0 = 6) (hf : f_X5_settled_J77 T V0 x0 x2 x3 x4 kc33 kx33_85 = some (r, V')) (hw : wS G V0 T H locs) (hl : lv_has ls 6 [(0, .ref (gb G + x0)), (2, .int x2), (3, .int x3), (4, .int x4)]) (hkc33 : ∀ (y3 : Int32) (y4 : Int32) (W1 : Vt) (H : Heap) (locs : List Loc) (ls : Array Slot), kc33 y3 y4 W1 = some (r, V') → wS G W1 T H locs → lv_has ls 6 [(0, .ref (gb G + x0)), (2, .int x2), (3, .int y3), (4, .int y4)] → W p l e (rmL 12 0 0) s m args below meth c H locs 0 0 (eQ G below (some (.int r)) V' T args s 0 0) (F0 m 33 ls [])) (hkx33_85 : ∀ (y3 : Int32) (W1 : Vt) (H : Heap) (locs : List Loc) (ls : Array Slot), kx33_85 y3 W1 = some (r, V') → wS G W1 T H locs → lv_has ls 6 [(0, .ref (gb G + x0)), (3, .int y3)] → W p l e (rmL 12 0 0) s m args below meth c H locs 0 0 (eQ G below (some (.int r)) V' T args s 0 0) (F0 m 85 ls [])) : W p l e (rmL 12 0 0) s m args below meth c H locs 0 0 (eQ G below (some (.int r)) V' T args s 0 0) (F0 m 77 ls []) := by
  have hx := C.1
  have hb := C.2.1
  have hown := C.2.2.2.1
  have hts := C.2.2.2.2.1
  unfold f_X5_settled_J77 at hf
  refine lv_iload_n hx hb dX5_settled_77 rfl (lv_at hl 2 rfl) ?_
  exact jk_X5_settled_78 C hr k0 hf hw (lv_sub hl [0, 1, 3] rfl) hkc33 hkx33_85
set_option maxHeartbeats 4000000 in
theorem lk_X5_settled_33 {l : Launch} {G : gG} {p : Program} {e : Env} {s : State} {m : MethodId} {args : Array Value} {below : List Frame} {meth : Method} {c : Code} {T : Tt} {r : Int32} {V' : Vt} (C : Cx G p s m args meth c cX5_settled RX5 6) (hr : meth.sig.returnType = (some .int)) {x0 : Nat} {x2 : Int32} {kx33_85 : Int32 → Vt → Option (Int32 × Vt)} (k0 : T.1 x0 = 6) (hkx33_85 : ∀ (y3 : Int32) (W1 : Vt) (H : Heap) (locs : List Loc) (ls : Array Slot), kx33_85 y3 W1 = some (r, V') → wS G W1 T H locs → lv_has ls 6 [(0, .ref (gb G + x0)), (3, .int y3)] → W p l e (rmL 12 0 0) s m args below meth c H locs 0 0 (eQ G below (some (.int r)) V' T args s 0 0) (F0 m 85 ls [])) : ∀ (n : Nat) (x3 : Int32) (x4 : Int32) (V1 : Vt) (H : Heap) (locs : List Loc) (ls : Array Slot), f_X5_settled_L33 T x0 x2 kx33_85 n x3 x4 V1 = some (r, V') → wS G V1 T H locs → lv_has ls 6 [(0, .ref (gb G + x0)), (2, .int x2), (3, .int x3), (4, .int x4)] → W p l e (rmL 12 0 0) s m args below meth c H locs 0 0 (eQ G below (some (.int r)) V' T args s 0 0) (F0 m 33 ls []) := by
  have hx := C.1
  have hb := C.2.1
  have hown := C.2.2.2.1
  have hts := C.2.2.2.2.1
  intro n
  induction n with
  | zero =>
    intro x3 x4 V1 H locs ls hf
    cases hf
  | succ n ih =>
    intro x3 x4 V1 H locs ls hf hw hl
    unfold f_X5_settled_L33 at hf
    refine lv_iload hx hb dX5_settled_33 (lv_at hl 3 rfl) ?_
    refine lv_bipush (v := (60 : Int32)) hx hb dX5_settled_35 (by decide) ?_
    refine lv_icmp_ge (tgt := 85) hx hb dX5_settled_37 (by decide) (fun c11 => ?_) (fun c11 => ?_)
    · replace hf := ite_t c11 hf
      exact hkx33_85 _ _ _ _ _ hf hw (lv_sub hl [0, 2] rfl)
    · replace hf := ite_f c11 hf
      refine lv_iload_n hx hb dX5_settled_40 rfl (lv_at hl 2 rfl) ?_
      refine lv_iconst (v := ((-1) : Int32)) hx hb dX5_settled_41 (by decide) ?_
      refine lv_icmp_ne (tgt := 85) hx hb dX5_settled_42 (by decide) (fun c12 => ?_) (fun c12 => ?_)
      · replace hf := ite_f c12 hf
        exact hkx33_85 _ _ _ _ _ hf hw (lv_sub hl [0, 2] rfl)
      · replace hf := ite_t c12 hf
        refine lv_aload_n hx hb dX5_settled_45 rfl (lv_at hl 0 rfl) ?_
        refine lv_iload_n hx hb dX5_settled_46 rfl (lv_at hl 1 rfl) ?_
        revert hf
        refine k_pcl (fun z14 h13 hf => ?_)
        refine w_afi hw (w_rV (As := [.int x2]) C hw (ok_X5_meanOf h13) (cw_X5_169 hts (Nat.le_of_ble_eq_true rfl) (Nat.le_of_ble_eq_true rfl)) rfl (by decide) (of_req h13).1 rfl hl.1 rfl (Nat.le_of_ble_eq_true rfl) ⟨Nat.zero_le _, Nat.zero_le _⟩ dX5_settled_47) (fun H locs hw => ?_)
        refine lv_istore (lv' := [(5, .int z14), (0, .ref (gb G + x0)), (2, .int x2), (3, .int x3), (4, .int x4)]) hx hb dX5_settled_50 hl (by decide) rfl (fun ls hl => ?_)
        refine lv_aload_n hx hb dX5_settled_52 rfl (lv_at hl 1 rfl) ?_
        revert hf
        refine k_pcl (fun U17 h15 hf => ?_)
        refine w_afv hw (w_rV (As := []) C hw (ok_X5_planYear h15) (cw_X5_535 hts (Nat.le_of_ble_eq_true rfl) (Nat.le_of_ble_eq_true rfl)) rfl (by decide) (of_req h15).1 rfl hl.1 rfl (Nat.le_of_ble_eq_true rfl) ⟨Nat.zero_le _, Nat.zero_le _⟩ dX5_settled_53) (fun H locs hw => ?_)
        refine lv_iload hx hb dX5_settled_56 (lv_at hl 0 rfl) ?_
        refine lv_iconst (v := ((-1) : Int32)) hx hb dX5_settled_58 (by decide) ?_
        refine lv_icmp_eq (tgt := 77) hx hb dX5_settled_59 (by decide) (fun c18 => ?_) (fun c18 => ?_)
        · replace hf := ite_t c18 hf
          exact jk_X5_settled_77 C hr k0 hf hw (lv_sub hl [1, 2, 3, 4] rfl) ih hkx33_85
        · replace hf := ite_f c18 hf
          refine lv_aload_n hx hb dX5_settled_62 rfl (lv_at hl 1 rfl) ?_
          refine lv_iload_n hx hb dX5_settled_63 rfl (lv_at hl 2 rfl) ?_
          revert hf
          refine k_pcl (fun z21 h20 hf => ?_)
          refine w_afi hw (w_rV (As := [.int x2]) C hw (ok_X5_meanOf h20) (cw_X5_169 hts (Nat.le_of_ble_eq_true rfl) (Nat.le_of_ble_eq_true rfl)) rfl (by decide) (of_req h20).1 rfl hl.1 rfl (Nat.le_of_ble_eq_true rfl) ⟨Nat.zero_le _, Nat.zero_le _⟩ dX5_settled_64) (fun H locs hw => ?_)
          refine lv_iload hx hb dX5_settled_67 (lv_at hl 0 rfl) ?_
          refine lv_icmp_ne (tgt := 77) hx hb dX5_settled_69 (by decide) (fun c22 => ?_) (fun c22 => ?_)
          · replace hf := ite_f c22 hf
            exact jk_X5_settled_77 C hr k0 hf hw (lv_sub hl [1, 2, 3, 4] rfl) ih hkx33_85
          · replace hf := ite_t c22 hf
            refine lv_iload hx hb dX5_settled_72 (lv_at hl 4 rfl) ?_
            refine lv_goto (tgt := 78) hx hb dX5_settled_74 (by decide) ?_
            exact jk_X5_settled_78 C hr k0 hf hw (lv_sub hl [1, 2, 4] rfl) ih hkx33_85
set_option maxHeartbeats 4000000 in
theorem ok_X5_settled {l : Launch} {G : gG} {T : Tt} {V0 : Vt} {o : Nat} {a0 : Int32} {a1 : Int32} {r : Int32} {V' : Vt} (hf : f_X5_settled T V0 o a0 a1 = some (r, V')) : okM l G yX5_settled cX5_settled 6 (some .int) 12 [.ref (gb G + o), .int a0, .int a1] V0 T (some (.int r)) V' T 0 0 := by
  refine ok_intro (by decide) (Nat.le_of_ble_eq_true rfl) ?_
  intro p e s m below meth c ls C hr hnm hw hl
  have hx := C.1
  have hb := C.2.1
  have hown := C.2.2.2.1
  have hts := C.2.2.2.2.1
  have hl : lv_has ls 6 [(0, .ref (gb G + o)), (1, .int a0), (2, .int a1)] := hl
  unfold f_X5_settled at hf
  revert hf
  refine k_req (fun k0 hf => ?_)
  refine lv_aload_n hx hb dX5_settled_0 rfl (lv_at hl 0 rfl) ?_
  refine lv_iconst (v := (0 : Int32)) hx hb dX5_settled_1 (by decide) ?_
  revert hf
  refine k_stp (fun U1 eU1 hf => ?_)
  refine pf_X5_133 C hw k0 eU1 dX5_settled_2 (fun H locs hw => ?_)
  refine lv_aload_n hx hb dX5_settled_5 rfl (lv_at hl 0 rfl) ?_
  refine lv_iload_n hx hb dX5_settled_6 rfl (lv_at hl 1 rfl) ?_
  revert hf
  refine k_pcl (fun z3 h2 hf => ?_)
  refine w_afi hw (w_rV (As := [.int a0]) C hw (ok_X5_isPlan h2) (cw_X5_525 hts (Nat.le_of_ble_eq_true rfl) (Nat.le_of_ble_eq_true rfl)) rfl (by decide) (of_req h2).1 rfl hl.1 rfl (Nat.le_of_ble_eq_true rfl) ⟨Nat.zero_le _, Nat.zero_le _⟩ dX5_settled_7) (fun H locs hw => ?_)
  refine lv_if_eq (tgt := 21) hx hb dX5_settled_10 (by decide) (fun c4 => ?_) (fun c4 => ?_)
  · replace hf := ite_t c4 hf
    refine lv_iconst (v := ((-1) : Int32)) hx hb dX5_settled_21 (by decide) ?_
    cases hf
    exact w_iret C hr hw dX5_settled_22
  · replace hf := ite_f c4 hf
    refine lv_aload_n hx hb dX5_settled_13 rfl (lv_at hl 0 rfl) ?_
    refine lv_iload_n hx hb dX5_settled_14 rfl (lv_at hl 2 rfl) ?_
    revert hf
    refine k_pcl (fun z6 h5 hf => ?_)
    refine w_afi hw (w_rV (As := [.int a1]) C hw (ok_X5_isCask h5) (cw_X5_184 hts (Nat.le_of_ble_eq_true rfl) (Nat.le_of_ble_eq_true rfl)) rfl (by decide) (of_req h5).1 rfl hl.1 rfl (Nat.le_of_ble_eq_true rfl) ⟨Nat.zero_le _, Nat.zero_le _⟩ dX5_settled_15) (fun H locs hw => ?_)
    refine lv_if_ne (tgt := 23) hx hb dX5_settled_18 (by decide) (fun c7 => ?_) (fun c7 => ?_)
    · replace hf := ite_f c7 hf
      refine lv_aload_n hx hb dX5_settled_23 rfl (lv_at hl 0 rfl) ?_
      refine lv_iload_n hx hb dX5_settled_24 rfl (lv_at hl 1 rfl) ?_
      revert hf
      refine k_pcl (fun U10 h8 hf => ?_)
      refine w_afv hw (w_rV (As := [.int a0]) C hw (ok_X5_beginPlan h8) (cw_X5_532 hts (Nat.le_of_ble_eq_true rfl) (Nat.le_of_ble_eq_true rfl)) rfl (by decide) (of_req h8).1 rfl hl.1 rfl (Nat.le_of_ble_eq_true rfl) ⟨Nat.zero_le _, Nat.zero_le _⟩ dX5_settled_25) (fun H locs hw => ?_)
      refine lv_iconst (v := ((-1) : Int32)) hx hb dX5_settled_28 (by decide) ?_
      refine lv_istore_n (lv' := [(3, .int ((-1) : Int32)), (0, .ref (gb G + o)), (1, .int a0), (2, .int a1)]) hx hb dX5_settled_29 rfl hl (by decide) rfl (fun ls hl => ?_)
      refine lv_iconst (v := (0 : Int32)) hx hb dX5_settled_30 (by decide) ?_
      refine lv_istore (lv' := [(4, .int (0 : Int32)), (3, .int ((-1) : Int32)), (0, .ref (gb G + o)), (1, .int a0), (2, .int a1)]) hx hb dX5_settled_31 hl (by decide) rfl (fun ls hl => ?_)
      refine lk_X5_settled_33 C hr k0 (fun z23 U24 H locs ls hf hw hl => ?_) fuel _ _ _ _ _ _ hf hw (lv_sub hl [2, 4, 1, 0] rfl)
      exact jk_X5_settled_85 C hr k0 hf hw (lv_sub hl [0, 1] rfl)
    · replace hf := ite_t c7 hf
      refine lv_iconst (v := ((-1) : Int32)) hx hb dX5_settled_21 (by decide) ?_
      cases hf
      exact w_iret C hr hw dX5_settled_22
set_option maxHeartbeats 4000000 in
theorem jk_X5_starves_58 {l : Launch} {G : gG} {p : Program} {e : Env} {s : State} {m : MethodId} {args : Array Value} {below : List Frame} {meth : Method} {c : Code} {T : Tt} {V0 : Vt} {r : Int32} {V' : Vt} (C : Cx G p s m args meth c cX5_starves RX5 4) (hr : meth.sig.returnType = (some .int)) {x0 : Nat} {x2 : Int32} {H : Heap} {locs : List Loc} {ls : Array Slot} (k0 : T.1 x0 = 6) (hf : f_X5_starves_J58 T V0 x0 x2 = some (r, V')) (hw : wS G V0 T H locs) (hl : lv_has ls 4 [(0, .ref (gb G + x0)), (2, .int x2)]) : W p l e (rmL 12 0 0) s m args below meth c H locs 0 0 (eQ G below (some (.int r)) V' T args s 0 0) (F0 m 58 ls []) := by
  have hx := C.1
  have hb := C.2.1
  have hown := C.2.2.2.1
  have hts := C.2.2.2.2.1
  unfold f_X5_starves_J58 at hf
  refine lv_aload_n hx hb dX5_starves_58 rfl (lv_at hl 0 rfl) ?_
  refine lv_bipush (v := (16 : Int32)) hx hb dX5_starves_59 (by decide) ?_
  revert hf
  refine k_pcl (fun U19 h17 hf => ?_)
  refine w_afv hw (w_rV (As := [.int (16 : Int32)]) C hw (ok_X5_putBack h17) (cw_X5_150 hts (Nat.le_of_ble_eq_true rfl) (Nat.le_of_ble_eq_true rfl)) rfl (by decide) (of_req h17).1 rfl hl.1 rfl (Nat.le_of_ble_eq_true rfl) ⟨Nat.zero_le _, Nat.zero_le _⟩ dX5_starves_61) (fun H locs hw => ?_)
  refine lv_iload_n hx hb dX5_starves_64 rfl (lv_at hl 1 rfl) ?_
  cases hf
  exact w_iret C hr hw dX5_starves_65
set_option maxHeartbeats 4000000 in
theorem jk_X5_starves_51 {l : Launch} {G : gG} {p : Program} {e : Env} {s : State} {m : MethodId} {args : Array Value} {below : List Frame} {meth : Method} {c : Code} {T : Tt} {V0 : Vt} {r : Int32} {V' : Vt} (C : Cx G p s m args meth c cX5_starves RX5 4) (hr : meth.sig.returnType = (some .int)) {x0 : Nat} {x3 : Int32} {s0 : Int32} {kc24 : Int32 → Int32 → Vt → Option (Int32 × Vt)} {kx24_58 : Int32 → Vt → Option (Int32 × Vt)} {H : Heap} {locs : List Loc} {ls : Array Slot} (k0 : T.1 x0 = 6) (hf : f_X5_starves_J51 T V0 x0 x3 s0 kc24 kx24_58 = some (r, V')) (hw : wS G V0 T H locs) (hl : lv_has ls 4 [(0, .ref (gb G + x0)), (3, .int x3)]) (hkc24 : ∀ (y2 : Int32) (y3 : Int32) (W1 : Vt) (H : Heap) (locs : List Loc) (ls : Array Slot), kc24 y2 y3 W1 = some (r, V') → wS G W1 T H locs → lv_has ls 4 [(0, .ref (gb G + x0)), (2, .int y2), (3, .int y3)] → W p l e (rmL 12 0 0) s m args below meth c H locs 0 0 (eQ G below (some (.int r)) V' T args s 0 0) (F0 m 24 ls [])) (hkx24_58 : ∀ (y2 : Int32) (W1 : Vt) (H : Heap) (locs : List Loc) (ls : Array Slot), kx24_58 y2 W1 = some (r, V') → wS G W1 T H locs → lv_has ls 4 [(0, .ref (gb G + x0)), (2, .int y2)] → W p l e (rmL 12 0 0) s m args below meth c H locs 0 0 (eQ G below (some (.int r)) V' T args s 0 0) (F0 m 58 ls [])) : W p l e (rmL 12 0 0) s m args below meth c H locs 0 0 (eQ G below (some (.int r)) V' T args s 0 0) (F0 m 51 ls [.int s0]) := by
  have hx := C.1
  have hb := C.2.1
  have hown := C.2.2.2.1
  have hts := C.2.2.2.2.1
  unfold f_X5_starves_J51 at hf
  refine lv_istore_n (lv' := [(2, .int s0), (0, .ref (gb G + x0)), (3, .int x3)]) hx hb dX5_starves_51 rfl hl (by decide) rfl (fun ls hl => ?_)
  revert hf
  refine k_stp (fun z14 ez14 hf => ?_)
  refine lv_iinc (k := 2) (lv' := [(3, .int z14), (2, .int s0), (0, .ref (gb G + x0))]) hx hb dX5_starves_52 hl rfl (inc_e (by decide) ez14) (by decide) rfl (fun ls hl => ?_)
  refine lv_goto (tgt := 24) hx hb dX5_starves_55 (by decide) ?_
  exact hkc24 _ _ _ _ _ _ hf hw (lv_sub hl [2, 1, 0] rfl)
set_option maxHeartbeats 4000000 in
theorem lk_X5_starves_24 {l : Launch} {G : gG} {p : Program} {e : Env} {s : State} {m : MethodId} {args : Array Value} {below : List Frame} {meth : Method} {c : Code} {T : Tt} {r : Int32} {V' : Vt} (C : Cx G p s m args meth c cX5_starves RX5 4) (hr : meth.sig.returnType = (some .int)) {x0 : Nat} {kx24_58 : Int32 → Vt → Option (Int32 × Vt)} (k0 : T.1 x0 = 6) (hkx24_58 : ∀ (y2 : Int32) (W1 : Vt) (H : Heap) (locs : List Loc) (ls : Array Slot), kx24_58 y2 W1 = some (r, V') → wS G W1 T H locs → lv_has ls 4 [(0, .ref (gb G + x0)), (2, .int y2)] → W p l e (rmL 12 0 0) s m args below meth c H locs 0 0 (eQ G below (some (.int r)) V' T args s 0 0) (F0 m 58 ls [])) : ∀ (n : Nat) (x2 : Int32) (x3 : Int32) (V1 : Vt) (H : Heap) (locs : List Loc) (ls : Array Slot), f_X5_starves_L24 T x0 kx24_58 n x2 x3 V1 = some (r, V') → wS G V1 T H locs → lv_has ls 4 [(0, .ref (gb G + x0)), (2, .int x2), (3, .int x3)] → W p l e (rmL 12 0 0) s m args below meth c H locs 0 0 (eQ G below (some (.int r)) V' T args s 0 0) (F0 m 24 ls []) := by
  have hx := C.1
  have hb := C.2.1
  have hown := C.2.2.2.1
  have hts := C.2.2.2.2.1
  intro n
  induction n with
  | zero =>
    intro x2 x3 V1 H locs ls hf
    cases hf
  | succ n ih =>
    intro x2 x3 V1 H locs ls hf hw hl
    unfold f_X5_starves_L24 at hf
    refine lv_iload_n hx hb dX5_starves_24 rfl (lv_at hl 2 rfl) ?_
    refine lv_bipush (v := (60 : Int32)) hx hb dX5_starves_25 (by decide) ?_
    refine lv_icmp_ge (tgt := 58) hx hb dX5_starves_27 (by decide) (fun c8 => ?_) (fun c8 => ?_)
    · replace hf := ite_t c8 hf
      exact hkx24_58 _ _ _ _ _ hf hw (lv_sub hl [0, 1] rfl)
    · replace hf := ite_f c8 hf
      refine lv_iload_n hx hb dX5_starves_30 rfl (lv_at hl 1 rfl) ?_
      refine lv_iconst (v := ((-1) : Int32)) hx hb dX5_starves_31 (by decide) ?_
      refine lv_icmp_ne (tgt := 58) hx hb dX5_starves_32 (by decide) (fun c9 => ?_) (fun c9 => ?_)
      · replace hf := ite_f c9 hf
        exact hkx24_58 _ _ _ _ _ hf hw (lv_sub hl [0, 1] rfl)
      · replace hf := ite_t c9 hf
        refine lv_aload_n hx hb dX5_starves_35 rfl (lv_at hl 0 rfl) ?_
        revert hf
        refine k_pcl (fun U12 h10 hf => ?_)
        refine w_afv hw (w_rV (As := []) C hw (ok_X5_planYear h10) (cw_X5_535 hts (Nat.le_of_ble_eq_true rfl) (Nat.le_of_ble_eq_true rfl)) rfl (by decide) (of_req h10).1 rfl hl.1 rfl (Nat.le_of_ble_eq_true rfl) ⟨Nat.zero_le _, Nat.zero_le _⟩ dX5_starves_36) (fun H locs hw => ?_)
        refine lv_aload_n hx hb dX5_starves_39 rfl (lv_at hl 0 rfl) ?_
        refine gf_X5_515 C hw k0 dX5_starves_40 ?_
        refine lv_if_eq (tgt := 50) hx hb dX5_starves_43 (by decide) (fun c13 => ?_) (fun c13 => ?_)
        · replace hf := ite_t c13 hf
          refine lv_iload_n hx hb dX5_starves_50 rfl (lv_at hl 1 rfl) ?_
          exact jk_X5_starves_51 C hr k0 hf hw (lv_sub hl [0, 2] rfl) ih hkx24_58
        · replace hf := ite_f c13 hf
          refine lv_iload_n hx hb dX5_starves_46 rfl (lv_at hl 2 rfl) ?_
          refine lv_goto (tgt := 51) hx hb dX5_starves_47 (by decide) ?_
          exact jk_X5_starves_51 C hr k0 hf hw (lv_sub hl [0, 2] rfl) ih hkx24_58
set_option maxHeartbeats 4000000 in
theorem ok_X5_starves {l : Launch} {G : gG} {T : Tt} {V0 : Vt} {o : Nat} {a0 : Int32} {r : Int32} {V' : Vt} (hf : f_X5_starves T V0 o a0 = some (r, V')) : okM l G yX5_starves cX5_starves 4 (some .int) 12 [.ref (gb G + o), .int a0] V0 T (some (.int r)) V' T 0 0 := by
  refine ok_intro (by decide) (Nat.le_of_ble_eq_true rfl) ?_
  intro p e s m below meth c ls C hr hnm hw hl
  have hx := C.1
  have hb := C.2.1
  have hown := C.2.2.2.1
  have hts := C.2.2.2.2.1
  have hl : lv_has ls 4 [(0, .ref (gb G + o)), (1, .int a0)] := hl
  unfold f_X5_starves at hf
  revert hf
  refine k_req (fun k0 hf => ?_)
  refine lv_aload_n hx hb dX5_starves_0 rfl (lv_at hl 0 rfl) ?_
  refine lv_iconst (v := (0 : Int32)) hx hb dX5_starves_1 (by decide) ?_
  revert hf
  refine k_stp (fun U1 eU1 hf => ?_)
  refine pf_X5_133 C hw k0 eU1 dX5_starves_2 (fun H locs hw => ?_)
  refine lv_aload_n hx hb dX5_starves_5 rfl (lv_at hl 0 rfl) ?_
  refine lv_iload_n hx hb dX5_starves_6 rfl (lv_at hl 1 rfl) ?_
  revert hf
  refine k_pcl (fun z3 h2 hf => ?_)
  refine w_afi hw (w_rV (As := [.int a0]) C hw (ok_X5_isPlan h2) (cw_X5_525 hts (Nat.le_of_ble_eq_true rfl) (Nat.le_of_ble_eq_true rfl)) rfl (by decide) (of_req h2).1 rfl hl.1 rfl (Nat.le_of_ble_eq_true rfl) ⟨Nat.zero_le _, Nat.zero_le _⟩ dX5_starves_7) (fun H locs hw => ?_)
  refine lv_if_ne (tgt := 15) hx hb dX5_starves_10 (by decide) (fun c4 => ?_) (fun c4 => ?_)
  · replace hf := ite_f c4 hf
    refine lv_aload_n hx hb dX5_starves_15 rfl (lv_at hl 0 rfl) ?_
    refine lv_iload_n hx hb dX5_starves_16 rfl (lv_at hl 1 rfl) ?_
    revert hf
    refine k_pcl (fun U7 h5 hf => ?_)
    refine w_afv hw (w_rV (As := [.int a0]) C hw (ok_X5_beginPlan h5) (cw_X5_532 hts (Nat.le_of_ble_eq_true rfl) (Nat.le_of_ble_eq_true rfl)) rfl (by decide) (of_req h5).1 rfl hl.1 rfl (Nat.le_of_ble_eq_true rfl) ⟨Nat.zero_le _, Nat.zero_le _⟩ dX5_starves_17) (fun H locs hw => ?_)
    refine lv_iconst (v := ((-1) : Int32)) hx hb dX5_starves_20 (by decide) ?_
    refine lv_istore_n (lv' := [(2, .int ((-1) : Int32)), (0, .ref (gb G + o)), (1, .int a0)]) hx hb dX5_starves_21 rfl hl (by decide) rfl (fun ls hl => ?_)
    refine lv_iconst (v := (0 : Int32)) hx hb dX5_starves_22 (by decide) ?_
    refine lv_istore_n (lv' := [(3, .int (0 : Int32)), (2, .int ((-1) : Int32)), (0, .ref (gb G + o)), (1, .int a0)]) hx hb dX5_starves_23 rfl hl (by decide) rfl (fun ls hl => ?_)
    refine lk_X5_starves_24 C hr k0 (fun z15 U16 H locs ls hf hw hl => ?_) fuel _ _ _ _ _ _ hf hw (lv_sub hl [2, 1, 0] rfl)
    exact jk_X5_starves_58 C hr k0 hf hw (lv_sub hl [0, 1] rfl)
  · replace hf := ite_t c4 hf
    refine lv_iconst (v := ((-1) : Int32)) hx hb dX5_starves_13 (by decide) ?_
    cases hf
    exact w_iret C hr hw dX5_starves_14
set_option maxHeartbeats 4000000 in
theorem lk_X5_yieldOf_7 {l : Launch} {G : gG} {p : Program} {e : Env} {s : State} {m : MethodId} {args : Array Value} {below : List Frame} {meth : Method} {c : Code} {T : Tt} {r : Int32} {V' : Vt} (C : Cx G p s m args meth c cX5_yieldOf RX5 4) (hr : meth.sig.returnType = (some .int)) {x0 : Nat} {x2 : Int32} {kx7_22 : Vt → Option (Int32 × Vt)} (k0 : T.1 x0 = 6) (hkx7_22 : ∀ (W1 : Vt) (H : Heap) (locs : List Loc) (ls : Array Slot), kx7_22 W1 = some (r, V') → wS G W1 T H locs → lv_has ls 4 [(0, .ref (gb G + x0))] → W p l e (rmL 12 0 0) s m args below meth c H locs 0 0 (eQ G below (some (.int r)) V' T args s 0 0) (F0 m 22 ls [])) : ∀ (n : Nat) (x3 : Int32) (V1 : Vt) (H : Heap) (locs : List Loc) (ls : Array Slot), f_X5_yieldOf_L7 T x0 x2 kx7_22 n x3 V1 = some (r, V') → wS G V1 T H locs → lv_has ls 4 [(0, .ref (gb G + x0)), (2, .int x2), (3, .int x3)] → W p l e (rmL 12 0 0) s m args below meth c H locs 0 0 (eQ G below (some (.int r)) V' T args s 0 0) (F0 m 7 ls []) := by
  have hx := C.1
  have hb := C.2.1
  have hown := C.2.2.2.1
  have hts := C.2.2.2.2.1
  intro n
  induction n with
  | zero =>
    intro x3 V1 H locs ls hf
    cases hf
  | succ n ih =>
    intro x3 V1 H locs ls hf hw hl
    unfold f_X5_yieldOf_L7 at hf
    refine lv_iload_n hx hb dX5_yieldOf_7 rfl (lv_at hl 2 rfl) ?_
    refine lv_iload_n hx hb dX5_yieldOf_8 rfl (lv_at hl 1 rfl) ?_
    refine lv_icmp_ge (tgt := 22) hx hb dX5_yieldOf_9 (by decide) (fun c4 => ?_) (fun c4 => ?_)
    · replace hf := ite_t c4 hf
      exact hkx7_22 _ _ _ _ hf hw (lv_sub hl [0] rfl)
    · replace hf := ite_f c4 hf
      refine lv_aload_n hx hb dX5_yieldOf_12 rfl (lv_at hl 0 rfl) ?_
      revert hf
      refine k_pcl (fun U7 h5 hf => ?_)
      refine w_afv hw (w_rV (As := []) C hw (ok_X5_planYear h5) (cw_X5_535 hts (Nat.le_of_ble_eq_true rfl) (Nat.le_of_ble_eq_true rfl)) rfl (by decide) (of_req h5).1 rfl hl.1 rfl (Nat.le_of_ble_eq_true rfl) ⟨Nat.zero_le _, Nat.zero_le _⟩ dX5_yieldOf_13) (fun H locs hw => ?_)
      revert hf
      refine k_stp (fun z8 ez8 hf => ?_)
      refine lv_iinc (k := 2) (lv' := [(3, .int z8), (0, .ref (gb G + x0)), (2, .int x2)]) hx hb dX5_yieldOf_16 hl rfl (inc_e (by decide) ez8) (by decide) rfl (fun ls hl => ?_)
      refine lv_goto (tgt := 7) hx hb dX5_yieldOf_19 (by decide) ?_
      exact ih _ _ _ _ _ hf hw (lv_sub hl [1, 2, 0] rfl)
set_option maxHeartbeats 4000000 in
theorem ok_X5_yieldOf {l : Launch} {G : gG} {T : Tt} {V0 : Vt} {o : Nat} {a0 : Int32} {a1 : Int32} {r : Int32} {V' : Vt} (hf : f_X5_yieldOf T V0 o a0 a1 = some (r, V')) : okM l G yX5_yieldOf cX5_yieldOf 4 (some .int) 12 [.ref (gb G + o), .int a0, .int a1] V0 T (some (.int r)) V' T 0 0 := by
  refine ok_intro (by decide) (Nat.le_of_ble_eq_true rfl) ?_
  intro p e s m below meth c ls C hr hnm hw hl
  have hx := C.1
  have hb := C.2.1
  have hown := C.2.2.2.1
  have hts := C.2.2.2.2.1
  have hl : lv_has ls 4 [(0, .ref (gb G + o)), (1, .int a0), (2, .int a1)] := hl
  unfold f_X5_yieldOf at hf
  revert hf
  refine k_req (fun k0 hf => ?_)
  refine lv_aload_n hx hb dX5_yieldOf_0 rfl (lv_at hl 0 rfl) ?_
  refine lv_iload_n hx hb dX5_yieldOf_1 rfl (lv_at hl 1 rfl) ?_
  revert hf
  refine k_pcl (fun U3 h1 hf => ?_)
  refine w_afv hw (w_rV (As := [.int a0]) C hw (ok_X5_beginPlan h1) (cw_X5_532 hts (Nat.le_of_ble_eq_true rfl) (Nat.le_of_ble_eq_true rfl)) rfl (by decide) (of_req h1).1 rfl hl.1 rfl (Nat.le_of_ble_eq_true rfl) ⟨Nat.zero_le _, Nat.zero_le _⟩ dX5_yieldOf_2) (fun H locs hw => ?_)
  refine lv_iconst (v := (0 : Int32)) hx hb dX5_yieldOf_5 (by decide) ?_
  refine lv_istore_n (lv' := [(3, .int (0 : Int32)), (0, .ref (gb G + o)), (1, .int a0), (2, .int a1)]) hx hb dX5_yieldOf_6 rfl hl (by decide) rfl (fun ls hl => ?_)
  refine lk_X5_yieldOf_7 C hr k0 (fun U9 H locs ls hf hw hl => ?_) fuel _ _ _ _ _ hf hw (lv_sub hl [1, 3, 0] rfl)
  refine lv_aload_n hx hb dX5_yieldOf_22 rfl (lv_at hl 0 rfl) ?_
  refine lv_bipush (v := (16 : Int32)) hx hb dX5_yieldOf_23 (by decide) ?_
  revert hf
  refine k_pcl (fun U12 h10 hf => ?_)
  refine w_afv hw (w_rV (As := [.int (16 : Int32)]) C hw (ok_X5_putBack h10) (cw_X5_150 hts (Nat.le_of_ble_eq_true rfl) (Nat.le_of_ble_eq_true rfl)) rfl (by decide) (of_req h10).1 rfl hl.1 rfl (Nat.le_of_ble_eq_true rfl) ⟨Nat.zero_le _, Nat.zero_le _⟩ dX5_yieldOf_25) (fun H locs hw => ?_)
  refine lv_aload_n hx hb dX5_yieldOf_28 rfl (lv_at hl 0 rfl) ?_
  refine gf_X5_444 C hw k0 dX5_yieldOf_29 ?_
  cases hf
  exact w_iret C hr hw dX5_yieldOf_32
set_option maxHeartbeats 4000000 in
theorem ok_X5_yields {l : Launch} {G : gG} {T : Tt} {V0 : Vt} {o : Nat} {a0 : Int32} {a1 : Int32} {r : Int32} {V' : Vt} (hf : f_X5_yields T V0 o a0 a1 = some (r, V')) : okM l G yX5_yields cX5_yields 3 (some .int) 13 [.ref (gb G + o), .int a0, .int a1] V0 T (some (.int r)) V' T 0 0 := by
  refine ok_intro (by decide) (Nat.le_of_ble_eq_true rfl) ?_
  intro p e s m below meth c ls C hr hnm hw hl
  have hx := C.1
  have hb := C.2.1
  have hown := C.2.2.2.1
  have hts := C.2.2.2.2.1
  have hl : lv_has ls 3 [(0, .ref (gb G + o)), (1, .int a0), (2, .int a1)] := hl
  unfold f_X5_yields at hf
  revert hf
  refine k_req (fun k0 hf => ?_)
  refine lv_aload_n hx hb dX5_yields_0 rfl (lv_at hl 0 rfl) ?_
  refine lv_iconst (v := (0 : Int32)) hx hb dX5_yields_1 (by decide) ?_
  revert hf
  refine k_stp (fun U1 eU1 hf => ?_)
  refine pf_X5_133 C hw k0 eU1 dX5_yields_2 (fun H locs hw => ?_)
  refine lv_aload_n hx hb dX5_yields_5 rfl (lv_at hl 0 rfl) ?_
  refine lv_iload_n hx hb dX5_yields_6 rfl (lv_at hl 1 rfl) ?_
  revert hf
  refine k_pcl (fun z3 h2 hf => ?_)
  refine w_afi hw (w_rV (As := [.int a0]) C hw (ok_X5_isPlan h2) (cw_X5_525 hts (Nat.le_of_ble_eq_true rfl) (Nat.le_of_ble_eq_true rfl)) rfl (by decide) (of_req h2).1 rfl hl.1 rfl (Nat.le_of_ble_eq_true rfl) ⟨Nat.zero_le _, Nat.zero_le _⟩ dX5_yields_7) (fun H locs hw => ?_)
  refine lv_if_eq (tgt := 25) hx hb dX5_yields_10 (by decide) (fun c4 => ?_) (fun c4 => ?_)
  · replace hf := ite_t c4 hf
    refine lv_iconst (v := ((-1) : Int32)) hx hb dX5_yields_25 (by decide) ?_
    refine lv_goto (tgt := 35) hx hb dX5_yields_26 (by decide) ?_
    cases hf
    exact w_iret C hr hw dX5_yields_35
  · replace hf := ite_f c4 hf
    refine lv_iload_n hx hb dX5_yields_13 rfl (lv_at hl 2 rfl) ?_
    refine lv_i2l hx hb dX5_yields_14 rfl ?_
    refine lv_lconst (v := (0 : Int64)) hx hb dX5_yields_15 (by decide) ?_
    refine lv_ldc2 (v := (60 : Int64)) hx hb hown (hts _ q2113) dX5_yields_16 ?_
    revert hf
    refine k_pcl (fun z6 h5 hf => ?_)
    refine w_afi hw (w_rS (As := [.long (Int32.toInt64 a1), .long (0 : Int64), .long (60 : Int64)]) C hw (ok_X5_in h5) (cw_X5_153 hts (Nat.le_of_ble_eq_true rfl) (Nat.le_of_ble_eq_true rfl)) rfl hl.1 rfl (Nat.le_of_ble_eq_true rfl) ⟨Nat.zero_le _, Nat.zero_le _⟩ dX5_yields_19) (fun H locs hw => ?_)
    refine lv_if_ne (tgt := 29) hx hb dX5_yields_22 (by decide) (fun c7 => ?_) (fun c7 => ?_)
    · replace hf := ite_f c7 hf
      refine lv_aload_n hx hb dX5_yields_29 rfl (lv_at hl 0 rfl) ?_
      refine lv_iload_n hx hb dX5_yields_30 rfl (lv_at hl 1 rfl) ?_
      refine lv_iload_n hx hb dX5_yields_31 rfl (lv_at hl 2 rfl) ?_
      revert hf
      refine k_cal (fun z9 U10 h8 hf => ?_)
      refine w_afi hw (w_rV (As := [.int a0, .int a1]) C hw (ok_X5_yieldOf h8) (cw_X5_540 hts (Nat.le_of_ble_eq_true rfl) (Nat.le_of_ble_eq_true rfl)) rfl (by decide) (of_req h8).1 rfl hl.1 rfl (Nat.le_of_ble_eq_true rfl) ⟨Nat.zero_le _, Nat.zero_le _⟩ dX5_yields_32) (fun H locs hw => ?_)
      cases hf
      exact w_iret C hr hw dX5_yields_35
    · replace hf := ite_t c7 hf
      refine lv_iconst (v := ((-1) : Int32)) hx hb dX5_yields_25 (by decide) ?_
      refine lv_goto (tgt := 35) hx hb dX5_yields_26 (by decide) ?_
      cases hf
      exact w_iret C hr hw dX5_yields_35
set_option maxHeartbeats 4000000 in
theorem jk_X5_best_105 {l : Launch} {G : gG} {p : Program} {e : Env} {s : State} {m : MethodId} {args : Array Value} {below : List Frame} {meth : Method} {c : Code} {T : Tt} {V0 : Vt} {r : Int32} {V' : Vt} (C : Cx G p s m args meth c cX5_best RX5 8) (hr : meth.sig.returnType = (some .int)) {x0 : Nat} {x1 : Int32} {x2 : Int32} {x4 : Int32} {x5 : Int32} {s0 : Int32} {kc39 : Int32 → Int32 → Int32 → Vt → Option (Int32 × Vt)} {kx39_112 : Int32 → Vt → Option (Int32 × Vt)} {H : Heap} {locs : List Loc} {ls : Array Slot} (k0 : T.1 x0 = 6) (hf : f_X5_best_J105 T V0 x0 x1 x2 x4 x5 s0 kc39 kx39_112 = some (r, V')) (hw : wS G V0 T H locs) (hl : lv_has ls 8 [(0, .ref (gb G + x0)), (1, .int x1), (2, .int x2), (4, .int x4), (5, .int x5)]) (hkc39 : ∀ (y3 : Int32) (y4 : Int32) (y5 : Int32) (W1 : Vt) (H : Heap) (locs : List Loc) (ls : Array Slot), kc39 y3 y4 y5 W1 = some (r, V') → wS G W1 T H locs → lv_has ls 8 [(0, .ref (gb G + x0)), (1, .int x1), (2, .int x2), (3, .int y3), (4, .int y4), (5, .int y5)] → W p l e (rmL 13 0 0) s m args below meth c H locs 0 0 (eQ G below (some (.int r)) V' T args s 0 0) (F0 m 39 ls [])) (hkx39_112 : ∀ (y4 : Int32) (W1 : Vt) (H : Heap) (locs : List Loc) (ls : Array Slot), kx39_112 y4 W1 = some (r, V') → wS G W1 T H locs → lv_has ls 8 [(4, .int y4)] → W p l e (rmL 13 0 0) s m args below meth c H locs 0 0 (eQ G below (some (.int r)) V' T args s 0 0) (F0 m 112 ls [])) : W p l e (rmL 13 0 0) s m args below meth c H locs 0 0 (eQ G below (some (.int r)) V' T args s 0 0) (F0 m 105 ls [.int s0]) := by
  have hx := C.1
  have hb := C.2.1
  have hown := C.2.2.2.1
  have hts := C.2.2.2.2.1
  unfold f_X5_best_J105 at hf
  refine lv_istore_n (lv' := [(3, .int s0), (0, .ref (gb G + x0)), (1, .int x1), (2, .int x2), (4, .int x4), (5, .int x5)]) hx hb dX5_best_105 rfl hl (by decide) rfl (fun ls hl => ?_)
  revert hf
  refine k_stp (fun z17 ez17 hf => ?_)
  refine lv_iinc (k := 5) (lv' := [(5, .int z17), (3, .int s0), (0, .ref (gb G + x0)), (1, .int x1), (2, .int x2), (4, .int x4)]) hx hb dX5_best_106 hl rfl (inc_e (by decide) ez17) (by decide) rfl (fun ls hl => ?_)
  refine lv_goto (tgt := 39) hx hb dX5_best_109 (by decide) ?_
  exact hkc39 _ _ _ _ _ _ _ hf hw (lv_sub hl [2, 3, 4, 1, 5, 0] rfl)
set_option maxHeartbeats 4000000 in
theorem jk_X5_best_92 {l : Launch} {G : gG} {p : Program} {e : Env} {s : State} {m : MethodId} {args : Array Value} {below : List Frame} {meth : Method} {c : Code} {T : Tt} {V0 : Vt} {r : Int32} {V' : Vt} (C : Cx G p s m args meth c cX5_best RX5 8) (hr : meth.sig.returnType = (some .int)) {x0 : Nat} {x1 : Int32} {x2 : Int32} {x3 : Int32} {x5 : Int32} {x6 : Int32} {x7 : Int32} {s0 : Int32} {kc39 : Int32 → Int32 → Int32 → Vt → Option (Int32 × Vt)} {kx39_112 : Int32 → Vt → Option (Int32 × Vt)} {H : Heap} {locs : List Loc} {ls : Array Slot} (k0 : T.1 x0 = 6) (hf : f_X5_best_J92 T V0 x0 x1 x2 x3 x5 x6 x7 s0 kc39 kx39_112 = some (r, V')) (hw : wS G V0 T H locs) (hl : lv_has ls 8 [(0, .ref (gb G + x0)), (1, .int x1), (2, .int x2), (3, .int x3), (5, .int x5), (6, .int x6), (7, .int x7)]) (hkc39 : ∀ (y3 : Int32) (y4 : Int32) (y5 : Int32) (W1 : Vt) (H : Heap) (locs : List Loc) (ls : Array Slot), kc39 y3 y4 y5 W1 = some (r, V') → wS G W1 T H locs → lv_has ls 8 [(0, .ref (gb G + x0)), (1, .int x1), (2, .int x2), (3, .int y3), (4, .int y4), (5, .int y5)] → W p l e (rmL 13 0 0) s m args below meth c H locs 0 0 (eQ G below (some (.int r)) V' T args s 0 0) (F0 m 39 ls [])) (hkx39_112 : ∀ (y4 : Int32) (W1 : Vt) (H : Heap) (locs : List Loc) (ls : Array Slot), kx39_112 y4 W1 = some (r, V') → wS G W1 T H locs → lv_has ls 8 [(4, .int y4)] → W p l e (rmL 13 0 0) s m args below meth c H locs 0 0 (eQ G below (some (.int r)) V' T args s 0 0) (F0 m 112 ls [])) : W p l e (rmL 13 0 0) s m args below meth c H locs 0 0 (eQ G below (some (.int r)) V' T args s 0 0) (F0 m 92 ls [.int s0]) := by
  have hx := C.1
  have hb := C.2.1
  have hown := C.2.2.2.1
  have hts := C.2.2.2.2.1
  unfold f_X5_best_J92 at hf
  refine lv_istore (lv' := [(4, .int s0), (0, .ref (gb G + x0)), (1, .int x1), (2, .int x2), (3, .int x3), (5, .int x5), (6, .int x6), (7, .int x7)]) hx hb dX5_best_92 hl (by decide) rfl (fun ls hl => ?_)
  refine lv_iload hx hb dX5_best_94 (lv_at hl 7 rfl) ?_
  refine lv_if_eq (tgt := 104) hx hb dX5_best_96 (by decide) (fun c16 => ?_) (fun c16 => ?_)
  · replace hf := ite_t c16 hf
    refine lv_iload_n hx hb dX5_best_104 rfl (lv_at hl 4 rfl) ?_
    exact jk_X5_best_105 C hr k0 hf hw (lv_sub hl [1, 2, 3, 0, 5] rfl) hkc39 hkx39_112
  · replace hf := ite_f c16 hf
    refine lv_iload hx hb dX5_best_99 (lv_at hl 6 rfl) ?_
    refine lv_goto (tgt := 105) hx hb dX5_best_101 (by decide) ?_
    exact jk_X5_best_105 C hr k0 hf hw (lv_sub hl [1, 2, 3, 0, 5] rfl) hkc39 hkx39_112
set_option maxHeartbeats 4000000 in
theorem jk_X5_best_78 {l : Launch} {G : gG} {p : Program} {e : Env} {s : State} {m : MethodId} {args : Array Value} {below : List Frame} {meth : Method} {c : Code} {T : Tt} {V0 : Vt} {r : Int32} {V' : Vt} (C : Cx G p s m args meth c cX5_best RX5 8) (hr : meth.sig.returnType = (some .int)) {x0 : Nat} {x1 : Int32} {x2 : Int32} {x3 : Int32} {x4 : Int32} {x5 : Int32} {x6 : Int32} {s0 : Int32} {kc39 : Int32 → Int32 → Int32 → Vt → Option (Int32 × Vt)} {kx39_112 : Int32 → Vt → Option (Int32 × Vt)} {H : Heap} {locs : List Loc} {ls : Array Slot} (k0 : T.1 x0 = 6) (hf : f_X5_best_J78 T V0 x0 x1 x2 x3 x4 x5 x6 s0 kc39 kx39_112 = some (r, V')) (hw : wS G V0 T H locs) (hl : lv_has ls 8 [(0, .ref (gb G + x0)), (1, .int x1), (2, .int x2), (3, .int x3), (4, .int x4), (5, .int x5), (6, .int x6)]) (hkc39 : ∀ (y3 : Int32) (y4 : Int32) (y5 : Int32) (W1 : Vt) (H : Heap) (locs : List Loc) (ls : Array Slot), kc39 y3 y4 y5 W1 = some (r, V') → wS G W1 T H locs → lv_has ls 8 [(0, .ref (gb G + x0)), (1, .int x1), (2, .int x2), (3, .int y3), (4, .int y4), (5, .int y5)] → W p l e (rmL 13 0 0) s m args below meth c H locs 0 0 (eQ G below (some (.int r)) V' T args s 0 0) (F0 m 39 ls [])) (hkx39_112 : ∀ (y4 : Int32) (W1 : Vt) (H : Heap) (locs : List Loc) (ls : Array Slot), kx39_112 y4 W1 = some (r, V') → wS G W1 T H locs → lv_has ls 8 [(4, .int y4)] → W p l e (rmL 13 0 0) s m args below meth c H locs 0 0 (eQ G below (some (.int r)) V' T args s 0 0) (F0 m 112 ls [])) : W p l e (rmL 13 0 0) s m args below meth c H locs 0 0 (eQ G below (some (.int r)) V' T args s 0 0) (F0 m 78 ls [.int s0]) := by
  have hx := C.1
  have hb := C.2.1
  have hown := C.2.2.2.1
  have hts := C.2.2.2.2.1
  unfold f_X5_best_J78 at hf
  refine lv_istore (lv' := [(7, .int s0), (0, .ref (gb G + x0)), (1, .int x1), (2, .int x2), (3, .int x3), (4, .int x4), (5, .int x5), (6, .int x6)]) hx hb dX5_best_78 hl (by decide) rfl (fun ls hl => ?_)
  refine lv_iload hx hb dX5_best_80 (lv_at hl 0 rfl) ?_
  refine lv_if_eq (tgt := 90) hx hb dX5_best_82 (by decide) (fun c15 => ?_) (fun c15 => ?_)
  · replace hf := ite_t c15 hf
    refine lv_iload hx hb dX5_best_90 (lv_at hl 5 rfl) ?_
    exact jk_X5_best_92 C hr k0 hf hw (lv_sub hl [1, 2, 3, 4, 6, 7, 0] rfl) hkc39 hkx39_112
  · replace hf := ite_f c15 hf
    refine lv_iload hx hb dX5_best_85 (lv_at hl 6 rfl) ?_
    refine lv_goto (tgt := 92) hx hb dX5_best_87 (by decide) ?_
    exact jk_X5_best_92 C hr k0 hf hw (lv_sub hl [1, 2, 3, 4, 6, 7, 0] rfl) hkc39 hkx39_112
set_option maxHeartbeats 4000000 in
theorem jk_X5_best_77 {l : Launch} {G : gG} {p : Program} {e : Env} {s : State} {m : MethodId} {args : Array Value} {below : List Frame} {meth : Method} {c : Code} {T : Tt} {V0 : Vt} {r : Int32} {V' : Vt} (C : Cx G p s m args meth c cX5_best RX5 8) (hr : meth.sig.returnType = (some .int)) {x0 : Nat} {x1 : Int32} {x2 : Int32} {x3 : Int32} {x4 : Int32} {x5 : Int32} {x6 : Int32} {kc39 : Int32 → Int32 → Int32 → Vt → Option (Int32 × Vt)} {kx39_112 : Int32 → Vt → Option (Int32 × Vt)} {H : Heap} {locs : List Loc} {ls : Array Slot} (k0 : T.1 x0 = 6) (hf : f_X5_best_J77 T V0 x0 x1 x2 x3 x4 x5 x6 kc39 kx39_112 = some (r, V')) (hw : wS G V0 T H locs) (hl : lv_has ls 8 [(0, .ref (gb G + x0)), (1, .int x1), (2, .int x2), (3, .int x3), (4, .int x4), (5, .int x5), (6, .int x6)]) (hkc39 : ∀ (y3 : Int32) (y4 : Int32) (y5 : Int32) (W1 : Vt) (H : Heap) (locs : List Loc) (ls : Array Slot), kc39 y3 y4 y5 W1 = some (r, V') → wS G W1 T H locs → lv_has ls 8 [(0, .ref (gb G + x0)), (1, .int x1), (2, .int x2), (3, .int y3), (4, .int y4), (5, .int y5)] → W p l e (rmL 13 0 0) s m args below meth c H locs 0 0 (eQ G below (some (.int r)) V' T args s 0 0) (F0 m 39 ls [])) (hkx39_112 : ∀ (y4 : Int32) (W1 : Vt) (H : Heap) (locs : List Loc) (ls : Array Slot), kx39_112 y4 W1 = some (r, V') → wS G W1 T H locs → lv_has ls 8 [(4, .int y4)] → W p l e (rmL 13 0 0) s m args below meth c H locs 0 0 (eQ G below (some (.int r)) V' T args s 0 0) (F0 m 112 ls [])) : W p l e (rmL 13 0 0) s m args below meth c H locs 0 0 (eQ G below (some (.int r)) V' T args s 0 0) (F0 m 77 ls []) := by
  have hx := C.1
  have hb := C.2.1
  have hown := C.2.2.2.1
  have hts := C.2.2.2.2.1
  unfold f_X5_best_J77 at hf
  refine lv_iconst (v := (0 : Int32)) hx hb dX5_best_77 (by decide) ?_
  exact jk_X5_best_78 C hr k0 hf hw (lv_sub hl [0, 1, 2, 3, 4, 5, 6] rfl) hkc39 hkx39_112
set_option maxHeartbeats 4000000 in
theorem lk_X5_best_39 {l : Launch} {G : gG} {p : Program} {e : Env} {s : State} {m : MethodId} {args : Array Value} {below : List Frame} {meth : Method} {c : Code} {T : Tt} {r : Int32} {V' : Vt} (C : Cx G p s m args meth c cX5_best RX5 8) (hr : meth.sig.returnType = (some .int)) {x0 : Nat} {x1 : Int32} {x2 : Int32} {kx39_112 : Int32 → Vt → Option (Int32 × Vt)} (k0 : T.1 x0 = 6) (hkx39_112 : ∀ (y4 : Int32) (W1 : Vt) (H : Heap) (locs : List Loc) (ls : Array Slot), kx39_112 y4 W1 = some (r, V') → wS G W1 T H locs → lv_has ls 8 [(4, .int y4)] → W p l e (rmL 13 0 0) s m args below meth c H locs 0 0 (eQ G below (some (.int r)) V' T args s 0 0) (F0 m 112 ls [])) : ∀ (n : Nat) (x3 : Int32) (x4 : Int32) (x5 : Int32) (V1 : Vt) (H : Heap) (locs : List Loc) (ls : Array Slot), f_X5_best_L39 T x0 x1 x2 kx39_112 n x3 x4 x5 V1 = some (r, V') → wS G V1 T H locs → lv_has ls 8 [(0, .ref (gb G + x0)), (1, .int x1), (2, .int x2), (3, .int x3), (4, .int x4), (5, .int x5)] → W p l e (rmL 13 0 0) s m args below meth c H locs 0 0 (eQ G below (some (.int r)) V' T args s 0 0) (F0 m 39 ls []) := by
  have hx := C.1
  have hb := C.2.1
  have hown := C.2.2.2.1
  have hts := C.2.2.2.2.1
  intro n
  induction n with
  | zero =>
    intro x3 x4 x5 V1 H locs ls hf
    cases hf
  | succ n ih =>
    intro x3 x4 x5 V1 H locs ls hf hw hl
    unfold f_X5_best_L39 at hf
    refine lv_iload hx hb dX5_best_39 (lv_at hl 5 rfl) ?_
    refine lv_aload_n hx hb dX5_best_41 rfl (lv_at hl 0 rfl) ?_
    revert hf
    refine k_drf (fun r8 er8 hf => ?_)
    refine gf_X5_13 C hw k0 er8 dX5_best_42 ?_
    refine lv_iconst (v := (3 : Int32)) hx hb dX5_best_45 (by decide) ?_
    revert hf
    refine k_req (fun h9 hf => ?_)
    refine w_iald C hw h9 rfl dX5_best_46 ?_
    refine lv_icmp_ge (tgt := 112) hx hb dX5_best_47 (by decide) (fun c10 => ?_) (fun c10 => ?_)
    · replace hf := ite_t c10 hf
      exact hkx39_112 _ _ _ _ _ hf hw (lv_sub hl [4] rfl)
    · replace hf := ite_f c10 hf
      refine lv_aload_n hx hb dX5_best_50 rfl (lv_at hl 0 rfl) ?_
      refine lv_iload hx hb dX5_best_51 (lv_at hl 5 rfl) ?_
      refine lv_iload_n hx hb dX5_best_53 rfl (lv_at hl 1 rfl) ?_
      revert hf
      refine k_cal (fun z12 U13 h11 hf => ?_)
      refine w_afi hw (w_rV (As := [.int x5, .int x1]) C hw (ok_X5_yieldOf h11) (cw_X5_540 hts (Nat.le_of_ble_eq_true rfl) (Nat.le_of_ble_eq_true rfl)) rfl (by decide) (of_req h11).1 rfl hl.1 rfl (Nat.le_of_ble_eq_true rfl) ⟨Nat.zero_le _, Nat.zero_le _⟩ dX5_best_54) (fun H locs hw => ?_)
      refine lv_istore (lv' := [(6, .int z12), (0, .ref (gb G + x0)), (1, .int x1), (2, .int x2), (3, .int x3), (4, .int x4), (5, .int x5)]) hx hb dX5_best_57 hl (by decide) rfl (fun ls hl => ?_)
      refine lv_aload_n hx hb dX5_best_59 rfl (lv_at hl 1 rfl) ?_
      refine gf_X5_447 C hw k0 dX5_best_60 ?_
      refine lv_iload_n hx hb dX5_best_63 rfl (lv_at hl 3 rfl) ?_
      refine lv_icmp_lt (tgt := 77) hx hb dX5_best_64 (by decide) (fun c14 => ?_) (fun c14 => ?_)
      · replace hf := ite_t c14 hf
        exact jk_X5_best_77 C hr k0 hf hw (lv_sub hl [1, 2, 3, 4, 5, 6, 0] rfl) ih hkx39_112
      · replace hf := ite_f c14 hf
        refine lv_iload hx hb dX5_best_67 (lv_at hl 0 rfl) ?_
        refine lv_iload_n hx hb dX5_best_69 rfl (lv_at hl 4 rfl) ?_
        refine lv_icmp_le (tgt := 77) hx hb dX5_best_70 (by decide) (fun c18 => ?_) (fun c18 => ?_)
        · replace hf := ite_t c18 hf
          exact jk_X5_best_77 C hr k0 hf hw (lv_sub hl [1, 2, 3, 4, 5, 6, 0] rfl) ih hkx39_112
        · replace hf := ite_f c18 hf
          refine lv_iconst (v := (1 : Int32)) hx hb dX5_best_73 (by decide) ?_
          refine lv_goto (tgt := 78) hx hb dX5_best_74 (by decide) ?_
          exact jk_X5_best_78 C hr k0 hf hw (lv_sub hl [1, 2, 3, 4, 5, 6, 0] rfl) ih hkx39_112
set_option maxHeartbeats 4000000 in
theorem ok_X5_best {l : Launch} {G : gG} {T : Tt} {V0 : Vt} {o : Nat} {a0 : Int32} {a1 : Int32} {r : Int32} {V' : Vt} (hf : f_X5_best T V0 o a0 a1 = some (r, V')) : okM l G yX5_best cX5_best 8 (some .int) 13 [.ref (gb G + o), .int a0, .int a1] V0 T (some (.int r)) V' T 0 0 := by
  refine ok_intro (by decide) (Nat.le_of_ble_eq_true rfl) ?_
  intro p e s m below meth c ls C hr hnm hw hl
  have hx := C.1
  have hb := C.2.1
  have hown := C.2.2.2.1
  have hts := C.2.2.2.2.1
  have hl : lv_has ls 8 [(0, .ref (gb G + o)), (1, .int a0), (2, .int a1)] := hl
  unfold f_X5_best at hf
  revert hf
  refine k_req (fun k0 hf => ?_)
  refine lv_aload_n hx hb dX5_best_0 rfl (lv_at hl 0 rfl) ?_
  refine lv_iconst (v := (0 : Int32)) hx hb dX5_best_1 (by decide) ?_
  revert hf
  refine k_stp (fun U1 eU1 hf => ?_)
  refine pf_X5_133 C hw k0 eU1 dX5_best_2 (fun H locs hw => ?_)
  refine lv_iload_n hx hb dX5_best_5 rfl (lv_at hl 1 rfl) ?_
  refine lv_i2l hx hb dX5_best_6 rfl ?_
  refine lv_lconst (v := (0 : Int64)) hx hb dX5_best_7 (by decide) ?_
  refine lv_ldc2 (v := (60 : Int64)) hx hb hown (hts _ q2113) dX5_best_8 ?_
  revert hf
  refine k_pcl (fun z3 h2 hf => ?_)
  refine w_afi hw (w_rS (As := [.long (Int32.toInt64 a0), .long (0 : Int64), .long (60 : Int64)]) C hw (ok_X5_in h2) (cw_X5_153 hts (Nat.le_of_ble_eq_true rfl) (Nat.le_of_ble_eq_true rfl)) rfl hl.1 rfl (Nat.le_of_ble_eq_true rfl) ⟨Nat.zero_le _, Nat.zero_le _⟩ dX5_best_11) (fun H locs hw => ?_)
  refine lv_if_eq (tgt := 29) hx hb dX5_best_14 (by decide) (fun c4 => ?_) (fun c4 => ?_)
  · replace hf := ite_t c4 hf
    refine lv_iconst (v := ((-1) : Int32)) hx hb dX5_best_29 (by decide) ?_
    cases hf
    exact w_iret C hr hw dX5_best_30
  · replace hf := ite_f c4 hf
    refine lv_iload_n hx hb dX5_best_17 rfl (lv_at hl 2 rfl) ?_
    refine lv_i2l hx hb dX5_best_18 rfl ?_
    refine lv_lconst (v := (0 : Int64)) hx hb dX5_best_19 (by decide) ?_
    refine lv_ldc2 (v := (19000 : Int64)) hx hb hown (hts _ q2136) dX5_best_20 ?_
    revert hf
    refine k_pcl (fun z6 h5 hf => ?_)
    refine w_afi hw (w_rS (As := [.long (Int32.toInt64 a1), .long (0 : Int64), .long (19000 : Int64)]) C hw (ok_X5_in h5) (cw_X5_153 hts (Nat.le_of_ble_eq_true rfl) (Nat.le_of_ble_eq_true rfl)) rfl hl.1 rfl (Nat.le_of_ble_eq_true rfl) ⟨Nat.zero_le _, Nat.zero_le _⟩ dX5_best_23) (fun H locs hw => ?_)
    refine lv_if_ne (tgt := 31) hx hb dX5_best_26 (by decide) (fun c7 => ?_) (fun c7 => ?_)
    · replace hf := ite_f c7 hf
      refine lv_iconst (v := ((-1) : Int32)) hx hb dX5_best_31 (by decide) ?_
      refine lv_istore_n (lv' := [(3, .int ((-1) : Int32)), (0, .ref (gb G + o)), (1, .int a0), (2, .int a1)]) hx hb dX5_best_32 rfl hl (by decide) rfl (fun ls hl => ?_)
      refine lv_iconst (v := ((-1) : Int32)) hx hb dX5_best_33 (by decide) ?_
      refine lv_istore (lv' := [(4, .int ((-1) : Int32)), (3, .int ((-1) : Int32)), (0, .ref (gb G + o)), (1, .int a0), (2, .int a1)]) hx hb dX5_best_34 hl (by decide) rfl (fun ls hl => ?_)
      refine lv_iconst (v := (0 : Int32)) hx hb dX5_best_36 (by decide) ?_
      refine lv_istore (lv' := [(5, .int (0 : Int32)), (4, .int ((-1) : Int32)), (3, .int ((-1) : Int32)), (0, .ref (gb G + o)), (1, .int a0), (2, .int a1)]) hx hb dX5_best_37 hl (by decide) rfl (fun ls hl => ?_)
      refine lk_X5_best_39 C hr k0 (fun z19 U20 H locs ls hf hw hl => ?_) fuel _ _ _ _ _ _ _ hf hw (lv_sub hl [3, 4, 5, 2, 1, 0] rfl)
      refine lv_iload hx hb dX5_best_112 (lv_at hl 0 rfl) ?_
      cases hf
      exact w_iret C hr hw dX5_best_114
    · replace hf := ite_t c7 hf
      refine lv_iconst (v := ((-1) : Int32)) hx hb dX5_best_29 (by decide) ?_
      cases hf
      exact w_iret C hr hw dX5_best_30
