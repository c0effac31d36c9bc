set_option maxRecDepth 100000
set_option maxHeartbeats 4000000 in
theorem jk_X5_tasted_29 {l : Launch} {G : gG} {p : Program} {e : Env} {s : State} {m : MethodId} {args : Array Value} {below : List Frame} {meth : Method} {c : Code} {T : Tt} {V0 : Vt} {r : Int32} {V' : Vt} (C : Cx G p s m args meth c cX5_tasted RX5 4) (hr : meth.sig.returnType = (some .int)) {x0 : Nat} {H : Heap} {locs : List Loc} {ls : Array Slot} (k0 : T.1 x0 = 6) (hf : f_X5_tasted_J29 T V0 x0 = some (r, V')) (hw : wS G V0 T H locs) (hl : lv_has ls 4 [(0, .ref (gb G + x0))]) : W p l e (rmL 1 0 0) s m args below meth c H locs 0 0 (eQ G below (some (.int r)) V' T args s 0 0) (F0 m 29 ls []) := by
  have hx := C.1
  have hb := C.2.1
  have hown := C.2.2.2.1
  have hts := C.2.2.2.2.1
  unfold f_X5_tasted_J29 at hf
  refine lv_aload_n hx hb dX5_tasted_29 rfl (lv_at hl 0 rfl) ?_
  refine lv_iconst (v := ((-1) : Int32)) hx hb dX5_tasted_30 (by decide) ?_
  revert hf
  refine k_cal (fun z6 U7 h5 hf => ?_)
  refine w_afi hw (w_rV (As := [.int ((-1) : Int32)]) C hw (ok_X5_tell h5) (cw_X5_142 hts (Nat.le_of_ble_eq_true rfl) (Nat.le_of_ble_eq_true rfl)) rfl (by decide) (of_req h5).1 rfl hl.1 rfl (Nat.le_of_ble_eq_true rfl) ⟨Nat.zero_le _, Nat.zero_le _⟩ dX5_tasted_31) (fun H locs hw => ?_)
  cases hf
  exact w_iret C hr hw dX5_tasted_34
set_option maxHeartbeats 4000000 in
theorem ok_X5_tasted {l : Launch} {G : gG} {T : Tt} {V0 : Vt} {o : Nat} {a0 : Int32} {a1 : Int32} {r : Int32} {V' : Vt} (hf : f_X5_tasted T V0 o a0 a1 = some (r, V')) : okM l G yX5_tasted cX5_tasted 4 (some .int) 1 [.ref (gb G + o), .int a0, .int a1] V0 T (some (.int r)) V' T 0 0 := by
  refine ok_intro (by decide) (Nat.le_of_ble_eq_true rfl) ?_
  intro p e s m below meth c ls C hr hnm hw hl
  have hx := C.1
  have hb := C.2.1
  have hown := C.2.2.2.1
  have hts := C.2.2.2.2.1
  have hl : lv_has ls 4 [(0, .ref (gb G + o)), (1, .int a0), (2, .int a1)] := hl
  unfold f_X5_tasted at hf
  revert hf
  refine k_req (fun k0 hf => ?_)
  refine lv_aload_n hx hb dX5_tasted_0 rfl (lv_at hl 0 rfl) ?_
  refine lv_iconst (v := (0 : Int32)) hx hb dX5_tasted_1 (by decide) ?_
  revert hf
  refine k_stp (fun U1 eU1 hf => ?_)
  refine pf_X5_133 C hw k0 eU1 dX5_tasted_2 (fun H locs hw => ?_)
  refine lv_iload_n hx hb dX5_tasted_5 rfl (lv_at hl 1 rfl) ?_
  refine lv_i2l hx hb dX5_tasted_6 rfl ?_
  refine lv_lconst (v := (0 : Int64)) hx hb dX5_tasted_7 (by decide) ?_
  refine lv_ldc2 (v := (2 : Int64)) hx hb hown (hts _ q2114) dX5_tasted_8 ?_
  revert hf
  refine k_pcl (fun z3 h2 hf => ?_)
  refine w_afi hw (w_rS (As := [.long (Int32.toInt64 a0), .long (0 : Int64), .long (2 : Int64)]) C hw (ok_X5_in h2) (cw_X5_153 hts (Nat.le_of_ble_eq_true rfl) (Nat.le_of_ble_eq_true rfl)) rfl hl.1 rfl (Nat.le_of_ble_eq_true rfl) ⟨Nat.zero_le _, Nat.zero_le _⟩ dX5_tasted_11) (fun H locs hw => ?_)
  refine lv_if_eq (tgt := 29) hx hb dX5_tasted_14 (by decide) (fun c4 => ?_) (fun c4 => ?_)
  · replace hf := ite_t c4 hf
    exact jk_X5_tasted_29 C hr k0 hf hw (lv_sub hl [0] rfl)
  · replace hf := ite_f c4 hf
    refine lv_iload_n hx hb dX5_tasted_17 rfl (lv_at hl 2 rfl) ?_
    refine lv_i2l hx hb dX5_tasted_18 rfl ?_
    refine lv_lconst (v := (0 : Int64)) hx hb dX5_tasted_19 (by decide) ?_
    refine lv_ldc2 (v := (999 : Int64)) hx hb hown (hts _ q1729) dX5_tasted_20 ?_
    revert hf
    refine k_pcl (fun z9 h8 hf => ?_)
    refine w_afi hw (w_rS (As := [.long (Int32.toInt64 a1), .long (0 : Int64), .long (999 : Int64)]) C hw (ok_X5_in h8) (cw_X5_153 hts (Nat.le_of_ble_eq_true rfl) (Nat.le_of_ble_eq_true rfl)) rfl hl.1 rfl (Nat.le_of_ble_eq_true rfl) ⟨Nat.zero_le _, Nat.zero_le _⟩ dX5_tasted_23) (fun H locs hw => ?_)
    refine lv_if_ne (tgt := 35) hx hb dX5_tasted_26 (by decide) (fun c10 => ?_) (fun c10 => ?_)
    · replace hf := ite_f c10 hf
      refine lv_aload_n hx hb dX5_tasted_35 rfl (lv_at hl 0 rfl) ?_
      revert hf
      refine k_drf (fun r11 er11 hf => ?_)
      refine gf_X5_13 C hw k0 er11 dX5_tasted_36 ?_
      refine lv_iconst (v := (1 : Int32)) hx hb dX5_tasted_39 (by decide) ?_
      revert hf
      refine k_req (fun h12 hf => ?_)
      refine w_iald C hw h12 rfl dX5_tasted_40 ?_
      revert hf
      refine k_stp (fun z13 ez13 hf => ?_)
      refine w_nmI ez13 ?_
      refine lv_istore_n (lv' := [(3, .int z13), (0, .ref (gb G + o)), (1, .int a0), (2, .int a1)]) hx hb dX5_tasted_41 rfl hl (by decide) rfl (fun ls hl => ?_)
      refine lv_iload_n hx hb dX5_tasted_42 rfl (lv_at hl 0 rfl) ?_
      refine lv_bipush (v := (6 : Int32)) hx hb dX5_tasted_43 (by decide) ?_
      refine lv_icmp_ne (tgt := 55) hx hb dX5_tasted_45 (by decide) (fun c14 => ?_) (fun c14 => ?_)
      · replace hf := ite_f c14 hf
        refine lv_aload_n hx hb dX5_tasted_55 rfl (lv_at hl 1 rfl) ?_
        revert hf
        refine k_drf (fun r15 er15 hf => ?_)
        refine gf_X5_13 C hw k0 er15 dX5_tasted_56 ?_
        refine lv_sipush (v := (186 : Int32)) hx hb dX5_tasted_59 (by decide) ?_
        refine lv_iconst (v := (2 : Int32)) hx hb dX5_tasted_62 (by decide) ?_
        refine lv_iload_n hx hb dX5_tasted_63 rfl (lv_at hl 0 rfl) ?_
        refine lv_imul hx hb dX5_tasted_64 ?_
        refine lv_iadd hx hb dX5_tasted_65 ?_
        refine lv_iload_n hx hb dX5_tasted_66 rfl (lv_at hl 2 rfl) ?_
        revert hf
        refine k_req (fun h16 hf => ?_)
        revert hf
        refine k_stp (fun U17 eU17 hf => ?_)
        refine w_iast C hw h16 eU17 dX5_tasted_67 (fun H locs hw => ?_)
        refine lv_aload_n hx hb dX5_tasted_68 rfl (lv_at hl 1 rfl) ?_
        revert hf
        refine k_drf (fun r18 er18 hf => ?_)
        refine gf_X5_13 C hw k0 er18 dX5_tasted_69 ?_
        refine lv_sipush (v := (186 : Int32)) hx hb dX5_tasted_72 (by decide) ?_
        refine lv_iconst (v := (2 : Int32)) hx hb dX5_tasted_75 (by decide) ?_
        refine lv_iload_n hx hb dX5_tasted_76 rfl (lv_at hl 0 rfl) ?_
        refine lv_imul hx hb dX5_tasted_77 ?_
        refine lv_iadd hx hb dX5_tasted_78 ?_
        refine lv_iconst (v := (1 : Int32)) hx hb dX5_tasted_79 (by decide) ?_
        refine lv_iadd hx hb dX5_tasted_80 ?_
        refine lv_iload_n hx hb dX5_tasted_81 rfl (lv_at hl 3 rfl) ?_
        revert hf
        refine k_req (fun h19 hf => ?_)
        revert hf
        refine k_stp (fun U20 eU20 hf => ?_)
        refine w_iast C hw h19 eU20 dX5_tasted_82 (fun H locs hw => ?_)
        refine lv_aload_n hx hb dX5_tasted_83 rfl (lv_at hl 1 rfl) ?_
        revert hf
        refine k_drf (fun r21 er21 hf => ?_)
        refine gf_X5_13 C hw k0 er21 dX5_tasted_84 ?_
        refine lv_iconst (v := (1 : Int32)) hx hb dX5_tasted_87 (by decide) ?_
        refine lv_dup2_11 hx hb dX5_tasted_88 rfl rfl ?_
        revert hf
        refine k_req (fun h22 hf => ?_)
        refine w_iald C hw h22 rfl dX5_tasted_89 ?_
        refine lv_iconst (v := (1 : Int32)) hx hb dX5_tasted_90 (by decide) ?_
        refine lv_iadd hx hb dX5_tasted_91 ?_
        revert hf
        refine k_req (fun h23 hf => ?_)
        revert hf
        refine k_stp (fun U24 eU24 hf => ?_)
        refine w_iast C hw h23 eU24 dX5_tasted_92 (fun H locs hw => ?_)
        refine lv_aload_n hx hb dX5_tasted_93 rfl (lv_at hl 1 rfl) ?_
        refine lv_iload_n hx hb dX5_tasted_94 rfl (lv_at hl 0 rfl) ?_
        refine lv_iconst (v := (1 : Int32)) hx hb dX5_tasted_95 (by decide) ?_
        refine lv_iadd hx hb dX5_tasted_96 ?_
        revert hf
        refine k_cal (fun z26 U27 h25 hf => ?_)
        refine w_afi hw (w_rV (As := [.int (z13 + (1 : Int32))]) C hw (ok_X5_tell h25) (cw_X5_142 hts (Nat.le_of_ble_eq_true rfl) (Nat.le_of_ble_eq_true rfl)) rfl (by decide) (of_req h25).1 rfl hl.1 rfl (Nat.le_of_ble_eq_true rfl) ⟨Nat.zero_le _, Nat.zero_le _⟩ dX5_tasted_97) (fun H locs hw => ?_)
        cases hf
        exact w_iret C hr hw dX5_tasted_100
      · replace hf := ite_t c14 hf
        refine lv_aload_n hx hb dX5_tasted_48 rfl (lv_at hl 1 rfl) ?_
        refine lv_bipush (v := ((-5) : Int32)) hx hb dX5_tasted_49 (by decide) ?_
        revert hf
        refine k_cal (fun z29 U30 h28 hf => ?_)
        refine w_afi hw (w_rV (As := [.int ((-5) : Int32)]) C hw (ok_X5_tell h28) (cw_X5_142 hts (Nat.le_of_ble_eq_true rfl) (Nat.le_of_ble_eq_true rfl)) rfl (by decide) (of_req h28).1 rfl hl.1 rfl (Nat.le_of_ble_eq_true rfl) ⟨Nat.zero_le _, Nat.zero_le _⟩ dX5_tasted_51) (fun H locs hw => ?_)
        cases hf
        exact w_iret C hr hw dX5_tasted_54
    · replace hf := ite_t c10 hf
      exact jk_X5_tasted_29 C hr k0 hf hw (lv_sub hl [0] rfl)
set_option maxHeartbeats 4000000 in
theorem ok_X5_forget {l : Launch} {G : gG} {T : Tt} {V0 : Vt} {o : Nat} {r : Int32} {V' : Vt} (hf : f_X5_forget T V0 o = some (r, V')) : okM l G yX5_forget cX5_forget 2 (some .int) 0 [.ref (gb G + o)] V0 T (some (.int r)) V' T 0 0 := by
  refine ok_intro (by decide) (Nat.le_of_ble_eq_true rfl) ?_
  intro p e s m below meth c ls C hr hnm hw hl
  have hx := C.1
  have hb := C.2.1
  have hown := C.2.2.2.1
  have hts := C.2.2.2.2.1
  have hl : lv_has ls 2 [(0, .ref (gb G + o))] := hl
  unfold f_X5_forget at hf
  revert hf
  refine k_req (fun k0 hf => ?_)
  refine lv_aload_n hx hb dX5_forget_0 rfl (lv_at hl 0 rfl) ?_
  refine lv_iconst (v := (0 : Int32)) hx hb dX5_forget_1 (by decide) ?_
  revert hf
  refine k_stp (fun U1 eU1 hf => ?_)
  refine pf_X5_133 C hw k0 eU1 dX5_forget_2 (fun H locs hw => ?_)
  refine lv_aload_n hx hb dX5_forget_5 rfl (lv_at hl 0 rfl) ?_
  revert hf
  refine k_drf (fun r2 er2 hf => ?_)
  refine gf_X5_13 C hw k0 er2 dX5_forget_6 ?_
  refine lv_iconst (v := (1 : Int32)) hx hb dX5_forget_9 (by decide) ?_
  revert hf
  refine k_req (fun h3 hf => ?_)
  refine w_iald C hw h3 rfl dX5_forget_10 ?_
  revert hf
  refine k_stp (fun z4 ez4 hf => ?_)
  refine w_nmI ez4 ?_
  refine lv_istore_n (lv' := [(1, .int z4), (0, .ref (gb G + o))]) hx hb dX5_forget_11 rfl hl (by decide) rfl (fun ls hl => ?_)
  refine lv_aload_n hx hb dX5_forget_12 rfl (lv_at hl 1 rfl) ?_
  revert hf
  refine k_drf (fun r5 er5 hf => ?_)
  refine gf_X5_13 C hw k0 er5 dX5_forget_13 ?_
  refine lv_iconst (v := (1 : Int32)) hx hb dX5_forget_16 (by decide) ?_
  refine lv_iconst (v := (0 : Int32)) hx hb dX5_forget_17 (by decide) ?_
  revert hf
  refine k_req (fun h6 hf => ?_)
  revert hf
  refine k_stp (fun U7 eU7 hf => ?_)
  refine w_iast C hw h6 eU7 dX5_forget_18 (fun H locs hw => ?_)
  refine lv_iload_n hx hb dX5_forget_19 rfl (lv_at hl 0 rfl) ?_
  cases hf
  exact w_iret C hr hw dX5_forget_20
set_option maxHeartbeats 4000000 in
theorem jk_X5_tasteOf_34 {l : Launch} {G : gG} {p : Program} {e : Env} {s : State} {m : MethodId} {args : Array Value} {below : List Frame} {meth : Method} {c : Code} {T : Tt} {V0 : Vt} {r : Int32} (C : Cx G p s m args meth c cX5_tasteOf RX5 4) (hr : meth.sig.returnType = (some .int)) {s0 : Int32} {H : Heap} {locs : List Loc} {ls : Array Slot} (hf : f_X5_tasteOf_J34 T V0 s0 = some r) (hw : wS G V0 T H locs) (hl : lv_has ls 4 []) : W p l e (rmL 4 0 0) s m args below meth c H locs 0 0 (eQ G below (some (.int r)) V0 T args s 0 0) (F0 m 34 ls [.int s0]) := by
  have hx := C.1
  have hb := C.2.1
  have hown := C.2.2.2.1
  have hts := C.2.2.2.2.1
  unfold f_X5_tasteOf_J34 at hf
  refine lv_istore_n (lv' := [(3, .int s0)]) hx hb dX5_tasteOf_34 rfl hl (by decide) rfl (fun ls hl => ?_)
  refine lv_iload_n hx hb dX5_tasteOf_35 rfl (lv_at hl 0 rfl) ?_
  refine lv_iconst (v := ((-1) : Int32)) hx hb dX5_tasteOf_36 (by decide) ?_
  refine lv_icmp_ne (tgt := 46) hx hb dX5_tasteOf_37 (by decide) (fun c5 => ?_) (fun c5 => ?_)
  · replace hf := ite_f c5 hf
    refine lv_iload_n hx hb dX5_tasteOf_46 rfl (lv_at hl 0 rfl) ?_
    cases hf
    exact w_iret C hr hw dX5_tasteOf_47
  · replace hf := ite_t c5 hf
    refine lv_sipush (v := (999 : Int32)) hx hb dX5_tasteOf_40 (by decide) ?_
    refine lv_goto (tgt := 47) hx hb dX5_tasteOf_43 (by decide) ?_
    cases hf
    exact w_iret C hr hw dX5_tasteOf_47
set_option maxHeartbeats 4000000 in
theorem ok_X5_tasteOf {l : Launch} {G : gG} {T : Tt} {V0 : Vt} {o : Nat} {a0 : Int32} {a1 : Int32} {r : Int32} (hf : f_X5_tasteOf T V0 o a0 a1 = some r) : okM l G yX5_tasteOf cX5_tasteOf 4 (some .int) 4 [.ref (gb G + o), .int a0, .int a1] V0 T (some (.int r)) V0 T 0 0 := by
  refine ok_intro (by decide) (Nat.le_of_ble_eq_true rfl) ?_
  intro p e s m below meth c ls C hr hnm hw hl
  have hx := C.1
  have hb := C.2.1
  have hown := C.2.2.2.1
  have hts := C.2.2.2.2.1
  have hl : lv_has ls 4 [(0, .ref (gb G + o)), (1, .int a0), (2, .int a1)] := hl
  unfold f_X5_tasteOf at hf
  revert hf
  refine k_req (fun k0 hf => ?_)
  refine lv_iload_n hx hb dX5_tasteOf_0 rfl (lv_at hl 2 rfl) ?_
  refine lv_if_ne (tgt := 12) hx hb dX5_tasteOf_1 (by decide) (fun c1 => ?_) (fun c1 => ?_)
  · replace hf := ite_f c1 hf
    refine lv_iload_n hx hb dX5_tasteOf_12 rfl (lv_at hl 2 rfl) ?_
    refine lv_iconst (v := (1 : Int32)) hx hb dX5_tasteOf_13 (by decide) ?_
    refine lv_icmp_ne (tgt := 29) hx hb dX5_tasteOf_14 (by decide) (fun c2 => ?_) (fun c2 => ?_)
    · replace hf := ite_f c2 hf
      refine lv_aload_n hx hb dX5_tasteOf_29 rfl (lv_at hl 0 rfl) ?_
      refine lv_iload_n hx hb dX5_tasteOf_30 rfl (lv_at hl 1 rfl) ?_
      revert hf
      refine k_pcl (fun z4 h3 hf => ?_)
      refine w_afi hw (w_rV (As := [.int a0]) C hw (ok_X5_labelOf h3) (cw_X5_188 hts (Nat.le_of_ble_eq_true rfl) (Nat.le_of_ble_eq_true rfl)) rfl (by decide) (of_req h3).1 rfl hl.1 rfl (Nat.le_of_ble_eq_true rfl) ⟨Nat.zero_le _, Nat.zero_le _⟩ dX5_tasteOf_31) (fun H locs hw => ?_)
      exact jk_X5_tasteOf_34 C hr hf hw (lv_sub hl [] rfl)
    · replace hf := ite_t c2 hf
      refine lv_aload_n hx hb dX5_tasteOf_17 rfl (lv_at hl 0 rfl) ?_
      refine lv_iload_n hx hb dX5_tasteOf_18 rfl (lv_at hl 1 rfl) ?_
      revert hf
      refine k_pcl (fun z7 h6 hf => ?_)
      refine w_afi hw (w_rV (As := [.int a0]) C hw (ok_X5_allOf h6) (cw_X5_166 hts (Nat.le_of_ble_eq_true rfl) (Nat.le_of_ble_eq_true rfl)) rfl (by decide) (of_req h6).1 rfl hl.1 rfl (Nat.le_of_ble_eq_true rfl) ⟨Nat.zero_le _, Nat.zero_le _⟩ dX5_tasteOf_19) (fun H locs hw => ?_)
      refine lv_sipush (v := (1000 : Int32)) hx hb dX5_tasteOf_22 (by decide) ?_
      refine lv_idiv hx hb dX5_tasteOf_25 (by decide) ?_
      refine lv_goto (tgt := 34) hx hb dX5_tasteOf_26 (by decide) ?_
      exact jk_X5_tasteOf_34 C hr hf hw (lv_sub hl [] rfl)
  · replace hf := ite_t c1 hf
    refine lv_aload_n hx hb dX5_tasteOf_4 rfl (lv_at hl 0 rfl) ?_
    refine lv_iload_n hx hb dX5_tasteOf_5 rfl (lv_at hl 1 rfl) ?_
    revert hf
    refine k_pcl (fun z9 h8 hf => ?_)
    refine w_afi hw (w_rV (As := [.int a0]) C hw (ok_X5_wholeMean h8) (cw_X5_377 hts (Nat.le_of_ble_eq_true rfl) (Nat.le_of_ble_eq_true rfl)) rfl (by decide) (of_req h8).1 rfl hl.1 rfl (Nat.le_of_ble_eq_true rfl) ⟨Nat.zero_le _, Nat.zero_le _⟩ dX5_tasteOf_6) (fun H locs hw => ?_)
    refine lv_goto (tgt := 34) hx hb dX5_tasteOf_9 (by decide) ?_
    exact jk_X5_tasteOf_34 C hr hf hw (lv_sub hl [] rfl)
set_option maxHeartbeats 4000000 in
theorem jk_X5_thatCanBe_94 {l : Launch} {G : gG} {p : Program} {e : Env} {s : State} {m : MethodId} {args : Array Value} {below : List Frame} {meth : Method} {c : Code} {T : Tt} {V0 : Vt} {r : Int32} (C : Cx G p s m args meth c cX5_thatCanBe RX5 5) (hr : meth.sig.returnType = (some .int)) {x0 : Nat} {x2 : Int32} {s0 : Int32} {s1 : Int32} {kc4 : Int32 → Int32 → Option (Int32)} {kx4_102 : Int32 → Option (Int32)} {H : Heap} {locs : List Loc} {ls : Array Slot} (k0 : T.1 x0 = 6) (hf : f_X5_thatCanBe_J94 T V0 x0 x2 s0 s1 kc4 kx4_102 = some r) (hw : wS G V0 T H locs) (hl : lv_has ls 5 [(0, .ref (gb G + x0)), (2, .int x2)]) (hkc4 : ∀ (y1 : Int32) (y2 : Int32) (H : Heap) (locs : List Loc) (ls : Array Slot), kc4 y1 y2 = some r → wS G V0 T H locs → lv_has ls 5 [(0, .ref (gb G + x0)), (1, .int y1), (2, .int y2)] → W p l e (rmL 5 0 0) s m args below meth c H locs 0 0 (eQ G below (some (.int r)) V0 T args s 0 0) (F0 m 4 ls [])) (hkx4_102 : ∀ (y1 : Int32) (H : Heap) (locs : List Loc) (ls : Array Slot), kx4_102 y1 = some r → wS G V0 T H locs → lv_has ls 5 [(1, .int y1)] → W p l e (rmL 5 0 0) s m args below meth c H locs 0 0 (eQ G below (some (.int r)) V0 T args s 0 0) (F0 m 102 ls [])) : W p l e (rmL 5 0 0) s m args below meth c H locs 0 0 (eQ G below (some (.int r)) V0 T args s 0 0) (F0 m 94 ls [.int s1, .int s0]) := by
  have hx := C.1
  have hb := C.2.1
  have hown := C.2.2.2.1
  have hts := C.2.2.2.2.1
  unfold f_X5_thatCanBe_J94 at hf
  refine lv_ior hx hb dX5_thatCanBe_94 ?_
  revert hf
  refine k_stp (fun z18 ez18 hf => ?_)
  refine w_nmI ez18 ?_
  refine lv_istore_n (lv' := [(1, .int z18), (0, .ref (gb G + x0)), (2, .int x2)]) hx hb dX5_thatCanBe_95 rfl hl (by decide) rfl (fun ls hl => ?_)
  revert hf
  refine k_stp (fun z19 ez19 hf => ?_)
  refine lv_iinc (k := 2) (lv' := [(2, .int z19), (1, .int z18), (0, .ref (gb G + x0))]) hx hb dX5_thatCanBe_96 hl rfl (inc_e (by decide) ez19) (by decide) rfl (fun ls hl => ?_)
  refine lv_goto (tgt := 4) hx hb dX5_thatCanBe_99 (by decide) ?_
  exact hkc4 _ _ _ _ _ hf hw (lv_sub hl [2, 1, 0] rfl)
set_option maxHeartbeats 4000000 in
theorem jk_X5_thatCanBe_75 {l : Launch} {G : gG} {p : Program} {e : Env} {s : State} {m : MethodId} {args : Array Value} {below : List Frame} {meth : Method} {c : Code} {T : Tt} {V0 : Vt} {r : Int32} (C : Cx G p s m args meth c cX5_thatCanBe RX5 5) (hr : meth.sig.returnType = (some .int)) {x0 : Nat} {x1 : Int32} {x2 : Int32} {x4 : Int32} {s0 : Int32} {kc4 : Int32 → Int32 → Option (Int32)} {kx4_102 : Int32 → Option (Int32)} {kc19 : Int32 → Int32 → Option (Int32)} {kx19_82 : Int32 → Option (Int32)} {H : Heap} {locs : List Loc} {ls : Array Slot} (k0 : T.1 x0 = 6) (hf : f_X5_thatCanBe_J75 T V0 x0 x1 x2 x4 s0 kc4 kx4_102 kc19 kx19_82 = some r) (hw : wS G V0 T H locs) (hl : lv_has ls 5 [(0, .ref (gb G + x0)), (1, .int x1), (2, .int x2), (4, .int x4)]) (hkc4 : ∀ (y1 : Int32) (y2 : Int32) (H : Heap) (locs : List Loc) (ls : Array Slot), kc4 y1 y2 = some r → wS G V0 T H locs → lv_has ls 5 [(0, .ref (gb G + x0)), (1, .int y1), (2, .int y2)] → W p l e (rmL 5 0 0) s m args below meth c H locs 0 0 (eQ G below (some (.int r)) V0 T args s 0 0) (F0 m 4 ls [])) (hkx4_102 : ∀ (y1 : Int32) (H : Heap) (locs : List Loc) (ls : Array Slot), kx4_102 y1 = some r → wS G V0 T H locs → lv_has ls 5 [(1, .int y1)] → W p l e (rmL 5 0 0) s m args below meth c H locs 0 0 (eQ G below (some (.int r)) V0 T args s 0 0) (F0 m 102 ls [])) (hkc19 : ∀ (y3 : Int32) (y4 : Int32) (H : Heap) (locs : List Loc) (ls : Array Slot), kc19 y3 y4 = some r → wS G V0 T H locs → lv_has ls 5 [(0, .ref (gb G + x0)), (1, .int x1), (2, .int x2), (3, .int y3), (4, .int y4)] → W p l e (rmL 5 0 0) s m args below meth c H locs 0 0 (eQ G below (some (.int r)) V0 T args s 0 0) (F0 m 19 ls [])) (hkx19_82 : ∀ (y3 : Int32) (H : Heap) (locs : List Loc) (ls : Array Slot), kx19_82 y3 = some r → wS G V0 T H locs → lv_has ls 5 [(0, .ref (gb G + x0)), (1, .int x1), (2, .int x2), (3, .int y3)] → W p l e (rmL 5 0 0) s m args below meth c H locs 0 0 (eQ G below (some (.int r)) V0 T args s 0 0) (F0 m 82 ls [])) : W p l e (rmL 5 0 0) s m args below meth c H locs 0 0 (eQ G below (some (.int r)) V0 T args s 0 0) (F0 m 75 ls [.int s0]) := by
  have hx := C.1
  have hb := C.2.1
  have hown := C.2.2.2.1
  have hts := C.2.2.2.2.1
  unfold f_X5_thatCanBe_J75 at hf
  refine lv_istore_n (lv' := [(3, .int s0), (0, .ref (gb G + x0)), (1, .int x1), (2, .int x2), (4, .int x4)]) hx hb dX5_thatCanBe_75 rfl hl (by decide) rfl (fun ls hl => ?_)
  revert hf
  refine k_stp (fun z8 ez8 hf => ?_)
  refine lv_iinc (k := 4) (lv' := [(4, .int z8), (3, .int s0), (0, .ref (gb G + x0)), (1, .int x1), (2, .int x2)]) hx hb dX5_thatCanBe_76 hl rfl (inc_e (by decide) ez8) (by decide) rfl (fun ls hl => ?_)
  refine lv_goto (tgt := 19) hx hb dX5_thatCanBe_79 (by decide) ?_
  exact hkc19 _ _ _ _ _ hf hw (lv_sub hl [2, 3, 4, 1, 0] rfl)
set_option maxHeartbeats 4000000 in
theorem jk_X5_thatCanBe_74 {l : Launch} {G : gG} {p : Program} {e : Env} {s : State} {m : MethodId} {args : Array Value} {below : List Frame} {meth : Method} {c : Code} {T : Tt} {V0 : Vt} {r : Int32} (C : Cx G p s m args meth c cX5_thatCanBe RX5 5) (hr : meth.sig.returnType = (some .int)) {x0 : Nat} {x1 : Int32} {x2 : Int32} {x4 : Int32} {kc4 : Int32 → Int32 → Option (Int32)} {kx4_102 : Int32 → Option (Int32)} {kc19 : Int32 → Int32 → Option (Int32)} {kx19_82 : Int32 → Option (Int32)} {H : Heap} {locs : List Loc} {ls : Array Slot} (k0 : T.1 x0 = 6) (hf : f_X5_thatCanBe_J74 T V0 x0 x1 x2 x4 kc4 kx4_102 kc19 kx19_82 = some r) (hw : wS G V0 T H locs) (hl : lv_has ls 5 [(0, .ref (gb G + x0)), (1, .int x1), (2, .int x2), (4, .int x4)]) (hkc4 : ∀ (y1 : Int32) (y2 : Int32) (H : Heap) (locs : List Loc) (ls : Array Slot), kc4 y1 y2 = some r → wS G V0 T H locs → lv_has ls 5 [(0, .ref (gb G + x0)), (1, .int y1), (2, .int y2)] → W p l e (rmL 5 0 0) s m args below meth c H locs 0 0 (eQ G below (some (.int r)) V0 T args s 0 0) (F0 m 4 ls [])) (hkx4_102 : ∀ (y1 : Int32) (H : Heap) (locs : List Loc) (ls : Array Slot), kx4_102 y1 = some r → wS G V0 T H locs → lv_has ls 5 [(1, .int y1)] → W p l e (rmL 5 0 0) s m args below meth c H locs 0 0 (eQ G below (some (.int r)) V0 T args s 0 0) (F0 m 102 ls [])) (hkc19 : ∀ (y3 : Int32) (y4 : Int32) (H : Heap) (locs : List Loc) (ls : Array Slot), kc19 y3 y4 = some r → wS G V0 T H locs → lv_has ls 5 [(0, .ref (gb G + x0)), (1, .int x1), (2, .int x2), (3, .int y3), (4, .int y4)] → W p l e (rmL 5 0 0) s m args below meth c H locs 0 0 (eQ G below (some (.int r)) V0 T args s 0 0) (F0 m 19 ls [])) (hkx19_82 : ∀ (y3 : Int32) (H : Heap) (locs : List Loc) (ls : Array Slot), kx19_82 y3 = some r → wS G V0 T H locs → lv_has ls 5 [(0, .ref (gb G + x0)), (1, .int x1), (2, .int x2), (3, .int y3)] → W p l e (rmL 5 0 0) s m args below meth c H locs 0 0 (eQ G below (some (.int r)) V0 T args s 0 0) (F0 m 82 ls [])) : W p l e (rmL 5 0 0) s m args below meth c H locs 0 0 (eQ G below (some (.int r)) V0 T args s 0 0) (F0 m 74 ls []) := by
  have hx := C.1
  have hb := C.2.1
  have hown := C.2.2.2.1
  have hts := C.2.2.2.2.1
  unfold f_X5_thatCanBe_J74 at hf
  refine lv_iconst (v := (0 : Int32)) hx hb dX5_thatCanBe_74 (by decide) ?_
  exact jk_X5_thatCanBe_75 C hr k0 hf hw (lv_sub hl [0, 1, 2, 3] rfl) hkc4 hkx4_102 hkc19 hkx19_82
set_option maxHeartbeats 4000000 in
theorem lk_X5_thatCanBe_19 {l : Launch} {G : gG} {p : Program} {e : Env} {s : State} {m : MethodId} {args : Array Value} {below : List Frame} {meth : Method} {c : Code} {T : Tt} {V0 : Vt} {r : Int32} (C : Cx G p s m args meth c cX5_thatCanBe RX5 5) (hr : meth.sig.returnType = (some .int)) {x0 : Nat} {x1 : Int32} {x2 : Int32} {kc4 : Int32 → Int32 → Option (Int32)} {kx4_102 : Int32 → Option (Int32)} {kx19_82 : Int32 → Option (Int32)} (k0 : T.1 x0 = 6) (hkc4 : ∀ (y1 : Int32) (y2 : Int32) (H : Heap) (locs : List Loc) (ls : Array Slot), kc4 y1 y2 = some r → wS G V0 T H locs → lv_has ls 5 [(0, .ref (gb G + x0)), (1, .int y1), (2, .int y2)] → W p l e (rmL 5 0 0) s m args below meth c H locs 0 0 (eQ G below (some (.int r)) V0 T args s 0 0) (F0 m 4 ls [])) (hkx4_102 : ∀ (y1 : Int32) (H : Heap) (locs : List Loc) (ls : Array Slot), kx4_102 y1 = some r → wS G V0 T H locs → lv_has ls 5 [(1, .int y1)] → W p l e (rmL 5 0 0) s m args below meth c H locs 0 0 (eQ G below (some (.int r)) V0 T args s 0 0) (F0 m 102 ls [])) (hkx19_82 : ∀ (y3 : Int32) (H : Heap) (locs : List Loc) (ls : Array Slot), kx19_82 y3 = some r → wS G V0 T H locs → lv_has ls 5 [(0, .ref (gb G + x0)), (1, .int x1), (2, .int x2), (3, .int y3)] → W p l e (rmL 5 0 0) s m args below meth c H locs 0 0 (eQ G below (some (.int r)) V0 T args s 0 0) (F0 m 82 ls [])) : ∀ (n : Nat) (x3 : Int32) (x4 : Int32) (H : Heap) (locs : List Loc) (ls : Array Slot), f_X5_thatCanBe_L19 T V0 x0 x1 x2 kc4 kx4_102 kx19_82 n x3 x4 = some r → wS G V0 T H locs → lv_has ls 5 [(0, .ref (gb G + x0)), (1, .int x1), (2, .int x2), (3, .int x3), (4, .int x4)] → W p l e (rmL 5 0 0) s m args below meth c H locs 0 0 (eQ G below (some (.int r)) V0 T args s 0 0) (F0 m 19 ls []) := by
  have hx := C.1
  have hb := C.2.1
  have hown := C.2.2.2.1
  have hts := C.2.2.2.2.1
  intro n
  induction n with
  | zero =>
    intro x3 x4 H locs ls hf
    cases hf
  | succ n ih =>
    intro x3 x4 H locs ls hf hw hl
    unfold f_X5_thatCanBe_L19 at hf
    refine lv_iload hx hb dX5_thatCanBe_19 (lv_at hl 4 rfl) ?_
    refine lv_aload_n hx hb dX5_thatCanBe_21 rfl (lv_at hl 0 rfl) ?_
    revert hf
    refine k_drf (fun r4 er4 hf => ?_)
    refine gf_X5_13 C hw k0 er4 dX5_thatCanBe_22 ?_
    refine lv_iconst (v := (1 : Int32)) hx hb dX5_thatCanBe_25 (by decide) ?_
    revert hf
    refine k_req (fun h5 hf => ?_)
    refine w_iald C hw h5 rfl dX5_thatCanBe_26 ?_
    refine lv_icmp_ge (tgt := 82) hx hb dX5_thatCanBe_27 (by decide) (fun c6 => ?_) (fun c6 => ?_)
    · replace hf := ite_t c6 hf
      exact hkx19_82 _ _ _ _ hf hw (lv_sub hl [0, 1, 2, 3] rfl)
    · replace hf := ite_f c6 hf
      refine lv_iload_n hx hb dX5_thatCanBe_30 rfl (lv_at hl 3 rfl) ?_
      refine lv_if_eq (tgt := 74) hx hb dX5_thatCanBe_31 (by decide) (fun c7 => ?_) (fun c7 => ?_)
      · replace hf := ite_t c7 hf
        exact jk_X5_thatCanBe_74 C hr k0 hf hw (lv_sub hl [0, 1, 2, 4] rfl) hkc4 hkx4_102 ih hkx19_82
      · replace hf := ite_f c7 hf
        refine lv_aload_n hx hb dX5_thatCanBe_34 rfl (lv_at hl 0 rfl) ?_
        refine lv_iload_n hx hb dX5_thatCanBe_35 rfl (lv_at hl 2 rfl) ?_
        refine lv_aload_n hx hb dX5_thatCanBe_36 rfl (lv_at hl 0 rfl) ?_
        revert hf
        refine k_drf (fun r9 er9 hf => ?_)
        refine gf_X5_13 C hw k0 er9 dX5_thatCanBe_37 ?_
        refine lv_sipush (v := (186 : Int32)) hx hb dX5_thatCanBe_40 (by decide) ?_
        refine lv_iconst (v := (2 : Int32)) hx hb dX5_thatCanBe_43 (by decide) ?_
        refine lv_iload hx hb dX5_thatCanBe_44 (lv_at hl 4 rfl) ?_
        refine lv_imul hx hb dX5_thatCanBe_46 ?_
        refine lv_iadd hx hb dX5_thatCanBe_47 ?_
        revert hf
        refine k_req (fun h10 hf => ?_)
        refine w_iald C hw h10 rfl dX5_thatCanBe_48 ?_
        revert hf
        refine k_pcl (fun z12 h11 hf => ?_)
        refine w_afi hw (w_rV (As := [.int x2, .int (V0.1 r9 (ixN ((186 : Int32) + ((2 : Int32) * x4))))]) C hw (ok_X5_tasteOf h11) (cw_X5_543 hts (Nat.le_of_ble_eq_true rfl) (Nat.le_of_ble_eq_true rfl)) rfl (by decide) (of_req h11).1 rfl hl.1 rfl (Nat.le_of_ble_eq_true rfl) ⟨Nat.zero_le _, Nat.zero_le _⟩ dX5_thatCanBe_49) (fun H locs hw => ?_)
        refine lv_aload_n hx hb dX5_thatCanBe_52 rfl (lv_at hl 0 rfl) ?_
        revert hf
        refine k_drf (fun r13 er13 hf => ?_)
        refine gf_X5_13 C hw k0 er13 dX5_thatCanBe_53 ?_
        refine lv_sipush (v := (186 : Int32)) hx hb dX5_thatCanBe_56 (by decide) ?_
        refine lv_iconst (v := (2 : Int32)) hx hb dX5_thatCanBe_59 (by decide) ?_
        refine lv_iload hx hb dX5_thatCanBe_60 (lv_at hl 4 rfl) ?_
        refine lv_imul hx hb dX5_thatCanBe_62 ?_
        refine lv_iadd hx hb dX5_thatCanBe_63 ?_
        refine lv_iconst (v := (1 : Int32)) hx hb dX5_thatCanBe_64 (by decide) ?_
        refine lv_iadd hx hb dX5_thatCanBe_65 ?_
        revert hf
        refine k_req (fun h14 hf => ?_)
        refine w_iald C hw h14 rfl dX5_thatCanBe_66 ?_
        refine lv_icmp_ne (tgt := 74) hx hb dX5_thatCanBe_67 (by decide) (fun c15 => ?_) (fun c15 => ?_)
        · replace hf := ite_f c15 hf
          exact jk_X5_thatCanBe_74 C hr k0 hf hw (lv_sub hl [0, 1, 2, 4] rfl) hkc4 hkx4_102 ih hkx19_82
        · replace hf := ite_t c15 hf
          refine lv_iconst (v := (1 : Int32)) hx hb dX5_thatCanBe_70 (by decide) ?_
          refine lv_goto (tgt := 75) hx hb dX5_thatCanBe_71 (by decide) ?_
          exact jk_X5_thatCanBe_75 C hr k0 hf hw (lv_sub hl [0, 1, 2, 4] rfl) hkc4 hkx4_102 ih hkx19_82
set_option maxHeartbeats 4000000 in
theorem lk_X5_thatCanBe_4 {l : Launch} {G : gG} {p : Program} {e : Env} {s : State} {m : MethodId} {args : Array Value} {below : List Frame} {meth : Method} {c : Code} {T : Tt} {V0 : Vt} {r : Int32} (C : Cx G p s m args meth c cX5_thatCanBe RX5 5) (hr : meth.sig.returnType = (some .int)) {x0 : Nat} {kx4_102 : Int32 → Option (Int32)} (k0 : T.1 x0 = 6) (hkx4_102 : ∀ (y1 : Int32) (H : Heap) (locs : List Loc) (ls : Array Slot), kx4_102 y1 = some r → wS G V0 T H locs → lv_has ls 5 [(1, .int y1)] → W p l e (rmL 5 0 0) s m args below meth c H locs 0 0 (eQ G below (some (.int r)) V0 T args s 0 0) (F0 m 102 ls [])) : ∀ (n : Nat) (x1 : Int32) (x2 : Int32) (H : Heap) (locs : List Loc) (ls : Array Slot), f_X5_thatCanBe_L4 T V0 x0 kx4_102 n x1 x2 = some r → wS G V0 T H locs → lv_has ls 5 [(0, .ref (gb G + x0)), (1, .int x1), (2, .int x2)] → W p l e (rmL 5 0 0) s m args below meth c H locs 0 0 (eQ G below (some (.int r)) V0 T args s 0 0) (F0 m 4 ls []) := by
  have hx := C.1
  have hb := C.2.1
  have hown := C.2.2.2.1
  have hts := C.2.2.2.2.1
  intro n
  induction n with
  | zero =>
    intro x1 x2 H locs ls hf
    cases hf
  | succ n ih =>
    intro x1 x2 H locs ls hf hw hl
    unfold f_X5_thatCanBe_L4 at hf
    refine lv_iload_n hx hb dX5_thatCanBe_4 rfl (lv_at hl 2 rfl) ?_
    refine lv_aload_n hx hb dX5_thatCanBe_5 rfl (lv_at hl 0 rfl) ?_
    revert hf
    refine k_drf (fun r1 er1 hf => ?_)
    refine gf_X5_13 C hw k0 er1 dX5_thatCanBe_6 ?_
    refine lv_iconst (v := (0 : Int32)) hx hb dX5_thatCanBe_9 (by decide) ?_
    revert hf
    refine k_req (fun h2 hf => ?_)
    refine w_iald C hw h2 rfl dX5_thatCanBe_10 ?_
    refine lv_icmp_ge (tgt := 102) hx hb dX5_thatCanBe_11 (by decide) (fun c3 => ?_) (fun c3 => ?_)
    · replace hf := ite_t c3 hf
      exact hkx4_102 _ _ _ _ hf hw (lv_sub hl [1] rfl)
    · replace hf := ite_f c3 hf
      refine lv_iconst (v := (1 : Int32)) hx hb dX5_thatCanBe_14 (by decide) ?_
      refine lv_istore_n (lv' := [(3, .int (1 : Int32)), (0, .ref (gb G + x0)), (1, .int x1), (2, .int x2)]) hx hb dX5_thatCanBe_15 rfl hl (by decide) rfl (fun ls hl => ?_)
      refine lv_iconst (v := (0 : Int32)) hx hb dX5_thatCanBe_16 (by decide) ?_
      refine lv_istore (lv' := [(4, .int (0 : Int32)), (3, .int (1 : Int32)), (0, .ref (gb G + x0)), (1, .int x1), (2, .int x2)]) hx hb dX5_thatCanBe_17 hl (by decide) rfl (fun ls hl => ?_)
      refine lk_X5_thatCanBe_19 C hr k0 ih hkx4_102 (fun z16 H locs ls hf hw hl => ?_) fuel _ _ _ _ _ hf hw (lv_sub hl [2, 3, 4, 1, 0] rfl)
      refine lv_iload_n hx hb dX5_thatCanBe_82 rfl (lv_at hl 1 rfl) ?_
      refine lv_iload_n hx hb dX5_thatCanBe_83 rfl (lv_at hl 3 rfl) ?_
      refine lv_if_eq (tgt := 93) hx hb dX5_thatCanBe_84 (by decide) (fun c17 => ?_) (fun c17 => ?_)
      · replace hf := ite_t c17 hf
        refine lv_iconst (v := (0 : Int32)) hx hb dX5_thatCanBe_93 (by decide) ?_
        exact jk_X5_thatCanBe_94 C hr k0 hf hw (lv_sub hl [0, 2] rfl) ih hkx4_102
      · replace hf := ite_f c17 hf
        refine lv_iconst (v := (1 : Int32)) hx hb dX5_thatCanBe_87 (by decide) ?_
        refine lv_iload_n hx hb dX5_thatCanBe_88 rfl (lv_at hl 2 rfl) ?_
        refine lv_ishl hx hb dX5_thatCanBe_89 ?_
        refine lv_goto (tgt := 94) hx hb dX5_thatCanBe_90 (by decide) ?_
        exact jk_X5_thatCanBe_94 C hr k0 hf hw (lv_sub hl [0, 2] rfl) ih hkx4_102
set_option maxHeartbeats 4000000 in
theorem ok_X5_thatCanBe {l : Launch} {G : gG} {T : Tt} {V0 : Vt} {o : Nat} {r : Int32} (hf : f_X5_thatCanBe T V0 o = some r) : okM l G yX5_thatCanBe cX5_thatCanBe 5 (some .int) 5 [.ref (gb G + o)] V0 T (some (.int r)) V0 T 0 0 := by
  refine ok_intro (by decide) (Nat.le_of_ble_eq_true rfl) ?_
  intro p e s m below meth c ls C hr hnm hw hl
  have hx := C.1
  have hb := C.2.1
  have hown := C.2.2.2.1
  have hts := C.2.2.2.2.1
  have hl : lv_has ls 5 [(0, .ref (gb G + o))] := hl
  unfold f_X5_thatCanBe at hf
  revert hf
  refine k_req (fun k0 hf => ?_)
  refine lv_iconst (v := (0 : Int32)) hx hb dX5_thatCanBe_0 (by decide) ?_
  refine lv_istore_n (lv' := [(1, .int (0 : Int32)), (0, .ref (gb G + o))]) hx hb dX5_thatCanBe_1 rfl hl (by decide) rfl (fun ls hl => ?_)
  refine lv_iconst (v := (0 : Int32)) hx hb dX5_thatCanBe_2 (by decide) ?_
  refine lv_istore_n (lv' := [(2, .int (0 : Int32)), (1, .int (0 : Int32)), (0, .ref (gb G + o))]) hx hb dX5_thatCanBe_3 rfl hl (by decide) rfl (fun ls hl => ?_)
  refine lk_X5_thatCanBe_4 C hr k0 (fun z20 H locs ls hf hw hl => ?_) fuel _ _ _ _ _ hf hw (lv_sub hl [2, 1, 0] rfl)
  refine lv_iload_n hx hb dX5_thatCanBe_102 rfl (lv_at hl 0 rfl) ?_
  cases hf
  exact w_iret C hr hw dX5_thatCanBe_103
set_option maxHeartbeats 4000000 in
theorem ok_X5_canBe {l : Launch} {G : gG} {T : Tt} {V0 : Vt} {o : Nat} {r : Int32} {V' : Vt} (hf : f_X5_canBe T V0 o = some (r, V')) : okM l G yX5_canBe cX5_canBe 1 (some .int) 6 [.ref (gb G + o)] V0 T (some (.int r)) V' T 0 0 := by
  refine ok_intro (by decide) (Nat.le_of_ble_eq_true rfl) ?_
  intro p e s m below meth c ls C hr hnm hw hl
  have hx := C.1
  have hb := C.2.1
  have hown := C.2.2.2.1
  have hts := C.2.2.2.2.1
  have hl : lv_has ls 1 [(0, .ref (gb G + o))] := hl
  unfold f_X5_canBe at hf
  revert hf
  refine k_req (fun k0 hf => ?_)
  refine lv_aload_n hx hb dX5_canBe_0 rfl (lv_at hl 0 rfl) ?_
  refine lv_iconst (v := (0 : Int32)) hx hb dX5_canBe_1 (by decide) ?_
  revert hf
  refine k_stp (fun U1 eU1 hf => ?_)
  refine pf_X5_133 C hw k0 eU1 dX5_canBe_2 (fun H locs hw => ?_)
  refine lv_aload_n hx hb dX5_canBe_5 rfl (lv_at hl 0 rfl) ?_
  revert hf
  refine k_pcl (fun z3 h2 hf => ?_)
  refine w_afi hw (w_rV (As := []) C hw (ok_X5_thatCanBe h2) (cw_X5_546 hts (Nat.le_of_ble_eq_true rfl) (Nat.le_of_ble_eq_true rfl)) rfl (by decide) (of_req h2).1 rfl hl.1 rfl (Nat.le_of_ble_eq_true rfl) ⟨Nat.zero_le _, Nat.zero_le _⟩ dX5_canBe_6) (fun H locs hw => ?_)
  cases hf
  exact w_iret C hr hw dX5_canBe_9
set_option maxHeartbeats 4000000 in
theorem ok_X5_is {l : Launch} {G : gG} {T : Tt} {V0 : Vt} {a0 : Int32} {a1 : Int32} {r : Int32} (hf : f_X5_is T V0 a0 a1 = some r) : okM l G yX5_is cX5_is 2 (some .boolean) 0 [.int a0, .int a1] V0 T (some (.int r)) V0 T 0 0 := by
  refine ok_intro (by decide) (Nat.le_of_ble_eq_true rfl) ?_
  intro p e s m below meth c ls C hr hnm hw hl
  have hx := C.1
  have hb := C.2.1
  have hown := C.2.2.2.1
  have hts := C.2.2.2.2.1
  have hl : lv_has ls 2 [(0, .int a0), (1, .int a1)] := hl
  unfold f_X5_is at hf
  refine lv_iload_n hx hb dX5_is_0 rfl (lv_at hl 0 rfl) ?_
  refine lv_iload_n hx hb dX5_is_1 rfl (lv_at hl 1 rfl) ?_
  refine lv_ishr hx hb dX5_is_2 ?_
  refine lv_iconst (v := (1 : Int32)) hx hb dX5_is_3 (by decide) ?_
  refine lv_iand hx hb dX5_is_4 ?_
  refine lv_iconst (v := (1 : Int32)) hx hb dX5_is_5 (by decide) ?_
  refine lv_icmp_ne (tgt := 13) hx hb dX5_is_6 (by decide) (fun c1 => ?_) (fun c1 => ?_)
  · replace hf := ite_f c1 hf
    refine lv_iconst (v := (0 : Int32)) hx hb dX5_is_13 (by decide) ?_
    cases hf
    exact w_zret C hr hw (by decide) dX5_is_14
  · replace hf := ite_t c1 hf
    refine lv_iconst (v := (1 : Int32)) hx hb dX5_is_9 (by decide) ?_
    refine lv_goto (tgt := 14) hx hb dX5_is_10 (by decide) ?_
    cases hf
    exact w_zret C hr hw (by decide) dX5_is_14
set_option maxHeartbeats 4000000 in
theorem jk_X5_mostAlike_96 {l : Launch} {G : gG} {p : Program} {e : Env} {s : State} {m : MethodId} {args : Array Value} {below : List Frame} {meth : Method} {c : Code} {T : Tt} {V0 : Vt} {r : Int32} (C : Cx G p s m args meth c cX5_mostAlike RX5 7) (hr : meth.sig.returnType = (some .int)) {x0 : Nat} {x1 : Int32} {x2 : Int32} {x4 : Int32} {s0 : Int32} {kc5 : Int32 → Int32 → Option (Int32)} {kx5_103 : Int32 → Option (Int32)} {H : Heap} {locs : List Loc} {ls : Array Slot} (k0 : T.1 x0 = 6) (hf : f_X5_mostAlike_J96 T V0 x0 x1 x2 x4 s0 kc5 kx5_103 = some r) (hw : wS G V0 T H locs) (hl : lv_has ls 7 [(0, .ref (gb G + x0)), (1, .int x1), (2, .int x2), (4, .int x4)]) (hkc5 : ∀ (y3 : Int32) (y4 : Int32) (H : Heap) (locs : List Loc) (ls : Array Slot), kc5 y3 y4 = some r → wS G V0 T H locs → lv_has ls 7 [(0, .ref (gb G + x0)), (1, .int x1), (2, .int x2), (3, .int y3), (4, .int y4)] → W p l e (rmL 5 0 0) s m args below meth c H locs 0 0 (eQ G below (some (.int r)) V0 T args s 0 0) (F0 m 5 ls [])) (hkx5_103 : ∀ (y3 : Int32) (H : Heap) (locs : List Loc) (ls : Array Slot), kx5_103 y3 = some r → wS G V0 T H locs → lv_has ls 7 [(3, .int y3)] → W p l e (rmL 5 0 0) s m args below meth c H locs 0 0 (eQ G below (some (.int r)) V0 T args s 0 0) (F0 m 103 ls [])) : W p l e (rmL 5 0 0) s m args below meth c H locs 0 0 (eQ G below (some (.int r)) V0 T args s 0 0) (F0 m 96 ls [.int s0]) := by
  have hx := C.1
  have hb := C.2.1
  have hown := C.2.2.2.1
  have hts := C.2.2.2.2.1
  unfold f_X5_mostAlike_J96 at hf
  refine lv_istore_n (lv' := [(3, .int s0), (0, .ref (gb G + x0)), (1, .int x1), (2, .int x2), (4, .int x4)]) hx hb dX5_mostAlike_96 rfl hl (by decide) rfl (fun ls hl => ?_)
  revert hf
  refine k_stp (fun z22 ez22 hf => ?_)
  refine lv_iinc (k := 4) (lv' := [(4, .int z22), (3, .int s0), (0, .ref (gb G + x0)), (1, .int x1), (2, .int x2)]) hx hb dX5_mostAlike_97 hl rfl (inc_e (by decide) ez22) (by decide) rfl (fun ls hl => ?_)
  refine lv_goto (tgt := 5) hx hb dX5_mostAlike_100 (by decide) ?_
  exact hkc5 _ _ _ _ _ hf hw (lv_sub hl [2, 3, 4, 1, 0] rfl)
set_option maxHeartbeats 4000000 in
theorem jk_X5_mostAlike_75 {l : Launch} {G : gG} {p : Program} {e : Env} {s : State} {m : MethodId} {args : Array Value} {below : List Frame} {meth : Method} {c : Code} {T : Tt} {V0 : Vt} {r : Int32} (C : Cx G p s m args meth c cX5_mostAlike RX5 7) (hr : meth.sig.returnType = (some .int)) {x0 : Nat} {x1 : Int32} {x2 : Int32} {x3 : Int32} {x4 : Int32} {x6 : Int32} {s0 : Int32} {s1 : Int32} {kc5 : Int32 → Int32 → Option (Int32)} {kx5_103 : Int32 → Option (Int32)} {kc22 : Int32 → Int32 → Option (Int32)} {kx22_84 : Int32 → Option (Int32)} {H : Heap} {locs : List Loc} {ls : Array Slot} (k0 : T.1 x0 = 6) (hf : f_X5_mostAlike_J75 T V0 x0 x1 x2 x3 x4 x6 s0 s1 kc5 kx5_103 kc22 kx22_84 = some r) (hw : wS G V0 T H locs) (hl : lv_has ls 7 [(0, .ref (gb G + x0)), (1, .int x1), (2, .int x2), (3, .int x3), (4, .int x4), (6, .int x6)]) (hkc5 : ∀ (y3 : Int32) (y4 : Int32) (H : Heap) (locs : List Loc) (ls : Array Slot), kc5 y3 y4 = some r → wS G V0 T H locs → lv_has ls 7 [(0, .ref (gb G + x0)), (1, .int x1), (2, .int x2), (3, .int y3), (4, .int y4)] → W p l e (rmL 5 0 0) s m args below meth c H locs 0 0 (eQ G below (some (.int r)) V0 T args s 0 0) (F0 m 5 ls [])) (hkx5_103 : ∀ (y3 : Int32) (H : Heap) (locs : List Loc) (ls : Array Slot), kx5_103 y3 = some r → wS G V0 T H locs → lv_has ls 7 [(3, .int y3)] → W p l e (rmL 5 0 0) s m args below meth c H locs 0 0 (eQ G below (some (.int r)) V0 T args s 0 0) (F0 m 103 ls [])) (hkc22 : ∀ (y5 : Int32) (y6 : Int32) (H : Heap) (locs : List Loc) (ls : Array Slot), kc22 y5 y6 = some r → wS G V0 T H locs → lv_has ls 7 [(0, .ref (gb G + x0)), (1, .int x1), (2, .int x2), (3, .int x3), (4, .int x4), (5, .int y5), (6, .int y6)] → W p l e (rmL 5 0 0) s m args below meth c H locs 0 0 (eQ G below (some (.int r)) V0 T args s 0 0) (F0 m 22 ls [])) (hkx22_84 : ∀ (y5 : Int32) (H : Heap) (locs : List Loc) (ls : Array Slot), kx22_84 y5 = some r → wS G V0 T H locs → lv_has ls 7 [(0, .ref (gb G + x0)), (1, .int x1), (2, .int x2), (3, .int x3), (4, .int x4), (5, .int y5)] → W p l e (rmL 5 0 0) s m args below meth c H locs 0 0 (eQ G below (some (.int r)) V0 T args s 0 0) (F0 m 84 ls [])) : W p l e (rmL 5 0 0) s m args below meth c H locs 0 0 (eQ G below (some (.int r)) V0 T args s 0 0) (F0 m 75 ls [.int s1, .int s0]) := by
  have hx := C.1
  have hb := C.2.1
  have hown := C.2.2.2.1
  have hts := C.2.2.2.2.1
  unfold f_X5_mostAlike_J75 at hf
  refine lv_iadd hx hb dX5_mostAlike_75 ?_
  revert hf
  refine k_stp (fun z10 ez10 hf => ?_)
  refine w_nmI ez10 ?_
  refine lv_istore (lv' := [(5, .int z10), (0, .ref (gb G + x0)), (1, .int x1), (2, .int x2), (3, .int x3), (4, .int x4), (6, .int x6)]) hx hb dX5_mostAlike_76 hl (by decide) rfl (fun ls hl => ?_)
  revert hf
  refine k_stp (fun z11 ez11 hf => ?_)
  refine lv_iinc (k := 6) (lv' := [(6, .int z11), (5, .int z10), (0, .ref (gb G + x0)), (1, .int x1), (2, .int x2), (3, .int x3), (4, .int x4)]) hx hb dX5_mostAlike_78 hl rfl (inc_e (by decide) ez11) (by decide) rfl (fun ls hl => ?_)
  refine lv_goto (tgt := 22) hx hb dX5_mostAlike_81 (by decide) ?_
  exact hkc22 _ _ _ _ _ hf hw (lv_sub hl [2, 3, 4, 5, 6, 1, 0] rfl)
set_option maxHeartbeats 4000000 in
theorem jk_X5_mostAlike_74 {l : Launch} {G : gG} {p : Program} {e : Env} {s : State} {m : MethodId} {args : Array Value} {below : List Frame} {meth : Method} {c : Code} {T : Tt} {V0 : Vt} {r : Int32} (C : Cx G p s m args meth c cX5_mostAlike RX5 7) (hr : meth.sig.returnType = (some .int)) {x0 : Nat} {x1 : Int32} {x2 : Int32} {x3 : Int32} {x4 : Int32} {x6 : Int32} {s0 : Int32} {kc5 : Int32 → Int32 → Option (Int32)} {kx5_103 : Int32 → Option (Int32)} {kc22 : Int32 → Int32 → Option (Int32)} {kx22_84 : Int32 → Option (Int32)} {H : Heap} {locs : List Loc} {ls : Array Slot} (k0 : T.1 x0 = 6) (hf : f_X5_mostAlike_J74 T V0 x0 x1 x2 x3 x4 x6 s0 kc5 kx5_103 kc22 kx22_84 = some r) (hw : wS G V0 T H locs) (hl : lv_has ls 7 [(0, .ref (gb G + x0)), (1, .int x1), (2, .int x2), (3, .int x3), (4, .int x4), (6, .int x6)]) (hkc5 : ∀ (y3 : Int32) (y4 : Int32) (H : Heap) (locs : List Loc) (ls : Array Slot), kc5 y3 y4 = some r → wS G V0 T H locs → lv_has ls 7 [(0, .ref (gb G + x0)), (1, .int x1), (2, .int x2), (3, .int y3), (4, .int y4)] → W p l e (rmL 5 0 0) s m args below meth c H locs 0 0 (eQ G below (some (.int r)) V0 T args s 0 0) (F0 m 5 ls [])) (hkx5_103 : ∀ (y3 : Int32) (H : Heap) (locs : List Loc) (ls : Array Slot), kx5_103 y3 = some r → wS G V0 T H locs → lv_has ls 7 [(3, .int y3)] → W p l e (rmL 5 0 0) s m args below meth c H locs 0 0 (eQ G below (some (.int r)) V0 T args s 0 0) (F0 m 103 ls [])) (hkc22 : ∀ (y5 : Int32) (y6 : Int32) (H : Heap) (locs : List Loc) (ls : Array Slot), kc22 y5 y6 = some r → wS G V0 T H locs → lv_has ls 7 [(0, .ref (gb G + x0)), (1, .int x1), (2, .int x2), (3, .int x3), (4, .int x4), (5, .int y5), (6, .int y6)] → W p l e (rmL 5 0 0) s m args below meth c H locs 0 0 (eQ G below (some (.int r)) V0 T args s 0 0) (F0 m 22 ls [])) (hkx22_84 : ∀ (y5 : Int32) (H : Heap) (locs : List Loc) (ls : Array Slot), kx22_84 y5 = some r → wS G V0 T H locs → lv_has ls 7 [(0, .ref (gb G + x0)), (1, .int x1), (2, .int x2), (3, .int x3), (4, .int x4), (5, .int y5)] → W p l e (rmL 5 0 0) s m args below meth c H locs 0 0 (eQ G below (some (.int r)) V0 T args s 0 0) (F0 m 84 ls [])) : W p l e (rmL 5 0 0) s m args below meth c H locs 0 0 (eQ G below (some (.int r)) V0 T args s 0 0) (F0 m 74 ls [.int s0]) := by
  have hx := C.1
  have hb := C.2.1
  have hown := C.2.2.2.1
  have hts := C.2.2.2.2.1
  unfold f_X5_mostAlike_J74 at hf
  refine lv_iconst (v := (0 : Int32)) hx hb dX5_mostAlike_74 (by decide) ?_
  exact jk_X5_mostAlike_75 C hr k0 hf hw (lv_sub hl [0, 1, 2, 3, 4, 5] rfl) hkc5 hkx5_103 hkc22 hkx22_84
set_option maxHeartbeats 4000000 in
theorem lk_X5_mostAlike_22 {l : Launch} {G : gG} {p : Program} {e : Env} {s : State} {m : MethodId} {args : Array Value} {below : List Frame} {meth : Method} {c : Code} {T : Tt} {V0 : Vt} {r : Int32} (C : Cx G p s m args meth c cX5_mostAlike RX5 7) (hr : meth.sig.returnType = (some .int)) {x0 : Nat} {x1 : Int32} {x2 : Int32} {x3 : Int32} {x4 : Int32} {kc5 : Int32 → Int32 → Option (Int32)} {kx5_103 : Int32 → Option (Int32)} {kx22_84 : Int32 → Option (Int32)} (k0 : T.1 x0 = 6) (hkc5 : ∀ (y3 : Int32) (y4 : Int32) (H : Heap) (locs : List Loc) (ls : Array Slot), kc5 y3 y4 = some r → wS G V0 T H locs → lv_has ls 7 [(0, .ref (gb G + x0)), (1, .int x1), (2, .int x2), (3, .int y3), (4, .int y4)] → W p l e (rmL 5 0 0) s m args below meth c H locs 0 0 (eQ G below (some (.int r)) V0 T args s 0 0) (F0 m 5 ls [])) (hkx5_103 : ∀ (y3 : Int32) (H : Heap) (locs : List Loc) (ls : Array Slot), kx5_103 y3 = some r → wS G V0 T H locs → lv_has ls 7 [(3, .int y3)] → W p l e (rmL 5 0 0) s m args below meth c H locs 0 0 (eQ G below (some (.int r)) V0 T args s 0 0) (F0 m 103 ls [])) (hkx22_84 : ∀ (y5 : Int32) (H : Heap) (locs : List Loc) (ls : Array Slot), kx22_84 y5 = some r → wS G V0 T H locs → lv_has ls 7 [(0, .ref (gb G + x0)), (1, .int x1), (2, .int x2), (3, .int x3), (4, .int x4), (5, .int y5)] → W p l e (rmL 5 0 0) s m args below meth c H locs 0 0 (eQ G below (some (.int r)) V0 T args s 0 0) (F0 m 84 ls [])) : ∀ (n : Nat) (x5 : Int32) (x6 : Int32) (H : Heap) (locs : List Loc) (ls : Array Slot), f_X5_mostAlike_L22 T V0 x0 x1 x2 x3 x4 kc5 kx5_103 kx22_84 n x5 x6 = some r → wS G V0 T H locs → lv_has ls 7 [(0, .ref (gb G + x0)), (1, .int x1), (2, .int x2), (3, .int x3), (4, .int x4), (5, .int x5), (6, .int x6)] → W p l e (rmL 5 0 0) s m args below meth c H locs 0 0 (eQ G below (some (.int r)) V0 T args s 0 0) (F0 m 22 ls []) := by
  have hx := C.1
  have hb := C.2.1
  have hown := C.2.2.2.1
  have hts := C.2.2.2.2.1
  intro n
  induction n with
  | zero =>
    intro x5 x6 H locs ls hf
    cases hf
  | succ n ih =>
    intro x5 x6 H locs ls hf hw hl
    unfold f_X5_mostAlike_L22 at hf
    refine lv_iload hx hb dX5_mostAlike_22 (lv_at hl 6 rfl) ?_
    refine lv_aload_n hx hb dX5_mostAlike_24 rfl (lv_at hl 0 rfl) ?_
    revert hf
    refine k_drf (fun r4 er4 hf => ?_)
    refine gf_X5_13 C hw k0 er4 dX5_mostAlike_25 ?_
    refine lv_iconst (v := (0 : Int32)) hx hb dX5_mostAlike_28 (by decide) ?_
    revert hf
    refine k_req (fun h5 hf => ?_)
    refine w_iald C hw h5 rfl dX5_mostAlike_29 ?_
    refine lv_icmp_ge (tgt := 84) hx hb dX5_mostAlike_30 (by decide) (fun c6 => ?_) (fun c6 => ?_)
    · replace hf := ite_t c6 hf
      exact hkx22_84 _ _ _ _ hf hw (lv_sub hl [0, 1, 2, 3, 4, 5] rfl)
    · replace hf := ite_f c6 hf
      refine lv_iload hx hb dX5_mostAlike_33 (lv_at hl 5 rfl) ?_
      refine lv_iload_n hx hb dX5_mostAlike_35 rfl (lv_at hl 1 rfl) ?_
      refine lv_iload hx hb dX5_mostAlike_36 (lv_at hl 4 rfl) ?_
      revert hf
      refine k_pcl (fun z8 h7 hf => ?_)
      refine w_afi hw (w_rS (As := [.int x1, .int x4]) C hw (ok_X5_is h7) (cw_X5_549 hts (Nat.le_of_ble_eq_true rfl) (Nat.le_of_ble_eq_true rfl)) rfl hl.1 rfl (Nat.le_of_ble_eq_true rfl) ⟨Nat.zero_le _, Nat.zero_le _⟩ dX5_mostAlike_38) (fun H locs hw => ?_)
      refine lv_if_eq (tgt := 74) hx hb dX5_mostAlike_41 (by decide) (fun c9 => ?_) (fun c9 => ?_)
      · replace hf := ite_t c9 hf
        exact jk_X5_mostAlike_74 C hr k0 hf hw (lv_sub hl [0, 1, 2, 3, 4, 6] rfl) hkc5 hkx5_103 ih hkx22_84
      · replace hf := ite_f c9 hf
        refine lv_iload_n hx hb dX5_mostAlike_44 rfl (lv_at hl 1 rfl) ?_
        refine lv_iload hx hb dX5_mostAlike_45 (lv_at hl 6 rfl) ?_
        revert hf
        refine k_pcl (fun z13 h12 hf => ?_)
        refine w_afi hw (w_rS (As := [.int x1, .int x6]) C hw (ok_X5_is h12) (cw_X5_549 hts (Nat.le_of_ble_eq_true rfl) (Nat.le_of_ble_eq_true rfl)) rfl hl.1 rfl (Nat.le_of_ble_eq_true rfl) ⟨Nat.zero_le _, Nat.zero_le _⟩ dX5_mostAlike_47) (fun H locs hw => ?_)
        refine lv_if_eq (tgt := 74) hx hb dX5_mostAlike_50 (by decide) (fun c14 => ?_) (fun c14 => ?_)
        · replace hf := ite_t c14 hf
          exact jk_X5_mostAlike_74 C hr k0 hf hw (lv_sub hl [0, 1, 2, 3, 4, 6] rfl) hkc5 hkx5_103 ih hkx22_84
        · replace hf := ite_f c14 hf
          refine lv_aload_n hx hb dX5_mostAlike_53 rfl (lv_at hl 0 rfl) ?_
          refine lv_iload hx hb dX5_mostAlike_54 (lv_at hl 6 rfl) ?_
          refine lv_iload_n hx hb dX5_mostAlike_56 rfl (lv_at hl 2 rfl) ?_
          revert hf
          refine k_pcl (fun z16 h15 hf => ?_)
          refine w_afi hw (w_rV (As := [.int x6, .int x2]) C hw (ok_X5_tasteOf h15) (cw_X5_543 hts (Nat.le_of_ble_eq_true rfl) (Nat.le_of_ble_eq_true rfl)) rfl (by decide) (of_req h15).1 rfl hl.1 rfl (Nat.le_of_ble_eq_true rfl) ⟨Nat.zero_le _, Nat.zero_le _⟩ dX5_mostAlike_57) (fun H locs hw => ?_)
          refine lv_aload_n hx hb dX5_mostAlike_60 rfl (lv_at hl 0 rfl) ?_
          refine lv_iload hx hb dX5_mostAlike_61 (lv_at hl 4 rfl) ?_
          refine lv_iload_n hx hb dX5_mostAlike_63 rfl (lv_at hl 2 rfl) ?_
          revert hf
          refine k_pcl (fun z18 h17 hf => ?_)
          refine w_afi hw (w_rV (As := [.int x4, .int x2]) C hw (ok_X5_tasteOf h17) (cw_X5_543 hts (Nat.le_of_ble_eq_true rfl) (Nat.le_of_ble_eq_true rfl)) rfl (by decide) (of_req h17).1 rfl hl.1 rfl (Nat.le_of_ble_eq_true rfl) ⟨Nat.zero_le _, Nat.zero_le _⟩ dX5_mostAlike_64) (fun H locs hw => ?_)
          refine lv_icmp_ne (tgt := 74) hx hb dX5_mostAlike_67 (by decide) (fun c19 => ?_) (fun c19 => ?_)
          · replace hf := ite_f c19 hf
            exact jk_X5_mostAlike_74 C hr k0 hf hw (lv_sub hl [0, 1, 2, 3, 4, 6] rfl) hkc5 hkx5_103 ih hkx22_84
          · replace hf := ite_t c19 hf
            refine lv_iconst (v := (1 : Int32)) hx hb dX5_mostAlike_70 (by decide) ?_
            refine lv_goto (tgt := 75) hx hb dX5_mostAlike_71 (by decide) ?_
            exact jk_X5_mostAlike_75 C hr k0 hf hw (lv_sub hl [0, 1, 2, 3, 4, 6] rfl) hkc5 hkx5_103 ih hkx22_84
set_option maxHeartbeats 4000000 in
theorem lk_X5_mostAlike_5 {l : Launch} {G : gG} {p : Program} {e : Env} {s : State} {m : MethodId} {args : Array Value} {below : List Frame} {meth : Method} {c : Code} {T : Tt} {V0 : Vt} {r : Int32} (C : Cx G p s m args meth c cX5_mostAlike RX5 7) (hr : meth.sig.returnType = (some .int)) {x0 : Nat} {x1 : Int32} {x2 : Int32} {kx5_103 : Int32 → Option (Int32)} (k0 : T.1 x0 = 6) (hkx5_103 : ∀ (y3 : Int32) (H : Heap) (locs : List Loc) (ls : Array Slot), kx5_103 y3 = some r → wS G V0 T H locs → lv_has ls 7 [(3, .int y3)] → W p l e (rmL 5 0 0) s m args below meth c H locs 0 0 (eQ G below (some (.int r)) V0 T args s 0 0) (F0 m 103 ls [])) : ∀ (n : Nat) (x3 : Int32) (x4 : Int32) (H : Heap) (locs : List Loc) (ls : Array Slot), f_X5_mostAlike_L5 T V0 x0 x1 x2 kx5_103 n x3 x4 = some r → wS G V0 T H locs → lv_has ls 7 [(0, .ref (gb G + x0)), (1, .int x1), (2, .int x2), (3, .int x3), (4, .int x4)] → W p l e (rmL 5 0 0) s m args below meth c H locs 0 0 (eQ G below (some (.int r)) V0 T args s 0 0) (F0 m 5 ls []) := by
  have hx := C.1
  have hb := C.2.1
  have hown := C.2.2.2.1
  have hts := C.2.2.2.2.1
  intro n
  induction n with
  | zero =>
    intro x3 x4 H locs ls hf
    cases hf
  | succ n ih =>
    intro x3 x4 H locs ls hf hw hl
    unfold f_X5_mostAlike_L5 at hf
    refine lv_iload hx hb dX5_mostAlike_5 (lv_at hl 4 rfl) ?_
    refine lv_aload_n hx hb dX5_mostAlike_7 rfl (lv_at hl 0 rfl) ?_
    revert hf
    refine k_drf (fun r1 er1 hf => ?_)
    refine gf_X5_13 C hw k0 er1 dX5_mostAlike_8 ?_
    refine lv_iconst (v := (0 : Int32)) hx hb dX5_mostAlike_11 (by decide) ?_
    revert hf
    refine k_req (fun h2 hf => ?_)
    refine w_iald C hw h2 rfl dX5_mostAlike_12 ?_
    refine lv_icmp_ge (tgt := 103) hx hb dX5_mostAlike_13 (by decide) (fun c3 => ?_) (fun c3 => ?_)
    · replace hf := ite_t c3 hf
      exact hkx5_103 _ _ _ _ hf hw (lv_sub hl [3] rfl)
    · replace hf := ite_f c3 hf
      refine lv_iconst (v := (0 : Int32)) hx hb dX5_mostAlike_16 (by decide) ?_
      refine lv_istore (lv' := [(5, .int (0 : Int32)), (0, .ref (gb G + x0)), (1, .int x1), (2, .int x2), (3, .int x3), (4, .int x4)]) hx hb dX5_mostAlike_17 hl (by decide) rfl (fun ls hl => ?_)
      refine lv_iconst (v := (0 : Int32)) hx hb dX5_mostAlike_19 (by decide) ?_
      refine lv_istore (lv' := [(6, .int (0 : Int32)), (5, .int (0 : Int32)), (0, .ref (gb G + x0)), (1, .int x1), (2, .int x2), (3, .int x3), (4, .int x4)]) hx hb dX5_mostAlike_20 hl (by decide) rfl (fun ls hl => ?_)
      refine lk_X5_mostAlike_22 C hr k0 ih hkx5_103 (fun z20 H locs ls hf hw hl => ?_) fuel _ _ _ _ _ hf hw (lv_sub hl [2, 3, 4, 5, 6, 1, 0] rfl)
      refine lv_iload hx hb dX5_mostAlike_84 (lv_at hl 5 rfl) ?_
      refine lv_iload_n hx hb dX5_mostAlike_86 rfl (lv_at hl 3 rfl) ?_
      refine lv_icmp_le (tgt := 95) hx hb dX5_mostAlike_87 (by decide) (fun c21 => ?_) (fun c21 => ?_)
      · replace hf := ite_t c21 hf
        refine lv_iload_n hx hb dX5_mostAlike_95 rfl (lv_at hl 3 rfl) ?_
        exact jk_X5_mostAlike_96 C hr k0 hf hw (lv_sub hl [0, 1, 2, 4] rfl) ih hkx5_103
      · replace hf := ite_f c21 hf
        refine lv_iload hx hb dX5_mostAlike_90 (lv_at hl 5 rfl) ?_
        refine lv_goto (tgt := 96) hx hb dX5_mostAlike_92 (by decide) ?_
        exact jk_X5_mostAlike_96 C hr k0 hf hw (lv_sub hl [0, 1, 2, 4] rfl) ih hkx5_103
set_option maxHeartbeats 4000000 in
theorem ok_X5_mostAlike {l : Launch} {G : gG} {T : Tt} {V0 : Vt} {o : Nat} {a0 : Int32} {a1 : Int32} {r : Int32} (hf : f_X5_mostAlike T V0 o a0 a1 = some r) : okM l G yX5_mostAlike cX5_mostAlike 7 (some .int) 5 [.ref (gb G + o), .int a0, .int a1] V0 T (some (.int r)) V0 T 0 0 := by
  refine ok_intro (by decide) (Nat.le_of_ble_eq_true rfl) ?_
  intro p e s m below meth c ls C hr hnm hw hl
  have hx := C.1
  have hb := C.2.1
  have hown := C.2.2.2.1
  have hts := C.2.2.2.2.1
  have hl : lv_has ls 7 [(0, .ref (gb G + o)), (1, .int a0), (2, .int a1)] := hl
  unfold f_X5_mostAlike at hf
  revert hf
  refine k_req (fun k0 hf => ?_)
  refine lv_iconst (v := (0 : Int32)) hx hb dX5_mostAlike_0 (by decide) ?_
  refine lv_istore_n (lv' := [(3, .int (0 : Int32)), (0, .ref (gb G + o)), (1, .int a0), (2, .int a1)]) hx hb dX5_mostAlike_1 rfl hl (by decide) rfl (fun ls hl => ?_)
  refine lv_iconst (v := (0 : Int32)) hx hb dX5_mostAlike_2 (by decide) ?_
  refine lv_istore (lv' := [(4, .int (0 : Int32)), (3, .int (0 : Int32)), (0, .ref (gb G + o)), (1, .int a0), (2, .int a1)]) hx hb dX5_mostAlike_3 hl (by decide) rfl (fun ls hl => ?_)
  refine lk_X5_mostAlike_5 C hr k0 (fun z23 H locs ls hf hw hl => ?_) fuel _ _ _ _ _ hf hw (lv_sub hl [2, 3, 4, 1, 0] rfl)
  refine lv_iload_n hx hb dX5_mostAlike_103 rfl (lv_at hl 0 rfl) ?_
  cases hf
  exact w_iret C hr hw dX5_mostAlike_104
set_option maxHeartbeats 4000000 in
theorem jk_X5_taste_78 {l : Launch} {G : gG} {p : Program} {e : Env} {s : State} {m : MethodId} {args : Array Value} {below : List Frame} {meth : Method} {c : Code} {T : Tt} {V0 : Vt} {r : Int32} {V' : Vt} (C : Cx G p s m args meth c cX5_taste RX5 7) (hr : meth.sig.returnType = (some .int)) {x0 : Nat} {x1 : Int32} {x2 : Int32} {x4 : Int32} {x5 : Int32} {s0 : Int32} {kc36 : Int32 → Int32 → Int32 → Option (Int32 × Vt)} {kx36_85 : Int32 → Int32 → Option (Int32 × Vt)} {H : Heap} {locs : List Loc} {ls : Array Slot} (k0 : T.1 x0 = 6) (hf : f_X5_taste_J78 T V0 x0 x1 x2 x4 x5 s0 kc36 kx36_85 = some (r, V')) (hw : wS G V0 T H locs) (hl : lv_has ls 7 [(0, .ref (gb G + x0)), (1, .int x1), (2, .int x2), (4, .int x4), (5, .int x5)]) (hkc36 : ∀ (y3 : Int32) (y4 : Int32) (y5 : Int32) (H : Heap) (locs : List Loc) (ls : Array Slot), kc36 y3 y4 y5 = some (r, V') → wS G V0 T H locs → lv_has ls 7 [(0, .ref (gb G + x0)), (1, .int x1), (2, .int x2), (3, .int y3), (4, .int y4), (5, .int y5)] → W p l e (rmL 6 0 0) s m args below meth c H locs 0 0 (eQ G below (some (.int r)) V' T args s 0 0) (F0 m 36 ls [])) (hkx36_85 : ∀ (y3 : Int32) (y4 : Int32) (H : Heap) (locs : List Loc) (ls : Array Slot), kx36_85 y3 y4 = some (r, V') → wS G V0 T H locs → lv_has ls 7 [(1, .int x1), (3, .int y3), (4, .int y4)] → W p l e (rmL 6 0 0) s m args below meth c H locs 0 0 (eQ G below (some (.int r)) V' T args s 0 0) (F0 m 85 ls [])) : W p l e (rmL 6 0 0) s m args below meth c H locs 0 0 (eQ G below (some (.int r)) V' T args s 0 0) (F0 m 78 ls [.int s0]) := by
  have hx := C.1
  have hb := C.2.1
  have hown := C.2.2.2.1
  have hts := C.2.2.2.2.1
  unfold f_X5_taste_J78 at hf
  refine lv_istore_n (lv' := [(3, .int s0), (0, .ref (gb G + x0)), (1, .int x1), (2, .int x2), (4, .int x4), (5, .int x5)]) hx hb dX5_taste_78 rfl hl (by decide) rfl (fun ls hl => ?_)
  revert hf
  refine k_stp (fun z13 ez13 hf => ?_)
  refine lv_iinc (k := 5) (lv' := [(5, .int z13), (3, .int s0), (0, .ref (gb G + x0)), (1, .int x1), (2, .int x2), (4, .int x4)]) hx hb dX5_taste_79 hl rfl (inc_e (by decide) ez13) (by decide) rfl (fun ls hl => ?_)
  refine lv_goto (tgt := 36) hx hb dX5_taste_82 (by decide) ?_
  exact hkc36 _ _ _ _ _ _ hf hw (lv_sub hl [2, 3, 4, 1, 5, 0] rfl)
set_option maxHeartbeats 4000000 in
theorem jk_X5_taste_64 {l : Launch} {G : gG} {p : Program} {e : Env} {s : State} {m : MethodId} {args : Array Value} {below : List Frame} {meth : Method} {c : Code} {T : Tt} {V0 : Vt} {r : Int32} {V' : Vt} (C : Cx G p s m args meth c cX5_taste RX5 7) (hr : meth.sig.returnType = (some .int)) {x0 : Nat} {x1 : Int32} {x2 : Int32} {x3 : Int32} {x5 : Int32} {x6 : Int32} {s0 : Int32} {kc36 : Int32 → Int32 → Int32 → Option (Int32 × Vt)} {kx36_85 : Int32 → Int32 → Option (Int32 × Vt)} {H : Heap} {locs : List Loc} {ls : Array Slot} (k0 : T.1 x0 = 6) (hf : f_X5_taste_J64 T V0 x0 x1 x2 x3 x5 x6 s0 kc36 kx36_85 = some (r, V')) (hw : wS G V0 T H locs) (hl : lv_has ls 7 [(0, .ref (gb G + x0)), (1, .int x1), (2, .int x2), (3, .int x3), (5, .int x5), (6, .int x6)]) (hkc36 : ∀ (y3 : Int32) (y4 : Int32) (y5 : Int32) (H : Heap) (locs : List Loc) (ls : Array Slot), kc36 y3 y4 y5 = some (r, V') → wS G V0 T H locs → lv_has ls 7 [(0, .ref (gb G + x0)), (1, .int x1), (2, .int x2), (3, .int y3), (4, .int y4), (5, .int y5)] → W p l e (rmL 6 0 0) s m args below meth c H locs 0 0 (eQ G below (some (.int r)) V' T args s 0 0) (F0 m 36 ls [])) (hkx36_85 : ∀ (y3 : Int32) (y4 : Int32) (H : Heap) (locs : List Loc) (ls : Array Slot), kx36_85 y3 y4 = some (r, V') → wS G V0 T H locs → lv_has ls 7 [(1, .int x1), (3, .int y3), (4, .int y4)] → W p l e (rmL 6 0 0) s m args below meth c H locs 0 0 (eQ G below (some (.int r)) V' T args s 0 0) (F0 m 85 ls [])) : W p l e (rmL 6 0 0) s m args below meth c H locs 0 0 (eQ G below (some (.int r)) V' T args s 0 0) (F0 m 64 ls [.int s0]) := by
  have hx := C.1
  have hb := C.2.1
  have hown := C.2.2.2.1
  have hts := C.2.2.2.2.1
  unfold f_X5_taste_J64 at hf
  refine lv_istore (lv' := [(4, .int s0), (0, .ref (gb G + x0)), (1, .int x1), (2, .int x2), (3, .int x3), (5, .int x5), (6, .int x6)]) hx hb dX5_taste_64 hl (by decide) rfl (fun ls hl => ?_)
  refine lv_iload hx hb dX5_taste_66 (lv_at hl 6 rfl) ?_
  refine lv_iload_n hx hb dX5_taste_68 rfl (lv_at hl 4 rfl) ?_
  refine lv_icmp_ge (tgt := 77) hx hb dX5_taste_69 (by decide) (fun c12 => ?_) (fun c12 => ?_)
  · replace hf := ite_t c12 hf
    refine lv_iload_n hx hb dX5_taste_77 rfl (lv_at hl 4 rfl) ?_
    exact jk_X5_taste_78 C hr k0 hf hw (lv_sub hl [1, 2, 3, 0, 5] rfl) hkc36 hkx36_85
  · replace hf := ite_f c12 hf
    refine lv_iload hx hb dX5_taste_72 (lv_at hl 6 rfl) ?_
    refine lv_goto (tgt := 78) hx hb dX5_taste_74 (by decide) ?_
    exact jk_X5_taste_78 C hr k0 hf hw (lv_sub hl [1, 2, 3, 0, 5] rfl) hkc36 hkx36_85
set_option maxHeartbeats 4000000 in
theorem lk_X5_taste_36 {l : Launch} {G : gG} {p : Program} {e : Env} {s : State} {m : MethodId} {args : Array Value} {below : List Frame} {meth : Method} {c : Code} {T : Tt} {V0 : Vt} {r : Int32} {V' : Vt} (C : Cx G p s m args meth c cX5_taste RX5 7) (hr : meth.sig.returnType = (some .int)) {x0 : Nat} {x1 : Int32} {x2 : Int32} {kx36_85 : Int32 → Int32 → Option (Int32 × Vt)} (k0 : T.1 x0 = 6) (hkx36_85 : ∀ (y3 : Int32) (y4 : Int32) (H : Heap) (locs : List Loc) (ls : Array Slot), kx36_85 y3 y4 = some (r, V') → wS G V0 T H locs → lv_has ls 7 [(1, .int x1), (3, .int y3), (4, .int y4)] → W p l e (rmL 6 0 0) s m args below meth c H locs 0 0 (eQ G below (some (.int r)) V' T args s 0 0) (F0 m 85 ls [])) : ∀ (n : Nat) (x3 : Int32) (x4 : Int32) (x5 : Int32) (H : Heap) (locs : List Loc) (ls : Array Slot), f_X5_taste_L36 T V0 x0 x1 x2 kx36_85 n x3 x4 x5 = some (r, V') → wS G V0 T H locs → lv_has ls 7 [(0, .ref (gb G + x0)), (1, .int x1), (2, .int x2), (3, .int x3), (4, .int x4), (5, .int x5)] → W p l e (rmL 6 0 0) s m args below meth c H locs 0 0 (eQ G below (some (.int r)) V' T args s 0 0) (F0 m 36 ls []) := by
  have hx := C.1
  have hb := C.2.1
  have hown := C.2.2.2.1
  have hts := C.2.2.2.2.1
  intro n
  induction n with
  | zero =>
    intro x3 x4 x5 H locs ls hf
    cases hf
  | succ n ih =>
    intro x3 x4 x5 H locs ls hf hw hl
    unfold f_X5_taste_L36 at hf
    refine lv_iload hx hb dX5_taste_36 (lv_at hl 5 rfl) ?_
    refine lv_iconst (v := (3 : Int32)) hx hb dX5_taste_38 (by decide) ?_
    refine lv_icmp_ge (tgt := 85) hx hb dX5_taste_39 (by decide) (fun c8 => ?_) (fun c8 => ?_)
    · replace hf := ite_t c8 hf
      exact hkx36_85 _ _ _ _ _ hf hw (lv_sub hl [1, 3, 4] rfl)
    · replace hf := ite_f c8 hf
      refine lv_aload_n hx hb dX5_taste_42 rfl (lv_at hl 0 rfl) ?_
      refine lv_iload_n hx hb dX5_taste_43 rfl (lv_at hl 2 rfl) ?_
      refine lv_iload hx hb dX5_taste_44 (lv_at hl 5 rfl) ?_
      revert hf
      refine k_pcl (fun z10 h9 hf => ?_)
      refine w_afi hw (w_rV (As := [.int x2, .int x5]) C hw (ok_X5_mostAlike h9) (cw_X5_553 hts (Nat.le_of_ble_eq_true rfl) (Nat.le_of_ble_eq_true rfl)) rfl (by decide) (of_req h9).1 rfl hl.1 rfl (Nat.le_of_ble_eq_true rfl) ⟨Nat.zero_le _, Nat.zero_le _⟩ dX5_taste_46) (fun H locs hw => ?_)
      refine lv_istore (lv' := [(6, .int z10), (0, .ref (gb G + x0)), (1, .int x1), (2, .int x2), (3, .int x3), (4, .int x4), (5, .int x5)]) hx hb dX5_taste_49 hl (by decide) rfl (fun ls hl => ?_)
      refine lv_iload hx hb dX5_taste_51 (lv_at hl 0 rfl) ?_
      refine lv_iload_n hx hb dX5_taste_53 rfl (lv_at hl 4 rfl) ?_
      refine lv_icmp_ge (tgt := 62) hx hb dX5_taste_54 (by decide) (fun c11 => ?_) (fun c11 => ?_)
      · replace hf := ite_t c11 hf
        refine lv_iload hx hb dX5_taste_62 (lv_at hl 5 rfl) ?_
        exact jk_X5_taste_64 C hr k0 hf hw (lv_sub hl [1, 2, 3, 4, 6, 0] rfl) ih hkx36_85
      · replace hf := ite_f c11 hf
        refine lv_iload hx hb dX5_taste_57 (lv_at hl 6 rfl) ?_
        refine lv_goto (tgt := 64) hx hb dX5_taste_59 (by decide) ?_
        exact jk_X5_taste_64 C hr k0 hf hw (lv_sub hl [1, 2, 3, 4, 6, 0] rfl) ih hkx36_85
set_option maxHeartbeats 4000000 in
theorem ok_X5_taste {l : Launch} {G : gG} {T : Tt} {V0 : Vt} {o : Nat} {a0 : Int32} {r : Int32} {V' : Vt} (hf : f_X5_taste T V0 o a0 = some (r, V')) : okM l G yX5_taste cX5_taste 7 (some .int) 6 [.ref (gb G + o), .int a0] V0 T (some (.int r)) V' T 0 0 := by
  refine ok_intro (by decide) (Nat.le_of_ble_eq_true rfl) ?_
  intro p e s m below meth c ls C hr hnm hw hl
  have hx := C.1
  have hb := C.2.1
  have hown := C.2.2.2.1
  have hts := C.2.2.2.2.1
  have hl : lv_has ls 7 [(0, .ref (gb G + o)), (1, .int a0)] := hl
  unfold f_X5_taste at hf
  revert hf
  refine k_req (fun k0 hf => ?_)
  refine lv_aload_n hx hb dX5_taste_0 rfl (lv_at hl 0 rfl) ?_
  refine lv_iconst (v := (0 : Int32)) hx hb dX5_taste_1 (by decide) ?_
  revert hf
  refine k_stp (fun U1 eU1 hf => ?_)
  refine pf_X5_133 C hw k0 eU1 dX5_taste_2 (fun H locs hw => ?_)
  refine lv_aload_n hx hb dX5_taste_5 rfl (lv_at hl 0 rfl) ?_
  revert hf
  refine k_pcl (fun z3 h2 hf => ?_)
  refine w_afi hw (w_rV (As := []) C hw (ok_X5_thatCanBe h2) (cw_X5_546 hts (Nat.le_of_ble_eq_true rfl) (Nat.le_of_ble_eq_true rfl)) rfl (by decide) (of_req h2).1 rfl hl.1 rfl (Nat.le_of_ble_eq_true rfl) ⟨Nat.zero_le _, Nat.zero_le _⟩ dX5_taste_6) (fun H locs hw => ?_)
  refine lv_istore_n (lv' := [(2, .int z3), (0, .ref (gb G + o)), (1, .int a0)]) hx hb dX5_taste_9 rfl hl (by decide) rfl (fun ls hl => ?_)
  refine lv_iload_n hx hb dX5_taste_10 rfl (lv_at hl 2 rfl) ?_
  refine lv_i2l hx hb dX5_taste_11 rfl ?_
  refine lv_lconst (v := (0 : Int64)) hx hb dX5_taste_12 (by decide) ?_
  refine lv_lconst (v := (1 : Int64)) hx hb dX5_taste_13 (by decide) ?_
  revert hf
  refine k_pcl (fun z5 h4 hf => ?_)
  refine w_afi hw (w_rS (As := [.long (Int32.toInt64 a0), .long (0 : Int64), .long (1 : Int64)]) C hw (ok_X5_in h4) (cw_X5_153 hts (Nat.le_of_ble_eq_true rfl) (Nat.le_of_ble_eq_true rfl)) rfl hl.1 rfl (Nat.le_of_ble_eq_true rfl) ⟨Nat.zero_le _, Nat.zero_le _⟩ dX5_taste_14) (fun H locs hw => ?_)
  refine lv_if_eq (tgt := 24) hx hb dX5_taste_17 (by decide) (fun c6 => ?_) (fun c6 => ?_)
  · replace hf := ite_t c6 hf
    refine lv_iconst (v := ((-1) : Int32)) hx hb dX5_taste_24 (by decide) ?_
    cases hf
    exact w_iret C hr hw dX5_taste_25
  · replace hf := ite_f c6 hf
    refine lv_iload_n hx hb dX5_taste_20 rfl (lv_at hl 0 rfl) ?_
    refine lv_if_ne (tgt := 26) hx hb dX5_taste_21 (by decide) (fun c7 => ?_) (fun c7 => ?_)
    · replace hf := ite_f c7 hf
      refine lv_ldcw (v := (100000000 : Int32)) hx hb hown (hts _ q2123) dX5_taste_26 ?_
      refine lv_istore_n (lv' := [(3, .int (100000000 : Int32)), (2, .int z3), (0, .ref (gb G + o)), (1, .int a0)]) hx hb dX5_taste_29 rfl hl (by decide) rfl (fun ls hl => ?_)
      refine lv_iconst (v := ((-1) : Int32)) hx hb dX5_taste_30 (by decide) ?_
      refine lv_istore (lv' := [(4, .int ((-1) : Int32)), (3, .int (100000000 : Int32)), (2, .int z3), (0, .ref (gb G + o)), (1, .int a0)]) hx hb dX5_taste_31 hl (by decide) rfl (fun ls hl => ?_)
      refine lv_iconst (v := (0 : Int32)) hx hb dX5_taste_33 (by decide) ?_
      refine lv_istore (lv' := [(5, .int (0 : Int32)), (4, .int ((-1) : Int32)), (3, .int (100000000 : Int32)), (2, .int z3), (0, .ref (gb G + o)), (1, .int a0)]) hx hb dX5_taste_34 hl (by decide) rfl (fun ls hl => ?_)
      refine lk_X5_taste_36 C hr k0 (fun z14 z15 H locs ls hf hw hl => ?_) fuel _ _ _ _ _ _ hf hw (lv_sub hl [4, 5, 3, 2, 1, 0] rfl)
      refine lv_iload_n hx hb dX5_taste_85 rfl (lv_at hl 0 rfl) ?_
      refine lv_if_ne (tgt := 94) hx hb dX5_taste_86 (by decide) (fun c16 => ?_) (fun c16 => ?_)
      · replace hf := ite_f c16 hf
        refine lv_iload_n hx hb dX5_taste_94 rfl (lv_at hl 1 rfl) ?_
        cases hf
        exact w_iret C hr hw dX5_taste_95
      · replace hf := ite_t c16 hf
        refine lv_iload hx hb dX5_taste_89 (lv_at hl 2 rfl) ?_
        refine lv_goto (tgt := 95) hx hb dX5_taste_91 (by decide) ?_
        cases hf
        exact w_iret C hr hw dX5_taste_95
    · replace hf := ite_t c7 hf
      refine lv_iconst (v := ((-1) : Int32)) hx hb dX5_taste_24 (by decide) ?_
      cases hf
      exact w_iret C hr hw dX5_taste_25
set_option maxHeartbeats 4000000 in
theorem lk_X5_few_158 {l : Launch} {G : gG} {p : Program} {e : Env} {s : State} {m : MethodId} {args : Array Value} {below : List Frame} {meth : Method} {c : Code} {T : Tt} {V0 : Vt} {r : Int64} {V' : Vt} (C : Cx G p s m args meth c cX5_few RX5 8) (hr : meth.sig.returnType = (some .long)) {x0 : Nat} {x1 : Int32} {kx158_182 : Int64 → Option (Int64 × Vt)} (k0 : T.1 x0 = 6) (hkx158_182 : ∀ (y4 : Int64) (H : Heap) (locs : List Loc) (ls : Array Slot), kx158_182 y4 = some (r, V') → wS G V0 T H locs → lv_has ls 8 [(4, .long y4)] → W p l e (rmL 1 0 0) s m args below meth c H locs 0 0 (eQ G below (some (.long r)) V' T args s 0 0) (F0 m 182 ls [])) : ∀ (n : Nat) (x4 : Int64) (x6 : Int32) (H : Heap) (locs : List Loc) (ls : Array Slot), f_X5_few_L158 T V0 x0 x1 kx158_182 n x4 x6 = some (r, V') → wS G V0 T H locs → lv_has ls 8 [(0, .ref (gb G + x0)), (1, .int x1), (4, .long x4), (6, .int x6)] → W p l e (rmL 1 0 0) s m args below meth c H locs 0 0 (eQ G below (some (.long r)) V' T args s 0 0) (F0 m 158 ls []) := by
  have hx := C.1
  have hb := C.2.1
  have hown := C.2.2.2.1
  have hts := C.2.2.2.2.1
  intro n
  induction n with
  | zero =>
    intro x4 x6 H locs ls hf
    cases hf
  | succ n ih =>
    intro x4 x6 H locs ls hf hw hl
    unfold f_X5_few_L158 at hf
    refine lv_iload hx hb dX5_few_158 (lv_at hl 3 rfl) ?_
    refine lv_iload_n hx hb dX5_few_160 rfl (lv_at hl 1 rfl) ?_
    refine lv_icmp_ge (tgt := 182) hx hb dX5_few_161 (by decide) (fun c35 => ?_) (fun c35 => ?_)
    · replace hf := ite_t c35 hf
      exact hkx158_182 _ _ _ _ hf hw (lv_sub hl [2] rfl)
    · replace hf := ite_f c35 hf
      refine lv_lload hx hb dX5_few_164 (lv_at hl 2 rfl) ?_
      refine lv_aload_n hx hb dX5_few_166 rfl (lv_at hl 0 rfl) ?_
      revert hf
      refine k_drf (fun r36 er36 hf => ?_)
      refine gf_X5_124 C hw k0 er36 dX5_few_167 ?_
      refine lv_iload hx hb dX5_few_170 (lv_at hl 3 rfl) ?_
      revert hf
      refine k_req (fun h37 hf => ?_)
      refine w_lald C hw h37 rfl dX5_few_172 ?_
      refine lv_ladd hx hb dX5_few_173 ?_
      revert hf
      refine k_stp (fun z38 ez38 hf => ?_)
      refine w_nmL ez38 ?_
      refine lv_lstore (lv' := [(4, .long z38), (0, .ref (gb G + x0)), (1, .int x1), (6, .int x6)]) hx hb dX5_few_174 hl (by decide) rfl (fun ls hl => ?_)
      revert hf
      refine k_stp (fun z39 ez39 hf => ?_)
      refine lv_iinc (k := 3) (lv' := [(6, .int z39), (4, .long z38), (0, .ref (gb G + x0)), (1, .int x1)]) hx hb dX5_few_176 hl rfl (inc_e (by decide) ez39) (by decide) rfl (fun ls hl => ?_)
      refine lv_goto (tgt := 158) hx hb dX5_few_179 (by decide) ?_
      exact ih _ _ _ _ _ hf hw (lv_sub hl [2, 3, 1, 0] rfl)
set_option maxHeartbeats 4000000 in
theorem lk_X5_few_86 {l : Launch} {G : gG} {p : Program} {e : Env} {s : State} {m : MethodId} {args : Array Value} {below : List Frame} {meth : Method} {c : Code} {T : Tt} {r : Int64} {V' : Vt} (C : Cx G p s m args meth c cX5_few RX5 8) (hr : meth.sig.returnType = (some .long)) {x0 : Nat} {x1 : Int32} {x2 : Int32} {x3 : Int32} {x4 : Int32} {kc75 : Int32 → Vt → Option (Int64 × Vt)} {kx75_152 : Vt → Option (Int64 × Vt)} {kx86_146 : Vt → Option (Int64 × Vt)} (k0 : T.1 x0 = 6) (hkc75 : ∀ (y4 : Int32) (W1 : Vt) (H : Heap) (locs : List Loc) (ls : Array Slot), kc75 y4 W1 = some (r, V') → wS G W1 T H locs → lv_has ls 8 [(0, .ref (gb G + x0)), (1, .int x1), (2, .int x2), (3, .int x3), (4, .int y4)] → W p l e (rmL 1 0 0) s m args below meth c H locs 0 0 (eQ G below (some (.long r)) V' T args s 0 0) (F0 m 75 ls [])) (hkx75_152 : ∀ (W1 : Vt) (H : Heap) (locs : List Loc) (ls : Array Slot), kx75_152 W1 = some (r, V') → wS G W1 T H locs → lv_has ls 8 [(0, .ref (gb G + x0)), (1, .int x1)] → W p l e (rmL 1 0 0) s m args below meth c H locs 0 0 (eQ G below (some (.long r)) V' T args s 0 0) (F0 m 152 ls [])) (hkx86_146 : ∀ (W1 : Vt) (H : Heap) (locs : List Loc) (ls : Array Slot), kx86_146 W1 = some (r, V') → wS G W1 T H locs → lv_has ls 8 [(0, .ref (gb G + x0)), (1, .int x1), (2, .int x2), (3, .int x3), (4, .int x4)] → W p l e (rmL 1 0 0) s m args below meth c H locs 0 0 (eQ G below (some (.long r)) V' T args s 0 0) (F0 m 146 ls [])) : ∀ (n : Nat) (x5 : Int32) (V1 : Vt) (H : Heap) (locs : List Loc) (ls : Array Slot), f_X5_few_L86 T x0 x1 x2 x3 x4 kc75 kx75_152 kx86_146 n x5 V1 = some (r, V') → wS G V1 T H locs → lv_has ls 8 [(0, .ref (gb G + x0)), (1, .int x1), (2, .int x2), (3, .int x3), (4, .int x4), (5, .int x5)] → W p l e (rmL 1 0 0) s m args below meth c H locs 0 0 (eQ G below (some (.long r)) V' T args s 0 0) (F0 m 86 ls []) := by
  have hx := C.1
  have hb := C.2.1
  have hown := C.2.2.2.1
  have hts := C.2.2.2.2.1
  intro n
  induction n with
  | zero =>
    intro x5 V1 H locs ls hf
    cases hf
  | succ n ih =>
    intro x5 V1 H locs ls hf hw hl
    unfold f_X5_few_L86 at hf
    refine lv_iload hx hb dX5_few_86 (lv_at hl 5 rfl) ?_
    refine lv_if_lt (tgt := 146) hx hb dX5_few_88 (by decide) (fun c20 => ?_) (fun c20 => ?_)
    · replace hf := ite_t c20 hf
      exact hkx86_146 _ _ _ _ hf hw (lv_sub hl [0, 1, 2, 3, 4] rfl)
    · replace hf := ite_f c20 hf
      refine lv_aload_n hx hb dX5_few_91 rfl (lv_at hl 0 rfl) ?_
      revert hf
      refine k_drf (fun r21 er21 hf => ?_)
      refine gf_X5_124 C hw k0 er21 dX5_few_92 ?_
      refine lv_iload hx hb dX5_few_95 (lv_at hl 5 rfl) ?_
      revert hf
      refine k_req (fun h22 hf => ?_)
      refine w_lald C hw h22 rfl dX5_few_97 ?_
      revert hf
      refine k_stp (fun z23 ez23 hf => ?_)
      refine w_nmL ez23 ?_
      refine lv_lstore (lv' := [(6, .long z23), (0, .ref (gb G + x0)), (1, .int x1), (2, .int x2), (3, .int x3), (4, .int x4), (5, .int x5)]) hx hb dX5_few_98 hl (by decide) rfl (fun ls hl => ?_)
      refine lv_aload_n hx hb dX5_few_100 rfl (lv_at hl 1 rfl) ?_
      revert hf
      refine k_drf (fun r24 er24 hf => ?_)
      refine gf_X5_124 C hw k0 er24 dX5_few_101 ?_
      refine lv_iload hx hb dX5_few_104 (lv_at hl 6 rfl) ?_
      refine lv_lload hx hb dX5_few_106 (lv_at hl 0 rfl) ?_
      refine lv_bipush (v := (10 : Int32)) hx hb dX5_few_108 (by decide) ?_
      refine lv_iload_n hx hb dX5_few_110 rfl (lv_at hl 4 rfl) ?_
      refine lv_isub hx hb dX5_few_111 ?_
      refine lv_i2l hx hb dX5_few_112 rfl ?_
      refine lv_lmul hx hb dX5_few_113 ?_
      refine lv_ldc2 (v := (10 : Int64)) hx hb hown (hts _ q1818) dX5_few_114 ?_
      refine lv_ldiv hx hb dX5_few_117 (by decide) ?_
      revert hf
      refine k_req (fun h25 hf => ?_)
      revert hf
      refine k_stp (fun U26 eU26 hf => ?_)
      refine w_last C hw h25 eU26 dX5_few_118 (fun H locs hw => ?_)
      refine lv_aload_n hx hb dX5_few_119 rfl (lv_at hl 1 rfl) ?_
      revert hf
      refine k_drf (fun r27 er27 hf => ?_)
      refine gf_X5_124 C hw k0 er27 dX5_few_120 ?_
      refine lv_iload hx hb dX5_few_123 (lv_at hl 6 rfl) ?_
      refine lv_iconst (v := (1 : Int32)) hx hb dX5_few_125 (by decide) ?_
      refine lv_iadd hx hb dX5_few_126 ?_
      refine lv_dup2_11 hx hb dX5_few_127 rfl rfl ?_
      revert hf
      refine k_req (fun h28 hf => ?_)
      refine w_lald C hw h28 rfl dX5_few_128 ?_
      refine lv_lload hx hb dX5_few_129 (lv_at hl 0 rfl) ?_
      refine lv_iload_n hx hb dX5_few_131 rfl (lv_at hl 4 rfl) ?_
      refine lv_i2l hx hb dX5_few_132 rfl ?_
      refine lv_lmul hx hb dX5_few_133 ?_
      refine lv_ldc2 (v := (10 : Int64)) hx hb hown (hts _ q1818) dX5_few_134 ?_
      refine lv_ldiv hx hb dX5_few_137 (by decide) ?_
      refine lv_ladd hx hb dX5_few_138 ?_
      revert hf
      refine k_req (fun h29 hf => ?_)
      revert hf
      refine k_stp (fun U30 eU30 hf => ?_)
      refine w_last C hw h29 eU30 dX5_few_139 (fun H locs hw => ?_)
      revert hf
      refine k_stp (fun z31 ez31 hf => ?_)
      refine lv_iinc (k := 6) (lv' := [(5, .int z31), (6, .long z23), (0, .ref (gb G + x0)), (1, .int x1), (2, .int x2), (3, .int x3), (4, .int x4)]) hx hb dX5_few_140 hl rfl (inc_e (by decide) ez31) (by decide) rfl (fun ls hl => ?_)
      refine lv_goto (tgt := 86) hx hb dX5_few_143 (by decide) ?_
      exact ih _ _ _ _ _ hf hw (lv_sub hl [2, 3, 4, 5, 6, 0] rfl)
set_option maxHeartbeats 4000000 in
theorem lk_X5_few_75 {l : Launch} {G : gG} {p : Program} {e : Env} {s : State} {m : MethodId} {args : Array Value} {below : List Frame} {meth : Method} {c : Code} {T : Tt} {r : Int64} {V' : Vt} (C : Cx G p s m args meth c cX5_few RX5 8) (hr : meth.sig.returnType = (some .long)) {x0 : Nat} {x1 : Int32} {x2 : Int32} {x3 : Int32} {kx75_152 : Vt → Option (Int64 × Vt)} (k0 : T.1 x0 = 6) (hkx75_152 : ∀ (W1 : Vt) (H : Heap) (locs : List Loc) (ls : Array Slot), kx75_152 W1 = some (r, V') → wS G W1 T H locs → lv_has ls 8 [(0, .ref (gb G + x0)), (1, .int x1)] → W p l e (rmL 1 0 0) s m args below meth c H locs 0 0 (eQ G below (some (.long r)) V' T args s 0 0) (F0 m 152 ls [])) : ∀ (n : Nat) (x4 : Int32) (V1 : Vt) (H : Heap) (locs : List Loc) (ls : Array Slot), f_X5_few_L75 T x0 x1 x2 x3 kx75_152 n x4 V1 = some (r, V') → wS G V1 T H locs → lv_has ls 8 [(0, .ref (gb G + x0)), (1, .int x1), (2, .int x2), (3, .int x3), (4, .int x4)] → W p l e (rmL 1 0 0) s m args below meth c H locs 0 0 (eQ G below (some (.long r)) V' T args s 0 0) (F0 m 75 ls []) := by
  have hx := C.1
  have hb := C.2.1
  have hown := C.2.2.2.1
  have hts := C.2.2.2.2.1
  intro n
  induction n with
  | zero =>
    intro x4 V1 H locs ls hf
    cases hf
  | succ n ih =>
    intro x4 V1 H locs ls hf hw hl
    unfold f_X5_few_L75 at hf
    refine lv_iload hx hb dX5_few_75 (lv_at hl 4 rfl) ?_
    refine lv_iload_n hx hb dX5_few_77 rfl (lv_at hl 2 rfl) ?_
    refine lv_icmp_ge (tgt := 152) hx hb dX5_few_78 (by decide) (fun c18 => ?_) (fun c18 => ?_)
    · replace hf := ite_t c18 hf
      exact hkx75_152 _ _ _ _ hf hw (lv_sub hl [0, 1] rfl)
    · replace hf := ite_f c18 hf
      refine lv_iload_n hx hb dX5_few_81 rfl (lv_at hl 1 rfl) ?_
      refine lv_iconst (v := (1 : Int32)) hx hb dX5_few_82 (by decide) ?_
      refine lv_isub hx hb dX5_few_83 ?_
      revert hf
      refine k_stp (fun z19 ez19 hf => ?_)
      refine w_nmI ez19 ?_
      refine lv_istore (lv' := [(5, .int z19), (0, .ref (gb G + x0)), (1, .int x1), (2, .int x2), (3, .int x3), (4, .int x4)]) hx hb dX5_few_84 hl (by decide) rfl (fun ls hl => ?_)
      refine lk_X5_few_86 C hr k0 ih hkx75_152 (fun U32 H locs ls hf hw hl => ?_) fuel _ _ _ _ _ hf hw (lv_sub hl [1, 2, 3, 4, 5, 0] rfl)
      revert hf
      refine k_stp (fun z33 ez33 hf => ?_)
      refine lv_iinc (k := 4) (lv' := [(4, .int z33), (0, .ref (gb G + x0)), (1, .int x1), (2, .int x2), (3, .int x3)]) hx hb dX5_few_146 hl rfl (inc_e (by decide) ez33) (by decide) rfl (fun ls hl => ?_)
      refine lv_goto (tgt := 75) hx hb dX5_few_149 (by decide) ?_
      exact ih _ _ _ _ _ hf hw (lv_sub hl [1, 2, 3, 4, 0] rfl)
set_option maxHeartbeats 4000000 in
theorem jk_X5_few_57 {l : Launch} {G : gG} {p : Program} {e : Env} {s : State} {m : MethodId} {args : Array Value} {below : List Frame} {meth : Method} {c : Code} {T : Tt} {V0 : Vt} {r : Int64} {V' : Vt} (C : Cx G p s m args meth c cX5_few RX5 8) (hr : meth.sig.returnType = (some .long)) {x0 : Nat} {x1 : Int32} {x2 : Int32} {x3 : Int32} {s0 : Nat} {s1 : Int32} {s2 : Int64} {kc35 : Int32 → Vt → Option (Int64 × Vt)} {kx35_64 : Vt → Option (Int64 × Vt)} {H : Heap} {locs : List Loc} {ls : Array Slot} (k0 : T.1 x0 = 6) (hf : f_X5_few_J57 T V0 x0 x1 x2 x3 s0 s1 s2 kc35 kx35_64 = some (r, V')) (hw : wS G V0 T H locs) (hl : lv_has ls 8 [(0, .ref (gb G + x0)), (1, .int x1), (2, .int x2), (3, .int x3)]) (hkc35 : ∀ (y3 : Int32) (W1 : Vt) (H : Heap) (locs : List Loc) (ls : Array Slot), kc35 y3 W1 = some (r, V') → wS G W1 T H locs → lv_has ls 8 [(0, .ref (gb G + x0)), (1, .int x1), (2, .int x2), (3, .int y3)] → W p l e (rmL 1 0 0) s m args below meth c H locs 0 0 (eQ G below (some (.long r)) V' T args s 0 0) (F0 m 35 ls [])) (hkx35_64 : ∀ (W1 : Vt) (H : Heap) (locs : List Loc) (ls : Array Slot), kx35_64 W1 = some (r, V') → wS G W1 T H locs → lv_has ls 8 [(0, .ref (gb G + x0)), (1, .int x1), (2, .int x2)] → W p l e (rmL 1 0 0) s m args below meth c H locs 0 0 (eQ G below (some (.long r)) V' T args s 0 0) (F0 m 64 ls [])) : W p l e (rmL 1 0 0) s m args below meth c H locs 0 0 (eQ G below (some (.long r)) V' T args s 0 0) (F0 m 57 ls [.long s2, .int s1, .ref (gb G + s0)]) := by
  have hx := C.1
  have hb := C.2.1
  have hown := C.2.2.2.1
  have hts := C.2.2.2.2.1
  unfold f_X5_few_J57 at hf
  revert hf
  refine k_req (fun h11 hf => ?_)
  revert hf
  refine k_stp (fun U12 eU12 hf => ?_)
  refine w_last C hw h11 eU12 dX5_few_57 (fun H locs hw => ?_)
  revert hf
  refine k_stp (fun z13 ez13 hf => ?_)
  refine lv_iinc (k := 3) (lv' := [(3, .int z13), (0, .ref (gb G + x0)), (1, .int x1), (2, .int x2)]) hx hb dX5_few_58 hl rfl (inc_e (by decide) ez13) (by decide) rfl (fun ls hl => ?_)
  refine lv_goto (tgt := 35) hx hb dX5_few_61 (by decide) ?_
  exact hkc35 _ _ _ _ _ hf hw (lv_sub hl [1, 2, 3, 0] rfl)
set_option maxHeartbeats 4000000 in
theorem lk_X5_few_35 {l : Launch} {G : gG} {p : Program} {e : Env} {s : State} {m : MethodId} {args : Array Value} {below : List Frame} {meth : Method} {c : Code} {T : Tt} {r : Int64} {V' : Vt} (C : Cx G p s m args meth c cX5_few RX5 8) (hr : meth.sig.returnType = (some .long)) {x0 : Nat} {x1 : Int32} {x2 : Int32} {kx35_64 : Vt → Option (Int64 × Vt)} (k0 : T.1 x0 = 6) (hkx35_64 : ∀ (W1 : Vt) (H : Heap) (locs : List Loc) (ls : Array Slot), kx35_64 W1 = some (r, V') → wS G W1 T H locs → lv_has ls 8 [(0, .ref (gb G + x0)), (1, .int x1), (2, .int x2)] → W p l e (rmL 1 0 0) s m args below meth c H locs 0 0 (eQ G below (some (.long r)) V' T args s 0 0) (F0 m 64 ls [])) : ∀ (n : Nat) (x3 : Int32) (V1 : Vt) (H : Heap) (locs : List Loc) (ls : Array Slot), f_X5_few_L35 T x0 x1 x2 kx35_64 n x3 V1 = some (r, V') → wS G V1 T H locs → lv_has ls 8 [(0, .ref (gb G + x0)), (1, .int x1), (2, .int x2), (3, .int x3)] → W p l e (rmL 1 0 0) s m args below meth c H locs 0 0 (eQ G below (some (.long r)) V' T args s 0 0) (F0 m 35 ls []) := by
  have hx := C.1
  have hb := C.2.1
  have hown := C.2.2.2.1
  have hts := C.2.2.2.2.1
  intro n
  induction n with
  | zero =>
    intro x3 V1 H locs ls hf
    cases hf
  | succ n ih =>
    intro x3 V1 H locs ls hf hw hl
    unfold f_X5_few_L35 at hf
    refine lv_iload_n hx hb dX5_few_35 rfl (lv_at hl 3 rfl) ?_
    refine lv_bipush (v := (21 : Int32)) hx hb dX5_few_36 (by decide) ?_
    refine lv_icmp_ge (tgt := 64) hx hb dX5_few_38 (by decide) (fun c8 => ?_) (fun c8 => ?_)
    · replace hf := ite_t c8 hf
      exact hkx35_64 _ _ _ _ hf hw (lv_sub hl [0, 1, 2] rfl)
    · replace hf := ite_f c8 hf
      refine lv_aload_n hx hb dX5_few_41 rfl (lv_at hl 0 rfl) ?_
      revert hf
      refine k_drf (fun r9 er9 hf => ?_)
      refine gf_X5_124 C hw k0 er9 dX5_few_42 ?_
      refine lv_iload_n hx hb dX5_few_45 rfl (lv_at hl 3 rfl) ?_
      refine lv_iload_n hx hb dX5_few_46 rfl (lv_at hl 3 rfl) ?_
      refine lv_if_ne (tgt := 56) hx hb dX5_few_47 (by decide) (fun c10 => ?_) (fun c10 => ?_)
      · replace hf := ite_f c10 hf
        refine lv_lconst (v := (0 : Int64)) hx hb dX5_few_56 (by decide) ?_
        exact jk_X5_few_57 C hr k0 hf hw (lv_sub hl [0, 1, 2, 3] rfl) ih hkx35_64
      · replace hf := ite_t c10 hf
        refine lv_ldc2 (v := (1000000000000 : Int64)) hx hb hown (hts _ q1813) dX5_few_50 ?_
        refine lv_goto (tgt := 57) hx hb dX5_few_53 (by decide) ?_
        exact jk_X5_few_57 C hr k0 hf hw (lv_sub hl [0, 1, 2, 3] rfl) ih hkx35_64
set_option maxHeartbeats 4000000 in
theorem jk_X5_few_29 {l : Launch} {G : gG} {p : Program} {e : Env} {s : State} {m : MethodId} {args : Array Value} {below : List Frame} {meth : Method} {c : Code} {T : Tt} {V0 : Vt} {r : Int64} {V' : Vt} (C : Cx G p s m args meth c cX5_few RX5 8) (hr : meth.sig.returnType = (some .long)) {H : Heap} {locs : List Loc} {ls : Array Slot} (hf : f_X5_few_J29 T V0 = some (r, V')) (hw : wS G V0 T H locs) (hl : lv_has ls 8 []) : W p l e (rmL 1 0 0) s m args below meth c H locs 0 0 (eQ G below (some (.long r)) V' T args s 0 0) (F0 m 29 ls []) := by
  have hx := C.1
  have hb := C.2.1
  have hown := C.2.2.2.1
  have hts := C.2.2.2.2.1
  unfold f_X5_few_J29 at hf
  refine lv_ldc2 (v := ((-1) : Int64)) hx hb hown (hts _ q1784) dX5_few_29 ?_
  cases hf
  exact w_lret C hr hw dX5_few_32
set_option maxHeartbeats 4000000 in
theorem ok_X5_few {l : Launch} {G : gG} {T : Tt} {V0 : Vt} {o : Nat} {a0 : Int32} {a1 : Int32} {r : Int64} {V' : Vt} (hf : f_X5_few T V0 o a0 a1 = some (r, V')) : okM l G yX5_few cX5_few 8 (some .long) 1 [.ref (gb G + o), .int a0, .int a1] V0 T (some (.long r)) V' T 0 0 := by
  refine ok_intro (by decide) (Nat.le_of_ble_eq_true rfl) ?_
  intro p e s m below meth c ls C hr hnm hw hl
  have hx := C.1
  have hb := C.2.1
  have hown := C.2.2.2.1
  have hts := C.2.2.2.2.1
  have hl : lv_has ls 8 [(0, .ref (gb G + o)), (1, .int a0), (2, .int a1)] := hl
  unfold f_X5_few at hf
  revert hf
  refine k_req (fun k0 hf => ?_)
  refine lv_aload_n hx hb dX5_few_0 rfl (lv_at hl 0 rfl) ?_
  refine lv_iconst (v := (0 : Int32)) hx hb dX5_few_1 (by decide) ?_
  revert hf
  refine k_stp (fun U1 eU1 hf => ?_)
  refine pf_X5_133 C hw k0 eU1 dX5_few_2 (fun H locs hw => ?_)
  refine lv_iload_n hx hb dX5_few_5 rfl (lv_at hl 1 rfl) ?_
  refine lv_i2l hx hb dX5_few_6 rfl ?_
  refine lv_lconst (v := (1 : Int64)) hx hb dX5_few_7 (by decide) ?_
  refine lv_ldc2 (v := (20 : Int64)) hx hb hown (hts _ q1951) dX5_few_8 ?_
  revert hf
  refine k_pcl (fun z3 h2 hf => ?_)
  refine w_afi hw (w_rS (As := [.long (Int32.toInt64 a0), .long (1 : Int64), .long (20 : Int64)]) C hw (ok_X5_in h2) (cw_X5_153 hts (Nat.le_of_ble_eq_true rfl) (Nat.le_of_ble_eq_true rfl)) rfl hl.1 rfl (Nat.le_of_ble_eq_true rfl) ⟨Nat.zero_le _, Nat.zero_le _⟩ dX5_few_11) (fun H locs hw => ?_)
  refine lv_if_eq (tgt := 29) hx hb dX5_few_14 (by decide) (fun c4 => ?_) (fun c4 => ?_)
  · replace hf := ite_t c4 hf
    exact jk_X5_few_29 C hr hf hw (lv_sub hl [] rfl)
  · replace hf := ite_f c4 hf
    refine lv_iload_n hx hb dX5_few_17 rfl (lv_at hl 2 rfl) ?_
    refine lv_i2l hx hb dX5_few_18 rfl ?_
    refine lv_lconst (v := (0 : Int64)) hx hb dX5_few_19 (by decide) ?_
    refine lv_ldc2 (v := (99 : Int64)) hx hb hown (hts _ q2192) dX5_few_20 ?_
    revert hf
    refine k_pcl (fun z6 h5 hf => ?_)
    refine w_afi hw (w_rS (As := [.long (Int32.toInt64 a1), .long (0 : Int64), .long (99 : Int64)]) C hw (ok_X5_in h5) (cw_X5_153 hts (Nat.le_of_ble_eq_true rfl) (Nat.le_of_ble_eq_true rfl)) rfl hl.1 rfl (Nat.le_of_ble_eq_true rfl) ⟨Nat.zero_le _, Nat.zero_le _⟩ dX5_few_23) (fun H locs hw => ?_)
    refine lv_if_ne (tgt := 33) hx hb dX5_few_26 (by decide) (fun c7 => ?_) (fun c7 => ?_)
    · replace hf := ite_f c7 hf
      refine lv_iconst (v := (0 : Int32)) hx hb dX5_few_33 (by decide) ?_
      refine lv_istore_n (lv' := [(3, .int (0 : Int32)), (0, .ref (gb G + o)), (1, .int a0), (2, .int a1)]) hx hb dX5_few_34 rfl hl (by decide) rfl (fun ls hl => ?_)
      refine lk_X5_few_35 C hr k0 (fun U14 H locs ls hf hw hl => ?_) fuel _ _ _ _ _ hf hw (lv_sub hl [1, 2, 3, 0] rfl)
      refine lv_aload_n hx hb dX5_few_64 rfl (lv_at hl 0 rfl) ?_
      revert hf
      refine k_drf (fun r15 er15 hf => ?_)
      refine gf_X5_13 C hw k0 er15 dX5_few_65 ?_
      refine lv_bipush (v := (6 : Int32)) hx hb dX5_few_68 (by decide) ?_
      revert hf
      refine k_req (fun h16 hf => ?_)
      refine w_iald C hw h16 rfl dX5_few_70 ?_
      revert hf
      refine k_stp (fun z17 ez17 hf => ?_)
      refine w_nmI ez17 ?_
      refine lv_istore_n (lv' := [(3, .int z17), (0, .ref (gb G + o)), (1, .int a0), (2, .int a1)]) hx hb dX5_few_71 rfl hl (by decide) rfl (fun ls hl => ?_)
      refine lv_iconst (v := (0 : Int32)) hx hb dX5_few_72 (by decide) ?_
      refine lv_istore (lv' := [(4, .int (0 : Int32)), (3, .int z17), (0, .ref (gb G + o)), (1, .int a0), (2, .int a1)]) hx hb dX5_few_73 hl (by decide) rfl (fun ls hl => ?_)
      refine lk_X5_few_75 C hr k0 (fun U34 H locs ls hf hw hl => ?_) fuel _ _ _ _ _ hf hw (lv_sub hl [2, 3, 4, 1, 0] rfl)
      refine lv_lconst (v := (0 : Int64)) hx hb dX5_few_152 (by decide) ?_
      refine lv_lstore (lv' := [(4, .long (0 : Int64)), (0, .ref (gb G + o)), (1, .int a0)]) hx hb dX5_few_153 hl (by decide) rfl (fun ls hl => ?_)
      refine lv_iconst (v := (0 : Int32)) hx hb dX5_few_155 (by decide) ?_
      refine lv_istore (lv' := [(6, .int (0 : Int32)), (4, .long (0 : Int64)), (0, .ref (gb G + o)), (1, .int a0)]) hx hb dX5_few_156 hl (by decide) rfl (fun ls hl => ?_)
      refine lk_X5_few_158 C hr k0 (fun z40 H locs ls hf hw hl => ?_) fuel _ _ _ _ _ hf hw (lv_sub hl [2, 3, 1, 0] rfl)
      refine lv_lload hx hb dX5_few_182 (lv_at hl 0 rfl) ?_
      cases hf
      exact w_lret C hr hw dX5_few_184
    · replace hf := ite_t c7 hf
      exact jk_X5_few_29 C hr hf hw (lv_sub hl [] rfl)
set_option maxHeartbeats 4000000 in
theorem lk_X5_lossOf_11 {l : Launch} {G : gG} {p : Program} {e : Env} {s : State} {m : MethodId} {args : Array Value} {below : List Frame} {meth : Method} {c : Code} {T : Tt} {V0 : Vt} {r : Int32} {V' : Vt} (C : Cx G p s m args meth c cX5_lossOf RX5 5) (hr : meth.sig.returnType = (some .int)) {x0 : Nat} {x1 : Int32} {x2 : Int32} {kx11_43 : Int32 → Option (Int32 × Vt)} (k0 : T.1 x0 = 6) (hkx11_43 : ∀ (y3 : Int32) (H : Heap) (locs : List Loc) (ls : Array Slot), kx11_43 y3 = some (r, V') → wS G V0 T H locs → lv_has ls 5 [(3, .int y3)] → W p l e (rmL 9 0 0) s m args below meth c H locs 0 0 (eQ G below (some (.int r)) V' T args s 0 0) (F0 m 43 ls [])) : ∀ (n : Nat) (x3 : Int32) (x4 : Int32) (H : Heap) (locs : List Loc) (ls : Array Slot), f_X5_lossOf_L11 T V0 x0 x1 x2 kx11_43 n x3 x4 = some (r, V') → wS G V0 T H locs → lv_has ls 5 [(0, .ref (gb G + x0)), (1, .int x1), (2, .int x2), (3, .int x3), (4, .int x4)] → W p l e (rmL 9 0 0) s m args below meth c H locs 0 0 (eQ G below (some (.int r)) V' T args s 0 0) (F0 m 11 ls []) := by
  have hx := C.1
  have hb := C.2.1
  have hown := C.2.2.2.1
  have hts := C.2.2.2.2.1
  intro n
  induction n with
  | zero =>
    intro x3 x4 H locs ls hf
    cases hf
  | succ n ih =>
    intro x3 x4 H locs ls hf hw hl
    unfold f_X5_lossOf_L11 at hf
    refine lv_iload hx hb dX5_lossOf_11 (lv_at hl 4 rfl) ?_
    refine lv_bipush (v := (20 : Int32)) hx hb dX5_lossOf_13 (by decide) ?_
    refine lv_icmp_ge (tgt := 43) hx hb dX5_lossOf_15 (by decide) (fun c4 => ?_) (fun c4 => ?_)
    · replace hf := ite_t c4 hf
      exact hkx11_43 _ _ _ _ hf hw (lv_sub hl [3] rfl)
    · replace hf := ite_f c4 hf
      refine lv_iload_n hx hb dX5_lossOf_18 rfl (lv_at hl 3 rfl) ?_
      refine lv_aload_n hx hb dX5_lossOf_19 rfl (lv_at hl 0 rfl) ?_
      refine lv_iload_n hx hb dX5_lossOf_20 rfl (lv_at hl 1 rfl) ?_
      refine lv_iload hx hb dX5_lossOf_21 (lv_at hl 4 rfl) ?_
      revert hf
      refine k_pcl (fun z6 h5 hf => ?_)
      refine w_afi hw (w_rV (As := [.int x1, .int x4]) C hw (ok_X5_dropsOf h5) (cw_X5_160 hts (Nat.le_of_ble_eq_true rfl) (Nat.le_of_ble_eq_true rfl)) rfl (by decide) (of_req h5).1 rfl hl.1 rfl (Nat.le_of_ble_eq_true rfl) ⟨Nat.zero_le _, Nat.zero_le _⟩ dX5_lossOf_23) (fun H locs hw => ?_)
      refine lv_i2l hx hb dX5_lossOf_26 rfl ?_
      refine lv_iload_n hx hb dX5_lossOf_27 rfl (lv_at hl 2 rfl) ?_
      refine lv_i2l hx hb dX5_lossOf_28 rfl ?_
      refine lv_lmul hx hb dX5_lossOf_29 ?_
      refine lv_ldc2 (v := (1000 : Int64)) hx hb hown (hts _ q1750) dX5_lossOf_30 ?_
      refine lv_ldiv hx hb dX5_lossOf_33 (by decide) ?_
      refine lv_l2i hx hb dX5_lossOf_34 rfl ?_
      refine lv_iadd hx hb dX5_lossOf_35 ?_
      revert hf
      refine k_stp (fun z7 ez7 hf => ?_)
      refine w_nmI ez7 ?_
      refine lv_istore_n (lv' := [(3, .int z7), (0, .ref (gb G + x0)), (1, .int x1), (2, .int x2), (4, .int x4)]) hx hb dX5_lossOf_36 rfl hl (by decide) rfl (fun ls hl => ?_)
      revert hf
      refine k_stp (fun z8 ez8 hf => ?_)
      refine lv_iinc (k := 4) (lv' := [(4, .int z8), (3, .int z7), (0, .ref (gb G + x0)), (1, .int x1), (2, .int x2)]) hx hb dX5_lossOf_37 hl rfl (inc_e (by decide) ez8) (by decide) rfl (fun ls hl => ?_)
      refine lv_goto (tgt := 11) hx hb dX5_lossOf_40 (by decide) ?_
      exact ih _ _ _ _ _ hf hw (lv_sub hl [2, 3, 4, 1, 0] rfl)
set_option maxHeartbeats 4000000 in
theorem ok_X5_lossOf {l : Launch} {G : gG} {T : Tt} {V0 : Vt} {o : Nat} {a0 : Int32} {r : Int32} {V' : Vt} (hf : f_X5_lossOf T V0 o a0 = some (r, V')) : okM l G yX5_lossOf cX5_lossOf 5 (some .int) 9 [.ref (gb G + o), .int a0] V0 T (some (.int r)) V' T 0 0 := by
  refine ok_intro (by decide) (Nat.le_of_ble_eq_true rfl) ?_
  intro p e s m below meth c ls C hr hnm hw hl
  have hx := C.1
  have hb := C.2.1
  have hown := C.2.2.2.1
  have hts := C.2.2.2.2.1
  have hl : lv_has ls 5 [(0, .ref (gb G + o)), (1, .int a0)] := hl
  unfold f_X5_lossOf at hf
  revert hf
  refine k_req (fun k0 hf => ?_)
  refine lv_aload_n hx hb dX5_lossOf_0 rfl (lv_at hl 0 rfl) ?_
  refine lv_iload_n hx hb dX5_lossOf_1 rfl (lv_at hl 1 rfl) ?_
  revert hf
  refine k_cal (fun z2 U3 h1 hf => ?_)
  refine w_afi hw (w_rV (As := [.int a0]) C hw (ok_X5_losesOf h1) (cw_X5_191 hts (Nat.le_of_ble_eq_true rfl) (Nat.le_of_ble_eq_true rfl)) rfl (by decide) (of_req h1).1 rfl hl.1 rfl (Nat.le_of_ble_eq_true rfl) ⟨Nat.zero_le _, Nat.zero_le _⟩ dX5_lossOf_2) (fun H locs hw => ?_)
  refine lv_istore_n (lv' := [(2, .int z2), (0, .ref (gb G + o)), (1, .int a0)]) hx hb dX5_lossOf_5 rfl hl (by decide) rfl (fun ls hl => ?_)
  refine lv_iconst (v := (0 : Int32)) hx hb dX5_lossOf_6 (by decide) ?_
  refine lv_istore_n (lv' := [(3, .int (0 : Int32)), (2, .int z2), (0, .ref (gb G + o)), (1, .int a0)]) hx hb dX5_lossOf_7 rfl hl (by decide) rfl (fun ls hl => ?_)
  refine lv_iconst (v := (0 : Int32)) hx hb dX5_lossOf_8 (by decide) ?_
  refine lv_istore (lv' := [(4, .int (0 : Int32)), (3, .int (0 : Int32)), (2, .int z2), (0, .ref (gb G + o)), (1, .int a0)]) hx hb dX5_lossOf_9 hl (by decide) rfl (fun ls hl => ?_)
  refine lk_X5_lossOf_11 C hr k0 (fun z9 H locs ls hf hw hl => ?_) fuel _ _ _ _ _ hf hw (lv_sub hl [3, 4, 2, 1, 0] rfl)
  refine lv_iload_n hx hb dX5_lossOf_43 rfl (lv_at hl 0 rfl) ?_
  cases hf
  exact w_iret C hr hw dX5_lossOf_44
set_option maxHeartbeats 4000000 in
theorem ok_X5_compare {l : Launch} {G : gG} {T : Tt} {V0 : Vt} {o : Nat} {a0 : Int32} {a1 : Int32} {r : Int32} {V' : Vt} (hf : f_X5_compare T V0 o a0 a1 = some (r, V')) : okM l G yX5_compare cX5_compare 5 (some .int) 10 [.ref (gb G + o), .int a0, .int a1] V0 T (some (.int r)) V' T 0 0 := by
  refine ok_intro (by decide) (Nat.le_of_ble_eq_true rfl) ?_
  intro p e s m below meth c ls C hr hnm hw hl
  have hx := C.1
  have hb := C.2.1
  have hown := C.2.2.2.1
  have hts := C.2.2.2.2.1
  have hl : lv_has ls 5 [(0, .ref (gb G + o)), (1, .int a0), (2, .int a1)] := hl
  unfold f_X5_compare at hf
  revert hf
  refine k_req (fun k0 hf => ?_)
  refine lv_aload_n hx hb dX5_compare_0 rfl (lv_at hl 0 rfl) ?_
  refine lv_iconst (v := (0 : Int32)) hx hb dX5_compare_1 (by decide) ?_
  revert hf
  refine k_stp (fun U1 eU1 hf => ?_)
  refine pf_X5_133 C hw k0 eU1 dX5_compare_2 (fun H locs hw => ?_)
  refine lv_aload_n hx hb dX5_compare_5 rfl (lv_at hl 0 rfl) ?_
  refine lv_iload_n hx hb dX5_compare_6 rfl (lv_at hl 1 rfl) ?_
  revert hf
  refine k_pcl (fun z3 h2 hf => ?_)
  refine w_afi hw (w_rV (As := [.int a0]) C hw (ok_X5_isLaw h2) (cw_X5_371 hts (Nat.le_of_ble_eq_true rfl) (Nat.le_of_ble_eq_true rfl)) rfl (by decide) (of_req h2).1 rfl hl.1 rfl (Nat.le_of_ble_eq_true rfl) ⟨Nat.zero_le _, Nat.zero_le _⟩ dX5_compare_7) (fun H locs hw => ?_)
  refine lv_if_eq (tgt := 21) hx hb dX5_compare_10 (by decide) (fun c4 => ?_) (fun c4 => ?_)
  · replace hf := ite_t c4 hf
    refine lv_iconst (v := ((-1) : Int32)) hx hb dX5_compare_21 (by decide) ?_
    cases hf
    exact w_iret C hr hw dX5_compare_22
  · replace hf := ite_f c4 hf
    refine lv_aload_n hx hb dX5_compare_13 rfl (lv_at hl 0 rfl) ?_
    refine lv_iload_n hx hb dX5_compare_14 rfl (lv_at hl 2 rfl) ?_
    revert hf
    refine k_pcl (fun z6 h5 hf => ?_)
    refine w_afi hw (w_rV (As := [.int a1]) C hw (ok_X5_isCask h5) (cw_X5_184 hts (Nat.le_of_ble_eq_true rfl) (Nat.le_of_ble_eq_true rfl)) rfl (by decide) (of_req h5).1 rfl hl.1 rfl (Nat.le_of_ble_eq_true rfl) ⟨Nat.zero_le _, Nat.zero_le _⟩ dX5_compare_15) (fun H locs hw => ?_)
    refine lv_if_ne (tgt := 23) hx hb dX5_compare_18 (by decide) (fun c7 => ?_) (fun c7 => ?_)
    · replace hf := ite_f c7 hf
      refine lv_aload_n hx hb dX5_compare_23 rfl (lv_at hl 0 rfl) ?_
      revert hf
      refine k_drf (fun r8 er8 hf => ?_)
      refine gf_X5_13 C hw k0 er8 dX5_compare_24 ?_
      refine lv_iconst (v := (4 : Int32)) hx hb dX5_compare_27 (by decide) ?_
      revert hf
      refine k_req (fun h9 hf => ?_)
      refine w_iald C hw h9 rfl dX5_compare_28 ?_
      revert hf
      refine k_stp (fun z10 ez10 hf => ?_)
      refine w_nmI ez10 ?_
      refine lv_istore_n (lv' := [(3, .int z10), (0, .ref (gb G + o)), (1, .int a0), (2, .int a1)]) hx hb dX5_compare_29 rfl hl (by decide) rfl (fun ls hl => ?_)
      refine lv_aload_n hx hb dX5_compare_30 rfl (lv_at hl 1 rfl) ?_
      revert hf
      refine k_drf (fun r11 er11 hf => ?_)
      refine gf_X5_13 C hw k0 er11 dX5_compare_31 ?_
      refine lv_iconst (v := (4 : Int32)) hx hb dX5_compare_34 (by decide) ?_
      refine lv_iload_n hx hb dX5_compare_35 rfl (lv_at hl 2 rfl) ?_
      revert hf
      refine k_req (fun h12 hf => ?_)
      revert hf
      refine k_stp (fun U13 eU13 hf => ?_)
      refine w_iast C hw h12 eU13 dX5_compare_36 (fun H locs hw => ?_)
      refine lv_aload_n hx hb dX5_compare_37 rfl (lv_at hl 1 rfl) ?_
      refine lv_iload_n hx hb dX5_compare_38 rfl (lv_at hl 3 rfl) ?_
      revert hf
      refine k_cal (fun z15 U16 h14 hf => ?_)
      refine w_afi hw (w_rV (As := [.int a1]) C hw (ok_X5_lossOf h14) (cw_X5_558 hts (Nat.le_of_ble_eq_true rfl) (Nat.le_of_ble_eq_true rfl)) rfl (by decide) (of_req h14).1 rfl hl.1 rfl (Nat.le_of_ble_eq_true rfl) ⟨Nat.zero_le _, Nat.zero_le _⟩ dX5_compare_39) (fun H locs hw => ?_)
      refine lv_istore (lv' := [(4, .int z15), (3, .int z10), (0, .ref (gb G + o)), (1, .int a0), (2, .int a1)]) hx hb dX5_compare_42 hl (by decide) rfl (fun ls hl => ?_)
      refine lv_aload_n hx hb dX5_compare_44 rfl (lv_at hl 2 rfl) ?_
      revert hf
      refine k_drf (fun r17 er17 hf => ?_)
      refine gf_X5_13 C hw k0 er17 dX5_compare_45 ?_
      refine lv_iconst (v := (4 : Int32)) hx hb dX5_compare_48 (by decide) ?_
      refine lv_iload_n hx hb dX5_compare_49 rfl (lv_at hl 1 rfl) ?_
      revert hf
      refine k_req (fun h18 hf => ?_)
      revert hf
      refine k_stp (fun U19 eU19 hf => ?_)
      refine w_iast C hw h18 eU19 dX5_compare_50 (fun H locs hw => ?_)
      refine lv_iload hx hb dX5_compare_51 (lv_at hl 0 rfl) ?_
      cases hf
      exact w_iret C hr hw dX5_compare_53
    · replace hf := ite_t c7 hf
      refine lv_iconst (v := ((-1) : Int32)) hx hb dX5_compare_21 (by decide) ?_
      cases hf
      exact w_iret C hr hw dX5_compare_22
set_option maxHeartbeats 4000000 in
theorem ok_X5_draw {l : Launch} {G : gG} {T : Tt} {V0 : Vt} {o : Nat} {a0 : Int32} {r : Int32} {V' : Vt} (hf : f_X5_draw T V0 o a0 = some (r, V')) : okM l G yX5_draw cX5_draw 2 (some .int) 0 [.ref (gb G + o), .int a0] V0 T (some (.int r)) V' T 0 0 := by
  refine ok_intro (by decide) (Nat.le_of_ble_eq_true rfl) ?_
  intro p e s m below meth c ls C hr hnm hw hl
  have hx := C.1
  have hb := C.2.1
  have hown := C.2.2.2.1
  have hts := C.2.2.2.2.1
  have hl : lv_has ls 2 [(0, .ref (gb G + o)), (1, .int a0)] := hl
  unfold f_X5_draw at hf
  revert hf
  refine k_req (fun k0 hf => ?_)
  refine lv_aload_n hx hb dX5_draw_0 rfl (lv_at hl 0 rfl) ?_
  refine lv_aload_n hx hb dX5_draw_1 rfl (lv_at hl 0 rfl) ?_
  refine gf_X5_561 C hw k0 dX5_draw_2 ?_
  refine lv_ldc2 (v := (1103 : Int64)) hx hb hown (hts _ q2209) dX5_draw_5 ?_
  refine lv_lmul hx hb dX5_draw_8 ?_
  refine lv_ldc2 (v := (12345 : Int64)) hx hb hown (hts _ q2210) dX5_draw_9 ?_
  refine lv_ladd hx hb dX5_draw_12 ?_
  refine lv_ldc2 (v := (1000003 : Int64)) hx hb hown (hts _ q2211) dX5_draw_13 ?_
  refine lv_lrem hx hb dX5_draw_16 (by decide) ?_
  revert hf
  refine k_stp (fun U1 eU1 hf => ?_)
  refine pf_X5_561 C hw k0 eU1 dX5_draw_17 (fun H locs hw => ?_)
  refine lv_aload_n hx hb dX5_draw_20 rfl (lv_at hl 0 rfl) ?_
  refine gf_X5_561 C hw k0 dX5_draw_21 ?_
  refine lv_iload_n hx hb dX5_draw_24 rfl (lv_at hl 1 rfl) ?_
  refine lv_i2l hx hb dX5_draw_25 rfl ?_
  revert hf
  refine k_req (fun h2 hf => ?_)
  refine lv_lrem hx hb dX5_draw_26 h2 ?_
  refine lv_l2i hx hb dX5_draw_27 rfl ?_
  cases hf
  exact w_iret C hr hw dX5_draw_28
set_option maxHeartbeats 4000000 in
theorem jk_X5_drawnAct_47 {l : Launch} {G : gG} {p : Program} {e : Env} {s : State} {m : MethodId} {args : Array Value} {below : List Frame} {meth : Method} {c : Code} {T : Tt} {V0 : Vt} {V' : Vt} (C : Cx G p s m args meth c cX5_drawnAct RX5 5) (hr : meth.sig.returnType = none) {x0 : Nat} {x1 : Int32} {x2 : Int32} {x4 : Int32} {H : Heap} {locs : List Loc} {ls : Array Slot} (k0 : T.1 x0 = 6) (hf : f_X5_drawnAct_J47 T V0 x0 x1 x2 x4 = some V') (hw : wS G V0 T H locs) (hl : lv_has ls 5 [(0, .ref (gb G + x0)), (1, .int x1), (2, .int x2), (4, .int x4)]) : W p l e (rmL 10 0 0) s m args below meth c H locs 0 0 (eQ G below none V' T args s 0 0) (F0 m 47 ls []) := by
  have hx := C.1
  have hb := C.2.1
  have hown := C.2.2.2.1
  have hts := C.2.2.2.2.1
  unfold f_X5_drawnAct_J47 at hf
  refine lv_iload_n hx hb dX5_drawnAct_47 rfl (lv_at hl 1 rfl) ?_
  refine lv_iconst (v := (2 : Int32)) hx hb dX5_drawnAct_48 (by decide) ?_
  refine lv_icmp_ne (tgt := 70) hx hb dX5_drawnAct_49 (by decide) (fun c3 => ?_) (fun c3 => ?_)
  · replace hf := ite_f c3 hf
    cases hf
    exact w_vret C hr hw dX5_drawnAct_70
  · replace hf := ite_t c3 hf
    refine lv_aload_n hx hb dX5_drawnAct_52 rfl (lv_at hl 0 rfl) ?_
    refine lv_iload_n hx hb dX5_drawnAct_53 rfl (lv_at hl 2 rfl) ?_
    refine lv_iload hx hb dX5_drawnAct_54 (lv_at hl 3 rfl) ?_
    revert hf
    refine k_cal (fun z5 U6 h4 hf => ?_)
    refine w_afi hw (w_rV (As := [.int x2, .int x4]) C hw (ok_X5_whyNotBottle h4) (cw_X5_450 hts (Nat.le_of_ble_eq_true rfl) (Nat.le_of_ble_eq_true rfl)) rfl (by decide) (of_req h4).1 rfl hl.1 rfl (Nat.le_of_ble_eq_true rfl) ⟨Nat.zero_le _, Nat.zero_le _⟩ dX5_drawnAct_56) (fun H locs hw => ?_)
    refine lv_if_ne (tgt := 70) hx hb dX5_drawnAct_59 (by decide) (fun c7 => ?_) (fun c7 => ?_)
    · replace hf := ite_f c7 hf
      cases hf
      exact w_vret C hr hw dX5_drawnAct_70
    · replace hf := ite_t c7 hf
      refine lv_aload_n hx hb dX5_drawnAct_62 rfl (lv_at hl 0 rfl) ?_
      refine lv_iload_n hx hb dX5_drawnAct_63 rfl (lv_at hl 2 rfl) ?_
      refine lv_iload hx hb dX5_drawnAct_64 (lv_at hl 3 rfl) ?_
      revert hf
      refine k_cal (fun z9 U10 h8 hf => ?_)
      refine w_afi hw (w_rV (As := [.int x2, .int x4]) C hw (ok_X5_bottleIt h8) (cw_X5_453 hts (Nat.le_of_ble_eq_true rfl) (Nat.le_of_ble_eq_true rfl)) rfl (by decide) (of_req h8).1 rfl hl.1 rfl (Nat.le_of_ble_eq_true rfl) ⟨Nat.zero_le _, Nat.zero_le _⟩ dX5_drawnAct_66) (fun H locs hw => ?_)
      refine lv_pop hx hb dX5_drawnAct_69 rfl ?_
      cases hf
      exact w_vret C hr hw dX5_drawnAct_70
set_option maxHeartbeats 4000000 in
theorem jk_X5_drawnAct_22 {l : Launch} {G : gG} {p : Program} {e : Env} {s : State} {m : MethodId} {args : Array Value} {below : List Frame} {meth : Method} {c : Code} {T : Tt} {V0 : Vt} {V' : Vt} (C : Cx G p s m args meth c cX5_drawnAct RX5 5) (hr : meth.sig.returnType = none) {x0 : Nat} {x1 : Int32} {x2 : Int32} {x3 : Int32} {x4 : Int32} {H : Heap} {locs : List Loc} {ls : Array Slot} (k0 : T.1 x0 = 6) (hf : f_X5_drawnAct_J22 T V0 x0 x1 x2 x3 x4 = some V') (hw : wS G V0 T H locs) (hl : lv_has ls 5 [(0, .ref (gb G + x0)), (1, .int x1), (2, .int x2), (3, .int x3), (4, .int x4)]) : W p l e (rmL 10 0 0) s m args below meth c H locs 0 0 (eQ G below none V' T args s 0 0) (F0 m 22 ls []) := by
  have hx := C.1
  have hb := C.2.1
  have hown := C.2.2.2.1
  have hts := C.2.2.2.2.1
  unfold f_X5_drawnAct_J22 at hf
  refine lv_iload_n hx hb dX5_drawnAct_22 rfl (lv_at hl 1 rfl) ?_
  refine lv_iconst (v := (1 : Int32)) hx hb dX5_drawnAct_23 (by decide) ?_
  refine lv_icmp_ne (tgt := 47) hx hb dX5_drawnAct_24 (by decide) (fun c2 => ?_) (fun c2 => ?_)
  · replace hf := ite_f c2 hf
    exact jk_X5_drawnAct_47 C hr k0 hf hw (lv_sub hl [0, 1, 2, 4] rfl)
  · replace hf := ite_t c2 hf
    refine lv_aload_n hx hb dX5_drawnAct_27 rfl (lv_at hl 0 rfl) ?_
    refine lv_iload_n hx hb dX5_drawnAct_28 rfl (lv_at hl 2 rfl) ?_
    refine lv_iload_n hx hb dX5_drawnAct_29 rfl (lv_at hl 3 rfl) ?_
    refine lv_iload hx hb dX5_drawnAct_30 (lv_at hl 4 rfl) ?_
    revert hf
    refine k_cal (fun z12 U13 h11 hf => ?_)
    refine w_afi hw (w_rV (As := [.int x2, .int x3, .int x4]) C hw (ok_X5_whyNotRack h11) (cw_X5_433 hts (Nat.le_of_ble_eq_true rfl) (Nat.le_of_ble_eq_true rfl)) rfl (by decide) (of_req h11).1 rfl hl.1 rfl (Nat.le_of_ble_eq_true rfl) ⟨Nat.zero_le _, Nat.zero_le _⟩ dX5_drawnAct_32) (fun H locs hw => ?_)
    refine lv_if_ne (tgt := 47) hx hb dX5_drawnAct_35 (by decide) (fun c14 => ?_) (fun c14 => ?_)
    · replace hf := ite_f c14 hf
      exact jk_X5_drawnAct_47 C hr k0 hf hw (lv_sub hl [0, 1, 2, 4] rfl)
    · replace hf := ite_t c14 hf
      refine lv_aload_n hx hb dX5_drawnAct_38 rfl (lv_at hl 0 rfl) ?_
      refine lv_iload_n hx hb dX5_drawnAct_39 rfl (lv_at hl 2 rfl) ?_
      refine lv_iload_n hx hb dX5_drawnAct_40 rfl (lv_at hl 3 rfl) ?_
      refine lv_iload hx hb dX5_drawnAct_41 (lv_at hl 4 rfl) ?_
      revert hf
      refine k_cal (fun z16 U17 h15 hf => ?_)
      refine w_afi hw (w_rV (As := [.int x2, .int x3, .int x4]) C hw (ok_X5_rackIt h15) (cw_X5_437 hts (Nat.le_of_ble_eq_true rfl) (Nat.le_of_ble_eq_true rfl)) rfl (by decide) (of_req h15).1 rfl hl.1 rfl (Nat.le_of_ble_eq_true rfl) ⟨Nat.zero_le _, Nat.zero_le _⟩ dX5_drawnAct_43) (fun H locs hw => ?_)
      refine lv_pop hx hb dX5_drawnAct_46 rfl ?_
      exact jk_X5_drawnAct_47 C hr k0 hf hw (lv_sub hl [0, 1, 2, 4] rfl)
set_option maxHeartbeats 4000000 in
theorem ok_X5_drawnAct {l : Launch} {G : gG} {T : Tt} {V0 : Vt} {o : Nat} {a0 : Int32} {a1 : Int32} {a2 : Int32} {a3 : Int32} {V' : Vt} (hf : f_X5_drawnAct T V0 o a0 a1 a2 a3 = some V') : okM l G yX5_drawnAct cX5_drawnAct 5 none 10 [.ref (gb G + o), .int a0, .int a1, .int a2, .int a3] V0 T none V' T 0 0 := by
  refine ok_intro (by decide) (Nat.le_of_ble_eq_true rfl) ?_
  intro p e s m below meth c ls C hr hnm hw hl
  have hx := C.1
  have hb := C.2.1
  have hown := C.2.2.2.1
  have hts := C.2.2.2.2.1
  have hl : lv_has ls 5 [(0, .ref (gb G + o)), (1, .int a0), (2, .int a1), (3, .int a2), (4, .int a3)] := hl
  unfold f_X5_drawnAct at hf
  revert hf
  refine k_req (fun k0 hf => ?_)
  refine lv_iload_n hx hb dX5_drawnAct_0 rfl (lv_at hl 1 rfl) ?_
  refine lv_if_ne (tgt := 22) hx hb dX5_drawnAct_1 (by decide) (fun c1 => ?_) (fun c1 => ?_)
  · replace hf := ite_f c1 hf
    exact jk_X5_drawnAct_22 C hr k0 hf hw (lv_sub hl [0, 1, 2, 3, 4] rfl)
  · replace hf := ite_t c1 hf
    refine lv_aload_n hx hb dX5_drawnAct_4 rfl (lv_at hl 0 rfl) ?_
    refine lv_iload_n hx hb dX5_drawnAct_5 rfl (lv_at hl 2 rfl) ?_
    refine lv_iload hx hb dX5_drawnAct_6 (lv_at hl 4 rfl) ?_
    revert hf
    refine k_pcl (fun z19 h18 hf => ?_)
    refine w_afi hw (w_rV (As := [.int a1, .int a3]) C hw (ok_X5_whyNotPour h18) (cw_X5_418 hts (Nat.le_of_ble_eq_true rfl) (Nat.le_of_ble_eq_true rfl)) rfl (by decide) (of_req h18).1 rfl hl.1 rfl (Nat.le_of_ble_eq_true rfl) ⟨Nat.zero_le _, Nat.zero_le _⟩ dX5_drawnAct_8) (fun H locs hw => ?_)
    refine lv_if_ne (tgt := 22) hx hb dX5_drawnAct_11 (by decide) (fun c20 => ?_) (fun c20 => ?_)
    · replace hf := ite_f c20 hf
      exact jk_X5_drawnAct_22 C hr k0 hf hw (lv_sub hl [0, 1, 2, 3, 4] rfl)
    · replace hf := ite_t c20 hf
      refine lv_aload_n hx hb dX5_drawnAct_14 rfl (lv_at hl 0 rfl) ?_
      refine lv_iload_n hx hb dX5_drawnAct_15 rfl (lv_at hl 2 rfl) ?_
      refine lv_iload hx hb dX5_drawnAct_16 (lv_at hl 4 rfl) ?_
      revert hf
      refine k_cal (fun z22 U23 h21 hf => ?_)
      refine w_afi hw (w_rV (As := [.int a1, .int a3]) C hw (ok_X5_pourIt h21) (cw_X5_424 hts (Nat.le_of_ble_eq_true rfl) (Nat.le_of_ble_eq_true rfl)) rfl (by decide) (of_req h21).1 rfl hl.1 rfl (Nat.le_of_ble_eq_true rfl) ⟨Nat.zero_le _, Nat.zero_le _⟩ dX5_drawnAct_18) (fun H locs hw => ?_)
      refine lv_pop hx hb dX5_drawnAct_21 rfl ?_
      exact jk_X5_drawnAct_22 C hr k0 hf hw (lv_sub hl [0, 1, 2, 3, 4] rfl)
set_option maxHeartbeats 4000000 in
theorem lk_X5_harvests_160 {l : Launch} {G : gG} {p : Program} {e : Env} {s : State} {m : MethodId} {args : Array Value} {below : List Frame} {meth : Method} {c : Code} {T : Tt} {r : Int32} {V' : Vt} (C : Cx G p s m args meth c cX5_harvests RX5 8) (hr : meth.sig.returnType = (some .int)) {x0 : Nat} {kx160_188 : Vt → Option (Int32 × Vt)} (k0 : T.1 x0 = 6) (hkx160_188 : ∀ (W1 : Vt) (H : Heap) (locs : List Loc) (ls : Array Slot), kx160_188 W1 = some (r, V') → wS G W1 T H locs → lv_has ls 8 [(0, .ref (gb G + x0))] → W p l e (rmL 11 0 0) s m args below meth c H locs 0 0 (eQ G below (some (.int r)) V' T args s 0 0) (F0 m 188 ls [])) : ∀ (n : Nat) (x3 : Int32) (V1 : Vt) (H : Heap) (locs : List Loc) (ls : Array Slot), f_X5_harvests_L160 T x0 kx160_188 n x3 V1 = some (r, V') → wS G V1 T H locs → lv_has ls 8 [(0, .ref (gb G + x0)), (3, .int x3)] → W p l e (rmL 11 0 0) s m args below meth c H locs 0 0 (eQ G below (some (.int r)) V' T args s 0 0) (F0 m 160 ls []) := by
  have hx := C.1
  have hb := C.2.1
  have hown := C.2.2.2.1
  have hts := C.2.2.2.2.1
  intro n
  induction n with
  | zero =>
    intro x3 V1 H locs ls hf
    cases hf
  | succ n ih =>
    intro x3 V1 H locs ls hf hw hl
    unfold f_X5_harvests_L160 at hf
    refine lv_iload_n hx hb dX5_harvests_160 rfl (lv_at hl 1 rfl) ?_
    refine lv_sipush (v := (160 : Int32)) hx hb dX5_harvests_161 (by decide) ?_
    refine lv_icmp_ge (tgt := 188) hx hb dX5_harvests_164 (by decide) (fun c49 => ?_) (fun c49 => ?_)
    · replace hf := ite_t c49 hf
      exact hkx160_188 _ _ _ _ hf hw (lv_sub hl [0] rfl)
    · replace hf := ite_f c49 hf
      refine lv_aload_n hx hb dX5_harvests_167 rfl (lv_at hl 0 rfl) ?_
      revert hf
      refine k_drf (fun r50 er50 hf => ?_)
      refine gf_X5_127 C hw k0 er50 dX5_harvests_168 ?_
      refine lv_iload_n hx hb dX5_harvests_171 rfl (lv_at hl 1 rfl) ?_
      refine lv_aload_n hx hb dX5_harvests_172 rfl (lv_at hl 0 rfl) ?_
      revert hf
      refine k_drf (fun r51 er51 hf => ?_)
      refine gf_X5_13 C hw k0 er51 dX5_harvests_173 ?_
      refine lv_bipush (v := (10 : Int32)) hx hb dX5_harvests_176 (by decide) ?_
      refine lv_iload_n hx hb dX5_harvests_178 rfl (lv_at hl 1 rfl) ?_
      refine lv_iadd hx hb dX5_harvests_179 ?_
      revert hf
      refine k_req (fun h52 hf => ?_)
      refine w_iald C hw h52 rfl dX5_harvests_180 ?_
      revert hf
      refine k_req (fun h53 hf => ?_)
      revert hf
      refine k_stp (fun U54 eU54 hf => ?_)
      refine w_iast C hw h53 eU54 dX5_harvests_181 (fun H locs hw => ?_)
      revert hf
      refine k_stp (fun z55 ez55 hf => ?_)
      refine lv_iinc (k := 1) (lv' := [(3, .int z55), (0, .ref (gb G + x0))]) hx hb dX5_harvests_182 hl rfl (inc_e (by decide) ez55) (by decide) rfl (fun ls hl => ?_)
      refine lv_goto (tgt := 160) hx hb dX5_harvests_185 (by decide) ?_
      exact ih _ _ _ _ _ hf hw (lv_sub hl [1, 0] rfl)
set_option maxHeartbeats 4000000 in
theorem jk_X5_harvests_158 {l : Launch} {G : gG} {p : Program} {e : Env} {s : State} {m : MethodId} {args : Array Value} {below : List Frame} {meth : Method} {c : Code} {T : Tt} {V0 : Vt} {r : Int32} {V' : Vt} (C : Cx G p s m args meth c cX5_harvests RX5 8) (hr : meth.sig.returnType = (some .int)) {x0 : Nat} {H : Heap} {locs : List Loc} {ls : Array Slot} (k0 : T.1 x0 = 6) (hf : f_X5_harvests_J158 T V0 x0 = some (r, V')) (hw : wS G V0 T H locs) (hl : lv_has ls 8 [(0, .ref (gb G + x0))]) : W p l e (rmL 11 0 0) s m args below meth c H locs 0 0 (eQ G below (some (.int r)) V' T args s 0 0) (F0 m 158 ls []) := by
  have hx := C.1
  have hb := C.2.1
  have hown := C.2.2.2.1
  have hts := C.2.2.2.2.1
  unfold f_X5_harvests_J158 at hf
  refine lv_iconst (v := (0 : Int32)) hx hb dX5_harvests_158 (by decide) ?_
  refine lv_istore_n (lv' := [(3, .int (0 : Int32)), (0, .ref (gb G + x0))]) hx hb dX5_harvests_159 rfl hl (by decide) rfl (fun ls hl => ?_)
  refine lk_X5_harvests_160 C hr k0 (fun U56 H locs ls hf hw hl => ?_) fuel _ _ _ _ _ hf hw (lv_sub hl [1, 0] rfl)
  refine lv_aload_n hx hb dX5_harvests_188 rfl (lv_at hl 0 rfl) ?_
  refine lv_aload_n hx hb dX5_harvests_189 rfl (lv_at hl 0 rfl) ?_
  revert hf
  refine k_drf (fun r57 er57 hf => ?_)
  refine gf_X5_13 C hw k0 er57 dX5_harvests_190 ?_
  refine lv_iconst (v := (0 : Int32)) hx hb dX5_harvests_193 (by decide) ?_
  revert hf
  refine k_req (fun h58 hf => ?_)
  refine w_iald C hw h58 rfl dX5_harvests_194 ?_
  revert hf
  refine k_stp (fun U59 eU59 hf => ?_)
  refine pf_X5_130 C hw k0 eU59 dX5_harvests_195 (fun H locs hw => ?_)
  refine lv_aload_n hx hb dX5_harvests_198 rfl (lv_at hl 0 rfl) ?_
  refine lv_bipush (v := (16 : Int32)) hx hb dX5_harvests_199 (by decide) ?_
  revert hf
  refine k_pcl (fun U62 h60 hf => ?_)
  refine w_afv hw (w_rV (As := [.int (16 : Int32)]) C hw (ok_X5_putBack h60) (cw_X5_150 hts (Nat.le_of_ble_eq_true rfl) (Nat.le_of_ble_eq_true rfl)) rfl (by decide) (of_req h60).1 rfl hl.1 rfl (Nat.le_of_ble_eq_true rfl) ⟨Nat.zero_le _, Nat.zero_le _⟩ dX5_harvests_201) (fun H locs hw => ?_)
  refine lv_aload_n hx hb dX5_harvests_204 rfl (lv_at hl 0 rfl) ?_
  refine lv_aload_n hx hb dX5_harvests_205 rfl (lv_at hl 0 rfl) ?_
  refine gf_X5_444 C hw k0 dX5_harvests_206 ?_
  revert hf
  refine k_cal (fun z64 U65 h63 hf => ?_)
  refine w_afi hw (w_rV (As := [.int (U62.1 x0 42)]) C hw (ok_X5_tell h63) (cw_X5_142 hts (Nat.le_of_ble_eq_true rfl) (Nat.le_of_ble_eq_true rfl)) rfl (by decide) (of_req h63).1 rfl hl.1 rfl (Nat.le_of_ble_eq_true rfl) ⟨Nat.zero_le _, Nat.zero_le _⟩ dX5_harvests_209) (fun H locs hw => ?_)
  cases hf
  exact w_iret C hr hw dX5_harvests_212
set_option maxHeartbeats 4000000 in
theorem lk_X5_harvests_77 {l : Launch} {G : gG} {p : Program} {e : Env} {s : State} {m : MethodId} {args : Array Value} {below : List Frame} {meth : Method} {c : Code} {T : Tt} {r : Int32} {V' : Vt} (C : Cx G p s m args meth c cX5_harvests RX5 8) (hr : meth.sig.returnType = (some .int)) {x0 : Nat} {x2 : Int32} {kx77_158 : Vt → Option (Int32 × Vt)} (k0 : T.1 x0 = 6) (hkx77_158 : ∀ (W1 : Vt) (H : Heap) (locs : List Loc) (ls : Array Slot), kx77_158 W1 = some (r, V') → wS G W1 T H locs → lv_has ls 8 [(0, .ref (gb G + x0))] → W p l e (rmL 11 0 0) s m args below meth c H locs 0 0 (eQ G below (some (.int r)) V' T args s 0 0) (F0 m 158 ls [])) : ∀ (n : Nat) (x3 : Int32) (V1 : Vt) (H : Heap) (locs : List Loc) (ls : Array Slot), f_X5_harvests_L77 T x0 x2 kx77_158 n x3 V1 = some (r, V') → wS G V1 T H locs → lv_has ls 8 [(0, .ref (gb G + x0)), (2, .int x2), (3, .int x3)] → W p l e (rmL 11 0 0) s m args below meth c H locs 0 0 (eQ G below (some (.int r)) V' T args s 0 0) (F0 m 77 ls []) := by
  have hx := C.1
  have hb := C.2.1
  have hown := C.2.2.2.1
  have hts := C.2.2.2.2.1
  intro n
  induction n with
  | zero =>
    intro x3 V1 H locs ls hf
    cases hf
  | succ n ih =>
    intro x3 V1 H locs ls hf hw hl
    unfold f_X5_harvests_L77 at hf
    refine lv_iload_n hx hb dX5_harvests_77 rfl (lv_at hl 2 rfl) ?_
    refine lv_iload_n hx hb dX5_harvests_78 rfl (lv_at hl 1 rfl) ?_
    refine lv_icmp_ge (tgt := 158) hx hb dX5_harvests_79 (by decide) (fun c20 => ?_) (fun c20 => ?_)
    · replace hf := ite_t c20 hf
      exact hkx77_158 _ _ _ _ hf hw (lv_sub hl [0] rfl)
    · replace hf := ite_f c20 hf
      refine lv_aload_n hx hb dX5_harvests_82 rfl (lv_at hl 0 rfl) ?_
      revert hf
      refine k_drf (fun r21 er21 hf => ?_)
      refine gf_X5_13 C hw k0 er21 dX5_harvests_83 ?_
      refine lv_iconst (v := (5 : Int32)) hx hb dX5_harvests_86 (by decide) ?_
      revert hf
      refine k_req (fun h22 hf => ?_)
      refine w_iald C hw h22 rfl dX5_harvests_87 ?_
      refine lv_sipush (v := (999 : Int32)) hx hb dX5_harvests_88 (by decide) ?_
      refine lv_icmp_ge (tgt := 158) hx hb dX5_harvests_91 (by decide) (fun c23 => ?_) (fun c23 => ?_)
      · replace hf := ite_t c23 hf
        exact hkx77_158 _ _ _ _ hf hw (lv_sub hl [0] rfl)
      · replace hf := ite_f c23 hf
        refine lv_aload_n hx hb dX5_harvests_94 rfl (lv_at hl 0 rfl) ?_
        refine lv_aload_n hx hb dX5_harvests_95 rfl (lv_at hl 0 rfl) ?_
        revert hf
        refine k_drf (fun r24 er24 hf => ?_)
        refine gf_X5_13 C hw k0 er24 dX5_harvests_96 ?_
        refine lv_iconst (v := (0 : Int32)) hx hb dX5_harvests_99 (by decide) ?_
        revert hf
        refine k_req (fun h25 hf => ?_)
        refine w_iald C hw h25 rfl dX5_harvests_100 ?_
        revert hf
        refine k_cal (fun z27 U28 h26 hf => ?_)
        refine w_afi hw (w_rV (As := [.int (V1.1 r24 (ixN (0 : Int32)))]) C hw (ok_X5_draw h26) (cw_X5_570 hts (Nat.le_of_ble_eq_true rfl) (Nat.le_of_ble_eq_true rfl)) rfl (by decide) (of_req h26).1 rfl hl.1 rfl (Nat.le_of_ble_eq_true rfl) ⟨Nat.zero_le _, Nat.zero_le _⟩ dX5_harvests_101) (fun H locs hw => ?_)
        refine lv_istore (lv' := [(4, .int z27), (0, .ref (gb G + x0)), (2, .int x2), (3, .int x3)]) hx hb dX5_harvests_104 hl (by decide) rfl (fun ls hl => ?_)
        refine lv_aload_n hx hb dX5_harvests_106 rfl (lv_at hl 1 rfl) ?_
        refine lv_aload_n hx hb dX5_harvests_107 rfl (lv_at hl 1 rfl) ?_
        revert hf
        refine k_drf (fun r29 er29 hf => ?_)
        refine gf_X5_13 C hw k0 er29 dX5_harvests_108 ?_
        refine lv_iconst (v := (0 : Int32)) hx hb dX5_harvests_111 (by decide) ?_
        revert hf
        refine k_req (fun h30 hf => ?_)
        refine w_iald C hw h30 rfl dX5_harvests_112 ?_
        revert hf
        refine k_cal (fun z32 U33 h31 hf => ?_)
        refine w_afi hw (w_rV (As := [.int (U28.1 r29 (ixN (0 : Int32)))]) C hw (ok_X5_draw h31) (cw_X5_570 hts (Nat.le_of_ble_eq_true rfl) (Nat.le_of_ble_eq_true rfl)) rfl (by decide) (of_req h31).1 rfl hl.1 rfl (Nat.le_of_ble_eq_true rfl) ⟨Nat.zero_le _, Nat.zero_le _⟩ dX5_harvests_113) (fun H locs hw => ?_)
        refine lv_istore (lv' := [(5, .int z32), (4, .int z27), (0, .ref (gb G + x0)), (2, .int x2), (3, .int x3)]) hx hb dX5_harvests_116 hl (by decide) rfl (fun ls hl => ?_)
        refine lv_aload_n hx hb dX5_harvests_118 rfl (lv_at hl 2 rfl) ?_
        refine lv_bipush (v := (9 : Int32)) hx hb dX5_harvests_119 (by decide) ?_
        revert hf
        refine k_cal (fun z35 U36 h34 hf => ?_)
        refine w_afi hw (w_rV (As := [.int (9 : Int32)]) C hw (ok_X5_draw h34) (cw_X5_570 hts (Nat.le_of_ble_eq_true rfl) (Nat.le_of_ble_eq_true rfl)) rfl (by decide) (of_req h34).1 rfl hl.1 rfl (Nat.le_of_ble_eq_true rfl) ⟨Nat.zero_le _, Nat.zero_le _⟩ dX5_harvests_121) (fun H locs hw => ?_)
        refine lv_iconst (v := (1 : Int32)) hx hb dX5_harvests_124 (by decide) ?_
        refine lv_iadd hx hb dX5_harvests_125 ?_
        revert hf
        refine k_stp (fun z37 ez37 hf => ?_)
        refine w_nmI ez37 ?_
        refine lv_istore (lv' := [(6, .int z37), (5, .int z32), (4, .int z27), (0, .ref (gb G + x0)), (2, .int x2), (3, .int x3)]) hx hb dX5_harvests_126 hl (by decide) rfl (fun ls hl => ?_)
        refine lv_aload_n hx hb dX5_harvests_128 rfl (lv_at hl 3 rfl) ?_
        refine lv_iconst (v := (4 : Int32)) hx hb dX5_harvests_129 (by decide) ?_
        revert hf
        refine k_cal (fun z39 U40 h38 hf => ?_)
        refine w_afi hw (w_rV (As := [.int (4 : Int32)]) C hw (ok_X5_draw h38) (cw_X5_570 hts (Nat.le_of_ble_eq_true rfl) (Nat.le_of_ble_eq_true rfl)) rfl (by decide) (of_req h38).1 rfl hl.1 rfl (Nat.le_of_ble_eq_true rfl) ⟨Nat.zero_le _, Nat.zero_le _⟩ dX5_harvests_130) (fun H locs hw => ?_)
        refine lv_istore (lv' := [(7, .int z39), (6, .int z37), (5, .int z32), (4, .int z27), (0, .ref (gb G + x0)), (2, .int x2), (3, .int x3)]) hx hb dX5_harvests_133 hl (by decide) rfl (fun ls hl => ?_)
        refine lv_aload_n hx hb dX5_harvests_135 rfl (lv_at hl 4 rfl) ?_
        refine lv_iload hx hb dX5_harvests_136 (lv_at hl 0 rfl) ?_
        refine lv_iload hx hb dX5_harvests_138 (lv_at hl 3 rfl) ?_
        refine lv_iload hx hb dX5_harvests_140 (lv_at hl 2 rfl) ?_
        refine lv_iload hx hb dX5_harvests_142 (lv_at hl 1 rfl) ?_
        revert hf
        refine k_pcl (fun U43 h41 hf => ?_)
        refine w_afv hw (w_rV (As := [.int z39, .int z27, .int z32, .int z37]) C hw (ok_X5_drawnAct h41) (cw_X5_573 hts (Nat.le_of_ble_eq_true rfl) (Nat.le_of_ble_eq_true rfl)) rfl (by decide) (of_req h41).1 rfl hl.1 rfl (Nat.le_of_ble_eq_true rfl) ⟨Nat.zero_le _, Nat.zero_le _⟩ dX5_harvests_144) (fun H locs hw => ?_)
        refine lv_aload_n hx hb dX5_harvests_147 rfl (lv_at hl 4 rfl) ?_
        revert hf
        refine k_cal (fun z45 U46 h44 hf => ?_)
        refine w_afi hw (w_rV (As := []) C hw (ok_X5_passIt h44) (cw_X5_459 hts (Nat.le_of_ble_eq_true rfl) (Nat.le_of_ble_eq_true rfl)) rfl (by decide) (of_req h44).1 rfl hl.1 rfl (Nat.le_of_ble_eq_true rfl) ⟨Nat.zero_le _, Nat.zero_le _⟩ dX5_harvests_148) (fun H locs hw => ?_)
        refine lv_pop hx hb dX5_harvests_151 rfl ?_
        revert hf
        refine k_stp (fun z47 ez47 hf => ?_)
        refine lv_iinc (k := 6) (lv' := [(3, .int z47), (7, .int z39), (6, .int z37), (5, .int z32), (4, .int z27), (0, .ref (gb G + x0)), (2, .int x2)]) hx hb dX5_harvests_152 hl rfl (inc_e (by decide) ez47) (by decide) rfl (fun ls hl => ?_)
        refine lv_goto (tgt := 77) hx hb dX5_harvests_155 (by decide) ?_
        exact ih _ _ _ _ _ hf hw (lv_sub hl [5, 6, 0] rfl)
set_option maxHeartbeats 4000000 in
theorem jk_X5_harvests_29 {l : Launch} {G : gG} {p : Program} {e : Env} {s : State} {m : MethodId} {args : Array Value} {below : List Frame} {meth : Method} {c : Code} {T : Tt} {V0 : Vt} {r : Int32} {V' : Vt} (C : Cx G p s m args meth c cX5_harvests RX5 8) (hr : meth.sig.returnType = (some .int)) {x0 : Nat} {H : Heap} {locs : List Loc} {ls : Array Slot} (k0 : T.1 x0 = 6) (hf : f_X5_harvests_J29 T V0 x0 = some (r, V')) (hw : wS G V0 T H locs) (hl : lv_has ls 8 [(0, .ref (gb G + x0))]) : W p l e (rmL 11 0 0) s m args below meth c H locs 0 0 (eQ G below (some (.int r)) V' T args s 0 0) (F0 m 29 ls []) := by
  have hx := C.1
  have hb := C.2.1
  have hown := C.2.2.2.1
  have hts := C.2.2.2.2.1
  unfold f_X5_harvests_J29 at hf
  refine lv_aload_n hx hb dX5_harvests_29 rfl (lv_at hl 0 rfl) ?_
  refine lv_iconst (v := ((-1) : Int32)) hx hb dX5_harvests_30 (by decide) ?_
  revert hf
  refine k_cal (fun z6 U7 h5 hf => ?_)
  refine w_afi hw (w_rV (As := [.int ((-1) : Int32)]) C hw (ok_X5_tell h5) (cw_X5_142 hts (Nat.le_of_ble_eq_true rfl) (Nat.le_of_ble_eq_true rfl)) rfl (by decide) (of_req h5).1 rfl hl.1 rfl (Nat.le_of_ble_eq_true rfl) ⟨Nat.zero_le _, Nat.zero_le _⟩ dX5_harvests_31) (fun H locs hw => ?_)
  cases hf
  exact w_iret C hr hw dX5_harvests_34
set_option maxHeartbeats 4000000 in
theorem ok_X5_harvests {l : Launch} {G : gG} {T : Tt} {V0 : Vt} {o : Nat} {a0 : Int32} {a1 : Int32} {r : Int32} {V' : Vt} (hf : f_X5_harvests T V0 o a0 a1 = some (r, V')) : okM l G yX5_harvests cX5_harvests 8 (some .int) 11 [.ref (gb G + o), .int a0, .int a1] V0 T (some (.int r)) V' T 0 0 := by
  refine ok_intro (by decide) (Nat.le_of_ble_eq_true rfl) ?_
  intro p e s m below meth c ls C hr hnm hw hl
  have hx := C.1
  have hb := C.2.1
  have hown := C.2.2.2.1
  have hts := C.2.2.2.2.1
  have hl : lv_has ls 8 [(0, .ref (gb G + o)), (1, .int a0), (2, .int a1)] := hl
  unfold f_X5_harvests at hf
  revert hf
  refine k_req (fun k0 hf => ?_)
  refine lv_aload_n hx hb dX5_harvests_0 rfl (lv_at hl 0 rfl) ?_
  refine lv_iconst (v := (0 : Int32)) hx hb dX5_harvests_1 (by decide) ?_
  revert hf
  refine k_stp (fun U1 eU1 hf => ?_)
  refine pf_X5_133 C hw k0 eU1 dX5_harvests_2 (fun H locs hw => ?_)
  refine lv_iload_n hx hb dX5_harvests_5 rfl (lv_at hl 1 rfl) ?_
  refine lv_i2l hx hb dX5_harvests_6 rfl ?_
  refine lv_lconst (v := (0 : Int64)) hx hb dX5_harvests_7 (by decide) ?_
  refine lv_ldc2 (v := (1000000 : Int64)) hx hb hown (hts _ q1872) dX5_harvests_8 ?_
  revert hf
  refine k_pcl (fun z3 h2 hf => ?_)
  refine w_afi hw (w_rS (As := [.long (Int32.toInt64 a0), .long (0 : Int64), .long (1000000 : Int64)]) C hw (ok_X5_in h2) (cw_X5_153 hts (Nat.le_of_ble_eq_true rfl) (Nat.le_of_ble_eq_true rfl)) rfl hl.1 rfl (Nat.le_of_ble_eq_true rfl) ⟨Nat.zero_le _, Nat.zero_le _⟩ dX5_harvests_11) (fun H locs hw => ?_)
  refine lv_if_eq (tgt := 29) hx hb dX5_harvests_14 (by decide) (fun c4 => ?_) (fun c4 => ?_)
  · replace hf := ite_t c4 hf
    exact jk_X5_harvests_29 C hr k0 hf hw (lv_sub hl [0] rfl)
  · replace hf := ite_f c4 hf
    refine lv_iload_n hx hb dX5_harvests_17 rfl (lv_at hl 2 rfl) ?_
    refine lv_i2l hx hb dX5_harvests_18 rfl ?_
    refine lv_lconst (v := (1 : Int64)) hx hb dX5_harvests_19 (by decide) ?_
    refine lv_ldc2 (v := (60 : Int64)) hx hb hown (hts _ q2113) dX5_harvests_20 ?_
    revert hf
    refine k_pcl (fun z9 h8 hf => ?_)
    refine w_afi hw (w_rS (As := [.long (Int32.toInt64 a1), .long (1 : Int64), .long (60 : Int64)]) C hw (ok_X5_in h8) (cw_X5_153 hts (Nat.le_of_ble_eq_true rfl) (Nat.le_of_ble_eq_true rfl)) rfl hl.1 rfl (Nat.le_of_ble_eq_true rfl) ⟨Nat.zero_le _, Nat.zero_le _⟩ dX5_harvests_23) (fun H locs hw => ?_)
    refine lv_if_ne (tgt := 35) hx hb dX5_harvests_26 (by decide) (fun c10 => ?_) (fun c10 => ?_)
    · replace hf := ite_f c10 hf
      refine lv_aload_n hx hb dX5_harvests_35 rfl (lv_at hl 0 rfl) ?_
      revert hf
      refine k_drf (fun r11 er11 hf => ?_)
      refine gf_X5_13 C hw k0 er11 dX5_harvests_36 ?_
      refine lv_iconst (v := (0 : Int32)) hx hb dX5_harvests_39 (by decide) ?_
      revert hf
      refine k_req (fun h12 hf => ?_)
      refine w_iald C hw h12 rfl dX5_harvests_40 ?_
      refine lv_if_ne (tgt := 51) hx hb dX5_harvests_41 (by decide) (fun c13 => ?_) (fun c13 => ?_)
      · replace hf := ite_f c13 hf
        refine lv_aload_n hx hb dX5_harvests_51 rfl (lv_at hl 0 rfl) ?_
        refine lv_bipush (v := (16 : Int32)) hx hb dX5_harvests_52 (by decide) ?_
        revert hf
        refine k_pcl (fun U16 h14 hf => ?_)
        refine w_afv hw (w_rV (As := [.int (16 : Int32)]) C hw (ok_X5_keepAll h14) (cw_X5_146 hts (Nat.le_of_ble_eq_true rfl) (Nat.le_of_ble_eq_true rfl)) rfl (by decide) (of_req h14).1 rfl hl.1 rfl (Nat.le_of_ble_eq_true rfl) ⟨Nat.zero_le _, Nat.zero_le _⟩ dX5_harvests_54) (fun H locs hw => ?_)
        refine lv_aload_n hx hb dX5_harvests_57 rfl (lv_at hl 0 rfl) ?_
        refine lv_iload_n hx hb dX5_harvests_58 rfl (lv_at hl 1 rfl) ?_
        refine lv_i2l hx hb dX5_harvests_59 rfl ?_
        revert hf
        refine k_stp (fun U17 eU17 hf => ?_)
        refine pf_X5_561 C hw k0 eU17 dX5_harvests_60 (fun H locs hw => ?_)
        refine lv_aload_n hx hb dX5_harvests_63 rfl (lv_at hl 0 rfl) ?_
        refine lv_iconst (v := (0 : Int32)) hx hb dX5_harvests_64 (by decide) ?_
        revert hf
        refine k_stp (fun U18 eU18 hf => ?_)
        refine pf_X5_444 C hw k0 eU18 dX5_harvests_65 (fun H locs hw => ?_)
        refine lv_aload_n hx hb dX5_harvests_68 rfl (lv_at hl 0 rfl) ?_
        refine lv_ldcw (v := (100000000 : Int32)) hx hb hown (hts _ q2123) dX5_harvests_69 ?_
        revert hf
        refine k_stp (fun U19 eU19 hf => ?_)
        refine pf_X5_447 C hw k0 eU19 dX5_harvests_72 (fun H locs hw => ?_)
        refine lv_iconst (v := (0 : Int32)) hx hb dX5_harvests_75 (by decide) ?_
        refine lv_istore_n (lv' := [(3, .int (0 : Int32)), (0, .ref (gb G + o)), (1, .int a0), (2, .int a1)]) hx hb dX5_harvests_76 rfl hl (by decide) rfl (fun ls hl => ?_)
        refine lk_X5_harvests_77 C hr k0 (fun U48 H locs ls hf hw hl => ?_) fuel _ _ _ _ _ hf hw (lv_sub hl [1, 3, 0] rfl)
        exact jk_X5_harvests_158 C hr k0 hf hw (lv_sub hl [0] rfl)
      · replace hf := ite_t c13 hf
        refine lv_aload_n hx hb dX5_harvests_44 rfl (lv_at hl 0 rfl) ?_
        refine lv_bipush (v := ((-3) : Int32)) hx hb dX5_harvests_45 (by decide) ?_
        revert hf
        refine k_cal (fun z67 U68 h66 hf => ?_)
        refine w_afi hw (w_rV (As := [.int ((-3) : Int32)]) C hw (ok_X5_tell h66) (cw_X5_142 hts (Nat.le_of_ble_eq_true rfl) (Nat.le_of_ble_eq_true rfl)) rfl (by decide) (of_req h66).1 rfl hl.1 rfl (Nat.le_of_ble_eq_true rfl) ⟨Nat.zero_le _, Nat.zero_le _⟩ dX5_harvests_47) (fun H locs hw => ?_)
        cases hf
        exact w_iret C hr hw dX5_harvests_50
    · replace hf := ite_t c10 hf
      exact jk_X5_harvests_29 C hr k0 hf hw (lv_sub hl [0] rfl)
set_option maxHeartbeats 4000000 in
theorem lk_X5_drawn_41 {l : Launch} {G : gG} {p : Program} {e : Env} {s : State} {m : MethodId} {args : Array Value} {below : List Frame} {meth : Method} {c : Code} {T : Tt} {V0 : Vt} {r : Int32} {V' : Vt} (C : Cx G p s m args meth c cX5_drawn RX5 7) (hr : meth.sig.returnType = (some .int)) {x0 : Nat} {x1 : Int32} {x2 : Int32} {kx41_95 : Int32 → Int64 → Option (Int32 × Vt)} (k0 : T.1 x0 = 6) (hkx41_95 : ∀ (y3 : Int32) (y4 : Int64) (H : Heap) (locs : List Loc) (ls : Array Slot), kx41_95 y3 y4 = some (r, V') → wS G V0 T H locs → lv_has ls 7 [(2, .int x2), (3, .int y3), (4, .long y4)] → W p l e (rmL 1 0 0) s m args below meth c H locs 0 0 (eQ G below (some (.int r)) V' T args s 0 0) (F0 m 95 ls [])) : ∀ (n : Nat) (x3 : Int32) (x4 : Int64) (x6 : Int32) (H : Heap) (locs : List Loc) (ls : Array Slot), f_X5_drawn_L41 T V0 x0 x1 x2 kx41_95 n x3 x4 x6 = some (r, V') → wS G V0 T H locs → lv_has ls 7 [(0, .ref (gb G + x0)), (1, .int x1), (2, .int x2), (3, .int x3), (4, .long x4), (6, .int x6)] → W p l e (rmL 1 0 0) s m args below meth c H locs 0 0 (eQ G below (some (.int r)) V' T args s 0 0) (F0 m 41 ls []) := by
  have hx := C.1
  have hb := C.2.1
  have hown := C.2.2.2.1
  have hts := C.2.2.2.2.1
  intro n
  induction n with
  | zero =>
    intro x3 x4 x6 H locs ls hf
    cases hf
  | succ n ih =>
    intro x3 x4 x6 H locs ls hf hw hl
    unfold f_X5_drawn_L41 at hf
    refine lv_iload hx hb dX5_drawn_41 (lv_at hl 5 rfl) ?_
    refine lv_bipush (v := (20 : Int32)) hx hb dX5_drawn_43 (by decide) ?_
    refine lv_icmp_ge (tgt := 95) hx hb dX5_drawn_45 (by decide) (fun c8 => ?_) (fun c8 => ?_)
    · replace hf := ite_t c8 hf
      exact hkx41_95 _ _ _ _ _ hf hw (lv_sub hl [2, 3, 4] rfl)
    · replace hf := ite_f c8 hf
      refine lv_iload_n hx hb dX5_drawn_48 rfl (lv_at hl 3 rfl) ?_
      refine lv_aload_n hx hb dX5_drawn_49 rfl (lv_at hl 0 rfl) ?_
      revert hf
      refine k_drf (fun r9 er9 hf => ?_)
      refine gf_X5_127 C hw k0 er9 dX5_drawn_50 ?_
      refine lv_bipush (v := (20 : Int32)) hx hb dX5_drawn_53 (by decide) ?_
      refine lv_iload_n hx hb dX5_drawn_55 rfl (lv_at hl 1 rfl) ?_
      refine lv_imul hx hb dX5_drawn_56 ?_
      refine lv_iload hx hb dX5_drawn_57 (lv_at hl 5 rfl) ?_
      refine lv_iadd hx hb dX5_drawn_59 ?_
      revert hf
      refine k_req (fun h10 hf => ?_)
      refine w_iald C hw h10 rfl dX5_drawn_60 ?_
      refine lv_iadd hx hb dX5_drawn_61 ?_
      revert hf
      refine k_stp (fun z11 ez11 hf => ?_)
      refine w_nmI ez11 ?_
      refine lv_istore_n (lv' := [(3, .int z11), (0, .ref (gb G + x0)), (1, .int x1), (2, .int x2), (4, .long x4), (6, .int x6)]) hx hb dX5_drawn_62 rfl hl (by decide) rfl (fun ls hl => ?_)
      refine lv_lload hx hb dX5_drawn_63 (lv_at hl 4 rfl) ?_
      refine lv_ldc2 (v := (1000 : Int64)) hx hb hown (hts _ q1750) dX5_drawn_65 ?_
      refine lv_iload hx hb dX5_drawn_68 (lv_at hl 5 rfl) ?_
      refine lv_i2l hx hb dX5_drawn_70 rfl ?_
      refine lv_lmul hx hb dX5_drawn_71 ?_
      refine lv_aload_n hx hb dX5_drawn_72 rfl (lv_at hl 1 rfl) ?_
      revert hf
      refine k_drf (fun r12 er12 hf => ?_)
      refine gf_X5_127 C hw k0 er12 dX5_drawn_73 ?_
      refine lv_bipush (v := (20 : Int32)) hx hb dX5_drawn_76 (by decide) ?_
      refine lv_iload_n hx hb dX5_drawn_78 rfl (lv_at hl 2 rfl) ?_
      refine lv_imul hx hb dX5_drawn_79 ?_
      refine lv_iload hx hb dX5_drawn_80 (lv_at hl 5 rfl) ?_
      refine lv_iadd hx hb dX5_drawn_82 ?_
      revert hf
      refine k_req (fun h13 hf => ?_)
      refine w_iald C hw h13 rfl dX5_drawn_83 ?_
      refine lv_i2l hx hb dX5_drawn_84 rfl ?_
      refine lv_lmul hx hb dX5_drawn_85 ?_
      refine lv_ladd hx hb dX5_drawn_86 ?_
      revert hf
      refine k_stp (fun z14 ez14 hf => ?_)
      refine w_nmL ez14 ?_
      refine lv_lstore (lv' := [(4, .long z14), (3, .int z11), (0, .ref (gb G + x0)), (1, .int x1), (2, .int x2), (6, .int x6)]) hx hb dX5_drawn_87 hl (by decide) rfl (fun ls hl => ?_)
      revert hf
      refine k_stp (fun z15 ez15 hf => ?_)
      refine lv_iinc (k := 5) (lv' := [(6, .int z15), (4, .long z14), (3, .int z11), (0, .ref (gb G + x0)), (1, .int x1), (2, .int x2)]) hx hb dX5_drawn_89 hl rfl (inc_e (by decide) ez15) (by decide) rfl (fun ls hl => ?_)
      refine lv_goto (tgt := 41) hx hb dX5_drawn_92 (by decide) ?_
      exact ih _ _ _ _ _ _ hf hw (lv_sub hl [3, 4, 5, 2, 1, 0] rfl)
set_option maxHeartbeats 4000000 in
theorem ok_X5_drawn {l : Launch} {G : gG} {T : Tt} {V0 : Vt} {o : Nat} {a0 : Int32} {a1 : Int32} {r : Int32} {V' : Vt} (hf : f_X5_drawn T V0 o a0 a1 = some (r, V')) : okM l G yX5_drawn cX5_drawn 7 (some .int) 1 [.ref (gb G + o), .int a0, .int a1] V0 T (some (.int r)) V' T 0 0 := by
  refine ok_intro (by decide) (Nat.le_of_ble_eq_true rfl) ?_
  intro p e s m below meth c ls C hr hnm hw hl
  have hx := C.1
  have hb := C.2.1
  have hown := C.2.2.2.1
  have hts := C.2.2.2.2.1
  have hl : lv_has ls 7 [(0, .ref (gb G + o)), (1, .int a0), (2, .int a1)] := hl
  unfold f_X5_drawn at hf
  revert hf
  refine k_req (fun k0 hf => ?_)
  refine lv_aload_n hx hb dX5_drawn_0 rfl (lv_at hl 0 rfl) ?_
  refine lv_iconst (v := (0 : Int32)) hx hb dX5_drawn_1 (by decide) ?_
  revert hf
  refine k_stp (fun U1 eU1 hf => ?_)
  refine pf_X5_133 C hw k0 eU1 dX5_drawn_2 (fun H locs hw => ?_)
  refine lv_iload_n hx hb dX5_drawn_5 rfl (lv_at hl 1 rfl) ?_
  refine lv_i2l hx hb dX5_drawn_6 rfl ?_
  refine lv_lconst (v := (0 : Int64)) hx hb dX5_drawn_7 (by decide) ?_
  refine lv_aload_n hx hb dX5_drawn_8 rfl (lv_at hl 0 rfl) ?_
  refine gf_X5_130 C hw k0 dX5_drawn_9 ?_
  refine lv_i2l hx hb dX5_drawn_12 rfl ?_
  refine lv_lconst (v := (1 : Int64)) hx hb dX5_drawn_13 (by decide) ?_
  refine lv_lsub hx hb dX5_drawn_14 ?_
  revert hf
  refine k_pcl (fun z3 h2 hf => ?_)
  refine w_afi hw (w_rS (As := [.long (Int32.toInt64 a0), .long (0 : Int64), .long ((Int32.toInt64 (U1.1 o 54)) - (1 : Int64))]) C hw (ok_X5_in h2) (cw_X5_153 hts (Nat.le_of_ble_eq_true rfl) (Nat.le_of_ble_eq_true rfl)) rfl hl.1 rfl (Nat.le_of_ble_eq_true rfl) ⟨Nat.zero_le _, Nat.zero_le _⟩ dX5_drawn_15) (fun H locs hw => ?_)
  refine lv_if_eq (tgt := 31) hx hb dX5_drawn_18 (by decide) (fun c4 => ?_) (fun c4 => ?_)
  · replace hf := ite_t c4 hf
    refine lv_iconst (v := ((-1) : Int32)) hx hb dX5_drawn_31 (by decide) ?_
    cases hf
    exact w_iret C hr hw dX5_drawn_32
  · replace hf := ite_f c4 hf
    refine lv_iload_n hx hb dX5_drawn_21 rfl (lv_at hl 2 rfl) ?_
    refine lv_i2l hx hb dX5_drawn_22 rfl ?_
    refine lv_lconst (v := (0 : Int64)) hx hb dX5_drawn_23 (by decide) ?_
    refine lv_lconst (v := (1 : Int64)) hx hb dX5_drawn_24 (by decide) ?_
    revert hf
    refine k_pcl (fun z6 h5 hf => ?_)
    refine w_afi hw (w_rS (As := [.long (Int32.toInt64 a1), .long (0 : Int64), .long (1 : Int64)]) C hw (ok_X5_in h5) (cw_X5_153 hts (Nat.le_of_ble_eq_true rfl) (Nat.le_of_ble_eq_true rfl)) rfl hl.1 rfl (Nat.le_of_ble_eq_true rfl) ⟨Nat.zero_le _, Nat.zero_le _⟩ dX5_drawn_25) (fun H locs hw => ?_)
    refine lv_if_ne (tgt := 33) hx hb dX5_drawn_28 (by decide) (fun c7 => ?_) (fun c7 => ?_)
    · replace hf := ite_f c7 hf
      refine lv_iconst (v := (0 : Int32)) hx hb dX5_drawn_33 (by decide) ?_
      refine lv_istore_n (lv' := [(3, .int (0 : Int32)), (0, .ref (gb G + o)), (1, .int a0), (2, .int a1)]) hx hb dX5_drawn_34 rfl hl (by decide) rfl (fun ls hl => ?_)
      refine lv_lconst (v := (0 : Int64)) hx hb dX5_drawn_35 (by decide) ?_
      refine lv_lstore (lv' := [(4, .long (0 : Int64)), (3, .int (0 : Int32)), (0, .ref (gb G + o)), (1, .int a0), (2, .int a1)]) hx hb dX5_drawn_36 hl (by decide) rfl (fun ls hl => ?_)
      refine lv_iconst (v := (0 : Int32)) hx hb dX5_drawn_38 (by decide) ?_
      refine lv_istore (lv' := [(6, .int (0 : Int32)), (4, .long (0 : Int64)), (3, .int (0 : Int32)), (0, .ref (gb G + o)), (1, .int a0), (2, .int a1)]) hx hb dX5_drawn_39 hl (by decide) rfl (fun ls hl => ?_)
      refine lk_X5_drawn_41 C hr k0 (fun z16 z17 H locs ls hf hw hl => ?_) fuel _ _ _ _ _ _ hf hw (lv_sub hl [3, 4, 5, 2, 1, 0] rfl)
      refine lv_iload_n hx hb dX5_drawn_95 rfl (lv_at hl 0 rfl) ?_
      refine lv_if_ne (tgt := 103) hx hb dX5_drawn_96 (by decide) (fun c18 => ?_) (fun c18 => ?_)
      · replace hf := ite_f c18 hf
        refine lv_iload_n hx hb dX5_drawn_103 rfl (lv_at hl 1 rfl) ?_
        refine lv_if_ne (tgt := 111) hx hb dX5_drawn_104 (by decide) (fun c19 => ?_) (fun c19 => ?_)
        · replace hf := ite_f c19 hf
          refine lv_lload hx hb dX5_drawn_111 (lv_at hl 2 rfl) ?_
          refine lv_iload_n hx hb dX5_drawn_113 rfl (lv_at hl 1 rfl) ?_
          refine lv_i2l hx hb dX5_drawn_114 rfl ?_
          revert hf
          refine k_req (fun h20 hf => ?_)
          refine lv_ldiv hx hb dX5_drawn_115 h20 ?_
          refine lv_l2i hx hb dX5_drawn_116 rfl ?_
          cases hf
          exact w_iret C hr hw dX5_drawn_117
        · replace hf := ite_t c19 hf
          refine lv_iconst (v := ((-1) : Int32)) hx hb dX5_drawn_107 (by decide) ?_
          refine lv_goto (tgt := 117) hx hb dX5_drawn_108 (by decide) ?_
          cases hf
          exact w_iret C hr hw dX5_drawn_117
      · replace hf := ite_t c18 hf
        refine lv_iload_n hx hb dX5_drawn_99 rfl (lv_at hl 1 rfl) ?_
        refine lv_goto (tgt := 117) hx hb dX5_drawn_100 (by decide) ?_
        cases hf
        exact w_iret C hr hw dX5_drawn_117
    · replace hf := ite_t c7 hf
      refine lv_iconst (v := ((-1) : Int32)) hx hb dX5_drawn_31 (by decide) ?_
      cases hf
      exact w_iret C hr hw dX5_drawn_32
set_option maxHeartbeats 4000000 in
theorem ok_X5_count {l : Launch} {G : gG} {T : Tt} {V0 : Vt} {o : Nat} {a0 : Int32} {r : Int32} {V' : Vt} (hf : f_X5_count T V0 o a0 = some (r, V')) : okM l G yX5_count cX5_count 2 (some .int) 1 [.ref (gb G + o), .int a0] V0 T (some (.int r)) V' T 0 0 := by
  refine ok_intro (by decide) (Nat.le_of_ble_eq_true rfl) ?_
  intro p e s m below meth c ls C hr hnm hw hl
  have hx := C.1
  have hb := C.2.1
  have hown := C.2.2.2.1
  have hts := C.2.2.2.2.1
  have hl : lv_has ls 2 [(0, .ref (gb G + o)), (1, .int a0)] := hl
  unfold f_X5_count at hf
  revert hf
  refine k_req (fun k0 hf => ?_)
  refine lv_aload_n hx hb dX5_count_0 rfl (lv_at hl 0 rfl) ?_
  refine lv_iconst (v := (0 : Int32)) hx hb dX5_count_1 (by decide) ?_
  revert hf
  refine k_stp (fun U1 eU1 hf => ?_)
  refine pf_X5_133 C hw k0 eU1 dX5_count_2 (fun H locs hw => ?_)
  refine lv_iload_n hx hb dX5_count_5 rfl (lv_at hl 1 rfl) ?_
  by_cases c2 : a0 = (0 : Int32)
  · replace hf := ite_t c2 hf
    refine lv_tableIn (tgt := 72) (off := 66) hx hb dX5_count_6 (by rw [c2]; decide) (by rw [c2]; decide) (by rw [c2]; decide) (by decide) ?_
    refine lv_aload_n hx hb dX5_count_72 rfl (lv_at hl 0 rfl) ?_
    revert hf
    refine k_drf (fun r3 er3 hf => ?_)
    refine gf_X5_13 C hw k0 er3 dX5_count_73 ?_
    refine lv_iconst (v := (0 : Int32)) hx hb dX5_count_76 (by decide) ?_
    revert hf
    refine k_req (fun h4 hf => ?_)
    refine w_iald C hw h4 rfl dX5_count_77 ?_
    cases hf
    exact w_iret C hr hw dX5_count_78
  · replace hf := ite_f c2 hf
    by_cases c5 : a0 = (1 : Int32)
    · replace hf := ite_t c5 hf
      refine lv_tableIn (tgt := 79) (off := 73) hx hb dX5_count_6 (by rw [c5]; decide) (by rw [c5]; decide) (by rw [c5]; decide) (by decide) ?_
      refine lv_aload_n hx hb dX5_count_79 rfl (lv_at hl 0 rfl) ?_
      revert hf
      refine k_drf (fun r6 er6 hf => ?_)
      refine gf_X5_13 C hw k0 er6 dX5_count_80 ?_
      refine lv_bipush (v := (9 : Int32)) hx hb dX5_count_83 (by decide) ?_
      revert hf
      refine k_req (fun h7 hf => ?_)
      refine w_iald C hw h7 rfl dX5_count_85 ?_
      cases hf
      exact w_iret C hr hw dX5_count_86
    · replace hf := ite_f c5 hf
      by_cases c8 : a0 = (2 : Int32)
      · replace hf := ite_t c8 hf
        refine lv_tableIn (tgt := 87) (off := 81) hx hb dX5_count_6 (by rw [c8]; decide) (by rw [c8]; decide) (by rw [c8]; decide) (by decide) ?_
        refine lv_aload_n hx hb dX5_count_87 rfl (lv_at hl 0 rfl) ?_
        revert hf
        refine k_drf (fun r9 er9 hf => ?_)
        refine gf_X5_13 C hw k0 er9 dX5_count_88 ?_
        refine lv_iconst (v := (1 : Int32)) hx hb dX5_count_91 (by decide) ?_
        revert hf
        refine k_req (fun h10 hf => ?_)
        refine w_iald C hw h10 rfl dX5_count_92 ?_
        cases hf
        exact w_iret C hr hw dX5_count_93
      · replace hf := ite_f c8 hf
        by_cases c11 : a0 = (3 : Int32)
        · replace hf := ite_t c11 hf
          refine lv_tableIn (tgt := 94) (off := 88) hx hb dX5_count_6 (by rw [c11]; decide) (by rw [c11]; decide) (by rw [c11]; decide) (by decide) ?_
          refine lv_aload_n hx hb dX5_count_94 rfl (lv_at hl 0 rfl) ?_
          revert hf
          refine k_drf (fun r12 er12 hf => ?_)
          refine gf_X5_13 C hw k0 er12 dX5_count_95 ?_
          refine lv_iconst (v := (2 : Int32)) hx hb dX5_count_98 (by decide) ?_
          revert hf
          refine k_req (fun h13 hf => ?_)
          refine w_iald C hw h13 rfl dX5_count_99 ?_
          cases hf
          exact w_iret C hr hw dX5_count_100
        · replace hf := ite_f c11 hf
          by_cases c14 : a0 = (4 : Int32)
          · replace hf := ite_t c14 hf
            refine lv_tableIn (tgt := 101) (off := 95) hx hb dX5_count_6 (by rw [c14]; decide) (by rw [c14]; decide) (by rw [c14]; decide) (by decide) ?_
            refine lv_aload_n hx hb dX5_count_101 rfl (lv_at hl 0 rfl) ?_
            revert hf
            refine k_drf (fun r15 er15 hf => ?_)
            refine gf_X5_13 C hw k0 er15 dX5_count_102 ?_
            refine lv_iconst (v := (3 : Int32)) hx hb dX5_count_105 (by decide) ?_
            revert hf
            refine k_req (fun h16 hf => ?_)
            refine w_iald C hw h16 rfl dX5_count_106 ?_
            cases hf
            exact w_iret C hr hw dX5_count_107
          · replace hf := ite_f c14 hf
            by_cases c17 : a0 = (5 : Int32)
            · replace hf := ite_t c17 hf
              refine lv_tableIn (tgt := 108) (off := 102) hx hb dX5_count_6 (by rw [c17]; decide) (by rw [c17]; decide) (by rw [c17]; decide) (by decide) ?_
              refine lv_aload_n hx hb dX5_count_108 rfl (lv_at hl 0 rfl) ?_
              refine gf_X5_139 C hw k0 dX5_count_109 ?_
              cases hf
              exact w_iret C hr hw dX5_count_112
            · replace hf := ite_f c17 hf
              by_cases c18 : a0 = (6 : Int32)
              · replace hf := ite_t c18 hf
                refine lv_tableIn (tgt := 113) (off := 107) hx hb dX5_count_6 (by rw [c18]; decide) (by rw [c18]; decide) (by rw [c18]; decide) (by decide) ?_
                refine lv_aload_n hx hb dX5_count_113 rfl (lv_at hl 0 rfl) ?_
                refine gf_X5_217 C hw k0 dX5_count_114 ?_
                cases hf
                exact w_iret C hr hw dX5_count_117
              · replace hf := ite_f c18 hf
                by_cases c19 : a0 = (7 : Int32)
                · replace hf := ite_t c19 hf
                  refine lv_tableIn (tgt := 118) (off := 112) hx hb dX5_count_6 (by rw [c19]; decide) (by rw [c19]; decide) (by rw [c19]; decide) (by decide) ?_
                  refine lv_aload_n hx hb dX5_count_118 rfl (lv_at hl 0 rfl) ?_
                  revert hf
                  refine k_drf (fun r20 er20 hf => ?_)
                  refine gf_X5_7 C hw k0 er20 dX5_count_119 ?_
                  refine lv_iconst (v := (1 : Int32)) hx hb dX5_count_122 (by decide) ?_
                  revert hf
                  refine k_req (fun h21 hf => ?_)
                  refine w_iald C hw h21 rfl dX5_count_123 ?_
                  cases hf
                  exact w_iret C hr hw dX5_count_124
                · replace hf := ite_f c19 hf
                  by_cases c22 : a0 = (8 : Int32)
                  · replace hf := ite_t c22 hf
                    refine lv_tableIn (tgt := 125) (off := 119) hx hb dX5_count_6 (by rw [c22]; decide) (by rw [c22]; decide) (by rw [c22]; decide) (by decide) ?_
                    refine lv_aload_n hx hb dX5_count_125 rfl (lv_at hl 0 rfl) ?_
                    revert hf
                    refine k_drf (fun r23 er23 hf => ?_)
                    refine gf_X5_7 C hw k0 er23 dX5_count_126 ?_
                    refine lv_iconst (v := (2 : Int32)) hx hb dX5_count_129 (by decide) ?_
                    revert hf
                    refine k_req (fun h24 hf => ?_)
                    refine w_iald C hw h24 rfl dX5_count_130 ?_
                    cases hf
                    exact w_iret C hr hw dX5_count_131
                  · replace hf := ite_f c22 hf
                    by_cases c25 : a0 = (9 : Int32)
                    · replace hf := ite_t c25 hf
                      refine lv_tableIn (tgt := 132) (off := 126) hx hb dX5_count_6 (by rw [c25]; decide) (by rw [c25]; decide) (by rw [c25]; decide) (by decide) ?_
                      refine lv_aload_n hx hb dX5_count_132 rfl (lv_at hl 0 rfl) ?_
                      revert hf
                      refine k_drf (fun r26 er26 hf => ?_)
                      refine gf_X5_7 C hw k0 er26 dX5_count_133 ?_
                      refine lv_iconst (v := (3 : Int32)) hx hb dX5_count_136 (by decide) ?_
                      revert hf
                      refine k_req (fun h27 hf => ?_)
                      refine w_iald C hw h27 rfl dX5_count_137 ?_
                      cases hf
                      exact w_iret C hr hw dX5_count_138
                    · replace hf := ite_f c25 hf
                      by_cases c28 : a0 = (10 : Int32)
                      · replace hf := ite_t c28 hf
                        refine lv_tableIn (tgt := 139) (off := 133) hx hb dX5_count_6 (by rw [c28]; decide) (by rw [c28]; decide) (by rw [c28]; decide) (by decide) ?_
                        refine lv_aload_n hx hb dX5_count_139 rfl (lv_at hl 0 rfl) ?_
                        revert hf
                        refine k_drf (fun r29 er29 hf => ?_)
                        refine gf_X5_7 C hw k0 er29 dX5_count_140 ?_
                        refine lv_iconst (v := (5 : Int32)) hx hb dX5_count_143 (by decide) ?_
                        revert hf
                        refine k_req (fun h30 hf => ?_)
                        refine w_iald C hw h30 rfl dX5_count_144 ?_
                        cases hf
                        exact w_iret C hr hw dX5_count_145
                      · replace hf := ite_f c28 hf
                        by_cases c31 : a0 = (11 : Int32)
                        · replace hf := ite_t c31 hf
                          refine lv_tableIn (tgt := 146) (off := 140) hx hb dX5_count_6 (by rw [c31]; decide) (by rw [c31]; decide) (by rw [c31]; decide) (by decide) ?_
                          refine lv_aload_n hx hb dX5_count_146 rfl (lv_at hl 0 rfl) ?_
                          revert hf
                          refine k_drf (fun r32 er32 hf => ?_)
                          refine gf_X5_7 C hw k0 er32 dX5_count_147 ?_
                          refine lv_bipush (v := (6 : Int32)) hx hb dX5_count_150 (by decide) ?_
                          revert hf
                          refine k_req (fun h33 hf => ?_)
                          refine w_iald C hw h33 rfl dX5_count_152 ?_
                          cases hf
                          exact w_iret C hr hw dX5_count_153
                        · replace hf := ite_f c31 hf
                          by_cases c34 : a0 = (12 : Int32)
                          · replace hf := ite_t c34 hf
                            refine lv_tableIn (tgt := 154) (off := 148) hx hb dX5_count_6 (by rw [c34]; decide) (by rw [c34]; decide) (by rw [c34]; decide) (by decide) ?_
                            refine lv_aload_n hx hb dX5_count_154 rfl (lv_at hl 0 rfl) ?_
                            revert hf
                            refine k_drf (fun r35 er35 hf => ?_)
                            refine gf_X5_13 C hw k0 er35 dX5_count_155 ?_
                            refine lv_iconst (v := (4 : Int32)) hx hb dX5_count_158 (by decide) ?_
                            revert hf
                            refine k_req (fun h36 hf => ?_)
                            refine w_iald C hw h36 rfl dX5_count_159 ?_
                            cases hf
                            exact w_iret C hr hw dX5_count_160
                          · replace hf := ite_f c34 hf
                            have gc2 := lv_neT (a := 0) c2 (by decide)
                            have gc5 := lv_neT (a := 1) c5 (by decide)
                            have gc8 := lv_neT (a := 2) c8 (by decide)
                            have gc11 := lv_neT (a := 3) c11 (by decide)
                            have gc14 := lv_neT (a := 4) c14 (by decide)
                            have gc17 := lv_neT (a := 5) c17 (by decide)
                            have gc18 := lv_neT (a := 6) c18 (by decide)
                            have gc19 := lv_neT (a := 7) c19 (by decide)
                            have gc22 := lv_neT (a := 8) c22 (by decide)
                            have gc25 := lv_neT (a := 9) c25 (by decide)
                            have gc28 := lv_neT (a := 10) c28 (by decide)
                            have gc31 := lv_neT (a := 11) c31 (by decide)
                            have gc34 := lv_neT (a := 12) c34 (by decide)
                            refine lv_tableOut (tgt := 161) hx hb dX5_count_6 (by show Int32.toInt a0 < 0 ∨ 12 < Int32.toInt a0; omega) (by decide) ?_
                            refine lv_iload_n hx hb dX5_count_161 rfl (lv_at hl 1 rfl) ?_
                            refine lv_i2l hx hb dX5_count_162 rfl ?_
                            refine lv_ldc2 (v := (13 : Int64)) hx hb hown (hts _ q2224) dX5_count_163 ?_
                            refine lv_ldc2 (v := (16 : Int64)) hx hb hown (hts _ q2225) dX5_count_166 ?_
                            revert hf
                            refine k_pcl (fun z38 h37 hf => ?_)
                            refine w_afi hw (w_rS (As := [.long (Int32.toInt64 a0), .long (13 : Int64), .long (16 : Int64)]) C hw (ok_X5_in h37) (cw_X5_153 hts (Nat.le_of_ble_eq_true rfl) (Nat.le_of_ble_eq_true rfl)) rfl hl.1 rfl (Nat.le_of_ble_eq_true rfl) ⟨Nat.zero_le _, Nat.zero_le _⟩ dX5_count_169) (fun H locs hw => ?_)
                            refine lv_if_eq (tgt := 189) hx hb dX5_count_172 (by decide) (fun c39 => ?_) (fun c39 => ?_)
                            · replace hf := ite_t c39 hf
                              refine lv_iconst (v := ((-1) : Int32)) hx hb dX5_count_189 (by decide) ?_
                              cases hf
                              exact w_iret C hr hw dX5_count_190
                            · replace hf := ite_f c39 hf
                              refine lv_aload_n hx hb dX5_count_175 rfl (lv_at hl 0 rfl) ?_
                              revert hf
                              refine k_drf (fun r40 er40 hf => ?_)
                              refine gf_X5_13 C hw k0 er40 dX5_count_176 ?_
                              refine lv_iconst (v := (5 : Int32)) hx hb dX5_count_179 (by decide) ?_
                              refine lv_iload_n hx hb dX5_count_180 rfl (lv_at hl 1 rfl) ?_
                              refine lv_iadd hx hb dX5_count_181 ?_
                              refine lv_bipush (v := (13 : Int32)) hx hb dX5_count_182 (by decide) ?_
                              refine lv_isub hx hb dX5_count_184 ?_
                              revert hf
                              refine k_req (fun h41 hf => ?_)
                              refine w_iald C hw h41 rfl dX5_count_185 ?_
                              refine lv_goto (tgt := 190) hx hb dX5_count_186 (by decide) ?_
                              cases hf
                              exact w_iret C hr hw dX5_count_190
set_option maxHeartbeats 4000000 in
theorem ok_X5_status {l : Launch} {G : gG} {T : Tt} {V0 : Vt} {o : Nat} {r : Int32} {V' : Vt} (hf : f_X5_status T V0 o = some (r, V')) : okM l G yX5_status cX5_status 1 (some .int) 0 [.ref (gb G + o)] V0 T (some (.int r)) V' T 0 0 := by
  refine ok_intro (by decide) (Nat.le_of_ble_eq_true rfl) ?_
  intro p e s m below meth c ls C hr hnm hw hl
  have hx := C.1
  have hb := C.2.1
  have hown := C.2.2.2.1
  have hts := C.2.2.2.2.1
  have hl : lv_has ls 1 [(0, .ref (gb G + o))] := hl
  unfold f_X5_status at hf
  revert hf
  refine k_req (fun k0 hf => ?_)
  refine lv_aload_n hx hb dX5_status_0 rfl (lv_at hl 0 rfl) ?_
  refine lv_iconst (v := (0 : Int32)) hx hb dX5_status_1 (by decide) ?_
  revert hf
  refine k_stp (fun U1 eU1 hf => ?_)
  refine pf_X5_133 C hw k0 eU1 dX5_status_2 (fun H locs hw => ?_)
  refine lv_aload_n hx hb dX5_status_5 rfl (lv_at hl 0 rfl) ?_
  refine gf_X5_136 C hw k0 dX5_status_6 ?_
  cases hf
  exact w_iret C hr hw dX5_status_9
