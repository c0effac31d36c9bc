set_option maxRecDepth 100000
set_option maxHeartbeats 4000000 in
theorem ok_X5_begin {l : Launch} {G : gG} {T : Tt} {V0 : Vt} {o : Nat} {V' : Vt} (hf : f_X5_begin T V0 o = some V') : okM l G yX5_begin cX5_begin 1 none 2 [.ref (gb G + o)] V0 T none V' T 0 0 := by
  refine ok_intro (by decide) (Nat.le_of_ble_eq_true rfl) ?_
  intro p e s m below meth c ls C hr hnm hw hl
  have hx := C.1
  have hb := C.2.1
  have hown := C.2.2.2.1
  have hts := C.2.2.2.2.1
  have hl : lv_has ls 1 [(0, .ref (gb G + o))] := hl
  unfold f_X5_begin at hf
  revert hf
  refine k_req (fun k0 hf => ?_)
  refine lv_aload_n hx hb dX5_begin_0 rfl (lv_at hl 0 rfl) ?_
  refine lv_iconst (v := (0 : Int32)) hx hb dX5_begin_1 (by decide) ?_
  revert hf
  refine k_stp (fun U1 eU1 hf => ?_)
  refine pf_X5_226 C hw k0 eU1 dX5_begin_2 (fun H locs hw => ?_)
  refine lv_aload_n hx hb dX5_begin_5 rfl (lv_at hl 0 rfl) ?_
  refine lv_iconst (v := (0 : Int32)) hx hb dX5_begin_6 (by decide) ?_
  revert hf
  refine k_stp (fun U2 eU2 hf => ?_)
  refine pf_X5_229 C hw k0 (by decide) eU2 dX5_begin_7 (fun H locs hw => ?_)
  refine lv_aload_n hx hb dX5_begin_10 rfl (lv_at hl 0 rfl) ?_
  refine lv_iconst (v := ((-1) : Int32)) hx hb dX5_begin_11 (by decide) ?_
  revert hf
  refine k_stp (fun U3 eU3 hf => ?_)
  refine pf_X5_38 C hw k0 eU3 dX5_begin_12 (fun H locs hw => ?_)
  refine lv_aload_n hx hb dX5_begin_15 rfl (lv_at hl 0 rfl) ?_
  revert hf
  refine k_pcl (fun U6 h4 hf => ?_)
  refine w_afv hw (w_rV (As := []) C hw (ok_X5_next h4) (cw_X5_233 hts (Nat.le_of_ble_eq_true rfl) (Nat.le_of_ble_eq_true rfl)) rfl (by decide) (of_req h4).1 rfl hl.1 rfl (Nat.le_of_ble_eq_true rfl) ⟨Nat.zero_le _, Nat.zero_le _⟩ dX5_begin_16) (fun H locs hw => ?_)
  cases hf
  exact w_vret C hr hw dX5_begin_19
set_option maxHeartbeats 4000000 in
theorem ok_X5_beginText {l : Launch} {G : gG} {T : Tt} {V0 : Vt} {o : Nat} {a0 : Int32} {V' : Vt} (hf : f_X5_beginText T V0 o a0 = some V') : okM l G yX5_beginText cX5_beginText 2 none 3 [.ref (gb G + o), .int a0] V0 T none V' T 0 0 := by
  refine ok_intro (by decide) (Nat.le_of_ble_eq_true rfl) ?_
  intro p e s m below meth c ls C hr hnm hw hl
  have hx := C.1
  have hb := C.2.1
  have hown := C.2.2.2.1
  have hts := C.2.2.2.2.1
  have hl : lv_has ls 2 [(0, .ref (gb G + o)), (1, .int a0)] := hl
  unfold f_X5_beginText at hf
  revert hf
  refine k_req (fun k0 hf => ?_)
  refine lv_aload_n hx hb dX5_beginText_0 rfl (lv_at hl 0 rfl) ?_
  refine lv_iload_n hx hb dX5_beginText_1 rfl (lv_at hl 1 rfl) ?_
  revert hf
  refine k_req (fun h1 hf => ?_)
  revert hf
  refine k_stp (fun U2 eU2 hf => ?_)
  refine pf_X5_302 C hw k0 h1 eU2 dX5_beginText_2 (fun H locs hw => ?_)
  refine lv_aload_n hx hb dX5_beginText_5 rfl (lv_at hl 0 rfl) ?_
  revert hf
  refine k_pcl (fun U5 h3 hf => ?_)
  refine w_afv hw (w_rV (As := []) C hw (ok_X5_begin h3) (cw_X5_351 hts (Nat.le_of_ble_eq_true rfl) (Nat.le_of_ble_eq_true rfl)) rfl (by decide) (of_req h3).1 rfl hl.1 rfl (Nat.le_of_ble_eq_true rfl) ⟨Nat.zero_le _, Nat.zero_le _⟩ dX5_beginText_6) (fun H locs hw => ?_)
  refine lv_aload_n hx hb dX5_beginText_9 rfl (lv_at hl 0 rfl) ?_
  refine lv_iconst (v := (0 : Int32)) hx hb dX5_beginText_10 (by decide) ?_
  revert hf
  refine k_stp (fun U6 eU6 hf => ?_)
  refine pf_X5_354 C hw k0 eU6 dX5_beginText_11 (fun H locs hw => ?_)
  refine lv_aload_n hx hb dX5_beginText_14 rfl (lv_at hl 0 rfl) ?_
  refine lv_iconst (v := (0 : Int32)) hx hb dX5_beginText_15 (by decide) ?_
  revert hf
  refine k_stp (fun U7 eU7 hf => ?_)
  refine pf_X5_264 C hw k0 eU7 dX5_beginText_16 (fun H locs hw => ?_)
  refine lv_aload_n hx hb dX5_beginText_19 rfl (lv_at hl 0 rfl) ?_
  refine lv_iconst (v := (0 : Int32)) hx hb dX5_beginText_20 (by decide) ?_
  revert hf
  refine k_stp (fun U8 eU8 hf => ?_)
  refine pf_X5_293 C hw k0 eU8 dX5_beginText_21 (fun H locs hw => ?_)
  cases hf
  exact w_vret C hr hw dX5_beginText_24
set_option maxHeartbeats 4000000 in
theorem ok_X5_isWord {l : Launch} {G : gG} {T : Tt} {V0 : Vt} {o : Nat} {a0 : Int64} {r : Int32} (hf : f_X5_isWord T V0 o a0 = some r) : okM l G yX5_isWord cX5_isWord 3 (some .boolean) 0 [.ref (gb G + o), .long a0] V0 T (some (.int r)) V0 T 0 0 := by
  refine ok_intro (by decide) (Nat.le_of_ble_eq_true rfl) ?_
  intro p e s m below meth c ls C hr hnm hw hl
  have hx := C.1
  have hb := C.2.1
  have hown := C.2.2.2.1
  have hts := C.2.2.2.2.1
  have hl : lv_has ls 3 [(0, .ref (gb G + o)), (1, .long a0)] := hl
  unfold f_X5_isWord at hf
  revert hf
  refine k_req (fun k0 hf => ?_)
  refine lv_aload_n hx hb dX5_isWord_0 rfl (lv_at hl 0 rfl) ?_
  refine gf_X5_249 C hw k0 dX5_isWord_1 ?_
  refine lv_iconst (v := (1 : Int32)) hx hb dX5_isWord_4 (by decide) ?_
  refine lv_icmp_ne (tgt := 21) hx hb dX5_isWord_5 (by decide) (fun c1 => ?_) (fun c1 => ?_)
  · replace hf := ite_f c1 hf
    refine lv_iconst (v := (0 : Int32)) hx hb dX5_isWord_21 (by decide) ?_
    cases hf
    exact w_zret C hr hw (by decide) dX5_isWord_22
  · replace hf := ite_t c1 hf
    refine lv_aload_n hx hb dX5_isWord_8 rfl (lv_at hl 0 rfl) ?_
    refine gf_X5_239 C hw k0 dX5_isWord_9 ?_
    refine lv_lload_n hx hb dX5_isWord_12 rfl (lv_at hl 1 rfl) ?_
    refine W.lcmp hx hb dX5_isWord_13 ?_
    refine lv_if_ne (tgt := 21) hx hb dX5_isWord_14 (by decide) (fun c2 => ?_) (fun c2 => ?_)
    · replace hf := ite_f c2 hf
      refine lv_iconst (v := (0 : Int32)) hx hb dX5_isWord_21 (by decide) ?_
      cases hf
      exact w_zret C hr hw (by decide) dX5_isWord_22
    · replace hf := ite_t c2 hf
      refine lv_iconst (v := (1 : Int32)) hx hb dX5_isWord_17 (by decide) ?_
      refine lv_goto (tgt := 22) hx hb dX5_isWord_18 (by decide) ?_
      cases hf
      exact w_zret C hr hw (by decide) dX5_isWord_22
set_option maxHeartbeats 4000000 in
theorem jk_X5_must_24 {l : Launch} {G : gG} {p : Program} {e : Env} {s : State} {m : MethodId} {args : Array Value} {below : List Frame} {meth : Method} {c : Code} {T : Tt} {V0 : Vt} {V' : Vt} (C : Cx G p s m args meth c cX5_must RX5 2) (hr : meth.sig.returnType = none) {x0 : Nat} {H : Heap} {locs : List Loc} {ls : Array Slot} (k0 : T.1 x0 = 6) (hf : f_X5_must_J24 T V0 x0 = some V') (hw : wS G V0 T H locs) (hl : lv_has ls 2 [(0, .ref (gb G + x0))]) : W p l e (rmL 2 0 0) s m args below meth c H locs 0 0 (eQ G below none V' T args s 0 0) (F0 m 24 ls []) := by
  have hx := C.1
  have hb := C.2.1
  have hown := C.2.2.2.1
  have hts := C.2.2.2.2.1
  unfold f_X5_must_J24 at hf
  refine lv_aload_n hx hb dX5_must_24 rfl (lv_at hl 0 rfl) ?_
  refine gf_X5_229 C hw k0 dX5_must_25 ?_
  refine lv_if_ne (tgt := 35) hx hb dX5_must_28 (by decide) (fun c2 => ?_) (fun c2 => ?_)
  · replace hf := ite_f c2 hf
    cases hf
    exact w_vret C hr hw dX5_must_35
  · replace hf := ite_t c2 hf
    refine lv_aload_n hx hb dX5_must_31 rfl (lv_at hl 0 rfl) ?_
    revert hf
    refine k_pcl (fun U5 h3 hf => ?_)
    refine w_afv hw (w_rV (As := []) C hw (ok_X5_next h3) (cw_X5_233 hts (Nat.le_of_ble_eq_true rfl) (Nat.le_of_ble_eq_true rfl)) rfl (by decide) (of_req h3).1 rfl hl.1 rfl (Nat.le_of_ble_eq_true rfl) ⟨Nat.zero_le _, Nat.zero_le _⟩ dX5_must_32) (fun H locs hw => ?_)
    cases hf
    exact w_vret C hr hw dX5_must_35
set_option maxHeartbeats 4000000 in
theorem ok_X5_must {l : Launch} {G : gG} {T : Tt} {V0 : Vt} {o : Nat} {a0 : Int32} {V' : Vt} (hf : f_X5_must T V0 o a0 = some V') : okM l G yX5_must cX5_must 2 none 2 [.ref (gb G + o), .int a0] V0 T none V' T 0 0 := by
  refine ok_intro (by decide) (Nat.le_of_ble_eq_true rfl) ?_
  intro p e s m below meth c ls C hr hnm hw hl
  have hx := C.1
  have hb := C.2.1
  have hown := C.2.2.2.1
  have hts := C.2.2.2.2.1
  have hl : lv_has ls 2 [(0, .ref (gb G + o)), (1, .int a0)] := hl
  unfold f_X5_must at hf
  revert hf
  refine k_req (fun k0 hf => ?_)
  refine lv_aload_n hx hb dX5_must_0 rfl (lv_at hl 0 rfl) ?_
  refine gf_X5_229 C hw k0 dX5_must_1 ?_
  refine lv_if_ne (tgt := 24) hx hb dX5_must_4 (by decide) (fun c1 => ?_) (fun c1 => ?_)
  · replace hf := ite_f c1 hf
    exact jk_X5_must_24 C hr k0 hf hw (lv_sub hl [0] rfl)
  · replace hf := ite_t c1 hf
    refine lv_iload_n hx hb dX5_must_7 rfl (lv_at hl 1 rfl) ?_
    refine lv_if_ne (tgt := 24) hx hb dX5_must_8 (by decide) (fun c6 => ?_) (fun c6 => ?_)
    · replace hf := ite_f c6 hf
      exact jk_X5_must_24 C hr k0 hf hw (lv_sub hl [0] rfl)
    · replace hf := ite_t c6 hf
      refine lv_aload_n hx hb dX5_must_11 rfl (lv_at hl 0 rfl) ?_
      refine lv_iconst (v := (1 : Int32)) hx hb dX5_must_12 (by decide) ?_
      revert hf
      refine k_stp (fun U7 eU7 hf => ?_)
      refine pf_X5_229 C hw k0 (by decide) eU7 dX5_must_13 (fun H locs hw => ?_)
      refine lv_aload_n hx hb dX5_must_16 rfl (lv_at hl 0 rfl) ?_
      refine lv_aload_n hx hb dX5_must_17 rfl (lv_at hl 0 rfl) ?_
      refine gf_X5_236 C hw k0 dX5_must_18 ?_
      revert hf
      refine k_stp (fun U8 eU8 hf => ?_)
      refine pf_X5_38 C hw k0 eU8 dX5_must_21 (fun H locs hw => ?_)
      exact jk_X5_must_24 C hr k0 hf hw (lv_sub hl [0] rfl)
set_option maxHeartbeats 4000000 in
theorem ok_X5_push {l : Launch} {G : gG} {T : Tt} {V0 : Vt} {o : Nat} {a0 : Int32} {a1 : Int32} {V' : Vt} (hf : f_X5_push T V0 o a0 a1 = some V') : okM l G yX5_push cX5_push 3 none 0 [.ref (gb G + o), .int a0, .int a1] V0 T none V' T 0 0 := by
  refine ok_intro (by decide) (Nat.le_of_ble_eq_true rfl) ?_
  intro p e s m below meth c ls C hr hnm hw hl
  have hx := C.1
  have hb := C.2.1
  have hown := C.2.2.2.1
  have hts := C.2.2.2.2.1
  have hl : lv_has ls 3 [(0, .ref (gb G + o)), (1, .int a0), (2, .int a1)] := hl
  unfold f_X5_push at hf
  revert hf
  refine k_req (fun k0 hf => ?_)
  refine lv_aload_n hx hb dX5_push_0 rfl (lv_at hl 0 rfl) ?_
  revert hf
  refine k_drf (fun r1 er1 hf => ?_)
  refine gf_X5_51 C hw k0 er1 dX5_push_1 ?_
  refine lv_aload_n hx hb dX5_push_4 rfl (lv_at hl 0 rfl) ?_
  refine gf_X5_267 C hw k0 dX5_push_5 ?_
  refine lv_iload_n hx hb dX5_push_8 rfl (lv_at hl 1 rfl) ?_
  revert hf
  refine k_req (fun h2 hf => ?_)
  revert hf
  refine k_stp (fun U3 eU3 hf => ?_)
  refine w_iast C hw h2 eU3 dX5_push_9 (fun H locs hw => ?_)
  refine lv_aload_n hx hb dX5_push_10 rfl (lv_at hl 0 rfl) ?_
  revert hf
  refine k_drf (fun r4 er4 hf => ?_)
  refine gf_X5_54 C hw k0 er4 dX5_push_11 ?_
  refine lv_aload_n hx hb dX5_push_14 rfl (lv_at hl 0 rfl) ?_
  refine gf_X5_267 C hw k0 dX5_push_15 ?_
  refine lv_iload_n hx hb dX5_push_18 rfl (lv_at hl 2 rfl) ?_
  revert hf
  refine k_req (fun h5 hf => ?_)
  revert hf
  refine k_stp (fun U6 eU6 hf => ?_)
  refine w_iast C hw h5 eU6 dX5_push_19 (fun H locs hw => ?_)
  refine lv_aload_n hx hb dX5_push_20 rfl (lv_at hl 0 rfl) ?_
  refine lv_dup hx hb dX5_push_21 rfl ?_
  refine gf_X5_267 C hw k0 dX5_push_22 ?_
  refine lv_iconst (v := (1 : Int32)) hx hb dX5_push_25 (by decide) ?_
  refine lv_iadd hx hb dX5_push_26 ?_
  revert hf
  refine k_stp (fun U7 eU7 hf => ?_)
  refine pf_X5_267 C hw k0 eU7 dX5_push_27 (fun H locs hw => ?_)
  cases hf
  exact w_vret C hr hw dX5_push_30
set_option maxHeartbeats 4000000 in
theorem ok_X5_isSign {l : Launch} {G : gG} {T : Tt} {V0 : Vt} {o : Nat} {a0 : Int32} {r : Int32} (hf : f_X5_isSign T V0 o a0 = some r) : okM l G yX5_isSign cX5_isSign 2 (some .boolean) 0 [.ref (gb G + o), .int a0] V0 T (some (.int r)) V0 T 0 0 := by
  refine ok_intro (by decide) (Nat.le_of_ble_eq_true rfl) ?_
  intro p e s m below meth c ls C hr hnm hw hl
  have hx := C.1
  have hb := C.2.1
  have hown := C.2.2.2.1
  have hts := C.2.2.2.2.1
  have hl : lv_has ls 2 [(0, .ref (gb G + o)), (1, .int a0)] := hl
  unfold f_X5_isSign at hf
  revert hf
  refine k_req (fun k0 hf => ?_)
  refine lv_aload_n hx hb dX5_isSign_0 rfl (lv_at hl 0 rfl) ?_
  refine gf_X5_249 C hw k0 dX5_isSign_1 ?_
  refine lv_iconst (v := (3 : Int32)) hx hb dX5_isSign_4 (by decide) ?_
  refine lv_icmp_ne (tgt := 22) hx hb dX5_isSign_5 (by decide) (fun c1 => ?_) (fun c1 => ?_)
  · replace hf := ite_f c1 hf
    refine lv_iconst (v := (0 : Int32)) hx hb dX5_isSign_22 (by decide) ?_
    cases hf
    exact w_zret C hr hw (by decide) dX5_isSign_23
  · replace hf := ite_t c1 hf
    refine lv_aload_n hx hb dX5_isSign_8 rfl (lv_at hl 0 rfl) ?_
    refine gf_X5_239 C hw k0 dX5_isSign_9 ?_
    refine lv_iload_n hx hb dX5_isSign_12 rfl (lv_at hl 1 rfl) ?_
    refine lv_i2l hx hb dX5_isSign_13 rfl ?_
    refine W.lcmp hx hb dX5_isSign_14 ?_
    refine lv_if_ne (tgt := 22) hx hb dX5_isSign_15 (by decide) (fun c2 => ?_) (fun c2 => ?_)
    · replace hf := ite_f c2 hf
      refine lv_iconst (v := (0 : Int32)) hx hb dX5_isSign_22 (by decide) ?_
      cases hf
      exact w_zret C hr hw (by decide) dX5_isSign_23
    · replace hf := ite_t c2 hf
      refine lv_iconst (v := (1 : Int32)) hx hb dX5_isSign_18 (by decide) ?_
      refine lv_goto (tgt := 23) hx hb dX5_isSign_19 (by decide) ?_
      cases hf
      exact w_zret C hr hw (by decide) dX5_isSign_23
set_option maxHeartbeats 4000000 in
theorem jk_X5_openBracket_15 {l : Launch} {G : gG} {p : Program} {e : Env} {s : State} {m : MethodId} {args : Array Value} {below : List Frame} {meth : Method} {c : Code} {T : Tt} {V0 : Vt} {V' : Vt} (C : Cx G p s m args meth c cX5_openBracket RX5 2) (hr : meth.sig.returnType = none) {x0 : Nat} {x1 : Int32} {s0 : Nat} {s1 : Int32} {H : Heap} {locs : List Loc} {ls : Array Slot} (k0 : T.1 x0 = 6) (hf : f_X5_openBracket_J15 T V0 x0 x1 s0 s1 = some V') (hw : wS G V0 T H locs) (hl : lv_has ls 2 [(0, .ref (gb G + x0)), (1, .int x1)]) : W p l e (rmL 3 0 0) s m args below meth c H locs 0 0 (eQ G below none V' T args s 0 0) (F0 m 15 ls [.int s1, .ref (gb G + s0)]) := by
  have hx := C.1
  have hb := C.2.1
  have hown := C.2.2.2.1
  have hts := C.2.2.2.2.1
  unfold f_X5_openBracket_J15 at hf
  revert hf
  refine k_pcl (fun U4 h2 hf => ?_)
  refine w_afv hw (w_rV (As := [.int s1]) C hw (ok_X5_must h2) (cw_X5_260 hts (Nat.le_of_ble_eq_true rfl) (Nat.le_of_ble_eq_true rfl)) rfl (by decide) (of_req h2).1 rfl hl.1 rfl (Nat.le_of_ble_eq_true rfl) ⟨Nat.zero_le _, Nat.zero_le _⟩ dX5_openBracket_15) (fun H locs hw => ?_)
  refine lv_aload_n hx hb dX5_openBracket_18 rfl (lv_at hl 0 rfl) ?_
  refine gf_X5_229 C hw k0 dX5_openBracket_19 ?_
  refine lv_if_ne (tgt := 41) hx hb dX5_openBracket_22 (by decide) (fun c5 => ?_) (fun c5 => ?_)
  · replace hf := ite_f c5 hf
    cases hf
    exact w_vret C hr hw dX5_openBracket_41
  · replace hf := ite_t c5 hf
    refine lv_aload_n hx hb dX5_openBracket_25 rfl (lv_at hl 0 rfl) ?_
    refine lv_dup hx hb dX5_openBracket_26 rfl ?_
    refine gf_X5_287 C hw k0 dX5_openBracket_27 ?_
    refine lv_iconst (v := (1 : Int32)) hx hb dX5_openBracket_30 (by decide) ?_
    refine lv_iadd hx hb dX5_openBracket_31 ?_
    revert hf
    refine k_stp (fun U6 eU6 hf => ?_)
    refine pf_X5_287 C hw k0 eU6 dX5_openBracket_32 (fun H locs hw => ?_)
    refine lv_aload_n hx hb dX5_openBracket_35 rfl (lv_at hl 0 rfl) ?_
    refine lv_iload_n hx hb dX5_openBracket_36 rfl (lv_at hl 1 rfl) ?_
    refine lv_iconst (v := (0 : Int32)) hx hb dX5_openBracket_37 (by decide) ?_
    revert hf
    refine k_pcl (fun U9 h7 hf => ?_)
    refine w_afv hw (w_rV (As := [.int x1, .int (0 : Int32)]) C hw (ok_X5_push h7) (cw_X5_290 hts (Nat.le_of_ble_eq_true rfl) (Nat.le_of_ble_eq_true rfl)) rfl (by decide) (of_req h7).1 rfl hl.1 rfl (Nat.le_of_ble_eq_true rfl) ⟨Nat.zero_le _, Nat.zero_le _⟩ dX5_openBracket_38) (fun H locs hw => ?_)
    cases hf
    exact w_vret C hr hw dX5_openBracket_41
set_option maxHeartbeats 4000000 in
theorem ok_X5_openBracket {l : Launch} {G : gG} {T : Tt} {V0 : Vt} {o : Nat} {a0 : Int32} {V' : Vt} (hf : f_X5_openBracket T V0 o a0 = some V') : okM l G yX5_openBracket cX5_openBracket 2 none 3 [.ref (gb G + o), .int a0] V0 T none V' T 0 0 := by
  refine ok_intro (by decide) (Nat.le_of_ble_eq_true rfl) ?_
  intro p e s m below meth c ls C hr hnm hw hl
  have hx := C.1
  have hb := C.2.1
  have hown := C.2.2.2.1
  have hts := C.2.2.2.2.1
  have hl : lv_has ls 2 [(0, .ref (gb G + o)), (1, .int a0)] := hl
  unfold f_X5_openBracket at hf
  revert hf
  refine k_req (fun k0 hf => ?_)
  refine lv_aload_n hx hb dX5_openBracket_0 rfl (lv_at hl 0 rfl) ?_
  refine lv_aload_n hx hb dX5_openBracket_1 rfl (lv_at hl 0 rfl) ?_
  refine gf_X5_287 C hw k0 dX5_openBracket_2 ?_
  refine lv_bipush (v := (8 : Int32)) hx hb dX5_openBracket_5 (by decide) ?_
  refine lv_icmp_ge (tgt := 14) hx hb dX5_openBracket_7 (by decide) (fun c1 => ?_) (fun c1 => ?_)
  · replace hf := ite_t c1 hf
    refine lv_iconst (v := (0 : Int32)) hx hb dX5_openBracket_14 (by decide) ?_
    exact jk_X5_openBracket_15 C hr k0 hf hw (lv_sub hl [0, 1] rfl)
  · replace hf := ite_f c1 hf
    refine lv_iconst (v := (1 : Int32)) hx hb dX5_openBracket_10 (by decide) ?_
    refine lv_goto (tgt := 15) hx hb dX5_openBracket_11 (by decide) ?_
    exact jk_X5_openBracket_15 C hr k0 hf hw (lv_sub hl [0, 1] rfl)
set_option maxHeartbeats 4000000 in
theorem jk_X5_orderPartAt_30 {l : Launch} {G : gG} {p : Program} {e : Env} {s : State} {m : MethodId} {args : Array Value} {below : List Frame} {meth : Method} {c : Code} {T : Tt} {V0 : Vt} {r : Int32} (C : Cx G p s m args meth c cX5_orderPartAt RX5 3) (hr : meth.sig.returnType = (some .int)) {x0 : Nat} {x2 : Int32} {s0 : Int32} {kc4 : Int32 → Int32 → Option (Int32)} {kx4_37 : Int32 → Option (Int32)} {H : Heap} {locs : List Loc} {ls : Array Slot} (k0 : T.1 x0 = 6) (hf : f_X5_orderPartAt_J30 T V0 x0 x2 s0 kc4 kx4_37 = some r) (hw : wS G V0 T H locs) (hl : lv_has ls 3 [(0, .ref (gb G + x0)), (2, .int x2)]) (hkc4 : ∀ (y1 : Int32) (y2 : Int32) (H : Heap) (locs : List Loc) (ls : Array Slot), kc4 y1 y2 = some r → wS G V0 T H locs → lv_has ls 3 [(0, .ref (gb G + x0)), (1, .int y1), (2, .int y2)] → W p l e (rmL 1 0 0) s m args below meth c H locs 0 0 (eQ G below (some (.int r)) V0 T args s 0 0) (F0 m 4 ls [])) (hkx4_37 : ∀ (y1 : Int32) (H : Heap) (locs : List Loc) (ls : Array Slot), kx4_37 y1 = some r → wS G V0 T H locs → lv_has ls 3 [(1, .int y1)] → W p l e (rmL 1 0 0) s m args below meth c H locs 0 0 (eQ G below (some (.int r)) V0 T args s 0 0) (F0 m 37 ls [])) : W p l e (rmL 1 0 0) s m args below meth c H locs 0 0 (eQ G below (some (.int r)) V0 T args s 0 0) (F0 m 30 ls [.int s0]) := by
  have hx := C.1
  have hb := C.2.1
  have hown := C.2.2.2.1
  have hts := C.2.2.2.2.1
  unfold f_X5_orderPartAt_J30 at hf
  refine lv_istore_n (lv' := [(1, .int s0), (0, .ref (gb G + x0)), (2, .int x2)]) hx hb dX5_orderPartAt_30 rfl hl (by decide) rfl (fun ls hl => ?_)
  revert hf
  refine k_stp (fun z7 ez7 hf => ?_)
  refine lv_iinc (k := 2) (lv' := [(2, .int z7), (1, .int s0), (0, .ref (gb G + x0))]) hx hb dX5_orderPartAt_31 hl rfl (inc_e (by decide) ez7) (by decide) rfl (fun ls hl => ?_)
  refine lv_goto (tgt := 4) hx hb dX5_orderPartAt_34 (by decide) ?_
  exact hkc4 _ _ _ _ _ hf hw (lv_sub hl [2, 1, 0] rfl)
set_option maxHeartbeats 4000000 in
theorem lk_X5_orderPartAt_4 {l : Launch} {G : gG} {p : Program} {e : Env} {s : State} {m : MethodId} {args : Array Value} {below : List Frame} {meth : Method} {c : Code} {T : Tt} {V0 : Vt} {r : Int32} (C : Cx G p s m args meth c cX5_orderPartAt RX5 3) (hr : meth.sig.returnType = (some .int)) {x0 : Nat} {kx4_37 : Int32 → Option (Int32)} (k0 : T.1 x0 = 6) (hkx4_37 : ∀ (y1 : Int32) (H : Heap) (locs : List Loc) (ls : Array Slot), kx4_37 y1 = some r → wS G V0 T H locs → lv_has ls 3 [(1, .int y1)] → W p l e (rmL 1 0 0) s m args below meth c H locs 0 0 (eQ G below (some (.int r)) V0 T args s 0 0) (F0 m 37 ls [])) : ∀ (n : Nat) (x1 : Int32) (x2 : Int32) (H : Heap) (locs : List Loc) (ls : Array Slot), f_X5_orderPartAt_L4 T V0 x0 kx4_37 n x1 x2 = some r → wS G V0 T H locs → lv_has ls 3 [(0, .ref (gb G + x0)), (1, .int x1), (2, .int x2)] → W p l e (rmL 1 0 0) s m args below meth c H locs 0 0 (eQ G below (some (.int r)) V0 T args s 0 0) (F0 m 4 ls []) := by
  have hx := C.1
  have hb := C.2.1
  have hown := C.2.2.2.1
  have hts := C.2.2.2.2.1
  intro n
  induction n with
  | zero =>
    intro x1 x2 H locs ls hf
    cases hf
  | succ n ih =>
    intro x1 x2 H locs ls hf hw hl
    unfold f_X5_orderPartAt_L4 at hf
    refine lv_iload_n hx hb dX5_orderPartAt_4 rfl (lv_at hl 2 rfl) ?_
    refine lv_bipush (v := (7 : Int32)) hx hb dX5_orderPartAt_5 (by decide) ?_
    refine lv_icmp_ge (tgt := 37) hx hb dX5_orderPartAt_7 (by decide) (fun c1 => ?_) (fun c1 => ?_)
    · replace hf := ite_t c1 hf
      exact hkx4_37 _ _ _ _ hf hw (lv_sub hl [1] rfl)
    · replace hf := ite_f c1 hf
      refine lv_aload_n hx hb dX5_orderPartAt_10 rfl (lv_at hl 0 rfl) ?_
      refine lv_aload_n hx hb dX5_orderPartAt_11 rfl (lv_at hl 0 rfl) ?_
      revert hf
      refine k_drf (fun r2 er2 hf => ?_)
      refine gf_X5_83 C hw k0 er2 dX5_orderPartAt_12 ?_
      refine lv_iload_n hx hb dX5_orderPartAt_15 rfl (lv_at hl 2 rfl) ?_
      revert hf
      refine k_req (fun h3 hf => ?_)
      refine w_lald C hw h3 rfl dX5_orderPartAt_16 ?_
      revert hf
      refine k_pcl (fun z5 h4 hf => ?_)
      refine w_afi hw (w_rV (As := [.long (V0.2.1 r2 (ixN x2))]) C hw (ok_X5_isWord h4) (cw_X5_283 hts (Nat.le_of_ble_eq_true rfl) (Nat.le_of_ble_eq_true rfl)) rfl (by decide) (of_req h4).1 rfl hl.1 rfl (Nat.le_of_ble_eq_true rfl) ⟨Nat.zero_le _, Nat.zero_le _⟩ dX5_orderPartAt_17) (fun H locs hw => ?_)
      refine lv_if_eq (tgt := 29) hx hb dX5_orderPartAt_20 (by decide) (fun c6 => ?_) (fun c6 => ?_)
      · replace hf := ite_t c6 hf
        refine lv_iload_n hx hb dX5_orderPartAt_29 rfl (lv_at hl 1 rfl) ?_
        exact jk_X5_orderPartAt_30 C hr k0 hf hw (lv_sub hl [0, 2] rfl) ih hkx4_37
      · replace hf := ite_f c6 hf
        refine lv_iload_n hx hb dX5_orderPartAt_23 rfl (lv_at hl 2 rfl) ?_
        refine lv_iconst (v := (1 : Int32)) hx hb dX5_orderPartAt_24 (by decide) ?_
        refine lv_iadd hx hb dX5_orderPartAt_25 ?_
        refine lv_goto (tgt := 30) hx hb dX5_orderPartAt_26 (by decide) ?_
        exact jk_X5_orderPartAt_30 C hr k0 hf hw (lv_sub hl [0, 2] rfl) ih hkx4_37
set_option maxHeartbeats 4000000 in
theorem ok_X5_orderPartAt {l : Launch} {G : gG} {T : Tt} {V0 : Vt} {o : Nat} {r : Int32} (hf : f_X5_orderPartAt T V0 o = some r) : okM l G yX5_orderPartAt cX5_orderPartAt 3 (some .int) 1 [.ref (gb G + o)] V0 T (some (.int r)) V0 T 0 0 := by
  refine ok_intro (by decide) (Nat.le_of_ble_eq_true rfl) ?_
  intro p e s m below meth c ls C hr hnm hw hl
  have hx := C.1
  have hb := C.2.1
  have hown := C.2.2.2.1
  have hts := C.2.2.2.2.1
  have hl : lv_has ls 3 [(0, .ref (gb G + o))] := hl
  unfold f_X5_orderPartAt at hf
  revert hf
  refine k_req (fun k0 hf => ?_)
  refine lv_iconst (v := ((-1) : Int32)) hx hb dX5_orderPartAt_0 (by decide) ?_
  refine lv_istore_n (lv' := [(1, .int ((-1) : Int32)), (0, .ref (gb G + o))]) hx hb dX5_orderPartAt_1 rfl hl (by decide) rfl (fun ls hl => ?_)
  refine lv_iconst (v := (0 : Int32)) hx hb dX5_orderPartAt_2 (by decide) ?_
  refine lv_istore_n (lv' := [(2, .int (0 : Int32)), (1, .int ((-1) : Int32)), (0, .ref (gb G + o))]) hx hb dX5_orderPartAt_3 rfl hl (by decide) rfl (fun ls hl => ?_)
  refine lk_X5_orderPartAt_4 C hr k0 (fun z8 H locs ls hf hw hl => ?_) fuel _ _ _ _ _ hf hw (lv_sub hl [2, 1, 0] rfl)
  refine lv_iload_n hx hb dX5_orderPartAt_37 rfl (lv_at hl 0 rfl) ?_
  cases hf
  exact w_iret C hr hw dX5_orderPartAt_38
set_option maxHeartbeats 4000000 in
theorem jk_X5_partAt_30 {l : Launch} {G : gG} {p : Program} {e : Env} {s : State} {m : MethodId} {args : Array Value} {below : List Frame} {meth : Method} {c : Code} {T : Tt} {V0 : Vt} {r : Int32} (C : Cx G p s m args meth c cX5_partAt RX5 3) (hr : meth.sig.returnType = (some .int)) {x0 : Nat} {x2 : Int32} {s0 : Int32} {kc4 : Int32 → Int32 → Option (Int32)} {kx4_37 : Int32 → Option (Int32)} {H : Heap} {locs : List Loc} {ls : Array Slot} (k0 : T.1 x0 = 6) (hf : f_X5_partAt_J30 T V0 x0 x2 s0 kc4 kx4_37 = some r) (hw : wS G V0 T H locs) (hl : lv_has ls 3 [(0, .ref (gb G + x0)), (2, .int x2)]) (hkc4 : ∀ (y1 : Int32) (y2 : Int32) (H : Heap) (locs : List Loc) (ls : Array Slot), kc4 y1 y2 = some r → wS G V0 T H locs → lv_has ls 3 [(0, .ref (gb G + x0)), (1, .int y1), (2, .int y2)] → W p l e (rmL 1 0 0) s m args below meth c H locs 0 0 (eQ G below (some (.int r)) V0 T args s 0 0) (F0 m 4 ls [])) (hkx4_37 : ∀ (y1 : Int32) (H : Heap) (locs : List Loc) (ls : Array Slot), kx4_37 y1 = some r → wS G V0 T H locs → lv_has ls 3 [(1, .int y1)] → W p l e (rmL 1 0 0) s m args below meth c H locs 0 0 (eQ G below (some (.int r)) V0 T args s 0 0) (F0 m 37 ls [])) : W p l e (rmL 1 0 0) s m args below meth c H locs 0 0 (eQ G below (some (.int r)) V0 T args s 0 0) (F0 m 30 ls [.int s0]) := by
  have hx := C.1
  have hb := C.2.1
  have hown := C.2.2.2.1
  have hts := C.2.2.2.2.1
  unfold f_X5_partAt_J30 at hf
  refine lv_istore_n (lv' := [(1, .int s0), (0, .ref (gb G + x0)), (2, .int x2)]) hx hb dX5_partAt_30 rfl hl (by decide) rfl (fun ls hl => ?_)
  revert hf
  refine k_stp (fun z7 ez7 hf => ?_)
  refine lv_iinc (k := 2) (lv' := [(2, .int z7), (1, .int s0), (0, .ref (gb G + x0))]) hx hb dX5_partAt_31 hl rfl (inc_e (by decide) ez7) (by decide) rfl (fun ls hl => ?_)
  refine lv_goto (tgt := 4) hx hb dX5_partAt_34 (by decide) ?_
  exact hkc4 _ _ _ _ _ hf hw (lv_sub hl [2, 1, 0] rfl)
set_option maxHeartbeats 4000000 in
theorem lk_X5_partAt_4 {l : Launch} {G : gG} {p : Program} {e : Env} {s : State} {m : MethodId} {args : Array Value} {below : List Frame} {meth : Method} {c : Code} {T : Tt} {V0 : Vt} {r : Int32} (C : Cx G p s m args meth c cX5_partAt RX5 3) (hr : meth.sig.returnType = (some .int)) {x0 : Nat} {kx4_37 : Int32 → Option (Int32)} (k0 : T.1 x0 = 6) (hkx4_37 : ∀ (y1 : Int32) (H : Heap) (locs : List Loc) (ls : Array Slot), kx4_37 y1 = some r → wS G V0 T H locs → lv_has ls 3 [(1, .int y1)] → W p l e (rmL 1 0 0) s m args below meth c H locs 0 0 (eQ G below (some (.int r)) V0 T args s 0 0) (F0 m 37 ls [])) : ∀ (n : Nat) (x1 : Int32) (x2 : Int32) (H : Heap) (locs : List Loc) (ls : Array Slot), f_X5_partAt_L4 T V0 x0 kx4_37 n x1 x2 = some r → wS G V0 T H locs → lv_has ls 3 [(0, .ref (gb G + x0)), (1, .int x1), (2, .int x2)] → W p l e (rmL 1 0 0) s m args below meth c H locs 0 0 (eQ G below (some (.int r)) V0 T args s 0 0) (F0 m 4 ls []) := by
  have hx := C.1
  have hb := C.2.1
  have hown := C.2.2.2.1
  have hts := C.2.2.2.2.1
  intro n
  induction n with
  | zero =>
    intro x1 x2 H locs ls hf
    cases hf
  | succ n ih =>
    intro x1 x2 H locs ls hf hw hl
    unfold f_X5_partAt_L4 at hf
    refine lv_iload_n hx hb dX5_partAt_4 rfl (lv_at hl 2 rfl) ?_
    refine lv_bipush (v := (7 : Int32)) hx hb dX5_partAt_5 (by decide) ?_
    refine lv_icmp_ge (tgt := 37) hx hb dX5_partAt_7 (by decide) (fun c1 => ?_) (fun c1 => ?_)
    · replace hf := ite_t c1 hf
      exact hkx4_37 _ _ _ _ hf hw (lv_sub hl [1] rfl)
    · replace hf := ite_f c1 hf
      refine lv_aload_n hx hb dX5_partAt_10 rfl (lv_at hl 0 rfl) ?_
      refine lv_aload_n hx hb dX5_partAt_11 rfl (lv_at hl 0 rfl) ?_
      revert hf
      refine k_drf (fun r2 er2 hf => ?_)
      refine gf_X5_71 C hw k0 er2 dX5_partAt_12 ?_
      refine lv_iload_n hx hb dX5_partAt_15 rfl (lv_at hl 2 rfl) ?_
      revert hf
      refine k_req (fun h3 hf => ?_)
      refine w_lald C hw h3 rfl dX5_partAt_16 ?_
      revert hf
      refine k_pcl (fun z5 h4 hf => ?_)
      refine w_afi hw (w_rV (As := [.long (V0.2.1 r2 (ixN x2))]) C hw (ok_X5_isWord h4) (cw_X5_283 hts (Nat.le_of_ble_eq_true rfl) (Nat.le_of_ble_eq_true rfl)) rfl (by decide) (of_req h4).1 rfl hl.1 rfl (Nat.le_of_ble_eq_true rfl) ⟨Nat.zero_le _, Nat.zero_le _⟩ dX5_partAt_17) (fun H locs hw => ?_)
      refine lv_if_eq (tgt := 29) hx hb dX5_partAt_20 (by decide) (fun c6 => ?_) (fun c6 => ?_)
      · replace hf := ite_t c6 hf
        refine lv_iload_n hx hb dX5_partAt_29 rfl (lv_at hl 1 rfl) ?_
        exact jk_X5_partAt_30 C hr k0 hf hw (lv_sub hl [0, 2] rfl) ih hkx4_37
      · replace hf := ite_f c6 hf
        refine lv_iload_n hx hb dX5_partAt_23 rfl (lv_at hl 2 rfl) ?_
        refine lv_iconst (v := (1 : Int32)) hx hb dX5_partAt_24 (by decide) ?_
        refine lv_iadd hx hb dX5_partAt_25 ?_
        refine lv_goto (tgt := 30) hx hb dX5_partAt_26 (by decide) ?_
        exact jk_X5_partAt_30 C hr k0 hf hw (lv_sub hl [0, 2] rfl) ih hkx4_37
set_option maxHeartbeats 4000000 in
theorem ok_X5_partAt {l : Launch} {G : gG} {T : Tt} {V0 : Vt} {o : Nat} {r : Int32} (hf : f_X5_partAt T V0 o = some r) : okM l G yX5_partAt cX5_partAt 3 (some .int) 1 [.ref (gb G + o)] V0 T (some (.int r)) V0 T 0 0 := by
  refine ok_intro (by decide) (Nat.le_of_ble_eq_true rfl) ?_
  intro p e s m below meth c ls C hr hnm hw hl
  have hx := C.1
  have hb := C.2.1
  have hown := C.2.2.2.1
  have hts := C.2.2.2.2.1
  have hl : lv_has ls 3 [(0, .ref (gb G + o))] := hl
  unfold f_X5_partAt at hf
  revert hf
  refine k_req (fun k0 hf => ?_)
  refine lv_iconst (v := ((-1) : Int32)) hx hb dX5_partAt_0 (by decide) ?_
  refine lv_istore_n (lv' := [(1, .int ((-1) : Int32)), (0, .ref (gb G + o))]) hx hb dX5_partAt_1 rfl hl (by decide) rfl (fun ls hl => ?_)
  refine lv_iconst (v := (0 : Int32)) hx hb dX5_partAt_2 (by decide) ?_
  refine lv_istore_n (lv' := [(2, .int (0 : Int32)), (1, .int ((-1) : Int32)), (0, .ref (gb G + o))]) hx hb dX5_partAt_3 rfl hl (by decide) rfl (fun ls hl => ?_)
  refine lk_X5_partAt_4 C hr k0 (fun z8 H locs ls hf hw hl => ?_) fuel _ _ _ _ _ hf hw (lv_sub hl [2, 1, 0] rfl)
  refine lv_iload_n hx hb dX5_partAt_37 rfl (lv_at hl 0 rfl) ?_
  cases hf
  exact w_iret C hr hw dX5_partAt_38
set_option maxHeartbeats 4000000 in
theorem ok_X5_emit {l : Launch} {G : gG} {T : Tt} {V0 : Vt} {o : Nat} {a0 : Int32} {a1 : Int32} {V' : Vt} (hf : f_X5_emit T V0 o a0 a1 = some V') : okM l G yX5_emit cX5_emit 3 none 0 [.ref (gb G + o), .int a0, .int a1] V0 T none V' T 0 0 := by
  refine ok_intro (by decide) (Nat.le_of_ble_eq_true rfl) ?_
  intro p e s m below meth c ls C hr hnm hw hl
  have hx := C.1
  have hb := C.2.1
  have hown := C.2.2.2.1
  have hts := C.2.2.2.2.1
  have hl : lv_has ls 3 [(0, .ref (gb G + o)), (1, .int a0), (2, .int a1)] := hl
  unfold f_X5_emit at hf
  revert hf
  refine k_req (fun k0 hf => ?_)
  refine lv_aload_n hx hb dX5_emit_0 rfl (lv_at hl 0 rfl) ?_
  revert hf
  refine k_drf (fun r1 er1 hf => ?_)
  refine gf_X5_45 C hw k0 er1 dX5_emit_1 ?_
  refine lv_aload_n hx hb dX5_emit_4 rfl (lv_at hl 0 rfl) ?_
  refine gf_X5_264 C hw k0 dX5_emit_5 ?_
  refine lv_iload_n hx hb dX5_emit_8 rfl (lv_at hl 1 rfl) ?_
  revert hf
  refine k_req (fun h2 hf => ?_)
  revert hf
  refine k_stp (fun U3 eU3 hf => ?_)
  refine w_iast C hw h2 eU3 dX5_emit_9 (fun H locs hw => ?_)
  refine lv_aload_n hx hb dX5_emit_10 rfl (lv_at hl 0 rfl) ?_
  revert hf
  refine k_drf (fun r4 er4 hf => ?_)
  refine gf_X5_48 C hw k0 er4 dX5_emit_11 ?_
  refine lv_aload_n hx hb dX5_emit_14 rfl (lv_at hl 0 rfl) ?_
  refine gf_X5_264 C hw k0 dX5_emit_15 ?_
  refine lv_iload_n hx hb dX5_emit_18 rfl (lv_at hl 2 rfl) ?_
  revert hf
  refine k_req (fun h5 hf => ?_)
  revert hf
  refine k_stp (fun U6 eU6 hf => ?_)
  refine w_iast C hw h5 eU6 dX5_emit_19 (fun H locs hw => ?_)
  refine lv_aload_n hx hb dX5_emit_20 rfl (lv_at hl 0 rfl) ?_
  refine lv_dup hx hb dX5_emit_21 rfl ?_
  refine gf_X5_264 C hw k0 dX5_emit_22 ?_
  refine lv_iconst (v := (1 : Int32)) hx hb dX5_emit_25 (by decide) ?_
  refine lv_iadd hx hb dX5_emit_26 ?_
  revert hf
  refine k_stp (fun U7 eU7 hf => ?_)
  refine pf_X5_264 C hw k0 eU7 dX5_emit_27 (fun H locs hw => ?_)
  cases hf
  exact w_vret C hr hw dX5_emit_30
set_option maxHeartbeats 4000000 in
theorem jk_X5_leaf_19 {l : Launch} {G : gG} {p : Program} {e : Env} {s : State} {m : MethodId} {args : Array Value} {below : List Frame} {meth : Method} {c : Code} {T : Tt} {V0 : Vt} {V' : Vt} (C : Cx G p s m args meth c cX5_leaf RX5 4) (hr : meth.sig.returnType = none) {x0 : Nat} {x2 : Int32} {x3 : Int32} {s0 : Nat} {s1 : Int32} {H : Heap} {locs : List Loc} {ls : Array Slot} (k0 : T.1 x0 = 6) (hf : f_X5_leaf_J19 T V0 x0 x2 x3 s0 s1 = some V') (hw : wS G V0 T H locs) (hl : lv_has ls 4 [(0, .ref (gb G + x0)), (2, .int x2), (3, .int x3)]) : W p l e (rmL 3 0 0) s m args below meth c H locs 0 0 (eQ G below none V' T args s 0 0) (F0 m 19 ls [.int s1, .ref (gb G + s0)]) := by
  have hx := C.1
  have hb := C.2.1
  have hown := C.2.2.2.1
  have hts := C.2.2.2.2.1
  unfold f_X5_leaf_J19 at hf
  revert hf
  refine k_pcl (fun U4 h2 hf => ?_)
  refine w_afv hw (w_rV (As := [.int s1]) C hw (ok_X5_must h2) (cw_X5_260 hts (Nat.le_of_ble_eq_true rfl) (Nat.le_of_ble_eq_true rfl)) rfl (by decide) (of_req h2).1 rfl hl.1 rfl (Nat.le_of_ble_eq_true rfl) ⟨Nat.zero_le _, Nat.zero_le _⟩ dX5_leaf_19) (fun H locs hw => ?_)
  refine lv_aload_n hx hb dX5_leaf_22 rfl (lv_at hl 0 rfl) ?_
  refine gf_X5_229 C hw k0 dX5_leaf_23 ?_
  refine lv_if_ne (tgt := 45) hx hb dX5_leaf_26 (by decide) (fun c5 => ?_) (fun c5 => ?_)
  · replace hf := ite_f c5 hf
    cases hf
    exact w_vret C hr hw dX5_leaf_45
  · replace hf := ite_t c5 hf
    refine lv_aload_n hx hb dX5_leaf_29 rfl (lv_at hl 0 rfl) ?_
    refine lv_iload_n hx hb dX5_leaf_30 rfl (lv_at hl 1 rfl) ?_
    refine lv_iload_n hx hb dX5_leaf_31 rfl (lv_at hl 2 rfl) ?_
    revert hf
    refine k_pcl (fun U8 h6 hf => ?_)
    refine w_afv hw (w_rV (As := [.int x2, .int x3]) C hw (ok_X5_emit h6) (cw_X5_273 hts (Nat.le_of_ble_eq_true rfl) (Nat.le_of_ble_eq_true rfl)) rfl (by decide) (of_req h6).1 rfl hl.1 rfl (Nat.le_of_ble_eq_true rfl) ⟨Nat.zero_le _, Nat.zero_le _⟩ dX5_leaf_32) (fun H locs hw => ?_)
    refine lv_aload_n hx hb dX5_leaf_35 rfl (lv_at hl 0 rfl) ?_
    refine lv_dup hx hb dX5_leaf_36 rfl ?_
    refine gf_X5_293 C hw k0 dX5_leaf_37 ?_
    refine lv_iconst (v := (1 : Int32)) hx hb dX5_leaf_40 (by decide) ?_
    refine lv_iadd hx hb dX5_leaf_41 ?_
    revert hf
    refine k_stp (fun U9 eU9 hf => ?_)
    refine pf_X5_293 C hw k0 eU9 dX5_leaf_42 (fun H locs hw => ?_)
    cases hf
    exact w_vret C hr hw dX5_leaf_45
set_option maxHeartbeats 4000000 in
theorem jk_X5_leaf_18 {l : Launch} {G : gG} {p : Program} {e : Env} {s : State} {m : MethodId} {args : Array Value} {below : List Frame} {meth : Method} {c : Code} {T : Tt} {V0 : Vt} {V' : Vt} (C : Cx G p s m args meth c cX5_leaf RX5 4) (hr : meth.sig.returnType = none) {x0 : Nat} {x2 : Int32} {x3 : Int32} {s0 : Nat} {H : Heap} {locs : List Loc} {ls : Array Slot} (k0 : T.1 x0 = 6) (hf : f_X5_leaf_J18 T V0 x0 x2 x3 s0 = some V') (hw : wS G V0 T H locs) (hl : lv_has ls 4 [(0, .ref (gb G + x0)), (2, .int x2), (3, .int x3)]) : W p l e (rmL 3 0 0) s m args below meth c H locs 0 0 (eQ G below none V' T args s 0 0) (F0 m 18 ls [.ref (gb G + s0)]) := by
  have hx := C.1
  have hb := C.2.1
  have hown := C.2.2.2.1
  have hts := C.2.2.2.2.1
  unfold f_X5_leaf_J18 at hf
  refine lv_iconst (v := (0 : Int32)) hx hb dX5_leaf_18 (by decide) ?_
  exact jk_X5_leaf_19 C hr k0 hf hw (lv_sub hl [0, 1, 2] rfl)
set_option maxHeartbeats 4000000 in
theorem ok_X5_leaf {l : Launch} {G : gG} {T : Tt} {V0 : Vt} {o : Nat} {a0 : Int32} {a1 : Int32} {a2 : Int32} {V' : Vt} (hf : f_X5_leaf T V0 o a0 a1 a2 = some V') : okM l G yX5_leaf cX5_leaf 4 none 3 [.ref (gb G + o), .int a0, .int a1, .int a2] V0 T none V' T 0 0 := by
  refine ok_intro (by decide) (Nat.le_of_ble_eq_true rfl) ?_
  intro p e s m below meth c ls C hr hnm hw hl
  have hx := C.1
  have hb := C.2.1
  have hown := C.2.2.2.1
  have hts := C.2.2.2.2.1
  have hl : lv_has ls 4 [(0, .ref (gb G + o)), (1, .int a0), (2, .int a1), (3, .int a2)] := hl
  unfold f_X5_leaf at hf
  revert hf
  refine k_req (fun k0 hf => ?_)
  refine lv_aload_n hx hb dX5_leaf_0 rfl (lv_at hl 0 rfl) ?_
  refine lv_iload_n hx hb dX5_leaf_1 rfl (lv_at hl 1 rfl) ?_
  refine lv_if_eq (tgt := 18) hx hb dX5_leaf_2 (by decide) (fun c1 => ?_) (fun c1 => ?_)
  · replace hf := ite_t c1 hf
    exact jk_X5_leaf_18 C hr k0 hf hw (lv_sub hl [0, 2, 3] rfl)
  · replace hf := ite_f c1 hf
    refine lv_aload_n hx hb dX5_leaf_5 rfl (lv_at hl 0 rfl) ?_
    refine gf_X5_293 C hw k0 dX5_leaf_6 ?_
    refine lv_bipush (v := (50 : Int32)) hx hb dX5_leaf_9 (by decide) ?_
    refine lv_icmp_ge (tgt := 18) hx hb dX5_leaf_11 (by decide) (fun c10 => ?_) (fun c10 => ?_)
    · replace hf := ite_t c10 hf
      exact jk_X5_leaf_18 C hr k0 hf hw (lv_sub hl [0, 2, 3] rfl)
    · replace hf := ite_f c10 hf
      refine lv_iconst (v := (1 : Int32)) hx hb dX5_leaf_14 (by decide) ?_
      refine lv_goto (tgt := 19) hx hb dX5_leaf_15 (by decide) ?_
      exact jk_X5_leaf_19 C hr k0 hf hw (lv_sub hl [0, 2, 3] rfl)
set_option maxHeartbeats 4000000 in
theorem jk_X5_number_33 {l : Launch} {G : gG} {p : Program} {e : Env} {s : State} {m : MethodId} {args : Array Value} {below : List Frame} {meth : Method} {c : Code} {T : Tt} {V0 : Vt} {r : Int32} {V' : Vt} (C : Cx G p s m args meth c cX5_number RX5 6) (hr : meth.sig.returnType = (some .int)) {x5 : Int32} {s0 : Nat} {s1 : Int32} {H : Heap} {locs : List Loc} {ls : Array Slot} (hf : f_X5_number_J33 T V0 x5 s0 s1 = some (r, V')) (hw : wS G V0 T H locs) (hl : lv_has ls 6 [(5, .int x5)]) : W p l e (rmL 3 0 0) s m args below meth c H locs 0 0 (eQ G below (some (.int r)) V' T args s 0 0) (F0 m 33 ls [.int s1, .ref (gb G + s0)]) := by
  have hx := C.1
  have hb := C.2.1
  have hown := C.2.2.2.1
  have hts := C.2.2.2.2.1
  unfold f_X5_number_J33 at hf
  revert hf
  refine k_pcl (fun U5 h3 hf => ?_)
  refine w_afv hw (w_rV (As := [.int s1]) C hw (ok_X5_must h3) (cw_X5_260 hts (Nat.le_of_ble_eq_true rfl) (Nat.le_of_ble_eq_true rfl)) rfl (by decide) (of_req h3).1 rfl hl.1 rfl (Nat.le_of_ble_eq_true rfl) ⟨Nat.zero_le _, Nat.zero_le _⟩ dX5_number_33) (fun H locs hw => ?_)
  refine lv_iload hx hb dX5_number_36 (lv_at hl 0 rfl) ?_
  cases hf
  exact w_iret C hr hw dX5_number_38
set_option maxHeartbeats 4000000 in
theorem jk_X5_number_32 {l : Launch} {G : gG} {p : Program} {e : Env} {s : State} {m : MethodId} {args : Array Value} {below : List Frame} {meth : Method} {c : Code} {T : Tt} {V0 : Vt} {r : Int32} {V' : Vt} (C : Cx G p s m args meth c cX5_number RX5 6) (hr : meth.sig.returnType = (some .int)) {x5 : Int32} {s0 : Nat} {H : Heap} {locs : List Loc} {ls : Array Slot} (hf : f_X5_number_J32 T V0 x5 s0 = some (r, V')) (hw : wS G V0 T H locs) (hl : lv_has ls 6 [(5, .int x5)]) : W p l e (rmL 3 0 0) s m args below meth c H locs 0 0 (eQ G below (some (.int r)) V' T args s 0 0) (F0 m 32 ls [.ref (gb G + s0)]) := by
  have hx := C.1
  have hb := C.2.1
  have hown := C.2.2.2.1
  have hts := C.2.2.2.2.1
  unfold f_X5_number_J32 at hf
  refine lv_iconst (v := (0 : Int32)) hx hb dX5_number_32 (by decide) ?_
  exact jk_X5_number_33 C hr hf hw (lv_sub hl [0] rfl)
set_option maxHeartbeats 4000000 in
theorem ok_X5_number {l : Launch} {G : gG} {T : Tt} {V0 : Vt} {o : Nat} {a0 : Int64} {a1 : Int64} {r : Int32} {V' : Vt} (hf : f_X5_number T V0 o a0 a1 = some (r, V')) : okM l G yX5_number cX5_number 6 (some .int) 3 [.ref (gb G + o), .long a0, .long a1] V0 T (some (.int r)) V' T 0 0 := by
  refine ok_intro (by decide) (Nat.le_of_ble_eq_true rfl) ?_
  intro p e s m below meth c ls C hr hnm hw hl
  have hx := C.1
  have hb := C.2.1
  have hown := C.2.2.2.1
  have hts := C.2.2.2.2.1
  have hl : lv_has ls 6 [(0, .ref (gb G + o)), (1, .long a0), (3, .long a1)] := hl
  unfold f_X5_number at hf
  revert hf
  refine k_req (fun k0 hf => ?_)
  refine lv_aload_n hx hb dX5_number_0 rfl (lv_at hl 0 rfl) ?_
  refine gf_X5_239 C hw k0 dX5_number_1 ?_
  refine lv_l2i hx hb dX5_number_4 rfl ?_
  revert hf
  refine k_stp (fun z1 ez1 hf => ?_)
  refine w_nmI ez1 ?_
  refine lv_istore (lv' := [(5, .int z1), (0, .ref (gb G + o)), (1, .long a0), (3, .long a1)]) hx hb dX5_number_5 hl (by decide) rfl (fun ls hl => ?_)
  refine lv_aload_n hx hb dX5_number_7 rfl (lv_at hl 1 rfl) ?_
  refine lv_aload_n hx hb dX5_number_8 rfl (lv_at hl 1 rfl) ?_
  refine gf_X5_249 C hw k0 dX5_number_9 ?_
  refine lv_iconst (v := (2 : Int32)) hx hb dX5_number_12 (by decide) ?_
  refine lv_icmp_ne (tgt := 32) hx hb dX5_number_13 (by decide) (fun c2 => ?_) (fun c2 => ?_)
  · replace hf := ite_f c2 hf
    exact jk_X5_number_32 C hr hf hw (lv_sub hl [0] rfl)
  · replace hf := ite_t c2 hf
    refine lv_aload_n hx hb dX5_number_16 rfl (lv_at hl 1 rfl) ?_
    refine gf_X5_239 C hw k0 dX5_number_17 ?_
    refine lv_lload_n hx hb dX5_number_20 rfl (lv_at hl 2 rfl) ?_
    refine lv_lload_n hx hb dX5_number_21 rfl (lv_at hl 3 rfl) ?_
    revert hf
    refine k_pcl (fun z7 h6 hf => ?_)
    refine w_afi hw (w_rS (As := [.long (V0.2.1 o 17), .long a0, .long a1]) C hw (ok_X5_in h6) (cw_X5_153 hts (Nat.le_of_ble_eq_true rfl) (Nat.le_of_ble_eq_true rfl)) rfl hl.1 rfl (Nat.le_of_ble_eq_true rfl) ⟨Nat.zero_le _, Nat.zero_le _⟩ dX5_number_22) (fun H locs hw => ?_)
    refine lv_if_eq (tgt := 32) hx hb dX5_number_25 (by decide) (fun c8 => ?_) (fun c8 => ?_)
    · replace hf := ite_t c8 hf
      exact jk_X5_number_32 C hr hf hw (lv_sub hl [0] rfl)
    · replace hf := ite_f c8 hf
      refine lv_iconst (v := (1 : Int32)) hx hb dX5_number_28 (by decide) ?_
      refine lv_goto (tgt := 33) hx hb dX5_number_29 (by decide) ?_
      exact jk_X5_number_33 C hr hf hw (lv_sub hl [0] rfl)
set_option maxHeartbeats 4000000 in
theorem jk_X5_readPart_99 {l : Launch} {G : gG} {p : Program} {e : Env} {s : State} {m : MethodId} {args : Array Value} {below : List Frame} {meth : Method} {c : Code} {T : Tt} {V0 : Vt} {r : Int32} {V' : Vt} (C : Cx G p s m args meth c cX5_readPart RX5 4) (hr : meth.sig.returnType = (some .int)) {x0 : Nat} {x1 : Int32} {s0 : Nat} {s1 : Int32} {s2 : Int32} {s3 : Int32} {H : Heap} {locs : List Loc} {ls : Array Slot} (k0 : T.1 x0 = 6) (hf : f_X5_readPart_J99 T V0 x0 x1 s0 s1 s2 s3 = some (r, V')) (hw : wS G V0 T H locs) (hl : lv_has ls 4 [(0, .ref (gb G + x0)), (1, .int x1)]) : W p l e (rmL 4 0 0) s m args below meth c H locs 0 0 (eQ G below (some (.int r)) V' T args s 0 0) (F0 m 99 ls [.int s3, .int s2, .int s1, .ref (gb G + s0)]) := by
  have hx := C.1
  have hb := C.2.1
  have hown := C.2.2.2.1
  have hts := C.2.2.2.2.1
  unfold f_X5_readPart_J99 at hf
  revert hf
  refine k_pcl (fun U13 h11 hf => ?_)
  refine w_afv hw (w_rV (As := [.int s1, .int s2, .int s3]) C hw (ok_X5_leaf h11) (cw_X5_312 hts (Nat.le_of_ble_eq_true rfl) (Nat.le_of_ble_eq_true rfl)) rfl (by decide) (of_req h11).1 rfl hl.1 rfl (Nat.le_of_ble_eq_true rfl) ⟨Nat.zero_le _, Nat.zero_le _⟩ dX5_readPart_99) (fun H locs hw => ?_)
  refine lv_aload_n hx hb dX5_readPart_102 rfl (lv_at hl 0 rfl) ?_
  refine gf_X5_302 C hw k0 dX5_readPart_103 ?_
  refine lv_if_eq (tgt := 142) hx hb dX5_readPart_106 (by decide) (fun c14 => ?_) (fun c14 => ?_)
  · replace hf := ite_t c14 hf
    refine lv_iconst (v := (3 : Int32)) hx hb dX5_readPart_142 (by decide) ?_
    cases hf
    exact w_iret C hr hw dX5_readPart_143
  · replace hf := ite_f c14 hf
    refine lv_iload_n hx hb dX5_readPart_109 rfl (lv_at hl 1 rfl) ?_
    refine lv_iconst (v := (5 : Int32)) hx hb dX5_readPart_110 (by decide) ?_
    refine lv_icmp_lt (tgt := 142) hx hb dX5_readPart_111 (by decide) (fun c15 => ?_) (fun c15 => ?_)
    · replace hf := ite_t c15 hf
      refine lv_iconst (v := (3 : Int32)) hx hb dX5_readPart_142 (by decide) ?_
      cases hf
      exact w_iret C hr hw dX5_readPart_143
    · replace hf := ite_f c15 hf
      refine lv_aload_n hx hb dX5_readPart_114 rfl (lv_at hl 0 rfl) ?_
      refine gf_X5_229 C hw k0 dX5_readPart_115 ?_
      refine lv_if_ne (tgt := 142) hx hb dX5_readPart_118 (by decide) (fun c16 => ?_) (fun c16 => ?_)
      · replace hf := ite_f c16 hf
        refine lv_iconst (v := (3 : Int32)) hx hb dX5_readPart_142 (by decide) ?_
        cases hf
        exact w_iret C hr hw dX5_readPart_143
      · replace hf := ite_t c16 hf
        refine lv_aload_n hx hb dX5_readPart_121 rfl (lv_at hl 0 rfl) ?_
        refine gf_X5_264 C hw k0 dX5_readPart_122 ?_
        refine lv_iconst (v := (1 : Int32)) hx hb dX5_readPart_125 (by decide) ?_
        refine lv_isub hx hb dX5_readPart_126 ?_
        revert hf
        refine k_stp (fun z17 ez17 hf => ?_)
        refine w_nmI ez17 ?_
        refine lv_istore_n (lv' := [(3, .int z17), (0, .ref (gb G + x0)), (1, .int x1)]) hx hb dX5_readPart_127 rfl hl (by decide) rfl (fun ls hl => ?_)
        refine lv_aload_n hx hb dX5_readPart_128 rfl (lv_at hl 1 rfl) ?_
        revert hf
        refine k_drf (fun r18 er18 hf => ?_)
        refine gf_X5_48 C hw k0 er18 dX5_readPart_129 ?_
        refine lv_iload_n hx hb dX5_readPart_132 rfl (lv_at hl 0 rfl) ?_
        refine lv_aload_n hx hb dX5_readPart_133 rfl (lv_at hl 1 rfl) ?_
        refine lv_lconst (v := (0 : Int64)) hx hb dX5_readPart_134 (by decide) ?_
        refine lv_ldc2 (v := (7 : Int64)) hx hb hown (hts _ q1927) dX5_readPart_135 ?_
        revert hf
        refine k_cal (fun z20 U21 h19 hf => ?_)
        refine w_afi hw (w_rV (As := [.long (0 : Int64), .long (7 : Int64)]) C hw (ok_X5_number h19) (cw_X5_318 hts (Nat.le_of_ble_eq_true rfl) (Nat.le_of_ble_eq_true rfl)) rfl (by decide) (of_req h19).1 rfl hl.1 rfl (Nat.le_of_ble_eq_true rfl) ⟨Nat.zero_le _, Nat.zero_le _⟩ dX5_readPart_138) (fun H locs hw => ?_)
        revert hf
        refine k_req (fun h22 hf => ?_)
        revert hf
        refine k_stp (fun U23 eU23 hf => ?_)
        refine w_iast C hw h22 eU23 dX5_readPart_141 (fun H locs hw => ?_)
        refine lv_iconst (v := (3 : Int32)) hx hb dX5_readPart_142 (by decide) ?_
        cases hf
        exact w_iret C hr hw dX5_readPart_143
set_option maxHeartbeats 4000000 in
theorem jk_X5_readPart_86 {l : Launch} {G : gG} {p : Program} {e : Env} {s : State} {m : MethodId} {args : Array Value} {below : List Frame} {meth : Method} {c : Code} {T : Tt} {V0 : Vt} {r : Int32} {V' : Vt} (C : Cx G p s m args meth c cX5_readPart RX5 4) (hr : meth.sig.returnType = (some .int)) {x0 : Nat} {x1 : Int32} {x2 : Int32} {s0 : Nat} {s1 : Int32} {s2 : Int32} {H : Heap} {locs : List Loc} {ls : Array Slot} (k0 : T.1 x0 = 6) (hf : f_X5_readPart_J86 T V0 x0 x1 x2 s0 s1 s2 = some (r, V')) (hw : wS G V0 T H locs) (hl : lv_has ls 4 [(0, .ref (gb G + x0)), (1, .int x1), (2, .int x2)]) : W p l e (rmL 4 0 0) s m args below meth c H locs 0 0 (eQ G below (some (.int r)) V' T args s 0 0) (F0 m 86 ls [.int s2, .int s1, .ref (gb G + s0)]) := by
  have hx := C.1
  have hb := C.2.1
  have hown := C.2.2.2.1
  have hts := C.2.2.2.2.1
  unfold f_X5_readPart_J86 at hf
  refine lv_iload_n hx hb dX5_readPart_86 rfl (lv_at hl 2 rfl) ?_
  refine lv_if_eq (tgt := 98) hx hb dX5_readPart_87 (by decide) (fun c10 => ?_) (fun c10 => ?_)
  · replace hf := ite_t c10 hf
    refine lv_iconst (v := (0 : Int32)) hx hb dX5_readPart_98 (by decide) ?_
    exact jk_X5_readPart_99 C hr k0 hf hw (lv_sub hl [0, 1] rfl)
  · replace hf := ite_f c10 hf
    refine lv_aload_n hx hb dX5_readPart_90 rfl (lv_at hl 0 rfl) ?_
    refine gf_X5_239 C hw k0 dX5_readPart_91 ?_
    refine lv_l2i hx hb dX5_readPart_94 rfl ?_
    refine lv_goto (tgt := 99) hx hb dX5_readPart_95 (by decide) ?_
    exact jk_X5_readPart_99 C hr k0 hf hw (lv_sub hl [0, 1] rfl)
set_option maxHeartbeats 4000000 in
theorem jk_X5_readPart_76 {l : Launch} {G : gG} {p : Program} {e : Env} {s : State} {m : MethodId} {args : Array Value} {below : List Frame} {meth : Method} {c : Code} {T : Tt} {V0 : Vt} {r : Int32} {V' : Vt} (C : Cx G p s m args meth c cX5_readPart RX5 4) (hr : meth.sig.returnType = (some .int)) {x0 : Nat} {x1 : Int32} {x2 : Int32} {s0 : Nat} {s1 : Int32} {H : Heap} {locs : List Loc} {ls : Array Slot} (k0 : T.1 x0 = 6) (hf : f_X5_readPart_J76 T V0 x0 x1 x2 s0 s1 = some (r, V')) (hw : wS G V0 T H locs) (hl : lv_has ls 4 [(0, .ref (gb G + x0)), (1, .int x1), (2, .int x2)]) : W p l e (rmL 4 0 0) s m args below meth c H locs 0 0 (eQ G below (some (.int r)) V' T args s 0 0) (F0 m 76 ls [.int s1, .ref (gb G + s0)]) := by
  have hx := C.1
  have hb := C.2.1
  have hown := C.2.2.2.1
  have hts := C.2.2.2.2.1
  unfold f_X5_readPart_J76 at hf
  refine lv_iload_n hx hb dX5_readPart_76 rfl (lv_at hl 1 rfl) ?_
  refine lv_iconst (v := ((-1) : Int32)) hx hb dX5_readPart_77 (by decide) ?_
  refine lv_icmp_ne (tgt := 85) hx hb dX5_readPart_78 (by decide) (fun c9 => ?_) (fun c9 => ?_)
  · replace hf := ite_f c9 hf
    refine lv_iload_n hx hb dX5_readPart_85 rfl (lv_at hl 1 rfl) ?_
    exact jk_X5_readPart_86 C hr k0 hf hw (lv_sub hl [0, 1, 2] rfl)
  · replace hf := ite_t c9 hf
    refine lv_iconst (v := (0 : Int32)) hx hb dX5_readPart_81 (by decide) ?_
    refine lv_goto (tgt := 86) hx hb dX5_readPart_82 (by decide) ?_
    exact jk_X5_readPart_86 C hr k0 hf hw (lv_sub hl [0, 1, 2] rfl)
set_option maxHeartbeats 4000000 in
theorem jk_X5_readPart_71 {l : Launch} {G : gG} {p : Program} {e : Env} {s : State} {m : MethodId} {args : Array Value} {below : List Frame} {meth : Method} {c : Code} {T : Tt} {V0 : Vt} {r : Int32} {V' : Vt} (C : Cx G p s m args meth c cX5_readPart RX5 4) (hr : meth.sig.returnType = (some .int)) {x0 : Nat} {x1 : Int32} {x2 : Int32} {s0 : Nat} {H : Heap} {locs : List Loc} {ls : Array Slot} (k0 : T.1 x0 = 6) (hf : f_X5_readPart_J71 T V0 x0 x1 x2 s0 = some (r, V')) (hw : wS G V0 T H locs) (hl : lv_has ls 4 [(0, .ref (gb G + x0)), (1, .int x1), (2, .int x2)]) : W p l e (rmL 4 0 0) s m args below meth c H locs 0 0 (eQ G below (some (.int r)) V' T args s 0 0) (F0 m 71 ls [.ref (gb G + s0)]) := by
  have hx := C.1
  have hb := C.2.1
  have hown := C.2.2.2.1
  have hts := C.2.2.2.2.1
  unfold f_X5_readPart_J71 at hf
  refine lv_iconst (v := (1 : Int32)) hx hb dX5_readPart_71 (by decide) ?_
  refine lv_goto (tgt := 76) hx hb dX5_readPart_72 (by decide) ?_
  exact jk_X5_readPart_76 C hr k0 hf hw (lv_sub hl [0, 1, 2] rfl)
set_option maxHeartbeats 4000000 in
theorem jk_X5_readPart_60 {l : Launch} {G : gG} {p : Program} {e : Env} {s : State} {m : MethodId} {args : Array Value} {below : List Frame} {meth : Method} {c : Code} {T : Tt} {V0 : Vt} {r : Int32} {V' : Vt} (C : Cx G p s m args meth c cX5_readPart RX5 4) (hr : meth.sig.returnType = (some .int)) {x0 : Nat} {x1 : Int32} {s0 : Int32} {H : Heap} {locs : List Loc} {ls : Array Slot} (k0 : T.1 x0 = 6) (hf : f_X5_readPart_J60 T V0 x0 x1 s0 = some (r, V')) (hw : wS G V0 T H locs) (hl : lv_has ls 4 [(0, .ref (gb G + x0)), (1, .int x1)]) : W p l e (rmL 4 0 0) s m args below meth c H locs 0 0 (eQ G below (some (.int r)) V' T args s 0 0) (F0 m 60 ls [.int s0]) := by
  have hx := C.1
  have hb := C.2.1
  have hown := C.2.2.2.1
  have hts := C.2.2.2.2.1
  unfold f_X5_readPart_J60 at hf
  refine lv_istore_n (lv' := [(2, .int s0), (0, .ref (gb G + x0)), (1, .int x1)]) hx hb dX5_readPart_60 rfl hl (by decide) rfl (fun ls hl => ?_)
  refine lv_aload_n hx hb dX5_readPart_61 rfl (lv_at hl 1 rfl) ?_
  refine lv_iload_n hx hb dX5_readPart_62 rfl (lv_at hl 2 rfl) ?_
  refine lv_iconst (v := ((-1) : Int32)) hx hb dX5_readPart_63 (by decide) ?_
  refine lv_icmp_ne (tgt := 71) hx hb dX5_readPart_64 (by decide) (fun c8 => ?_) (fun c8 => ?_)
  · replace hf := ite_f c8 hf
    exact jk_X5_readPart_71 C hr k0 hf hw (lv_sub hl [1, 2, 0] rfl)
  · replace hf := ite_t c8 hf
    refine lv_iload_n hx hb dX5_readPart_67 rfl (lv_at hl 0 rfl) ?_
    refine lv_if_eq (tgt := 75) hx hb dX5_readPart_68 (by decide) (fun c24 => ?_) (fun c24 => ?_)
    · replace hf := ite_t c24 hf
      refine lv_iconst (v := (0 : Int32)) hx hb dX5_readPart_75 (by decide) ?_
      exact jk_X5_readPart_76 C hr k0 hf hw (lv_sub hl [1, 2, 0] rfl)
    · replace hf := ite_f c24 hf
      exact jk_X5_readPart_71 C hr k0 hf hw (lv_sub hl [1, 2, 0] rfl)
set_option maxHeartbeats 4000000 in
theorem jk_X5_readPart_59 {l : Launch} {G : gG} {p : Program} {e : Env} {s : State} {m : MethodId} {args : Array Value} {below : List Frame} {meth : Method} {c : Code} {T : Tt} {V0 : Vt} {r : Int32} {V' : Vt} (C : Cx G p s m args meth c cX5_readPart RX5 4) (hr : meth.sig.returnType = (some .int)) {x0 : Nat} {x1 : Int32} {H : Heap} {locs : List Loc} {ls : Array Slot} (k0 : T.1 x0 = 6) (hf : f_X5_readPart_J59 T V0 x0 x1 = some (r, V')) (hw : wS G V0 T H locs) (hl : lv_has ls 4 [(0, .ref (gb G + x0)), (1, .int x1)]) : W p l e (rmL 4 0 0) s m args below meth c H locs 0 0 (eQ G below (some (.int r)) V' T args s 0 0) (F0 m 59 ls []) := by
  have hx := C.1
  have hb := C.2.1
  have hown := C.2.2.2.1
  have hts := C.2.2.2.2.1
  unfold f_X5_readPart_J59 at hf
  refine lv_iconst (v := (0 : Int32)) hx hb dX5_readPart_59 (by decide) ?_
  exact jk_X5_readPart_60 C hr k0 hf hw (lv_sub hl [0, 1] rfl)
set_option maxHeartbeats 4000000 in
theorem jk_X5_readPart_35 {l : Launch} {G : gG} {p : Program} {e : Env} {s : State} {m : MethodId} {args : Array Value} {below : List Frame} {meth : Method} {c : Code} {T : Tt} {V0 : Vt} {r : Int32} {V' : Vt} (C : Cx G p s m args meth c cX5_readPart RX5 4) (hr : meth.sig.returnType = (some .int)) {x0 : Nat} {s0 : Int32} {H : Heap} {locs : List Loc} {ls : Array Slot} (k0 : T.1 x0 = 6) (hf : f_X5_readPart_J35 T V0 x0 s0 = some (r, V')) (hw : wS G V0 T H locs) (hl : lv_has ls 4 [(0, .ref (gb G + x0))]) : W p l e (rmL 4 0 0) s m args below meth c H locs 0 0 (eQ G below (some (.int r)) V' T args s 0 0) (F0 m 35 ls [.int s0]) := by
  have hx := C.1
  have hb := C.2.1
  have hown := C.2.2.2.1
  have hts := C.2.2.2.2.1
  unfold f_X5_readPart_J35 at hf
  refine lv_istore_n (lv' := [(1, .int s0), (0, .ref (gb G + x0))]) hx hb dX5_readPart_35 rfl hl (by decide) rfl (fun ls hl => ?_)
  refine lv_aload_n hx hb dX5_readPart_36 rfl (lv_at hl 1 rfl) ?_
  refine gf_X5_249 C hw k0 dX5_readPart_37 ?_
  refine lv_iconst (v := (2 : Int32)) hx hb dX5_readPart_40 (by decide) ?_
  refine lv_icmp_ne (tgt := 59) hx hb dX5_readPart_41 (by decide) (fun c7 => ?_) (fun c7 => ?_)
  · replace hf := ite_f c7 hf
    exact jk_X5_readPart_59 C hr k0 hf hw (lv_sub hl [1, 0] rfl)
  · replace hf := ite_t c7 hf
    refine lv_aload_n hx hb dX5_readPart_44 rfl (lv_at hl 1 rfl) ?_
    refine gf_X5_239 C hw k0 dX5_readPart_45 ?_
    refine lv_ldc2 (v := (1000 : Int64)) hx hb hown (hts _ q1750) dX5_readPart_48 ?_
    refine W.lcmp hx hb dX5_readPart_51 ?_
    refine lv_if_gt (tgt := 59) hx hb dX5_readPart_52 (by decide) (fun c25 => ?_) (fun c25 => ?_)
    · replace hf := ite_t c25 hf
      exact jk_X5_readPart_59 C hr k0 hf hw (lv_sub hl [1, 0] rfl)
    · replace hf := ite_f c25 hf
      refine lv_iconst (v := (1 : Int32)) hx hb dX5_readPart_55 (by decide) ?_
      refine lv_goto (tgt := 60) hx hb dX5_readPart_56 (by decide) ?_
      exact jk_X5_readPart_60 C hr k0 hf hw (lv_sub hl [1, 0] rfl)
set_option maxHeartbeats 4000000 in
theorem ok_X5_readPart {l : Launch} {G : gG} {T : Tt} {V0 : Vt} {o : Nat} {r : Int32} {V' : Vt} (hf : f_X5_readPart T V0 o = some (r, V')) : okM l G yX5_readPart cX5_readPart 4 (some .int) 4 [.ref (gb G + o)] V0 T (some (.int r)) V' T 0 0 := by
  refine ok_intro (by decide) (Nat.le_of_ble_eq_true rfl) ?_
  intro p e s m below meth c ls C hr hnm hw hl
  have hx := C.1
  have hb := C.2.1
  have hown := C.2.2.2.1
  have hts := C.2.2.2.2.1
  have hl : lv_has ls 4 [(0, .ref (gb G + o))] := hl
  unfold f_X5_readPart at hf
  revert hf
  refine k_req (fun k0 hf => ?_)
  refine lv_aload_n hx hb dX5_readPart_0 rfl (lv_at hl 0 rfl) ?_
  refine lv_bipush (v := (91 : Int32)) hx hb dX5_readPart_1 (by decide) ?_
  revert hf
  refine k_pcl (fun z2 h1 hf => ?_)
  refine w_afi hw (w_rV (As := [.int (91 : Int32)]) C hw (ok_X5_isSign h1) (cw_X5_296 hts (Nat.le_of_ble_eq_true rfl) (Nat.le_of_ble_eq_true rfl)) rfl (by decide) (of_req h1).1 rfl hl.1 rfl (Nat.le_of_ble_eq_true rfl) ⟨Nat.zero_le _, Nat.zero_le _⟩ dX5_readPart_3) (fun H locs hw => ?_)
  refine lv_if_eq (tgt := 17) hx hb dX5_readPart_6 (by decide) (fun c3 => ?_) (fun c3 => ?_)
  · replace hf := ite_t c3 hf
    refine lv_aload_n hx hb dX5_readPart_17 rfl (lv_at hl 0 rfl) ?_
    refine gf_X5_302 C hw k0 dX5_readPart_18 ?_
    refine lv_if_eq (tgt := 31) hx hb dX5_readPart_21 (by decide) (fun c4 => ?_) (fun c4 => ?_)
    · replace hf := ite_t c4 hf
      refine lv_aload_n hx hb dX5_readPart_31 rfl (lv_at hl 0 rfl) ?_
      revert hf
      refine k_pcl (fun z6 h5 hf => ?_)
      refine w_afi hw (w_rV (As := []) C hw (ok_X5_partAt h5) (cw_X5_309 hts (Nat.le_of_ble_eq_true rfl) (Nat.le_of_ble_eq_true rfl)) rfl (by decide) (of_req h5).1 rfl hl.1 rfl (Nat.le_of_ble_eq_true rfl) ⟨Nat.zero_le _, Nat.zero_le _⟩ dX5_readPart_32) (fun H locs hw => ?_)
      exact jk_X5_readPart_35 C hr k0 hf hw (lv_sub hl [0] rfl)
    · replace hf := ite_f c4 hf
      refine lv_aload_n hx hb dX5_readPart_24 rfl (lv_at hl 0 rfl) ?_
      revert hf
      refine k_pcl (fun z27 h26 hf => ?_)
      refine w_afi hw (w_rV (As := []) C hw (ok_X5_orderPartAt h26) (cw_X5_305 hts (Nat.le_of_ble_eq_true rfl) (Nat.le_of_ble_eq_true rfl)) rfl (by decide) (of_req h26).1 rfl hl.1 rfl (Nat.le_of_ble_eq_true rfl) ⟨Nat.zero_le _, Nat.zero_le _⟩ dX5_readPart_25) (fun H locs hw => ?_)
      refine lv_goto (tgt := 35) hx hb dX5_readPart_28 (by decide) ?_
      exact jk_X5_readPart_35 C hr k0 hf hw (lv_sub hl [0] rfl)
  · replace hf := ite_f c3 hf
    refine lv_aload_n hx hb dX5_readPart_9 rfl (lv_at hl 0 rfl) ?_
    refine lv_bipush (v := (32 : Int32)) hx hb dX5_readPart_10 (by decide) ?_
    revert hf
    refine k_pcl (fun U30 h28 hf => ?_)
    refine w_afv hw (w_rV (As := [.int (32 : Int32)]) C hw (ok_X5_openBracket h28) (cw_X5_299 hts (Nat.le_of_ble_eq_true rfl) (Nat.le_of_ble_eq_true rfl)) rfl (by decide) (of_req h28).1 rfl hl.1 rfl (Nat.le_of_ble_eq_true rfl) ⟨Nat.zero_le _, Nat.zero_le _⟩ dX5_readPart_12) (fun H locs hw => ?_)
    refine lv_iconst (v := (1 : Int32)) hx hb dX5_readPart_15 (by decide) ?_
    cases hf
    exact w_iret C hr hw dX5_readPart_16
set_option maxHeartbeats 4000000 in
theorem ok_X5_readPlain {l : Launch} {G : gG} {T : Tt} {V0 : Vt} {o : Nat} {r : Int32} {V' : Vt} (hf : f_X5_readPlain T V0 o = some (r, V')) : okM l G yX5_readPlain cX5_readPlain 1 (some .int) 5 [.ref (gb G + o)] V0 T (some (.int r)) V' T 0 0 := by
  refine ok_intro (by decide) (Nat.le_of_ble_eq_true rfl) ?_
  intro p e s m below meth c ls C hr hnm hw hl
  have hx := C.1
  have hb := C.2.1
  have hown := C.2.2.2.1
  have hts := C.2.2.2.2.1
  have hl : lv_has ls 1 [(0, .ref (gb G + o))] := hl
  unfold f_X5_readPlain at hf
  revert hf
  refine k_req (fun k0 hf => ?_)
  refine lv_aload_n hx hb dX5_readPlain_0 rfl (lv_at hl 0 rfl) ?_
  refine lv_ldc2 (v := (14836 : Int64)) hx hb hown (hts _ q1894) dX5_readPlain_1 ?_
  revert hf
  refine k_pcl (fun z2 h1 hf => ?_)
  refine w_afi hw (w_rV (As := [.long (14836 : Int64)]) C hw (ok_X5_isWord h1) (cw_X5_283 hts (Nat.le_of_ble_eq_true rfl) (Nat.le_of_ble_eq_true rfl)) rfl (by decide) (of_req h1).1 rfl hl.1 rfl (Nat.le_of_ble_eq_true rfl) ⟨Nat.zero_le _, Nat.zero_le _⟩ dX5_readPlain_4) (fun H locs hw => ?_)
  refine lv_if_eq (tgt := 23) hx hb dX5_readPlain_7 (by decide) (fun c3 => ?_) (fun c3 => ?_)
  · replace hf := ite_t c3 hf
    refine lv_aload_n hx hb dX5_readPlain_23 rfl (lv_at hl 0 rfl) ?_
    refine lv_bipush (v := (40 : Int32)) hx hb dX5_readPlain_24 (by decide) ?_
    revert hf
    refine k_pcl (fun z5 h4 hf => ?_)
    refine w_afi hw (w_rV (As := [.int (40 : Int32)]) C hw (ok_X5_isSign h4) (cw_X5_296 hts (Nat.le_of_ble_eq_true rfl) (Nat.le_of_ble_eq_true rfl)) rfl (by decide) (of_req h4).1 rfl hl.1 rfl (Nat.le_of_ble_eq_true rfl) ⟨Nat.zero_le _, Nat.zero_le _⟩ dX5_readPlain_26) (fun H locs hw => ?_)
    refine lv_if_eq (tgt := 40) hx hb dX5_readPlain_29 (by decide) (fun c6 => ?_) (fun c6 => ?_)
    · replace hf := ite_t c6 hf
      refine lv_aload_n hx hb dX5_readPlain_40 rfl (lv_at hl 0 rfl) ?_
      revert hf
      refine k_cal (fun z8 U9 h7 hf => ?_)
      refine w_afi hw (w_rV (As := []) C hw (ok_X5_readPart h7) (cw_X5_324 hts (Nat.le_of_ble_eq_true rfl) (Nat.le_of_ble_eq_true rfl)) rfl (by decide) (of_req h7).1 rfl hl.1 rfl (Nat.le_of_ble_eq_true rfl) ⟨Nat.zero_le _, Nat.zero_le _⟩ dX5_readPlain_41) (fun H locs hw => ?_)
      cases hf
      exact w_iret C hr hw dX5_readPlain_44
    · replace hf := ite_f c6 hf
      refine lv_aload_n hx hb dX5_readPlain_32 rfl (lv_at hl 0 rfl) ?_
      refine lv_bipush (v := (31 : Int32)) hx hb dX5_readPlain_33 (by decide) ?_
      revert hf
      refine k_pcl (fun U12 h10 hf => ?_)
      refine w_afv hw (w_rV (As := [.int (31 : Int32)]) C hw (ok_X5_openBracket h10) (cw_X5_299 hts (Nat.le_of_ble_eq_true rfl) (Nat.le_of_ble_eq_true rfl)) rfl (by decide) (of_req h10).1 rfl hl.1 rfl (Nat.le_of_ble_eq_true rfl) ⟨Nat.zero_le _, Nat.zero_le _⟩ dX5_readPlain_35) (fun H locs hw => ?_)
      refine lv_iconst (v := (0 : Int32)) hx hb dX5_readPlain_38 (by decide) ?_
      cases hf
      exact w_iret C hr hw dX5_readPlain_39
  · replace hf := ite_f c3 hf
    refine lv_aload_n hx hb dX5_readPlain_10 rfl (lv_at hl 0 rfl) ?_
    refine lv_bipush (v := (28 : Int32)) hx hb dX5_readPlain_11 (by decide) ?_
    refine lv_iconst (v := (0 : Int32)) hx hb dX5_readPlain_13 (by decide) ?_
    revert hf
    refine k_pcl (fun U15 h13 hf => ?_)
    refine w_afv hw (w_rV (As := [.int (28 : Int32), .int (0 : Int32)]) C hw (ok_X5_push h13) (cw_X5_290 hts (Nat.le_of_ble_eq_true rfl) (Nat.le_of_ble_eq_true rfl)) rfl (by decide) (of_req h13).1 rfl hl.1 rfl (Nat.le_of_ble_eq_true rfl) ⟨Nat.zero_le _, Nat.zero_le _⟩ dX5_readPlain_14) (fun H locs hw => ?_)
    refine lv_aload_n hx hb dX5_readPlain_17 rfl (lv_at hl 0 rfl) ?_
    revert hf
    refine k_pcl (fun U18 h16 hf => ?_)
    refine w_afv hw (w_rV (As := []) C hw (ok_X5_next h16) (cw_X5_233 hts (Nat.le_of_ble_eq_true rfl) (Nat.le_of_ble_eq_true rfl)) rfl (by decide) (of_req h16).1 rfl hl.1 rfl (Nat.le_of_ble_eq_true rfl) ⟨Nat.zero_le _, Nat.zero_le _⟩ dX5_readPlain_18) (fun H locs hw => ?_)
    refine lv_iconst (v := (0 : Int32)) hx hb dX5_readPlain_21 (by decide) ?_
    cases hf
    exact w_iret C hr hw dX5_readPlain_22
set_option maxHeartbeats 4000000 in
theorem ok_X5_binds {l : Launch} {G : gG} {T : Tt} {V0 : Vt} {a0 : Int32} {r : Int32} (hf : f_X5_binds T V0 a0 = some r) : okM l G yX5_binds cX5_binds 1 (some .int) 0 [.int a0] V0 T (some (.int r)) V0 T 0 0 := by
  refine ok_intro (by decide) (Nat.le_of_ble_eq_true rfl) ?_
  intro p e s m below meth c ls C hr hnm hw hl
  have hx := C.1
  have hb := C.2.1
  have hown := C.2.2.2.1
  have hts := C.2.2.2.2.1
  have hl : lv_has ls 1 [(0, .int a0)] := hl
  unfold f_X5_binds at hf
  refine lv_iload_n hx hb dX5_binds_0 rfl (lv_at hl 0 rfl) ?_
  refine lv_bipush (v := (31 : Int32)) hx hb dX5_binds_1 (by decide) ?_
  refine lv_icmp_lt (tgt := 10) hx hb dX5_binds_3 (by decide) (fun c1 => ?_) (fun c1 => ?_)
  · replace hf := ite_t c1 hf
    refine lv_iload_n hx hb dX5_binds_10 rfl (lv_at hl 0 rfl) ?_
    refine lv_bipush (v := (30 : Int32)) hx hb dX5_binds_11 (by decide) ?_
    refine lv_icmp_ne (tgt := 20) hx hb dX5_binds_13 (by decide) (fun c2 => ?_) (fun c2 => ?_)
    · replace hf := ite_f c2 hf
      refine lv_iload_n hx hb dX5_binds_20 rfl (lv_at hl 0 rfl) ?_
      refine lv_bipush (v := (29 : Int32)) hx hb dX5_binds_21 (by decide) ?_
      refine lv_icmp_ne (tgt := 30) hx hb dX5_binds_23 (by decide) (fun c3 => ?_) (fun c3 => ?_)
      · replace hf := ite_f c3 hf
        refine lv_iload_n hx hb dX5_binds_30 rfl (lv_at hl 0 rfl) ?_
        refine lv_bipush (v := (28 : Int32)) hx hb dX5_binds_31 (by decide) ?_
        refine lv_icmp_ne (tgt := 40) hx hb dX5_binds_33 (by decide) (fun c4 => ?_) (fun c4 => ?_)
        · replace hf := ite_f c4 hf
          refine lv_iload_n hx hb dX5_binds_40 rfl (lv_at hl 0 rfl) ?_
          refine lv_bipush (v := (25 : Int32)) hx hb dX5_binds_41 (by decide) ?_
          refine lv_icmp_lt (tgt := 50) hx hb dX5_binds_43 (by decide) (fun c5 => ?_) (fun c5 => ?_)
          · replace hf := ite_t c5 hf
            refine lv_iload_n hx hb dX5_binds_50 rfl (lv_at hl 0 rfl) ?_
            refine lv_bipush (v := (22 : Int32)) hx hb dX5_binds_51 (by decide) ?_
            refine lv_icmp_lt (tgt := 61) hx hb dX5_binds_53 (by decide) (fun c6 => ?_) (fun c6 => ?_)
            · replace hf := ite_t c6 hf
              refine lv_iconst (v := (5 : Int32)) hx hb dX5_binds_61 (by decide) ?_
              cases hf
              exact w_iret C hr hw dX5_binds_62
            · replace hf := ite_f c6 hf
              refine lv_bipush (v := (6 : Int32)) hx hb dX5_binds_56 (by decide) ?_
              refine lv_goto (tgt := 62) hx hb dX5_binds_58 (by decide) ?_
              cases hf
              exact w_iret C hr hw dX5_binds_62
          · replace hf := ite_f c5 hf
            refine lv_iconst (v := (4 : Int32)) hx hb dX5_binds_46 (by decide) ?_
            refine lv_goto (tgt := 62) hx hb dX5_binds_47 (by decide) ?_
            cases hf
            exact w_iret C hr hw dX5_binds_62
        · replace hf := ite_t c4 hf
          refine lv_iconst (v := (3 : Int32)) hx hb dX5_binds_36 (by decide) ?_
          refine lv_goto (tgt := 62) hx hb dX5_binds_37 (by decide) ?_
          cases hf
          exact w_iret C hr hw dX5_binds_62
      · replace hf := ite_t c3 hf
        refine lv_iconst (v := (2 : Int32)) hx hb dX5_binds_26 (by decide) ?_
        refine lv_goto (tgt := 62) hx hb dX5_binds_27 (by decide) ?_
        cases hf
        exact w_iret C hr hw dX5_binds_62
    · replace hf := ite_t c2 hf
      refine lv_iconst (v := (1 : Int32)) hx hb dX5_binds_16 (by decide) ?_
      refine lv_goto (tgt := 62) hx hb dX5_binds_17 (by decide) ?_
      cases hf
      exact w_iret C hr hw dX5_binds_62
  · replace hf := ite_f c1 hf
    refine lv_iconst (v := (0 : Int32)) hx hb dX5_binds_6 (by decide) ?_
    refine lv_goto (tgt := 62) hx hb dX5_binds_7 (by decide) ?_
    cases hf
    exact w_iret C hr hw dX5_binds_62
set_option maxHeartbeats 4000000 in
theorem jk_X5_settle_63 {l : Launch} {G : gG} {p : Program} {e : Env} {s : State} {m : MethodId} {args : Array Value} {below : List Frame} {meth : Method} {c : Code} {T : Tt} {V0 : Vt} {V' : Vt} (C : Cx G p s m args meth c cX5_settle RX5 2) (hr : meth.sig.returnType = none) {x0 : Nat} {x1 : Int32} {kc0 : Vt → Option (Vt)} {kx0_101 : Vt → Option (Vt)} {H : Heap} {locs : List Loc} {ls : Array Slot} (k0 : T.1 x0 = 6) (hf : f_X5_settle_J63 T V0 x0 x1 kc0 kx0_101 = some V') (hw : wS G V0 T H locs) (hl : lv_has ls 2 [(0, .ref (gb G + x0)), (1, .int x1)]) (hkc0 : ∀ (W1 : Vt) (H : Heap) (locs : List Loc) (ls : Array Slot), kc0 W1 = some V' → wS G W1 T H locs → lv_has ls 2 [(0, .ref (gb G + x0)), (1, .int x1)] → W p l e (rmL 1 0 0) s m args below meth c H locs 0 0 (eQ G below none V' T args s 0 0) (F0 m 0 ls [])) (hkx0_101 : ∀ (W1 : Vt) (H : Heap) (locs : List Loc) (ls : Array Slot), kx0_101 W1 = some V' → wS G W1 T H locs → lv_has ls 2 [] → W p l e (rmL 1 0 0) s m args below meth c H locs 0 0 (eQ G below none V' T args s 0 0) (F0 m 101 ls [])) : W p l e (rmL 1 0 0) s m args below meth c H locs 0 0 (eQ G below none V' T args s 0 0) (F0 m 63 ls []) := by
  have hx := C.1
  have hb := C.2.1
  have hown := C.2.2.2.1
  have hts := C.2.2.2.2.1
  unfold f_X5_settle_J63 at hf
  refine lv_aload_n hx hb dX5_settle_63 rfl (lv_at hl 0 rfl) ?_
  revert hf
  refine k_drf (fun r11 er11 hf => ?_)
  refine gf_X5_48 C hw k0 er11 dX5_settle_64 ?_
  refine lv_aload_n hx hb dX5_settle_67 rfl (lv_at hl 0 rfl) ?_
  revert hf
  refine k_drf (fun r12 er12 hf => ?_)
  refine gf_X5_54 C hw k0 er12 dX5_settle_68 ?_
  refine lv_aload_n hx hb dX5_settle_71 rfl (lv_at hl 0 rfl) ?_
  refine gf_X5_267 C hw k0 dX5_settle_72 ?_
  revert hf
  refine k_req (fun h13 hf => ?_)
  refine w_iald C hw h13 rfl dX5_settle_75 ?_
  refine lv_aload_n hx hb dX5_settle_76 rfl (lv_at hl 0 rfl) ?_
  refine gf_X5_264 C hw k0 dX5_settle_77 ?_
  revert hf
  refine k_req (fun h14 hf => ?_)
  revert hf
  refine k_stp (fun U15 eU15 hf => ?_)
  refine w_iast C hw h14 eU15 dX5_settle_80 (fun H locs hw => ?_)
  refine lv_goto (tgt := 0) hx hb dX5_settle_81 (by decide) ?_
  exact hkc0 _ _ _ _ hf hw (lv_sub hl [0, 1] rfl)
set_option maxHeartbeats 4000000 in
theorem lk_X5_settle_0 {l : Launch} {G : gG} {p : Program} {e : Env} {s : State} {m : MethodId} {args : Array Value} {below : List Frame} {meth : Method} {c : Code} {T : Tt} {V' : Vt} (C : Cx G p s m args meth c cX5_settle RX5 2) (hr : meth.sig.returnType = none) {x0 : Nat} {x1 : Int32} {kx0_101 : Vt → Option (Vt)} (k0 : T.1 x0 = 6) (hkx0_101 : ∀ (W1 : Vt) (H : Heap) (locs : List Loc) (ls : Array Slot), kx0_101 W1 = some V' → wS G W1 T H locs → lv_has ls 2 [] → W p l e (rmL 1 0 0) s m args below meth c H locs 0 0 (eQ G below none V' T args s 0 0) (F0 m 101 ls [])) : ∀ (n : Nat) (V1 : Vt) (H : Heap) (locs : List Loc) (ls : Array Slot), f_X5_settle_L0 T x0 x1 kx0_101 n V1 = some V' → wS G V1 T H locs → lv_has ls 2 [(0, .ref (gb G + x0)), (1, .int x1)] → W p l e (rmL 1 0 0) s m args below meth c H locs 0 0 (eQ G below none V' T args s 0 0) (F0 m 0 ls []) := by
  have hx := C.1
  have hb := C.2.1
  have hown := C.2.2.2.1
  have hts := C.2.2.2.2.1
  intro n
  induction n with
  | zero =>
    intro V1 H locs ls hf
    cases hf
  | succ n ih =>
    intro V1 H locs ls hf hw hl
    unfold f_X5_settle_L0 at hf
    refine lv_aload_n hx hb dX5_settle_0 rfl (lv_at hl 0 rfl) ?_
    refine gf_X5_267 C hw k0 dX5_settle_1 ?_
    refine lv_if_le (tgt := 101) hx hb dX5_settle_4 (by decide) (fun c1 => ?_) (fun c1 => ?_)
    · replace hf := ite_t c1 hf
      exact hkx0_101 _ _ _ _ hf hw (lv_sub hl [] rfl)
    · replace hf := ite_f c1 hf
      refine lv_aload_n hx hb dX5_settle_7 rfl (lv_at hl 0 rfl) ?_
      revert hf
      refine k_drf (fun r2 er2 hf => ?_)
      refine gf_X5_51 C hw k0 er2 dX5_settle_8 ?_
      refine lv_aload_n hx hb dX5_settle_11 rfl (lv_at hl 0 rfl) ?_
      refine gf_X5_267 C hw k0 dX5_settle_12 ?_
      refine lv_iconst (v := (1 : Int32)) hx hb dX5_settle_15 (by decide) ?_
      refine lv_isub hx hb dX5_settle_16 ?_
      revert hf
      refine k_req (fun h3 hf => ?_)
      refine w_iald C hw h3 rfl dX5_settle_17 ?_
      revert hf
      refine k_pcl (fun z5 h4 hf => ?_)
      refine w_afi hw (w_rS (As := [.int (V1.1 r2 (ixN ((V1.1 x0 29) - (1 : Int32))))]) C hw (ok_X5_binds h4) (cw_X5_270 hts (Nat.le_of_ble_eq_true rfl) (Nat.le_of_ble_eq_true rfl)) rfl hl.1 rfl (Nat.le_of_ble_eq_true rfl) ⟨Nat.zero_le _, Nat.zero_le _⟩ dX5_settle_18) (fun H locs hw => ?_)
      refine lv_iload_n hx hb dX5_settle_21 rfl (lv_at hl 1 rfl) ?_
      refine lv_icmp_lt (tgt := 101) hx hb dX5_settle_22 (by decide) (fun c6 => ?_) (fun c6 => ?_)
      · replace hf := ite_t c6 hf
        exact hkx0_101 _ _ _ _ hf hw (lv_sub hl [] rfl)
      · replace hf := ite_f c6 hf
        refine lv_aload_n hx hb dX5_settle_25 rfl (lv_at hl 0 rfl) ?_
        refine lv_dup hx hb dX5_settle_26 rfl ?_
        refine gf_X5_267 C hw k0 dX5_settle_27 ?_
        refine lv_iconst (v := (1 : Int32)) hx hb dX5_settle_30 (by decide) ?_
        refine lv_isub hx hb dX5_settle_31 ?_
        revert hf
        refine k_stp (fun U7 eU7 hf => ?_)
        refine pf_X5_267 C hw k0 eU7 dX5_settle_32 (fun H locs hw => ?_)
        refine lv_aload_n hx hb dX5_settle_35 rfl (lv_at hl 0 rfl) ?_
        revert hf
        refine k_drf (fun r8 er8 hf => ?_)
        refine gf_X5_51 C hw k0 er8 dX5_settle_36 ?_
        refine lv_aload_n hx hb dX5_settle_39 rfl (lv_at hl 0 rfl) ?_
        refine gf_X5_267 C hw k0 dX5_settle_40 ?_
        revert hf
        refine k_req (fun h9 hf => ?_)
        refine w_iald C hw h9 rfl dX5_settle_43 ?_
        refine lv_bipush (v := (29 : Int32)) hx hb dX5_settle_44 (by decide) ?_
        refine lv_icmp_eq (tgt := 63) hx hb dX5_settle_46 (by decide) (fun c10 => ?_) (fun c10 => ?_)
        · replace hf := ite_t c10 hf
          exact jk_X5_settle_63 C hr k0 hf hw (lv_sub hl [0, 1] rfl) ih hkx0_101
        · replace hf := ite_f c10 hf
          refine lv_aload_n hx hb dX5_settle_49 rfl (lv_at hl 0 rfl) ?_
          revert hf
          refine k_drf (fun r16 er16 hf => ?_)
          refine gf_X5_51 C hw k0 er16 dX5_settle_50 ?_
          refine lv_aload_n hx hb dX5_settle_53 rfl (lv_at hl 0 rfl) ?_
          refine gf_X5_267 C hw k0 dX5_settle_54 ?_
          revert hf
          refine k_req (fun h17 hf => ?_)
          refine w_iald C hw h17 rfl dX5_settle_57 ?_
          refine lv_bipush (v := (30 : Int32)) hx hb dX5_settle_58 (by decide) ?_
          refine lv_icmp_ne (tgt := 84) hx hb dX5_settle_60 (by decide) (fun c18 => ?_) (fun c18 => ?_)
          · replace hf := ite_f c18 hf
            refine lv_aload_n hx hb dX5_settle_84 rfl (lv_at hl 0 rfl) ?_
            refine lv_aload_n hx hb dX5_settle_85 rfl (lv_at hl 0 rfl) ?_
            revert hf
            refine k_drf (fun r19 er19 hf => ?_)
            refine gf_X5_51 C hw k0 er19 dX5_settle_86 ?_
            refine lv_aload_n hx hb dX5_settle_89 rfl (lv_at hl 0 rfl) ?_
            refine gf_X5_267 C hw k0 dX5_settle_90 ?_
            revert hf
            refine k_req (fun h20 hf => ?_)
            refine w_iald C hw h20 rfl dX5_settle_93 ?_
            refine lv_iconst (v := (0 : Int32)) hx hb dX5_settle_94 (by decide) ?_
            revert hf
            refine k_pcl (fun U23 h21 hf => ?_)
            refine w_afv hw (w_rV (As := [.int (U7.1 r19 (ixN (U7.1 x0 29))), .int (0 : Int32)]) C hw (ok_X5_emit h21) (cw_X5_273 hts (Nat.le_of_ble_eq_true rfl) (Nat.le_of_ble_eq_true rfl)) rfl (by decide) (of_req h21).1 rfl hl.1 rfl (Nat.le_of_ble_eq_true rfl) ⟨Nat.zero_le _, Nat.zero_le _⟩ dX5_settle_95) (fun H locs hw => ?_)
            refine lv_goto (tgt := 0) hx hb dX5_settle_98 (by decide) ?_
            exact ih _ _ _ _ hf hw (lv_sub hl [0, 1] rfl)
          · replace hf := ite_t c18 hf
            exact jk_X5_settle_63 C hr k0 hf hw (lv_sub hl [0, 1] rfl) ih hkx0_101
set_option maxHeartbeats 4000000 in
theorem ok_X5_settle {l : Launch} {G : gG} {T : Tt} {V0 : Vt} {o : Nat} {a0 : Int32} {V' : Vt} (hf : f_X5_settle T V0 o a0 = some V') : okM l G yX5_settle cX5_settle 2 none 1 [.ref (gb G + o), .int a0] V0 T none V' T 0 0 := by
  refine ok_intro (by decide) (Nat.le_of_ble_eq_true rfl) ?_
  intro p e s m below meth c ls C hr hnm hw hl
  have hx := C.1
  have hb := C.2.1
  have hown := C.2.2.2.1
  have hts := C.2.2.2.2.1
  have hl : lv_has ls 2 [(0, .ref (gb G + o)), (1, .int a0)] := hl
  unfold f_X5_settle at hf
  revert hf
  refine k_req (fun k0 hf => ?_)
  refine lk_X5_settle_0 C hr k0 (fun U24 H locs ls hf hw hl => ?_) fuel _ _ _ _ hf hw (lv_sub hl [0, 1] rfl)
  cases hf
  exact w_vret C hr hw dX5_settle_101
set_option maxHeartbeats 4000000 in
theorem jk_X5_inner_33 {l : Launch} {G : gG} {p : Program} {e : Env} {s : State} {m : MethodId} {args : Array Value} {below : List Frame} {meth : Method} {c : Code} {T : Tt} {V0 : Vt} {r : Int32} (C : Cx G p s m args meth c cX5_inner RX5 3) (hr : meth.sig.returnType = (some .int)) {x0 : Nat} {x2 : Int32} {s0 : Int32} {kc4 : Int32 → Int32 → Option (Int32)} {kx4_40 : Int32 → Option (Int32)} {H : Heap} {locs : List Loc} {ls : Array Slot} (k0 : T.1 x0 = 6) (hf : f_X5_inner_J33 T V0 x0 x2 s0 kc4 kx4_40 = some r) (hw : wS G V0 T H locs) (hl : lv_has ls 3 [(0, .ref (gb G + x0)), (2, .int x2)]) (hkc4 : ∀ (y1 : Int32) (y2 : Int32) (H : Heap) (locs : List Loc) (ls : Array Slot), kc4 y1 y2 = some r → wS G V0 T H locs → lv_has ls 3 [(0, .ref (gb G + x0)), (1, .int y1), (2, .int y2)] → W p l e (rmL 0 0 0) s m args below meth c H locs 0 0 (eQ G below (some (.int r)) V0 T args s 0 0) (F0 m 4 ls [])) (hkx4_40 : ∀ (y1 : Int32) (H : Heap) (locs : List Loc) (ls : Array Slot), kx4_40 y1 = some r → wS G V0 T H locs → lv_has ls 3 [(1, .int y1)] → W p l e (rmL 0 0 0) s m args below meth c H locs 0 0 (eQ G below (some (.int r)) V0 T args s 0 0) (F0 m 40 ls [])) : W p l e (rmL 0 0 0) s m args below meth c H locs 0 0 (eQ G below (some (.int r)) V0 T args s 0 0) (F0 m 33 ls [.int s0]) := by
  have hx := C.1
  have hb := C.2.1
  have hown := C.2.2.2.1
  have hts := C.2.2.2.2.1
  unfold f_X5_inner_J33 at hf
  refine lv_istore_n (lv' := [(1, .int s0), (0, .ref (gb G + x0)), (2, .int x2)]) hx hb dX5_inner_33 rfl hl (by decide) rfl (fun ls hl => ?_)
  revert hf
  refine k_stp (fun z5 ez5 hf => ?_)
  refine lv_iinc (k := 2) (lv' := [(2, .int z5), (1, .int s0), (0, .ref (gb G + x0))]) hx hb dX5_inner_34 hl rfl (inc_e (by decide) ez5) (by decide) rfl (fun ls hl => ?_)
  refine lv_goto (tgt := 4) hx hb dX5_inner_37 (by decide) ?_
  exact hkc4 _ _ _ _ _ hf hw (lv_sub hl [2, 1, 0] rfl)
set_option maxHeartbeats 4000000 in
theorem lk_X5_inner_4 {l : Launch} {G : gG} {p : Program} {e : Env} {s : State} {m : MethodId} {args : Array Value} {below : List Frame} {meth : Method} {c : Code} {T : Tt} {V0 : Vt} {r : Int32} (C : Cx G p s m args meth c cX5_inner RX5 3) (hr : meth.sig.returnType = (some .int)) {x0 : Nat} {kx4_40 : Int32 → Option (Int32)} (k0 : T.1 x0 = 6) (hkx4_40 : ∀ (y1 : Int32) (H : Heap) (locs : List Loc) (ls : Array Slot), kx4_40 y1 = some r → wS G V0 T H locs → lv_has ls 3 [(1, .int y1)] → W p l e (rmL 0 0 0) s m args below meth c H locs 0 0 (eQ G below (some (.int r)) V0 T args s 0 0) (F0 m 40 ls [])) : ∀ (n : Nat) (x1 : Int32) (x2 : Int32) (H : Heap) (locs : List Loc) (ls : Array Slot), f_X5_inner_L4 T V0 x0 kx4_40 n x1 x2 = some r → wS G V0 T H locs → lv_has ls 3 [(0, .ref (gb G + x0)), (1, .int x1), (2, .int x2)] → W p l e (rmL 0 0 0) s m args below meth c H locs 0 0 (eQ G below (some (.int r)) V0 T args s 0 0) (F0 m 4 ls []) := by
  have hx := C.1
  have hb := C.2.1
  have hown := C.2.2.2.1
  have hts := C.2.2.2.2.1
  intro n
  induction n with
  | zero =>
    intro x1 x2 H locs ls hf
    cases hf
  | succ n ih =>
    intro x1 x2 H locs ls hf hw hl
    unfold f_X5_inner_L4 at hf
    refine lv_iload_n hx hb dX5_inner_4 rfl (lv_at hl 2 rfl) ?_
    refine lv_aload_n hx hb dX5_inner_5 rfl (lv_at hl 0 rfl) ?_
    refine gf_X5_267 C hw k0 dX5_inner_6 ?_
    refine lv_icmp_ge (tgt := 40) hx hb dX5_inner_9 (by decide) (fun c1 => ?_) (fun c1 => ?_)
    · replace hf := ite_t c1 hf
      exact hkx4_40 _ _ _ _ hf hw (lv_sub hl [1] rfl)
    · replace hf := ite_f c1 hf
      refine lv_aload_n hx hb dX5_inner_12 rfl (lv_at hl 0 rfl) ?_
      revert hf
      refine k_drf (fun r2 er2 hf => ?_)
      refine gf_X5_51 C hw k0 er2 dX5_inner_13 ?_
      refine lv_iload_n hx hb dX5_inner_16 rfl (lv_at hl 2 rfl) ?_
      revert hf
      refine k_req (fun h3 hf => ?_)
      refine w_iald C hw h3 rfl dX5_inner_17 ?_
      refine lv_bipush (v := (31 : Int32)) hx hb dX5_inner_18 (by decide) ?_
      refine lv_icmp_lt (tgt := 32) hx hb dX5_inner_20 (by decide) (fun c4 => ?_) (fun c4 => ?_)
      · replace hf := ite_t c4 hf
        refine lv_iload_n hx hb dX5_inner_32 rfl (lv_at hl 1 rfl) ?_
        exact jk_X5_inner_33 C hr k0 hf hw (lv_sub hl [0, 2] rfl) ih hkx4_40
      · replace hf := ite_f c4 hf
        refine lv_aload_n hx hb dX5_inner_23 rfl (lv_at hl 0 rfl) ?_
        revert hf
        refine k_drf (fun r6 er6 hf => ?_)
        refine gf_X5_51 C hw k0 er6 dX5_inner_24 ?_
        refine lv_iload_n hx hb dX5_inner_27 rfl (lv_at hl 2 rfl) ?_
        revert hf
        refine k_req (fun h7 hf => ?_)
        refine w_iald C hw h7 rfl dX5_inner_28 ?_
        refine lv_goto (tgt := 33) hx hb dX5_inner_29 (by decide) ?_
        exact jk_X5_inner_33 C hr k0 hf hw (lv_sub hl [0, 2] rfl) ih hkx4_40
set_option maxHeartbeats 4000000 in
theorem ok_X5_inner {l : Launch} {G : gG} {T : Tt} {V0 : Vt} {o : Nat} {r : Int32} (hf : f_X5_inner T V0 o = some r) : okM l G yX5_inner cX5_inner 3 (some .int) 0 [.ref (gb G + o)] V0 T (some (.int r)) V0 T 0 0 := by
  refine ok_intro (by decide) (Nat.le_of_ble_eq_true rfl) ?_
  intro p e s m below meth c ls C hr hnm hw hl
  have hx := C.1
  have hb := C.2.1
  have hown := C.2.2.2.1
  have hts := C.2.2.2.2.1
  have hl : lv_has ls 3 [(0, .ref (gb G + o))] := hl
  unfold f_X5_inner at hf
  revert hf
  refine k_req (fun k0 hf => ?_)
  refine lv_iconst (v := ((-1) : Int32)) hx hb dX5_inner_0 (by decide) ?_
  refine lv_istore_n (lv' := [(1, .int ((-1) : Int32)), (0, .ref (gb G + o))]) hx hb dX5_inner_1 rfl hl (by decide) rfl (fun ls hl => ?_)
  refine lv_iconst (v := (0 : Int32)) hx hb dX5_inner_2 (by decide) ?_
  refine lv_istore_n (lv' := [(2, .int (0 : Int32)), (1, .int ((-1) : Int32)), (0, .ref (gb G + o))]) hx hb dX5_inner_3 rfl hl (by decide) rfl (fun ls hl => ?_)
  refine lk_X5_inner_4 C hr k0 (fun z8 H locs ls hf hw hl => ?_) fuel _ _ _ _ _ hf hw (lv_sub hl [2, 1, 0] rfl)
  refine lv_iload_n hx hb dX5_inner_40 rfl (lv_at hl 0 rfl) ?_
  cases hf
  exact w_iret C hr hw dX5_inner_41
set_option maxHeartbeats 4000000 in
theorem jk_X5_isCompared_36 {l : Launch} {G : gG} {p : Program} {e : Env} {s : State} {m : MethodId} {args : Array Value} {below : List Frame} {meth : Method} {c : Code} {T : Tt} {V0 : Vt} {r : Int32} (C : Cx G p s m args meth c cX5_isCompared RX5 2) (hr : meth.sig.returnType = (some .boolean)) {x0 : Nat} {x1 : Int32} {H : Heap} {locs : List Loc} {ls : Array Slot} (k0 : T.1 x0 = 6) (hf : f_X5_isCompared_J36 T V0 x0 x1 = some r) (hw : wS G V0 T H locs) (hl : lv_has ls 2 [(0, .ref (gb G + x0)), (1, .int x1)]) : W p l e (rmL 1 0 0) s m args below meth c H locs 0 0 (eQ G below (some (.int r)) V0 T args s 0 0) (F0 m 36 ls []) := by
  have hx := C.1
  have hb := C.2.1
  have hown := C.2.2.2.1
  have hts := C.2.2.2.2.1
  unfold f_X5_isCompared_J36 at hf
  refine lv_iload_n hx hb dX5_isCompared_36 rfl (lv_at hl 1 rfl) ?_
  refine lv_if_lt (tgt := 63) hx hb dX5_isCompared_37 (by decide) (fun c10 => ?_) (fun c10 => ?_)
  · replace hf := ite_t c10 hf
    refine lv_iconst (v := (0 : Int32)) hx hb dX5_isCompared_63 (by decide) ?_
    cases hf
    exact w_zret C hr hw (by decide) dX5_isCompared_64
  · replace hf := ite_f c10 hf
    refine lv_aload_n hx hb dX5_isCompared_40 rfl (lv_at hl 0 rfl) ?_
    revert hf
    refine k_drf (fun r11 er11 hf => ?_)
    refine gf_X5_51 C hw k0 er11 dX5_isCompared_41 ?_
    refine lv_iload_n hx hb dX5_isCompared_44 rfl (lv_at hl 1 rfl) ?_
    revert hf
    refine k_req (fun h12 hf => ?_)
    refine w_iald C hw h12 rfl dX5_isCompared_45 ?_
    refine lv_i2l hx hb dX5_isCompared_46 rfl ?_
    refine lv_ldc2 (v := (25 : Int64)) hx hb hown (hts _ q1953) dX5_isCompared_47 ?_
    refine lv_ldc2 (v := (27 : Int64)) hx hb hown (hts _ q1807) dX5_isCompared_50 ?_
    revert hf
    refine k_pcl (fun z14 h13 hf => ?_)
    refine w_afi hw (w_rS (As := [.long (Int32.toInt64 (V0.1 r11 (ixN x1))), .long (25 : Int64), .long (27 : Int64)]) C hw (ok_X5_in h13) (cw_X5_153 hts (Nat.le_of_ble_eq_true rfl) (Nat.le_of_ble_eq_true rfl)) rfl hl.1 rfl (Nat.le_of_ble_eq_true rfl) ⟨Nat.zero_le _, Nat.zero_le _⟩ dX5_isCompared_53) (fun H locs hw => ?_)
    refine lv_if_eq (tgt := 63) hx hb dX5_isCompared_56 (by decide) (fun c15 => ?_) (fun c15 => ?_)
    · replace hf := ite_t c15 hf
      refine lv_iconst (v := (0 : Int32)) hx hb dX5_isCompared_63 (by decide) ?_
      cases hf
      exact w_zret C hr hw (by decide) dX5_isCompared_64
    · replace hf := ite_f c15 hf
      refine lv_iconst (v := (1 : Int32)) hx hb dX5_isCompared_59 (by decide) ?_
      refine lv_goto (tgt := 64) hx hb dX5_isCompared_60 (by decide) ?_
      cases hf
      exact w_zret C hr hw (by decide) dX5_isCompared_64
set_option maxHeartbeats 4000000 in
theorem lk_X5_isCompared_7 {l : Launch} {G : gG} {p : Program} {e : Env} {s : State} {m : MethodId} {args : Array Value} {below : List Frame} {meth : Method} {c : Code} {T : Tt} {V0 : Vt} {r : Int32} (C : Cx G p s m args meth c cX5_isCompared RX5 2) (hr : meth.sig.returnType = (some .boolean)) {x0 : Nat} {kx7_36 : Int32 → Option (Int32)} (k0 : T.1 x0 = 6) (hkx7_36 : ∀ (y1 : Int32) (H : Heap) (locs : List Loc) (ls : Array Slot), kx7_36 y1 = some r → wS G V0 T H locs → lv_has ls 2 [(0, .ref (gb G + x0)), (1, .int y1)] → W p l e (rmL 1 0 0) s m args below meth c H locs 0 0 (eQ G below (some (.int r)) V0 T args s 0 0) (F0 m 36 ls [])) : ∀ (n : Nat) (x1 : Int32) (H : Heap) (locs : List Loc) (ls : Array Slot), f_X5_isCompared_L7 T V0 x0 kx7_36 n x1 = some r → wS G V0 T H locs → lv_has ls 2 [(0, .ref (gb G + x0)), (1, .int x1)] → W p l e (rmL 1 0 0) s m args below meth c H locs 0 0 (eQ G below (some (.int r)) V0 T args s 0 0) (F0 m 7 ls []) := by
  have hx := C.1
  have hb := C.2.1
  have hown := C.2.2.2.1
  have hts := C.2.2.2.2.1
  intro n
  induction n with
  | zero =>
    intro x1 H locs ls hf
    cases hf
  | succ n ih =>
    intro x1 H locs ls hf hw hl
    unfold f_X5_isCompared_L7 at hf
    refine lv_iload_n hx hb dX5_isCompared_7 rfl (lv_at hl 1 rfl) ?_
    refine lv_if_lt (tgt := 36) hx hb dX5_isCompared_8 (by decide) (fun c2 => ?_) (fun c2 => ?_)
    · replace hf := ite_t c2 hf
      exact hkx7_36 _ _ _ _ hf hw (lv_sub hl [0, 1] rfl)
    · replace hf := ite_f c2 hf
      refine lv_aload_n hx hb dX5_isCompared_11 rfl (lv_at hl 0 rfl) ?_
      revert hf
      refine k_drf (fun r3 er3 hf => ?_)
      refine gf_X5_51 C hw k0 er3 dX5_isCompared_12 ?_
      refine lv_iload_n hx hb dX5_isCompared_15 rfl (lv_at hl 1 rfl) ?_
      revert hf
      refine k_req (fun h4 hf => ?_)
      refine w_iald C hw h4 rfl dX5_isCompared_16 ?_
      refine lv_i2l hx hb dX5_isCompared_17 rfl ?_
      refine lv_ldc2 (v := (20 : Int64)) hx hb hown (hts _ q1951) dX5_isCompared_18 ?_
      refine lv_ldc2 (v := (24 : Int64)) hx hb hown (hts _ q1952) dX5_isCompared_21 ?_
      revert hf
      refine k_pcl (fun z6 h5 hf => ?_)
      refine w_afi hw (w_rS (As := [.long (Int32.toInt64 (V0.1 r3 (ixN x1))), .long (20 : Int64), .long (24 : Int64)]) C hw (ok_X5_in h5) (cw_X5_153 hts (Nat.le_of_ble_eq_true rfl) (Nat.le_of_ble_eq_true rfl)) rfl hl.1 rfl (Nat.le_of_ble_eq_true rfl) ⟨Nat.zero_le _, Nat.zero_le _⟩ dX5_isCompared_24) (fun H locs hw => ?_)
      refine lv_if_eq (tgt := 36) hx hb dX5_isCompared_27 (by decide) (fun c7 => ?_) (fun c7 => ?_)
      · replace hf := ite_t c7 hf
        exact hkx7_36 _ _ _ _ hf hw (lv_sub hl [0, 1] rfl)
      · replace hf := ite_f c7 hf
        revert hf
        refine k_stp (fun z8 ez8 hf => ?_)
        refine lv_iinc (k := 1) (lv' := [(1, .int z8), (0, .ref (gb G + x0))]) hx hb dX5_isCompared_30 hl rfl (inc_e (by decide) ez8) (by decide) rfl (fun ls hl => ?_)
        refine lv_goto (tgt := 7) hx hb dX5_isCompared_33 (by decide) ?_
        exact ih _ _ _ _ hf hw (lv_sub hl [1, 0] rfl)
set_option maxHeartbeats 4000000 in
theorem ok_X5_isCompared {l : Launch} {G : gG} {T : Tt} {V0 : Vt} {o : Nat} {r : Int32} (hf : f_X5_isCompared T V0 o = some r) : okM l G yX5_isCompared cX5_isCompared 2 (some .boolean) 1 [.ref (gb G + o)] V0 T (some (.int r)) V0 T 0 0 := by
  refine ok_intro (by decide) (Nat.le_of_ble_eq_true rfl) ?_
  intro p e s m below meth c ls C hr hnm hw hl
  have hx := C.1
  have hb := C.2.1
  have hown := C.2.2.2.1
  have hts := C.2.2.2.2.1
  have hl : lv_has ls 2 [(0, .ref (gb G + o))] := hl
  unfold f_X5_isCompared at hf
  revert hf
  refine k_req (fun k0 hf => ?_)
  refine lv_aload_n hx hb dX5_isCompared_0 rfl (lv_at hl 0 rfl) ?_
  refine gf_X5_267 C hw k0 dX5_isCompared_1 ?_
  refine lv_iconst (v := (1 : Int32)) hx hb dX5_isCompared_4 (by decide) ?_
  refine lv_isub hx hb dX5_isCompared_5 ?_
  revert hf
  refine k_stp (fun z1 ez1 hf => ?_)
  refine w_nmI ez1 ?_
  refine lv_istore_n (lv' := [(1, .int z1), (0, .ref (gb G + o))]) hx hb dX5_isCompared_6 rfl hl (by decide) rfl (fun ls hl => ?_)
  refine lk_X5_isCompared_7 C hr k0 (fun z9 H locs ls hf hw hl => ?_) fuel _ _ _ _ hf hw (lv_sub hl [1, 0] rfl)
  exact jk_X5_isCompared_36 C hr k0 hf hw (lv_sub hl [0, 1] rfl)
set_option maxHeartbeats 4000000 in
theorem jk_X5_behindSum_224 {l : Launch} {G : gG} {p : Program} {e : Env} {s : State} {m : MethodId} {args : Array Value} {below : List Frame} {meth : Method} {c : Code} {T : Tt} {V0 : Vt} {r : Int32} {V' : Vt} (C : Cx G p s m args meth c cX5_behindSum RX5 4) (hr : meth.sig.returnType = (some .int)) {x0 : Nat} {x2 : Int32} {s0 : Nat} {s1 : Int32} {H : Heap} {locs : List Loc} {ls : Array Slot} (k0 : T.1 x0 = 6) (hf : f_X5_behindSum_J224 T V0 x0 x2 s0 s1 = some (r, V')) (hw : wS G V0 T H locs) (hl : lv_has ls 4 [(0, .ref (gb G + x0)), (2, .int x2)]) : W p l e (rmL 3 0 0) s m args below meth c H locs 0 0 (eQ G below (some (.int r)) V' T args s 0 0) (F0 m 224 ls [.int s1, .ref (gb G + s0)]) := by
  have hx := C.1
  have hb := C.2.1
  have hown := C.2.2.2.1
  have hts := C.2.2.2.2.1
  unfold f_X5_behindSum_J224 at hf
  revert hf
  refine k_pcl (fun U33 h31 hf => ?_)
  refine w_afv hw (w_rV (As := [.int s1]) C hw (ok_X5_must h31) (cw_X5_260 hts (Nat.le_of_ble_eq_true rfl) (Nat.le_of_ble_eq_true rfl)) rfl (by decide) (of_req h31).1 rfl hl.1 rfl (Nat.le_of_ble_eq_true rfl) ⟨Nat.zero_le _, Nat.zero_le _⟩ dX5_behindSum_224) (fun H locs hw => ?_)
  refine lv_aload_n hx hb dX5_behindSum_227 rfl (lv_at hl 0 rfl) ?_
  refine gf_X5_229 C hw k0 dX5_behindSum_228 ?_
  refine lv_if_ne (tgt := 245) hx hb dX5_behindSum_231 (by decide) (fun c34 => ?_) (fun c34 => ?_)
  · replace hf := ite_f c34 hf
    refine lv_iconst (v := (1 : Int32)) hx hb dX5_behindSum_245 (by decide) ?_
    cases hf
    exact w_iret C hr hw dX5_behindSum_246
  · replace hf := ite_t c34 hf
    refine lv_aload_n hx hb dX5_behindSum_234 rfl (lv_at hl 0 rfl) ?_
    refine lv_iconst (v := (5 : Int32)) hx hb dX5_behindSum_235 (by decide) ?_
    revert hf
    refine k_pcl (fun U37 h35 hf => ?_)
    refine w_afv hw (w_rV (As := [.int (5 : Int32)]) C hw (ok_X5_settle h35) (cw_X5_327 hts (Nat.le_of_ble_eq_true rfl) (Nat.le_of_ble_eq_true rfl)) rfl (by decide) (of_req h35).1 rfl hl.1 rfl (Nat.le_of_ble_eq_true rfl) ⟨Nat.zero_le _, Nat.zero_le _⟩ dX5_behindSum_236) (fun H locs hw => ?_)
    refine lv_aload_n hx hb dX5_behindSum_239 rfl (lv_at hl 0 rfl) ?_
    refine lv_iload_n hx hb dX5_behindSum_240 rfl (lv_at hl 1 rfl) ?_
    refine lv_iconst (v := (0 : Int32)) hx hb dX5_behindSum_241 (by decide) ?_
    revert hf
    refine k_pcl (fun U40 h38 hf => ?_)
    refine w_afv hw (w_rV (As := [.int x2, .int (0 : Int32)]) C hw (ok_X5_push h38) (cw_X5_290 hts (Nat.le_of_ble_eq_true rfl) (Nat.le_of_ble_eq_true rfl)) rfl (by decide) (of_req h38).1 rfl hl.1 rfl (Nat.le_of_ble_eq_true rfl) ⟨Nat.zero_le _, Nat.zero_le _⟩ dX5_behindSum_242) (fun H locs hw => ?_)
    refine lv_iconst (v := (1 : Int32)) hx hb dX5_behindSum_245 (by decide) ?_
    cases hf
    exact w_iret C hr hw dX5_behindSum_246
set_option maxHeartbeats 4000000 in
theorem jk_X5_behindSum_219 {l : Launch} {G : gG} {p : Program} {e : Env} {s : State} {m : MethodId} {args : Array Value} {below : List Frame} {meth : Method} {c : Code} {T : Tt} {V0 : Vt} {r : Int32} {V' : Vt} (C : Cx G p s m args meth c cX5_behindSum RX5 4) (hr : meth.sig.returnType = (some .int)) {x0 : Nat} {x2 : Int32} {s0 : Nat} {H : Heap} {locs : List Loc} {ls : Array Slot} (k0 : T.1 x0 = 6) (hf : f_X5_behindSum_J219 T V0 x0 x2 s0 = some (r, V')) (hw : wS G V0 T H locs) (hl : lv_has ls 4 [(0, .ref (gb G + x0)), (2, .int x2)]) : W p l e (rmL 3 0 0) s m args below meth c H locs 0 0 (eQ G below (some (.int r)) V' T args s 0 0) (F0 m 219 ls [.ref (gb G + s0)]) := by
  have hx := C.1
  have hb := C.2.1
  have hown := C.2.2.2.1
  have hts := C.2.2.2.2.1
  unfold f_X5_behindSum_J219 at hf
  refine lv_iconst (v := (1 : Int32)) hx hb dX5_behindSum_219 (by decide) ?_
  refine lv_goto (tgt := 224) hx hb dX5_behindSum_220 (by decide) ?_
  exact jk_X5_behindSum_224 C hr k0 hf hw (lv_sub hl [0, 1] rfl)
set_option maxHeartbeats 4000000 in
theorem jk_X5_behindSum_202 {l : Launch} {G : gG} {p : Program} {e : Env} {s : State} {m : MethodId} {args : Array Value} {below : List Frame} {meth : Method} {c : Code} {T : Tt} {V0 : Vt} {r : Int32} {V' : Vt} (C : Cx G p s m args meth c cX5_behindSum RX5 4) (hr : meth.sig.returnType = (some .int)) {x0 : Nat} {s0 : Int32} {H : Heap} {locs : List Loc} {ls : Array Slot} (k0 : T.1 x0 = 6) (hf : f_X5_behindSum_J202 T V0 x0 s0 = some (r, V')) (hw : wS G V0 T H locs) (hl : lv_has ls 4 [(0, .ref (gb G + x0))]) : W p l e (rmL 3 0 0) s m args below meth c H locs 0 0 (eQ G below (some (.int r)) V' T args s 0 0) (F0 m 202 ls [.int s0]) := by
  have hx := C.1
  have hb := C.2.1
  have hown := C.2.2.2.1
  have hts := C.2.2.2.2.1
  unfold f_X5_behindSum_J202 at hf
  refine lv_istore_n (lv' := [(2, .int s0), (0, .ref (gb G + x0))]) hx hb dX5_behindSum_202 rfl hl (by decide) rfl (fun ls hl => ?_)
  refine lv_aload_n hx hb dX5_behindSum_203 rfl (lv_at hl 1 rfl) ?_
  refine lv_iload_n hx hb dX5_behindSum_204 rfl (lv_at hl 0 rfl) ?_
  refine lv_bipush (v := (27 : Int32)) hx hb dX5_behindSum_205 (by decide) ?_
  refine lv_icmp_ne (tgt := 219) hx hb dX5_behindSum_207 (by decide) (fun c30 => ?_) (fun c30 => ?_)
  · replace hf := ite_f c30 hf
    exact jk_X5_behindSum_219 C hr k0 hf hw (lv_sub hl [1, 0] rfl)
  · replace hf := ite_t c30 hf
    refine lv_aload_n hx hb dX5_behindSum_210 rfl (lv_at hl 1 rfl) ?_
    refine lv_bipush (v := (61 : Int32)) hx hb dX5_behindSum_211 (by decide) ?_
    revert hf
    refine k_pcl (fun z42 h41 hf => ?_)
    refine w_afi hw (w_rV (As := [.int (61 : Int32)]) C hw (ok_X5_isSign h41) (cw_X5_296 hts (Nat.le_of_ble_eq_true rfl) (Nat.le_of_ble_eq_true rfl)) rfl (by decide) (of_req h41).1 rfl hl.1 rfl (Nat.le_of_ble_eq_true rfl) ⟨Nat.zero_le _, Nat.zero_le _⟩ dX5_behindSum_213) (fun H locs hw => ?_)
    refine lv_if_eq (tgt := 223) hx hb dX5_behindSum_216 (by decide) (fun c43 => ?_) (fun c43 => ?_)
    · replace hf := ite_t c43 hf
      refine lv_iconst (v := (0 : Int32)) hx hb dX5_behindSum_223 (by decide) ?_
      exact jk_X5_behindSum_224 C hr k0 hf hw (lv_sub hl [1, 0] rfl)
    · replace hf := ite_f c43 hf
      exact jk_X5_behindSum_219 C hr k0 hf hw (lv_sub hl [1, 0] rfl)
set_option maxHeartbeats 4000000 in
theorem jk_X5_behindSum_163 {l : Launch} {G : gG} {p : Program} {e : Env} {s : State} {m : MethodId} {args : Array Value} {below : List Frame} {meth : Method} {c : Code} {T : Tt} {V0 : Vt} {r : Int32} {V' : Vt} (C : Cx G p s m args meth c cX5_behindSum RX5 4) (hr : meth.sig.returnType = (some .int)) {x0 : Nat} {H : Heap} {locs : List Loc} {ls : Array Slot} (k0 : T.1 x0 = 6) (hf : f_X5_behindSum_J163 T V0 x0 = some (r, V')) (hw : wS G V0 T H locs) (hl : lv_has ls 4 [(0, .ref (gb G + x0))]) : W p l e (rmL 3 0 0) s m args below meth c H locs 0 0 (eQ G below (some (.int r)) V' T args s 0 0) (F0 m 163 ls []) := by
  have hx := C.1
  have hb := C.2.1
  have hown := C.2.2.2.1
  have hts := C.2.2.2.2.1
  unfold f_X5_behindSum_J163 at hf
  refine lv_aload_n hx hb dX5_behindSum_163 rfl (lv_at hl 0 rfl) ?_
  revert hf
  refine k_pcl (fun z22 h21 hf => ?_)
  refine w_afi hw (w_rV (As := []) C hw (ok_X5_isCompared h21) (cw_X5_333 hts (Nat.le_of_ble_eq_true rfl) (Nat.le_of_ble_eq_true rfl)) rfl (by decide) (of_req h21).1 rfl hl.1 rfl (Nat.le_of_ble_eq_true rfl) ⟨Nat.zero_le _, Nat.zero_le _⟩ dX5_behindSum_164) (fun H locs hw => ?_)
  refine lv_if_eq (tgt := 172) hx hb dX5_behindSum_167 (by decide) (fun c23 => ?_) (fun c23 => ?_)
  · replace hf := ite_t c23 hf
    refine lv_aload_n hx hb dX5_behindSum_172 rfl (lv_at hl 0 rfl) ?_
    refine lv_bipush (v := (60 : Int32)) hx hb dX5_behindSum_173 (by decide) ?_
    revert hf
    refine k_pcl (fun z25 h24 hf => ?_)
    refine w_afi hw (w_rV (As := [.int (60 : Int32)]) C hw (ok_X5_isSign h24) (cw_X5_296 hts (Nat.le_of_ble_eq_true rfl) (Nat.le_of_ble_eq_true rfl)) rfl (by decide) (of_req h24).1 rfl hl.1 rfl (Nat.le_of_ble_eq_true rfl) ⟨Nat.zero_le _, Nat.zero_le _⟩ dX5_behindSum_175) (fun H locs hw => ?_)
    refine lv_if_eq (tgt := 186) hx hb dX5_behindSum_178 (by decide) (fun c26 => ?_) (fun c26 => ?_)
    · replace hf := ite_t c26 hf
      refine lv_aload_n hx hb dX5_behindSum_186 rfl (lv_at hl 0 rfl) ?_
      refine lv_bipush (v := (62 : Int32)) hx hb dX5_behindSum_187 (by decide) ?_
      revert hf
      refine k_pcl (fun z28 h27 hf => ?_)
      refine w_afi hw (w_rV (As := [.int (62 : Int32)]) C hw (ok_X5_isSign h27) (cw_X5_296 hts (Nat.le_of_ble_eq_true rfl) (Nat.le_of_ble_eq_true rfl)) rfl (by decide) (of_req h27).1 rfl hl.1 rfl (Nat.le_of_ble_eq_true rfl) ⟨Nat.zero_le _, Nat.zero_le _⟩ dX5_behindSum_189) (fun H locs hw => ?_)
      refine lv_if_eq (tgt := 200) hx hb dX5_behindSum_192 (by decide) (fun c29 => ?_) (fun c29 => ?_)
      · replace hf := ite_t c29 hf
        refine lv_bipush (v := (27 : Int32)) hx hb dX5_behindSum_200 (by decide) ?_
        exact jk_X5_behindSum_202 C hr k0 hf hw (lv_sub hl [0] rfl)
      · replace hf := ite_f c29 hf
        refine lv_bipush (v := (26 : Int32)) hx hb dX5_behindSum_195 (by decide) ?_
        refine lv_goto (tgt := 202) hx hb dX5_behindSum_197 (by decide) ?_
        exact jk_X5_behindSum_202 C hr k0 hf hw (lv_sub hl [0] rfl)
    · replace hf := ite_f c26 hf
      refine lv_bipush (v := (25 : Int32)) hx hb dX5_behindSum_181 (by decide) ?_
      refine lv_goto (tgt := 202) hx hb dX5_behindSum_183 (by decide) ?_
      exact jk_X5_behindSum_202 C hr k0 hf hw (lv_sub hl [0] rfl)
  · replace hf := ite_f c23 hf
    refine lv_iconst (v := (2 : Int32)) hx hb dX5_behindSum_170 (by decide) ?_
    cases hf
    exact w_iret C hr hw dX5_behindSum_171
set_option maxHeartbeats 4000000 in
theorem jk_X5_behindSum_71 {l : Launch} {G : gG} {p : Program} {e : Env} {s : State} {m : MethodId} {args : Array Value} {below : List Frame} {meth : Method} {c : Code} {T : Tt} {V0 : Vt} {r : Int32} {V' : Vt} (C : Cx G p s m args meth c cX5_behindSum RX5 4) (hr : meth.sig.returnType = (some .int)) {x0 : Nat} {x1 : Int32} {s0 : Int32} {H : Heap} {locs : List Loc} {ls : Array Slot} (k0 : T.1 x0 = 6) (hf : f_X5_behindSum_J71 T V0 x0 x1 s0 = some (r, V')) (hw : wS G V0 T H locs) (hl : lv_has ls 4 [(0, .ref (gb G + x0)), (1, .int x1)]) : W p l e (rmL 3 0 0) s m args below meth c H locs 0 0 (eQ G below (some (.int r)) V' T args s 0 0) (F0 m 71 ls [.int s0]) := by
  have hx := C.1
  have hb := C.2.1
  have hown := C.2.2.2.1
  have hts := C.2.2.2.2.1
  unfold f_X5_behindSum_J71 at hf
  refine lv_istore_n (lv' := [(2, .int s0), (0, .ref (gb G + x0)), (1, .int x1)]) hx hb dX5_behindSum_71 rfl hl (by decide) rfl (fun ls hl => ?_)
  refine lv_iload_n hx hb dX5_behindSum_72 rfl (lv_at hl 0 rfl) ?_
  refine lv_iconst (v := ((-1) : Int32)) hx hb dX5_behindSum_73 (by decide) ?_
  refine lv_icmp_eq (tgt := 97) hx hb dX5_behindSum_74 (by decide) (fun c16 => ?_) (fun c16 => ?_)
  · replace hf := ite_t c16 hf
    refine lv_aload_n hx hb dX5_behindSum_97 rfl (lv_at hl 1 rfl) ?_
    revert hf
    refine k_pcl (fun z18 h17 hf => ?_)
    refine w_afi hw (w_rV (As := []) C hw (ok_X5_inner h17) (cw_X5_330 hts (Nat.le_of_ble_eq_true rfl) (Nat.le_of_ble_eq_true rfl)) rfl (by decide) (of_req h17).1 rfl hl.1 rfl (Nat.le_of_ble_eq_true rfl) ⟨Nat.zero_le _, Nat.zero_le _⟩ dX5_behindSum_98) (fun H locs hw => ?_)
    refine lv_istore_n (lv' := [(3, .int z18), (2, .int s0), (0, .ref (gb G + x0)), (1, .int x1)]) hx hb dX5_behindSum_101 rfl hl (by decide) rfl (fun ls hl => ?_)
    refine lv_iload_n hx hb dX5_behindSum_102 rfl (lv_at hl 0 rfl) ?_
    refine lv_bipush (v := (32 : Int32)) hx hb dX5_behindSum_103 (by decide) ?_
    refine lv_icmp_ne (tgt := 152) hx hb dX5_behindSum_105 (by decide) (fun c19 => ?_) (fun c19 => ?_)
    · replace hf := ite_f c19 hf
      refine lv_iload_n hx hb dX5_behindSum_152 rfl (lv_at hl 0 rfl) ?_
      refine lv_iconst (v := ((-1) : Int32)) hx hb dX5_behindSum_153 (by decide) ?_
      refine lv_icmp_ne (tgt := 163) hx hb dX5_behindSum_154 (by decide) (fun c20 => ?_) (fun c20 => ?_)
      · replace hf := ite_f c20 hf
        exact jk_X5_behindSum_163 C hr k0 hf hw (lv_sub hl [2] rfl)
      · replace hf := ite_t c20 hf
        refine lv_iload_n hx hb dX5_behindSum_157 rfl (lv_at hl 3 rfl) ?_
        refine lv_if_ne (tgt := 163) hx hb dX5_behindSum_158 (by decide) (fun c44 => ?_) (fun c44 => ?_)
        · replace hf := ite_f c44 hf
          exact jk_X5_behindSum_163 C hr k0 hf hw (lv_sub hl [2] rfl)
        · replace hf := ite_t c44 hf
          refine lv_iconst (v := (4 : Int32)) hx hb dX5_behindSum_161 (by decide) ?_
          cases hf
          exact w_iret C hr hw dX5_behindSum_162
    · replace hf := ite_t c19 hf
      refine lv_aload_n hx hb dX5_behindSum_108 rfl (lv_at hl 2 rfl) ?_
      refine lv_aload_n hx hb dX5_behindSum_109 rfl (lv_at hl 2 rfl) ?_
      refine lv_bipush (v := (93 : Int32)) hx hb dX5_behindSum_110 (by decide) ?_
      revert hf
      refine k_pcl (fun z46 h45 hf => ?_)
      refine w_afi hw (w_rV (As := [.int (93 : Int32)]) C hw (ok_X5_isSign h45) (cw_X5_296 hts (Nat.le_of_ble_eq_true rfl) (Nat.le_of_ble_eq_true rfl)) rfl (by decide) (of_req h45).1 rfl hl.1 rfl (Nat.le_of_ble_eq_true rfl) ⟨Nat.zero_le _, Nat.zero_le _⟩ dX5_behindSum_112) (fun H locs hw => ?_)
      revert hf
      refine k_pcl (fun U49 h47 hf => ?_)
      refine w_afv hw (w_rV (As := [.int z46]) C hw (ok_X5_must h47) (cw_X5_260 hts (Nat.le_of_ble_eq_true rfl) (Nat.le_of_ble_eq_true rfl)) rfl (by decide) (of_req h47).1 rfl hl.1 rfl (Nat.le_of_ble_eq_true rfl) ⟨Nat.zero_le _, Nat.zero_le _⟩ dX5_behindSum_115) (fun H locs hw => ?_)
      refine lv_aload_n hx hb dX5_behindSum_118 rfl (lv_at hl 2 rfl) ?_
      refine gf_X5_229 C hw k0 dX5_behindSum_119 ?_
      refine lv_if_ne (tgt := 150) hx hb dX5_behindSum_122 (by decide) (fun c50 => ?_) (fun c50 => ?_)
      · replace hf := ite_f c50 hf
        refine lv_iconst (v := (3 : Int32)) hx hb dX5_behindSum_150 (by decide) ?_
        cases hf
        exact w_iret C hr hw dX5_behindSum_151
      · replace hf := ite_t c50 hf
        refine lv_aload_n hx hb dX5_behindSum_125 rfl (lv_at hl 2 rfl) ?_
        refine lv_iconst (v := (5 : Int32)) hx hb dX5_behindSum_126 (by decide) ?_
        revert hf
        refine k_pcl (fun U53 h51 hf => ?_)
        refine w_afv hw (w_rV (As := [.int (5 : Int32)]) C hw (ok_X5_settle h51) (cw_X5_327 hts (Nat.le_of_ble_eq_true rfl) (Nat.le_of_ble_eq_true rfl)) rfl (by decide) (of_req h51).1 rfl hl.1 rfl (Nat.le_of_ble_eq_true rfl) ⟨Nat.zero_le _, Nat.zero_le _⟩ dX5_behindSum_127) (fun H locs hw => ?_)
        refine lv_aload_n hx hb dX5_behindSum_130 rfl (lv_at hl 2 rfl) ?_
        refine lv_dup hx hb dX5_behindSum_131 rfl ?_
        refine gf_X5_267 C hw k0 dX5_behindSum_132 ?_
        refine lv_iconst (v := (1 : Int32)) hx hb dX5_behindSum_135 (by decide) ?_
        refine lv_isub hx hb dX5_behindSum_136 ?_
        revert hf
        refine k_stp (fun U54 eU54 hf => ?_)
        refine pf_X5_267 C hw k0 eU54 dX5_behindSum_137 (fun H locs hw => ?_)
        refine lv_aload_n hx hb dX5_behindSum_140 rfl (lv_at hl 2 rfl) ?_
        refine lv_dup hx hb dX5_behindSum_141 rfl ?_
        refine gf_X5_287 C hw k0 dX5_behindSum_142 ?_
        refine lv_iconst (v := (1 : Int32)) hx hb dX5_behindSum_145 (by decide) ?_
        refine lv_isub hx hb dX5_behindSum_146 ?_
        revert hf
        refine k_stp (fun U55 eU55 hf => ?_)
        refine pf_X5_287 C hw k0 eU55 dX5_behindSum_147 (fun H locs hw => ?_)
        refine lv_iconst (v := (3 : Int32)) hx hb dX5_behindSum_150 (by decide) ?_
        cases hf
        exact w_iret C hr hw dX5_behindSum_151
  · replace hf := ite_f c16 hf
    refine lv_aload_n hx hb dX5_behindSum_77 rfl (lv_at hl 1 rfl) ?_
    refine lv_iload_n hx hb dX5_behindSum_78 rfl (lv_at hl 0 rfl) ?_
    revert hf
    refine k_pcl (fun z57 h56 hf => ?_)
    refine w_afi hw (w_rS (As := [.int s0]) C hw (ok_X5_binds h56) (cw_X5_270 hts (Nat.le_of_ble_eq_true rfl) (Nat.le_of_ble_eq_true rfl)) rfl hl.1 rfl (Nat.le_of_ble_eq_true rfl) ⟨Nat.zero_le _, Nat.zero_le _⟩ dX5_behindSum_79) (fun H locs hw => ?_)
    revert hf
    refine k_pcl (fun U60 h58 hf => ?_)
    refine w_afv hw (w_rV (As := [.int z57]) C hw (ok_X5_settle h58) (cw_X5_327 hts (Nat.le_of_ble_eq_true rfl) (Nat.le_of_ble_eq_true rfl)) rfl (by decide) (of_req h58).1 rfl hl.1 rfl (Nat.le_of_ble_eq_true rfl) ⟨Nat.zero_le _, Nat.zero_le _⟩ dX5_behindSum_82) (fun H locs hw => ?_)
    refine lv_aload_n hx hb dX5_behindSum_85 rfl (lv_at hl 1 rfl) ?_
    refine lv_iload_n hx hb dX5_behindSum_86 rfl (lv_at hl 0 rfl) ?_
    refine lv_iconst (v := (0 : Int32)) hx hb dX5_behindSum_87 (by decide) ?_
    revert hf
    refine k_pcl (fun U63 h61 hf => ?_)
    refine w_afv hw (w_rV (As := [.int s0, .int (0 : Int32)]) C hw (ok_X5_push h61) (cw_X5_290 hts (Nat.le_of_ble_eq_true rfl) (Nat.le_of_ble_eq_true rfl)) rfl (by decide) (of_req h61).1 rfl hl.1 rfl (Nat.le_of_ble_eq_true rfl) ⟨Nat.zero_le _, Nat.zero_le _⟩ dX5_behindSum_88) (fun H locs hw => ?_)
    refine lv_aload_n hx hb dX5_behindSum_91 rfl (lv_at hl 1 rfl) ?_
    revert hf
    refine k_pcl (fun U66 h64 hf => ?_)
    refine w_afv hw (w_rV (As := []) C hw (ok_X5_next h64) (cw_X5_233 hts (Nat.le_of_ble_eq_true rfl) (Nat.le_of_ble_eq_true rfl)) rfl (by decide) (of_req h64).1 rfl hl.1 rfl (Nat.le_of_ble_eq_true rfl) ⟨Nat.zero_le _, Nat.zero_le _⟩ dX5_behindSum_92) (fun H locs hw => ?_)
    refine lv_iconst (v := (1 : Int32)) hx hb dX5_behindSum_95 (by decide) ?_
    cases hf
    exact w_iret C hr hw dX5_behindSum_96
set_option maxHeartbeats 4000000 in
theorem ok_X5_behindSum {l : Launch} {G : gG} {T : Tt} {V0 : Vt} {o : Nat} {a0 : Int32} {r : Int32} {V' : Vt} (hf : f_X5_behindSum T V0 o a0 = some (r, V')) : okM l G yX5_behindSum cX5_behindSum 4 (some .int) 3 [.ref (gb G + o), .int a0] V0 T (some (.int r)) V' T 0 0 := by
  refine ok_intro (by decide) (Nat.le_of_ble_eq_true rfl) ?_
  intro p e s m below meth c ls C hr hnm hw hl
  have hx := C.1
  have hb := C.2.1
  have hown := C.2.2.2.1
  have hts := C.2.2.2.2.1
  have hl : lv_has ls 4 [(0, .ref (gb G + o)), (1, .int a0)] := hl
  unfold f_X5_behindSum at hf
  revert hf
  refine k_req (fun k0 hf => ?_)
  refine lv_aload_n hx hb dX5_behindSum_0 rfl (lv_at hl 0 rfl) ?_
  refine lv_bipush (v := (43 : Int32)) hx hb dX5_behindSum_1 (by decide) ?_
  revert hf
  refine k_pcl (fun z2 h1 hf => ?_)
  refine w_afi hw (w_rV (As := [.int (43 : Int32)]) C hw (ok_X5_isSign h1) (cw_X5_296 hts (Nat.le_of_ble_eq_true rfl) (Nat.le_of_ble_eq_true rfl)) rfl (by decide) (of_req h1).1 rfl hl.1 rfl (Nat.le_of_ble_eq_true rfl) ⟨Nat.zero_le _, Nat.zero_le _⟩ dX5_behindSum_3) (fun H locs hw => ?_)
  refine lv_if_eq (tgt := 14) hx hb dX5_behindSum_6 (by decide) (fun c3 => ?_) (fun c3 => ?_)
  · replace hf := ite_t c3 hf
    refine lv_aload_n hx hb dX5_behindSum_14 rfl (lv_at hl 0 rfl) ?_
    refine lv_bipush (v := (45 : Int32)) hx hb dX5_behindSum_15 (by decide) ?_
    revert hf
    refine k_pcl (fun z5 h4 hf => ?_)
    refine w_afi hw (w_rV (As := [.int (45 : Int32)]) C hw (ok_X5_isSign h4) (cw_X5_296 hts (Nat.le_of_ble_eq_true rfl) (Nat.le_of_ble_eq_true rfl)) rfl (by decide) (of_req h4).1 rfl hl.1 rfl (Nat.le_of_ble_eq_true rfl) ⟨Nat.zero_le _, Nat.zero_le _⟩ dX5_behindSum_17) (fun H locs hw => ?_)
    refine lv_if_eq (tgt := 28) hx hb dX5_behindSum_20 (by decide) (fun c6 => ?_) (fun c6 => ?_)
    · replace hf := ite_t c6 hf
      refine lv_aload_n hx hb dX5_behindSum_28 rfl (lv_at hl 0 rfl) ?_
      refine lv_bipush (v := (42 : Int32)) hx hb dX5_behindSum_29 (by decide) ?_
      revert hf
      refine k_pcl (fun z8 h7 hf => ?_)
      refine w_afi hw (w_rV (As := [.int (42 : Int32)]) C hw (ok_X5_isSign h7) (cw_X5_296 hts (Nat.le_of_ble_eq_true rfl) (Nat.le_of_ble_eq_true rfl)) rfl (by decide) (of_req h7).1 rfl hl.1 rfl (Nat.le_of_ble_eq_true rfl) ⟨Nat.zero_le _, Nat.zero_le _⟩ dX5_behindSum_31) (fun H locs hw => ?_)
      refine lv_if_eq (tgt := 42) hx hb dX5_behindSum_34 (by decide) (fun c9 => ?_) (fun c9 => ?_)
      · replace hf := ite_t c9 hf
        refine lv_aload_n hx hb dX5_behindSum_42 rfl (lv_at hl 0 rfl) ?_
        refine lv_bipush (v := (47 : Int32)) hx hb dX5_behindSum_43 (by decide) ?_
        revert hf
        refine k_pcl (fun z11 h10 hf => ?_)
        refine w_afi hw (w_rV (As := [.int (47 : Int32)]) C hw (ok_X5_isSign h10) (cw_X5_296 hts (Nat.le_of_ble_eq_true rfl) (Nat.le_of_ble_eq_true rfl)) rfl (by decide) (of_req h10).1 rfl hl.1 rfl (Nat.le_of_ble_eq_true rfl) ⟨Nat.zero_le _, Nat.zero_le _⟩ dX5_behindSum_45) (fun H locs hw => ?_)
        refine lv_if_eq (tgt := 56) hx hb dX5_behindSum_48 (by decide) (fun c12 => ?_) (fun c12 => ?_)
        · replace hf := ite_t c12 hf
          refine lv_aload_n hx hb dX5_behindSum_56 rfl (lv_at hl 0 rfl) ?_
          refine lv_bipush (v := (37 : Int32)) hx hb dX5_behindSum_57 (by decide) ?_
          revert hf
          refine k_pcl (fun z14 h13 hf => ?_)
          refine w_afi hw (w_rV (As := [.int (37 : Int32)]) C hw (ok_X5_isSign h13) (cw_X5_296 hts (Nat.le_of_ble_eq_true rfl) (Nat.le_of_ble_eq_true rfl)) rfl (by decide) (of_req h13).1 rfl hl.1 rfl (Nat.le_of_ble_eq_true rfl) ⟨Nat.zero_le _, Nat.zero_le _⟩ dX5_behindSum_59) (fun H locs hw => ?_)
          refine lv_if_eq (tgt := 70) hx hb dX5_behindSum_62 (by decide) (fun c15 => ?_) (fun c15 => ?_)
          · replace hf := ite_t c15 hf
            refine lv_iconst (v := ((-1) : Int32)) hx hb dX5_behindSum_70 (by decide) ?_
            exact jk_X5_behindSum_71 C hr k0 hf hw (lv_sub hl [0, 1] rfl)
          · replace hf := ite_f c15 hf
            refine lv_bipush (v := (24 : Int32)) hx hb dX5_behindSum_65 (by decide) ?_
            refine lv_goto (tgt := 71) hx hb dX5_behindSum_67 (by decide) ?_
            exact jk_X5_behindSum_71 C hr k0 hf hw (lv_sub hl [0, 1] rfl)
        · replace hf := ite_f c12 hf
          refine lv_bipush (v := (23 : Int32)) hx hb dX5_behindSum_51 (by decide) ?_
          refine lv_goto (tgt := 71) hx hb dX5_behindSum_53 (by decide) ?_
          exact jk_X5_behindSum_71 C hr k0 hf hw (lv_sub hl [0, 1] rfl)
      · replace hf := ite_f c9 hf
        refine lv_bipush (v := (22 : Int32)) hx hb dX5_behindSum_37 (by decide) ?_
        refine lv_goto (tgt := 71) hx hb dX5_behindSum_39 (by decide) ?_
        exact jk_X5_behindSum_71 C hr k0 hf hw (lv_sub hl [0, 1] rfl)
    · replace hf := ite_f c6 hf
      refine lv_bipush (v := (21 : Int32)) hx hb dX5_behindSum_23 (by decide) ?_
      refine lv_goto (tgt := 71) hx hb dX5_behindSum_25 (by decide) ?_
      exact jk_X5_behindSum_71 C hr k0 hf hw (lv_sub hl [0, 1] rfl)
  · replace hf := ite_f c3 hf
    refine lv_bipush (v := (20 : Int32)) hx hb dX5_behindSum_9 (by decide) ?_
    refine lv_goto (tgt := 71) hx hb dX5_behindSum_11 (by decide) ?_
    exact jk_X5_behindSum_71 C hr k0 hf hw (lv_sub hl [0, 1] rfl)
set_option maxHeartbeats 4000000 in
theorem jk_X5_behindTest_66 {l : Launch} {G : gG} {p : Program} {e : Env} {s : State} {m : MethodId} {args : Array Value} {below : List Frame} {meth : Method} {c : Code} {T : Tt} {V0 : Vt} {r : Int32} {V' : Vt} (C : Cx G p s m args meth c cX5_behindTest RX5 2) (hr : meth.sig.returnType = (some .int)) {x0 : Nat} {s0 : Nat} {s1 : Int32} {H : Heap} {locs : List Loc} {ls : Array Slot} (k0 : T.1 x0 = 6) (hf : f_X5_behindTest_J66 T V0 x0 s0 s1 = some (r, V')) (hw : wS G V0 T H locs) (hl : lv_has ls 2 [(0, .ref (gb G + x0))]) : W p l e (rmL 3 0 0) s m args below meth c H locs 0 0 (eQ G below (some (.int r)) V' T args s 0 0) (F0 m 66 ls [.int s1, .ref (gb G + s0)]) := by
  have hx := C.1
  have hb := C.2.1
  have hown := C.2.2.2.1
  have hts := C.2.2.2.2.1
  unfold f_X5_behindTest_J66 at hf
  refine lv_iconst (v := (0 : Int32)) hx hb dX5_behindTest_66 (by decide) ?_
  revert hf
  refine k_pcl (fun U15 h13 hf => ?_)
  refine w_afv hw (w_rV (As := [.int s1, .int (0 : Int32)]) C hw (ok_X5_emit h13) (cw_X5_273 hts (Nat.le_of_ble_eq_true rfl) (Nat.le_of_ble_eq_true rfl)) rfl (by decide) (of_req h13).1 rfl hl.1 rfl (Nat.le_of_ble_eq_true rfl) ⟨Nat.zero_le _, Nat.zero_le _⟩ dX5_behindTest_67) (fun H locs hw => ?_)
  refine lv_aload_n hx hb dX5_behindTest_70 rfl (lv_at hl 0 rfl) ?_
  revert hf
  refine k_pcl (fun U18 h16 hf => ?_)
  refine w_afv hw (w_rV (As := []) C hw (ok_X5_next h16) (cw_X5_233 hts (Nat.le_of_ble_eq_true rfl) (Nat.le_of_ble_eq_true rfl)) rfl (by decide) (of_req h16).1 rfl hl.1 rfl (Nat.le_of_ble_eq_true rfl) ⟨Nat.zero_le _, Nat.zero_le _⟩ dX5_behindTest_71) (fun H locs hw => ?_)
  refine lv_iconst (v := (0 : Int32)) hx hb dX5_behindTest_74 (by decide) ?_
  cases hf
  exact w_iret C hr hw dX5_behindTest_75
set_option maxHeartbeats 4000000 in
theorem jk_X5_behindTest_47 {l : Launch} {G : gG} {p : Program} {e : Env} {s : State} {m : MethodId} {args : Array Value} {below : List Frame} {meth : Method} {c : Code} {T : Tt} {V0 : Vt} {r : Int32} {V' : Vt} (C : Cx G p s m args meth c cX5_behindTest RX5 2) (hr : meth.sig.returnType = (some .int)) {x0 : Nat} {x1 : Int32} {s0 : Nat} {s1 : Int32} {H : Heap} {locs : List Loc} {ls : Array Slot} (k0 : T.1 x0 = 6) (hf : f_X5_behindTest_J47 T V0 x0 x1 s0 s1 = some (r, V')) (hw : wS G V0 T H locs) (hl : lv_has ls 2 [(0, .ref (gb G + x0)), (1, .int x1)]) : W p l e (rmL 3 0 0) s m args below meth c H locs 0 0 (eQ G below (some (.int r)) V' T args s 0 0) (F0 m 47 ls [.int s1, .ref (gb G + s0)]) := by
  have hx := C.1
  have hb := C.2.1
  have hown := C.2.2.2.1
  have hts := C.2.2.2.2.1
  unfold f_X5_behindTest_J47 at hf
  refine lv_aload_n hx hb dX5_behindTest_47 rfl (lv_at hl 0 rfl) ?_
  refine gf_X5_264 C hw k0 dX5_behindTest_48 ?_
  revert hf
  refine k_pcl (fun U11 h9 hf => ?_)
  refine w_afv hw (w_rV (As := [.int s1, .int (V0.1 x0 23)]) C hw (ok_X5_push h9) (cw_X5_290 hts (Nat.le_of_ble_eq_true rfl) (Nat.le_of_ble_eq_true rfl)) rfl (by decide) (of_req h9).1 rfl hl.1 rfl (Nat.le_of_ble_eq_true rfl) ⟨Nat.zero_le _, Nat.zero_le _⟩ dX5_behindTest_51) (fun H locs hw => ?_)
  refine lv_aload_n hx hb dX5_behindTest_54 rfl (lv_at hl 0 rfl) ?_
  refine lv_iload_n hx hb dX5_behindTest_55 rfl (lv_at hl 1 rfl) ?_
  refine lv_if_eq (tgt := 64) hx hb dX5_behindTest_56 (by decide) (fun c12 => ?_) (fun c12 => ?_)
  · replace hf := ite_t c12 hf
    refine lv_bipush (v := (30 : Int32)) hx hb dX5_behindTest_64 (by decide) ?_
    exact jk_X5_behindTest_66 C hr k0 hf hw (lv_sub hl [0] rfl)
  · replace hf := ite_f c12 hf
    refine lv_bipush (v := (29 : Int32)) hx hb dX5_behindTest_59 (by decide) ?_
    refine lv_goto (tgt := 66) hx hb dX5_behindTest_61 (by decide) ?_
    exact jk_X5_behindTest_66 C hr k0 hf hw (lv_sub hl [0] rfl)
set_option maxHeartbeats 4000000 in
theorem jk_X5_behindTest_32 {l : Launch} {G : gG} {p : Program} {e : Env} {s : State} {m : MethodId} {args : Array Value} {below : List Frame} {meth : Method} {c : Code} {T : Tt} {V0 : Vt} {r : Int32} {V' : Vt} (C : Cx G p s m args meth c cX5_behindTest RX5 2) (hr : meth.sig.returnType = (some .int)) {x0 : Nat} {x1 : Int32} {s0 : Nat} {s1 : Int32} {H : Heap} {locs : List Loc} {ls : Array Slot} (k0 : T.1 x0 = 6) (hf : f_X5_behindTest_J32 T V0 x0 x1 s0 s1 = some (r, V')) (hw : wS G V0 T H locs) (hl : lv_has ls 2 [(0, .ref (gb G + x0)), (1, .int x1)]) : W p l e (rmL 3 0 0) s m args below meth c H locs 0 0 (eQ G below (some (.int r)) V' T args s 0 0) (F0 m 32 ls [.int s1, .ref (gb G + s0)]) := by
  have hx := C.1
  have hb := C.2.1
  have hown := C.2.2.2.1
  have hts := C.2.2.2.2.1
  unfold f_X5_behindTest_J32 at hf
  revert hf
  refine k_pcl (fun U7 h5 hf => ?_)
  refine w_afv hw (w_rV (As := [.int s1]) C hw (ok_X5_settle h5) (cw_X5_327 hts (Nat.le_of_ble_eq_true rfl) (Nat.le_of_ble_eq_true rfl)) rfl (by decide) (of_req h5).1 rfl hl.1 rfl (Nat.le_of_ble_eq_true rfl) ⟨Nat.zero_le _, Nat.zero_le _⟩ dX5_behindTest_32) (fun H locs hw => ?_)
  refine lv_aload_n hx hb dX5_behindTest_35 rfl (lv_at hl 0 rfl) ?_
  refine lv_iload_n hx hb dX5_behindTest_36 rfl (lv_at hl 1 rfl) ?_
  refine lv_if_eq (tgt := 45) hx hb dX5_behindTest_37 (by decide) (fun c8 => ?_) (fun c8 => ?_)
  · replace hf := ite_t c8 hf
    refine lv_bipush (v := (30 : Int32)) hx hb dX5_behindTest_45 (by decide) ?_
    exact jk_X5_behindTest_47 C hr k0 hf hw (lv_sub hl [0, 1] rfl)
  · replace hf := ite_f c8 hf
    refine lv_bipush (v := (29 : Int32)) hx hb dX5_behindTest_40 (by decide) ?_
    refine lv_goto (tgt := 47) hx hb dX5_behindTest_42 (by decide) ?_
    exact jk_X5_behindTest_47 C hr k0 hf hw (lv_sub hl [0, 1] rfl)
set_option maxHeartbeats 4000000 in
theorem jk_X5_behindTest_22 {l : Launch} {G : gG} {p : Program} {e : Env} {s : State} {m : MethodId} {args : Array Value} {below : List Frame} {meth : Method} {c : Code} {T : Tt} {V0 : Vt} {r : Int32} {V' : Vt} (C : Cx G p s m args meth c cX5_behindTest RX5 2) (hr : meth.sig.returnType = (some .int)) {x0 : Nat} {x1 : Int32} {H : Heap} {locs : List Loc} {ls : Array Slot} (k0 : T.1 x0 = 6) (hf : f_X5_behindTest_J22 T V0 x0 x1 = some (r, V')) (hw : wS G V0 T H locs) (hl : lv_has ls 2 [(0, .ref (gb G + x0)), (1, .int x1)]) : W p l e (rmL 3 0 0) s m args below meth c H locs 0 0 (eQ G below (some (.int r)) V' T args s 0 0) (F0 m 22 ls []) := by
  have hx := C.1
  have hb := C.2.1
  have hown := C.2.2.2.1
  have hts := C.2.2.2.2.1
  unfold f_X5_behindTest_J22 at hf
  refine lv_aload_n hx hb dX5_behindTest_22 rfl (lv_at hl 0 rfl) ?_
  refine lv_iload_n hx hb dX5_behindTest_23 rfl (lv_at hl 1 rfl) ?_
  refine lv_if_eq (tgt := 31) hx hb dX5_behindTest_24 (by decide) (fun c4 => ?_) (fun c4 => ?_)
  · replace hf := ite_t c4 hf
    refine lv_iconst (v := (1 : Int32)) hx hb dX5_behindTest_31 (by decide) ?_
    exact jk_X5_behindTest_32 C hr k0 hf hw (lv_sub hl [0, 1] rfl)
  · replace hf := ite_f c4 hf
    refine lv_iconst (v := (2 : Int32)) hx hb dX5_behindTest_27 (by decide) ?_
    refine lv_goto (tgt := 32) hx hb dX5_behindTest_28 (by decide) ?_
    exact jk_X5_behindTest_32 C hr k0 hf hw (lv_sub hl [0, 1] rfl)
set_option maxHeartbeats 4000000 in
theorem ok_X5_behindTest {l : Launch} {G : gG} {T : Tt} {V0 : Vt} {o : Nat} {r : Int32} {V' : Vt} (hf : f_X5_behindTest T V0 o = some (r, V')) : okM l G yX5_behindTest cX5_behindTest 2 (some .int) 3 [.ref (gb G + o)] V0 T (some (.int r)) V' T 0 0 := by
  refine ok_intro (by decide) (Nat.le_of_ble_eq_true rfl) ?_
  intro p e s m below meth c ls C hr hnm hw hl
  have hx := C.1
  have hb := C.2.1
  have hown := C.2.2.2.1
  have hts := C.2.2.2.2.1
  have hl : lv_has ls 2 [(0, .ref (gb G + o))] := hl
  unfold f_X5_behindTest at hf
  revert hf
  refine k_req (fun k0 hf => ?_)
  refine lv_aload_n hx hb dX5_behindTest_0 rfl (lv_at hl 0 rfl) ?_
  refine lv_ldc2 (v := (1476 : Int64)) hx hb hown (hts _ q1958) dX5_behindTest_1 ?_
  revert hf
  refine k_pcl (fun z2 h1 hf => ?_)
  refine w_afi hw (w_rV (As := [.long (1476 : Int64)]) C hw (ok_X5_isWord h1) (cw_X5_283 hts (Nat.le_of_ble_eq_true rfl) (Nat.le_of_ble_eq_true rfl)) rfl (by decide) (of_req h1).1 rfl hl.1 rfl (Nat.le_of_ble_eq_true rfl) ⟨Nat.zero_le _, Nat.zero_le _⟩ dX5_behindTest_4) (fun H locs hw => ?_)
  refine lv_istore_n (lv' := [(1, .int z2), (0, .ref (gb G + o))]) hx hb dX5_behindTest_7 rfl hl (by decide) rfl (fun ls hl => ?_)
  refine lv_iload_n hx hb dX5_behindTest_8 rfl (lv_at hl 0 rfl) ?_
  refine lv_if_ne (tgt := 22) hx hb dX5_behindTest_9 (by decide) (fun c3 => ?_) (fun c3 => ?_)
  · replace hf := ite_f c3 hf
    exact jk_X5_behindTest_22 C hr k0 hf hw (lv_sub hl [1, 0] rfl)
  · replace hf := ite_t c3 hf
    refine lv_aload_n hx hb dX5_behindTest_12 rfl (lv_at hl 1 rfl) ?_
    refine lv_ldc2 (v := (498 : Int64)) hx hb hown (hts _ q1959) dX5_behindTest_13 ?_
    revert hf
    refine k_pcl (fun z20 h19 hf => ?_)
    refine w_afi hw (w_rV (As := [.long (498 : Int64)]) C hw (ok_X5_isWord h19) (cw_X5_283 hts (Nat.le_of_ble_eq_true rfl) (Nat.le_of_ble_eq_true rfl)) rfl (by decide) (of_req h19).1 rfl hl.1 rfl (Nat.le_of_ble_eq_true rfl) ⟨Nat.zero_le _, Nat.zero_le _⟩ dX5_behindTest_16) (fun H locs hw => ?_)
    refine lv_if_eq (tgt := 76) hx hb dX5_behindTest_19 (by decide) (fun c21 => ?_) (fun c21 => ?_)
    · replace hf := ite_t c21 hf
      refine lv_aload_n hx hb dX5_behindTest_76 rfl (lv_at hl 1 rfl) ?_
      revert hf
      refine k_pcl (fun z23 h22 hf => ?_)
      refine w_afi hw (w_rV (As := []) C hw (ok_X5_inner h22) (cw_X5_330 hts (Nat.le_of_ble_eq_true rfl) (Nat.le_of_ble_eq_true rfl)) rfl (by decide) (of_req h22).1 rfl hl.1 rfl (Nat.le_of_ble_eq_true rfl) ⟨Nat.zero_le _, Nat.zero_le _⟩ dX5_behindTest_77) (fun H locs hw => ?_)
      refine lv_iconst (v := ((-1) : Int32)) hx hb dX5_behindTest_80 (by decide) ?_
      refine lv_icmp_ne (tgt := 86) hx hb dX5_behindTest_81 (by decide) (fun c24 => ?_) (fun c24 => ?_)
      · replace hf := ite_f c24 hf
        refine lv_aload_n hx hb dX5_behindTest_86 rfl (lv_at hl 1 rfl) ?_
        refine lv_aload_n hx hb dX5_behindTest_87 rfl (lv_at hl 1 rfl) ?_
        refine lv_bipush (v := (41 : Int32)) hx hb dX5_behindTest_88 (by decide) ?_
        revert hf
        refine k_pcl (fun z26 h25 hf => ?_)
        refine w_afi hw (w_rV (As := [.int (41 : Int32)]) C hw (ok_X5_isSign h25) (cw_X5_296 hts (Nat.le_of_ble_eq_true rfl) (Nat.le_of_ble_eq_true rfl)) rfl (by decide) (of_req h25).1 rfl hl.1 rfl (Nat.le_of_ble_eq_true rfl) ⟨Nat.zero_le _, Nat.zero_le _⟩ dX5_behindTest_90) (fun H locs hw => ?_)
        revert hf
        refine k_pcl (fun U29 h27 hf => ?_)
        refine w_afv hw (w_rV (As := [.int z26]) C hw (ok_X5_must h27) (cw_X5_260 hts (Nat.le_of_ble_eq_true rfl) (Nat.le_of_ble_eq_true rfl)) rfl (by decide) (of_req h27).1 rfl hl.1 rfl (Nat.le_of_ble_eq_true rfl) ⟨Nat.zero_le _, Nat.zero_le _⟩ dX5_behindTest_93) (fun H locs hw => ?_)
        refine lv_aload_n hx hb dX5_behindTest_96 rfl (lv_at hl 1 rfl) ?_
        refine gf_X5_229 C hw k0 dX5_behindTest_97 ?_
        refine lv_if_ne (tgt := 128) hx hb dX5_behindTest_100 (by decide) (fun c30 => ?_) (fun c30 => ?_)
        · replace hf := ite_f c30 hf
          refine lv_iconst (v := (2 : Int32)) hx hb dX5_behindTest_128 (by decide) ?_
          cases hf
          exact w_iret C hr hw dX5_behindTest_129
        · replace hf := ite_t c30 hf
          refine lv_aload_n hx hb dX5_behindTest_103 rfl (lv_at hl 1 rfl) ?_
          refine lv_iconst (v := (1 : Int32)) hx hb dX5_behindTest_104 (by decide) ?_
          revert hf
          refine k_pcl (fun U33 h31 hf => ?_)
          refine w_afv hw (w_rV (As := [.int (1 : Int32)]) C hw (ok_X5_settle h31) (cw_X5_327 hts (Nat.le_of_ble_eq_true rfl) (Nat.le_of_ble_eq_true rfl)) rfl (by decide) (of_req h31).1 rfl hl.1 rfl (Nat.le_of_ble_eq_true rfl) ⟨Nat.zero_le _, Nat.zero_le _⟩ dX5_behindTest_105) (fun H locs hw => ?_)
          refine lv_aload_n hx hb dX5_behindTest_108 rfl (lv_at hl 1 rfl) ?_
          refine lv_dup hx hb dX5_behindTest_109 rfl ?_
          refine gf_X5_267 C hw k0 dX5_behindTest_110 ?_
          refine lv_iconst (v := (1 : Int32)) hx hb dX5_behindTest_113 (by decide) ?_
          refine lv_isub hx hb dX5_behindTest_114 ?_
          revert hf
          refine k_stp (fun U34 eU34 hf => ?_)
          refine pf_X5_267 C hw k0 eU34 dX5_behindTest_115 (fun H locs hw => ?_)
          refine lv_aload_n hx hb dX5_behindTest_118 rfl (lv_at hl 1 rfl) ?_
          refine lv_dup hx hb dX5_behindTest_119 rfl ?_
          refine gf_X5_287 C hw k0 dX5_behindTest_120 ?_
          refine lv_iconst (v := (1 : Int32)) hx hb dX5_behindTest_123 (by decide) ?_
          refine lv_isub hx hb dX5_behindTest_124 ?_
          revert hf
          refine k_stp (fun U35 eU35 hf => ?_)
          refine pf_X5_287 C hw k0 eU35 dX5_behindTest_125 (fun H locs hw => ?_)
          refine lv_iconst (v := (2 : Int32)) hx hb dX5_behindTest_128 (by decide) ?_
          cases hf
          exact w_iret C hr hw dX5_behindTest_129
      · replace hf := ite_t c24 hf
        refine lv_iconst (v := (4 : Int32)) hx hb dX5_behindTest_84 (by decide) ?_
        cases hf
        exact w_iret C hr hw dX5_behindTest_85
    · replace hf := ite_f c21 hf
      exact jk_X5_behindTest_22 C hr k0 hf hw (lv_sub hl [1, 0] rfl)
set_option maxHeartbeats 4000000 in
theorem jk_X5_readExpression_76 {l : Launch} {G : gG} {p : Program} {e : Env} {s : State} {m : MethodId} {args : Array Value} {below : List Frame} {meth : Method} {c : Code} {T : Tt} {V0 : Vt} {V' : Vt} (C : Cx G p s m args meth c cX5_readExpression RX5 3) (hr : meth.sig.returnType = none) {x0 : Nat} {H : Heap} {locs : List Loc} {ls : Array Slot} (k0 : T.1 x0 = 6) (hf : f_X5_readExpression_J76 T V0 x0 = some V') (hw : wS G V0 T H locs) (hl : lv_has ls 3 [(0, .ref (gb G + x0))]) : W p l e (rmL 6 0 0) s m args below meth c H locs 0 0 (eQ G below none V' T args s 0 0) (F0 m 76 ls []) := by
  have hx := C.1
  have hb := C.2.1
  have hown := C.2.2.2.1
  have hts := C.2.2.2.2.1
  unfold f_X5_readExpression_J76 at hf
  refine lv_aload_n hx hb dX5_readExpression_76 rfl (lv_at hl 0 rfl) ?_
  refine lv_iconst (v := (1 : Int32)) hx hb dX5_readExpression_77 (by decide) ?_
  revert hf
  refine k_pcl (fun U24 h22 hf => ?_)
  refine w_afv hw (w_rV (As := [.int (1 : Int32)]) C hw (ok_X5_settle h22) (cw_X5_327 hts (Nat.le_of_ble_eq_true rfl) (Nat.le_of_ble_eq_true rfl)) rfl (by decide) (of_req h22).1 rfl hl.1 rfl (Nat.le_of_ble_eq_true rfl) ⟨Nat.zero_le _, Nat.zero_le _⟩ dX5_readExpression_78) (fun H locs hw => ?_)
  cases hf
  exact w_vret C hr hw dX5_readExpression_81
set_option maxHeartbeats 4000000 in
theorem jk_X5_readExpression_72 {l : Launch} {G : gG} {p : Program} {e : Env} {s : State} {m : MethodId} {args : Array Value} {below : List Frame} {meth : Method} {c : Code} {T : Tt} {V0 : Vt} {V' : Vt} (C : Cx G p s m args meth c cX5_readExpression RX5 3) (hr : meth.sig.returnType = none) {x0 : Nat} {x1 : Int32} {s0 : Int32} {kc20 : Int32 → Vt → Option (Vt)} {kx20_76 : Vt → Option (Vt)} {H : Heap} {locs : List Loc} {ls : Array Slot} (k0 : T.1 x0 = 6) (hf : f_X5_readExpression_J72 T V0 x0 x1 s0 kc20 kx20_76 = some V') (hw : wS G V0 T H locs) (hl : lv_has ls 3 [(0, .ref (gb G + x0)), (1, .int x1)]) (hkc20 : ∀ (y2 : Int32) (W1 : Vt) (H : Heap) (locs : List Loc) (ls : Array Slot), kc20 y2 W1 = some V' → wS G W1 T H locs → lv_has ls 3 [(0, .ref (gb G + x0)), (1, .int x1), (2, .int y2)] → W p l e (rmL 6 0 0) s m args below meth c H locs 0 0 (eQ G below none V' T args s 0 0) (F0 m 20 ls [])) (hkx20_76 : ∀ (W1 : Vt) (H : Heap) (locs : List Loc) (ls : Array Slot), kx20_76 W1 = some V' → wS G W1 T H locs → lv_has ls 3 [(0, .ref (gb G + x0))] → W p l e (rmL 6 0 0) s m args below meth c H locs 0 0 (eQ G below none V' T args s 0 0) (F0 m 76 ls [])) : W p l e (rmL 6 0 0) s m args below meth c H locs 0 0 (eQ G below none V' T args s 0 0) (F0 m 72 ls [.int s0]) := by
  have hx := C.1
  have hb := C.2.1
  have hown := C.2.2.2.1
  have hts := C.2.2.2.2.1
  unfold f_X5_readExpression_J72 at hf
  refine lv_istore_n (lv' := [(2, .int s0), (0, .ref (gb G + x0)), (1, .int x1)]) hx hb dX5_readExpression_72 rfl hl (by decide) rfl (fun ls hl => ?_)
  refine lv_goto (tgt := 20) hx hb dX5_readExpression_73 (by decide) ?_
  exact hkc20 _ _ _ _ _ hf hw (lv_sub hl [1, 2, 0] rfl)
set_option maxHeartbeats 4000000 in
theorem lk_X5_readExpression_20 {l : Launch} {G : gG} {p : Program} {e : Env} {s : State} {m : MethodId} {args : Array Value} {below : List Frame} {meth : Method} {c : Code} {T : Tt} {V' : Vt} (C : Cx G p s m args meth c cX5_readExpression RX5 3) (hr : meth.sig.returnType = none) {x0 : Nat} {x1 : Int32} {kx20_76 : Vt → Option (Vt)} (k0 : T.1 x0 = 6) (hkx20_76 : ∀ (W1 : Vt) (H : Heap) (locs : List Loc) (ls : Array Slot), kx20_76 W1 = some V' → wS G W1 T H locs → lv_has ls 3 [(0, .ref (gb G + x0))] → W p l e (rmL 6 0 0) s m args below meth c H locs 0 0 (eQ G below none V' T args s 0 0) (F0 m 76 ls [])) : ∀ (n : Nat) (x2 : Int32) (V1 : Vt) (H : Heap) (locs : List Loc) (ls : Array Slot), f_X5_readExpression_L20 T x0 x1 kx20_76 n x2 V1 = some V' → wS G V1 T H locs → lv_has ls 3 [(0, .ref (gb G + x0)), (1, .int x1), (2, .int x2)] → W p l e (rmL 6 0 0) s m args below meth c H locs 0 0 (eQ G below none V' T args s 0 0) (F0 m 20 ls []) := by
  have hx := C.1
  have hb := C.2.1
  have hown := C.2.2.2.1
  have hts := C.2.2.2.2.1
  intro n
  induction n with
  | zero =>
    intro x2 V1 H locs ls hf
    cases hf
  | succ n ih =>
    intro x2 V1 H locs ls hf hw hl
    unfold f_X5_readExpression_L20 at hf
    refine lv_aload_n hx hb dX5_readExpression_20 rfl (lv_at hl 0 rfl) ?_
    refine gf_X5_229 C hw k0 dX5_readExpression_21 ?_
    refine lv_if_ne (tgt := 76) hx hb dX5_readExpression_24 (by decide) (fun c4 => ?_) (fun c4 => ?_)
    · replace hf := ite_f c4 hf
      exact hkx20_76 _ _ _ _ hf hw (lv_sub hl [0] rfl)
    · replace hf := ite_t c4 hf
      refine lv_iload_n hx hb dX5_readExpression_27 rfl (lv_at hl 2 rfl) ?_
      refine lv_iconst (v := (4 : Int32)) hx hb dX5_readExpression_28 (by decide) ?_
      refine lv_icmp_eq (tgt := 76) hx hb dX5_readExpression_29 (by decide) (fun c5 => ?_) (fun c5 => ?_)
      · replace hf := ite_t c5 hf
        exact hkx20_76 _ _ _ _ hf hw (lv_sub hl [0] rfl)
      · replace hf := ite_f c5 hf
        refine lv_iload_n hx hb dX5_readExpression_32 rfl (lv_at hl 2 rfl) ?_
        refine lv_if_ne (tgt := 43) hx hb dX5_readExpression_33 (by decide) (fun c6 => ?_) (fun c6 => ?_)
        · replace hf := ite_f c6 hf
          refine lv_iload_n hx hb dX5_readExpression_43 rfl (lv_at hl 2 rfl) ?_
          refine lv_iconst (v := (1 : Int32)) hx hb dX5_readExpression_44 (by decide) ?_
          refine lv_icmp_ne (tgt := 55) hx hb dX5_readExpression_45 (by decide) (fun c7 => ?_) (fun c7 => ?_)
          · replace hf := ite_f c7 hf
            refine lv_iload_n hx hb dX5_readExpression_55 rfl (lv_at hl 2 rfl) ?_
            refine lv_iconst (v := (3 : Int32)) hx hb dX5_readExpression_56 (by decide) ?_
            refine lv_icmp_ne (tgt := 68) hx hb dX5_readExpression_57 (by decide) (fun c8 => ?_) (fun c8 => ?_)
            · replace hf := ite_f c8 hf
              refine lv_aload_n hx hb dX5_readExpression_68 rfl (lv_at hl 0 rfl) ?_
              revert hf
              refine k_cal (fun z10 U11 h9 hf => ?_)
              refine w_afi hw (w_rV (As := []) C hw (ok_X5_behindTest h9) (cw_X5_348 hts (Nat.le_of_ble_eq_true rfl) (Nat.le_of_ble_eq_true rfl)) rfl (by decide) (of_req h9).1 rfl hl.1 rfl (Nat.le_of_ble_eq_true rfl) ⟨Nat.zero_le _, Nat.zero_le _⟩ dX5_readExpression_69) (fun H locs hw => ?_)
              exact jk_X5_readExpression_72 C hr k0 hf hw (lv_sub hl [0, 1] rfl) ih hkx20_76
            · replace hf := ite_t c8 hf
              refine lv_aload_n hx hb dX5_readExpression_60 rfl (lv_at hl 0 rfl) ?_
              refine lv_iload_n hx hb dX5_readExpression_61 rfl (lv_at hl 1 rfl) ?_
              revert hf
              refine k_cal (fun z13 U14 h12 hf => ?_)
              refine w_afi hw (w_rV (As := [.int x1]) C hw (ok_X5_behindSum h12) (cw_X5_344 hts (Nat.le_of_ble_eq_true rfl) (Nat.le_of_ble_eq_true rfl)) rfl (by decide) (of_req h12).1 rfl hl.1 rfl (Nat.le_of_ble_eq_true rfl) ⟨Nat.zero_le _, Nat.zero_le _⟩ dX5_readExpression_62) (fun H locs hw => ?_)
              refine lv_goto (tgt := 72) hx hb dX5_readExpression_65 (by decide) ?_
              exact jk_X5_readExpression_72 C hr k0 hf hw (lv_sub hl [0, 1] rfl) ih hkx20_76
          · replace hf := ite_t c7 hf
            refine lv_aload_n hx hb dX5_readExpression_48 rfl (lv_at hl 0 rfl) ?_
            revert hf
            refine k_cal (fun z16 U17 h15 hf => ?_)
            refine w_afi hw (w_rV (As := []) C hw (ok_X5_readPart h15) (cw_X5_324 hts (Nat.le_of_ble_eq_true rfl) (Nat.le_of_ble_eq_true rfl)) rfl (by decide) (of_req h15).1 rfl hl.1 rfl (Nat.le_of_ble_eq_true rfl) ⟨Nat.zero_le _, Nat.zero_le _⟩ dX5_readExpression_49) (fun H locs hw => ?_)
            refine lv_goto (tgt := 72) hx hb dX5_readExpression_52 (by decide) ?_
            exact jk_X5_readExpression_72 C hr k0 hf hw (lv_sub hl [0, 1] rfl) ih hkx20_76
        · replace hf := ite_t c6 hf
          refine lv_aload_n hx hb dX5_readExpression_36 rfl (lv_at hl 0 rfl) ?_
          revert hf
          refine k_cal (fun z19 U20 h18 hf => ?_)
          refine w_afi hw (w_rV (As := []) C hw (ok_X5_readPlain h18) (cw_X5_341 hts (Nat.le_of_ble_eq_true rfl) (Nat.le_of_ble_eq_true rfl)) rfl (by decide) (of_req h18).1 rfl hl.1 rfl (Nat.le_of_ble_eq_true rfl) ⟨Nat.zero_le _, Nat.zero_le _⟩ dX5_readExpression_37) (fun H locs hw => ?_)
          refine lv_goto (tgt := 72) hx hb dX5_readExpression_40 (by decide) ?_
          exact jk_X5_readExpression_72 C hr k0 hf hw (lv_sub hl [0, 1] rfl) ih hkx20_76
set_option maxHeartbeats 4000000 in
theorem jk_X5_readExpression_19 {l : Launch} {G : gG} {p : Program} {e : Env} {s : State} {m : MethodId} {args : Array Value} {below : List Frame} {meth : Method} {c : Code} {T : Tt} {V0 : Vt} {V' : Vt} (C : Cx G p s m args meth c cX5_readExpression RX5 3) (hr : meth.sig.returnType = none) {x0 : Nat} {x1 : Int32} {s0 : Int32} {H : Heap} {locs : List Loc} {ls : Array Slot} (k0 : T.1 x0 = 6) (hf : f_X5_readExpression_J19 T V0 x0 x1 s0 = some V') (hw : wS G V0 T H locs) (hl : lv_has ls 3 [(0, .ref (gb G + x0)), (1, .int x1)]) : W p l e (rmL 6 0 0) s m args below meth c H locs 0 0 (eQ G below none V' T args s 0 0) (F0 m 19 ls [.int s0]) := by
  have hx := C.1
  have hb := C.2.1
  have hown := C.2.2.2.1
  have hts := C.2.2.2.2.1
  unfold f_X5_readExpression_J19 at hf
  refine lv_istore_n (lv' := [(2, .int s0), (0, .ref (gb G + x0)), (1, .int x1)]) hx hb dX5_readExpression_19 rfl hl (by decide) rfl (fun ls hl => ?_)
  refine lk_X5_readExpression_20 C hr k0 (fun U21 H locs ls hf hw hl => ?_) fuel _ _ _ _ _ hf hw (lv_sub hl [1, 2, 0] rfl)
  exact jk_X5_readExpression_76 C hr k0 hf hw (lv_sub hl [0] rfl)
set_option maxHeartbeats 4000000 in
theorem ok_X5_readExpression {l : Launch} {G : gG} {T : Tt} {V0 : Vt} {o : Nat} {a0 : Int32} {V' : Vt} (hf : f_X5_readExpression T V0 o a0 = some V') : okM l G yX5_readExpression cX5_readExpression 3 none 6 [.ref (gb G + o), .int a0] V0 T none V' T 0 0 := by
  refine ok_intro (by decide) (Nat.le_of_ble_eq_true rfl) ?_
  intro p e s m below meth c ls C hr hnm hw hl
  have hx := C.1
  have hb := C.2.1
  have hown := C.2.2.2.1
  have hts := C.2.2.2.2.1
  have hl : lv_has ls 3 [(0, .ref (gb G + o)), (1, .int a0)] := hl
  unfold f_X5_readExpression at hf
  revert hf
  refine k_req (fun k0 hf => ?_)
  refine lv_aload_n hx hb dX5_readExpression_0 rfl (lv_at hl 0 rfl) ?_
  refine lv_iconst (v := (0 : Int32)) hx hb dX5_readExpression_1 (by decide) ?_
  revert hf
  refine k_stp (fun U1 eU1 hf => ?_)
  refine pf_X5_267 C hw k0 eU1 dX5_readExpression_2 (fun H locs hw => ?_)
  refine lv_aload_n hx hb dX5_readExpression_5 rfl (lv_at hl 0 rfl) ?_
  refine lv_iconst (v := (0 : Int32)) hx hb dX5_readExpression_6 (by decide) ?_
  revert hf
  refine k_stp (fun U2 eU2 hf => ?_)
  refine pf_X5_287 C hw k0 eU2 dX5_readExpression_7 (fun H locs hw => ?_)
  refine lv_iload_n hx hb dX5_readExpression_10 rfl (lv_at hl 1 rfl) ?_
  refine lv_if_eq (tgt := 18) hx hb dX5_readExpression_11 (by decide) (fun c3 => ?_) (fun c3 => ?_)
  · replace hf := ite_t c3 hf
    refine lv_iconst (v := (1 : Int32)) hx hb dX5_readExpression_18 (by decide) ?_
    exact jk_X5_readExpression_19 C hr k0 hf hw (lv_sub hl [0, 1] rfl)
  · replace hf := ite_f c3 hf
    refine lv_iconst (v := (0 : Int32)) hx hb dX5_readExpression_14 (by decide) ?_
    refine lv_goto (tgt := 19) hx hb dX5_readExpression_15 (by decide) ?_
    exact jk_X5_readExpression_19 C hr k0 hf hw (lv_sub hl [0, 1] rfl)
set_option maxHeartbeats 4000000 in
theorem jk_X5_readLaw_185 {l : Launch} {G : gG} {p : Program} {e : Env} {s : State} {m : MethodId} {args : Array Value} {below : List Frame} {meth : Method} {c : Code} {T : Tt} {V0 : Vt} {V' : Vt} (C : Cx G p s m args meth c cX5_readLaw RX5 4) (hr : meth.sig.returnType = none) {x0 : Nat} {x2 : Int32} {H : Heap} {locs : List Loc} {ls : Array Slot} (k0 : T.1 x0 = 6) (hf : f_X5_readLaw_J185 T V0 x0 x2 = some V') (hw : wS G V0 T H locs) (hl : lv_has ls 4 [(0, .ref (gb G + x0)), (2, .int x2)]) : W p l e (rmL 7 0 0) s m args below meth c H locs 0 0 (eQ G below none V' T args s 0 0) (F0 m 185 ls []) := by
  have hx := C.1
  have hb := C.2.1
  have hown := C.2.2.2.1
  have hts := C.2.2.2.2.1
  unfold f_X5_readLaw_J185 at hf
  refine lv_aload_n hx hb dX5_readLaw_185 rfl (lv_at hl 0 rfl) ?_
  revert hf
  refine k_drf (fun r36 er36 hf => ?_)
  refine gf_X5_42 C hw k0 er36 dX5_readLaw_186 ?_
  refine lv_iload_n hx hb dX5_readLaw_189 rfl (lv_at hl 1 rfl) ?_
  refine lv_bipush (v := (6 : Int32)) hx hb dX5_readLaw_190 (by decide) ?_
  refine lv_iadd hx hb dX5_readLaw_192 ?_
  refine lv_aload_n hx hb dX5_readLaw_193 rfl (lv_at hl 0 rfl) ?_
  refine gf_X5_264 C hw k0 dX5_readLaw_194 ?_
  revert hf
  refine k_req (fun h37 hf => ?_)
  revert hf
  refine k_stp (fun U38 eU38 hf => ?_)
  refine w_iast C hw h37 eU38 dX5_readLaw_197 (fun H locs hw => ?_)
  cases hf
  exact w_vret C hr hw dX5_readLaw_198
set_option maxHeartbeats 4000000 in
theorem jk_X5_readLaw_135 {l : Launch} {G : gG} {p : Program} {e : Env} {s : State} {m : MethodId} {args : Array Value} {below : List Frame} {meth : Method} {c : Code} {T : Tt} {V0 : Vt} {V' : Vt} (C : Cx G p s m args meth c cX5_readLaw RX5 4) (hr : meth.sig.returnType = none) {x0 : Nat} {x2 : Int32} {H : Heap} {locs : List Loc} {ls : Array Slot} (k0 : T.1 x0 = 6) (hf : f_X5_readLaw_J135 T V0 x0 x2 = some V') (hw : wS G V0 T H locs) (hl : lv_has ls 4 [(0, .ref (gb G + x0)), (2, .int x2)]) : W p l e (rmL 7 0 0) s m args below meth c H locs 0 0 (eQ G below none V' T args s 0 0) (F0 m 135 ls []) := by
  have hx := C.1
  have hb := C.2.1
  have hown := C.2.2.2.1
  have hts := C.2.2.2.2.1
  unfold f_X5_readLaw_J135 at hf
  refine lv_aload_n hx hb dX5_readLaw_135 rfl (lv_at hl 0 rfl) ?_
  revert hf
  refine k_drf (fun r29 er29 hf => ?_)
  refine gf_X5_42 C hw k0 er29 dX5_readLaw_136 ?_
  refine lv_iload_n hx hb dX5_readLaw_139 rfl (lv_at hl 1 rfl) ?_
  refine lv_iconst (v := (4 : Int32)) hx hb dX5_readLaw_140 (by decide) ?_
  refine lv_iadd hx hb dX5_readLaw_141 ?_
  refine lv_aload_n hx hb dX5_readLaw_142 rfl (lv_at hl 0 rfl) ?_
  refine gf_X5_264 C hw k0 dX5_readLaw_143 ?_
  revert hf
  refine k_req (fun h30 hf => ?_)
  revert hf
  refine k_stp (fun U31 eU31 hf => ?_)
  refine w_iast C hw h30 eU31 dX5_readLaw_146 (fun H locs hw => ?_)
  refine lv_aload_n hx hb dX5_readLaw_147 rfl (lv_at hl 0 rfl) ?_
  revert hf
  refine k_drf (fun r32 er32 hf => ?_)
  refine gf_X5_42 C hw k0 er32 dX5_readLaw_148 ?_
  refine lv_iload_n hx hb dX5_readLaw_151 rfl (lv_at hl 1 rfl) ?_
  refine lv_iconst (v := (5 : Int32)) hx hb dX5_readLaw_152 (by decide) ?_
  refine lv_iadd hx hb dX5_readLaw_153 ?_
  refine lv_aload_n hx hb dX5_readLaw_154 rfl (lv_at hl 0 rfl) ?_
  refine gf_X5_264 C hw k0 dX5_readLaw_155 ?_
  revert hf
  refine k_req (fun h33 hf => ?_)
  revert hf
  refine k_stp (fun U34 eU34 hf => ?_)
  refine w_iast C hw h33 eU34 dX5_readLaw_158 (fun H locs hw => ?_)
  refine lv_aload_n hx hb dX5_readLaw_159 rfl (lv_at hl 0 rfl) ?_
  refine gf_X5_229 C hw k0 dX5_readLaw_160 ?_
  refine lv_if_ne (tgt := 185) hx hb dX5_readLaw_163 (by decide) (fun c35 => ?_) (fun c35 => ?_)
  · replace hf := ite_f c35 hf
    exact jk_X5_readLaw_185 C hr k0 hf hw (lv_sub hl [0, 1] rfl)
  · replace hf := ite_t c35 hf
    refine lv_aload_n hx hb dX5_readLaw_166 rfl (lv_at hl 0 rfl) ?_
    refine lv_ldc2 (v := (294 : Int64)) hx hb hown (hts _ q1960) dX5_readLaw_167 ?_
    revert hf
    refine k_pcl (fun z40 h39 hf => ?_)
    refine w_afi hw (w_rV (As := [.long (294 : Int64)]) C hw (ok_X5_isWord h39) (cw_X5_283 hts (Nat.le_of_ble_eq_true rfl) (Nat.le_of_ble_eq_true rfl)) rfl (by decide) (of_req h39).1 rfl hl.1 rfl (Nat.le_of_ble_eq_true rfl) ⟨Nat.zero_le _, Nat.zero_le _⟩ dX5_readLaw_170) (fun H locs hw => ?_)
    refine lv_if_eq (tgt := 185) hx hb dX5_readLaw_173 (by decide) (fun c41 => ?_) (fun c41 => ?_)
    · replace hf := ite_t c41 hf
      exact jk_X5_readLaw_185 C hr k0 hf hw (lv_sub hl [0, 1] rfl)
    · replace hf := ite_f c41 hf
      refine lv_aload_n hx hb dX5_readLaw_176 rfl (lv_at hl 0 rfl) ?_
      revert hf
      refine k_pcl (fun U44 h42 hf => ?_)
      refine w_afv hw (w_rV (As := []) C hw (ok_X5_next h42) (cw_X5_233 hts (Nat.le_of_ble_eq_true rfl) (Nat.le_of_ble_eq_true rfl)) rfl (by decide) (of_req h42).1 rfl hl.1 rfl (Nat.le_of_ble_eq_true rfl) ⟨Nat.zero_le _, Nat.zero_le _⟩ dX5_readLaw_177) (fun H locs hw => ?_)
      refine lv_aload_n hx hb dX5_readLaw_180 rfl (lv_at hl 0 rfl) ?_
      refine lv_iconst (v := (1 : Int32)) hx hb dX5_readLaw_181 (by decide) ?_
      revert hf
      refine k_pcl (fun U47 h45 hf => ?_)
      refine w_afv hw (w_rV (As := [.int (1 : Int32)]) C hw (ok_X5_readExpression h45) (cw_X5_357 hts (Nat.le_of_ble_eq_true rfl) (Nat.le_of_ble_eq_true rfl)) rfl (by decide) (of_req h45).1 rfl hl.1 rfl (Nat.le_of_ble_eq_true rfl) ⟨Nat.zero_le _, Nat.zero_le _⟩ dX5_readLaw_182) (fun H locs hw => ?_)
      exact jk_X5_readLaw_185 C hr k0 hf hw (lv_sub hl [0, 1] rfl)
set_option maxHeartbeats 4000000 in
theorem lk_X5_readLaw_75 {l : Launch} {G : gG} {p : Program} {e : Env} {s : State} {m : MethodId} {args : Array Value} {below : List Frame} {meth : Method} {c : Code} {T : Tt} {V' : Vt} (C : Cx G p s m args meth c cX5_readLaw RX5 4) (hr : meth.sig.returnType = none) {x0 : Nat} {x1 : Int32} {x2 : Int32} {kx75_96 : Vt → Option (Vt)} (k0 : T.1 x0 = 6) (hkx75_96 : ∀ (W1 : Vt) (H : Heap) (locs : List Loc) (ls : Array Slot), kx75_96 W1 = some V' → wS G W1 T H locs → lv_has ls 4 [(0, .ref (gb G + x0)), (1, .int x1), (2, .int x2)] → W p l e (rmL 7 0 0) s m args below meth c H locs 0 0 (eQ G below none V' T args s 0 0) (F0 m 96 ls [])) : ∀ (n : Nat) (x3 : Int32) (V1 : Vt) (H : Heap) (locs : List Loc) (ls : Array Slot), f_X5_readLaw_L75 T x0 x1 x2 kx75_96 n x3 V1 = some V' → wS G V1 T H locs → lv_has ls 4 [(0, .ref (gb G + x0)), (1, .int x1), (2, .int x2), (3, .int x3)] → W p l e (rmL 7 0 0) s m args below meth c H locs 0 0 (eQ G below none V' T args s 0 0) (F0 m 75 ls []) := by
  have hx := C.1
  have hb := C.2.1
  have hown := C.2.2.2.1
  have hts := C.2.2.2.2.1
  intro n
  induction n with
  | zero =>
    intro x3 V1 H locs ls hf
    cases hf
  | succ n ih =>
    intro x3 V1 H locs ls hf hw hl
    unfold f_X5_readLaw_L75 at hf
    refine lv_iload_n hx hb dX5_readLaw_75 rfl (lv_at hl 3 rfl) ?_
    refine lv_bipush (v := (8 : Int32)) hx hb dX5_readLaw_76 (by decide) ?_
    refine lv_icmp_ge (tgt := 96) hx hb dX5_readLaw_78 (by decide) (fun c15 => ?_) (fun c15 => ?_)
    · replace hf := ite_t c15 hf
      exact hkx75_96 _ _ _ _ hf hw (lv_sub hl [0, 1, 2] rfl)
    · replace hf := ite_f c15 hf
      refine lv_aload_n hx hb dX5_readLaw_81 rfl (lv_at hl 0 rfl) ?_
      revert hf
      refine k_drf (fun r16 er16 hf => ?_)
      refine gf_X5_42 C hw k0 er16 dX5_readLaw_82 ?_
      refine lv_iload_n hx hb dX5_readLaw_85 rfl (lv_at hl 2 rfl) ?_
      refine lv_iload_n hx hb dX5_readLaw_86 rfl (lv_at hl 3 rfl) ?_
      refine lv_iadd hx hb dX5_readLaw_87 ?_
      refine lv_iconst (v := (0 : Int32)) hx hb dX5_readLaw_88 (by decide) ?_
      revert hf
      refine k_req (fun h17 hf => ?_)
      revert hf
      refine k_stp (fun U18 eU18 hf => ?_)
      refine w_iast C hw h17 eU18 dX5_readLaw_89 (fun H locs hw => ?_)
      revert hf
      refine k_stp (fun z19 ez19 hf => ?_)
      refine lv_iinc (k := 3) (lv' := [(3, .int z19), (0, .ref (gb G + x0)), (1, .int x1), (2, .int x2)]) hx hb dX5_readLaw_90 hl rfl (inc_e (by decide) ez19) (by decide) rfl (fun ls hl => ?_)
      refine lv_goto (tgt := 75) hx hb dX5_readLaw_93 (by decide) ?_
      exact ih _ _ _ _ _ hf hw (lv_sub hl [1, 2, 3, 0] rfl)
set_option maxHeartbeats 4000000 in
theorem jk_X5_readLaw_54 {l : Launch} {G : gG} {p : Program} {e : Env} {s : State} {m : MethodId} {args : Array Value} {below : List Frame} {meth : Method} {c : Code} {T : Tt} {V0 : Vt} {V' : Vt} (C : Cx G p s m args meth c cX5_readLaw RX5 4) (hr : meth.sig.returnType = none) {x0 : Nat} {x1 : Int32} {s0 : Nat} {s1 : Int32} {H : Heap} {locs : List Loc} {ls : Array Slot} (k0 : T.1 x0 = 6) (hf : f_X5_readLaw_J54 T V0 x0 x1 s0 s1 = some V') (hw : wS G V0 T H locs) (hl : lv_has ls 4 [(0, .ref (gb G + x0)), (1, .int x1)]) : W p l e (rmL 7 0 0) s m args below meth c H locs 0 0 (eQ G below none V' T args s 0 0) (F0 m 54 ls [.int s1, .ref (gb G + s0)]) := by
  have hx := C.1
  have hb := C.2.1
  have hown := C.2.2.2.1
  have hts := C.2.2.2.2.1
  unfold f_X5_readLaw_J54 at hf
  revert hf
  refine k_pcl (fun U12 h10 hf => ?_)
  refine w_afv hw (w_rV (As := [.int s1]) C hw (ok_X5_must h10) (cw_X5_260 hts (Nat.le_of_ble_eq_true rfl) (Nat.le_of_ble_eq_true rfl)) rfl (by decide) (of_req h10).1 rfl hl.1 rfl (Nat.le_of_ble_eq_true rfl) ⟨Nat.zero_le _, Nat.zero_le _⟩ dX5_readLaw_54) (fun H locs hw => ?_)
  refine lv_aload_n hx hb dX5_readLaw_57 rfl (lv_at hl 0 rfl) ?_
  refine gf_X5_229 C hw k0 dX5_readLaw_58 ?_
  refine lv_if_eq (tgt := 65) hx hb dX5_readLaw_61 (by decide) (fun c13 => ?_) (fun c13 => ?_)
  · replace hf := ite_t c13 hf
    refine lv_bipush (v := (8 : Int32)) hx hb dX5_readLaw_65 (by decide) ?_
    refine lv_aload_n hx hb dX5_readLaw_67 rfl (lv_at hl 0 rfl) ?_
    refine gf_X5_354 C hw k0 dX5_readLaw_68 ?_
    refine lv_imul hx hb dX5_readLaw_71 ?_
    revert hf
    refine k_stp (fun z14 ez14 hf => ?_)
    refine w_nmI ez14 ?_
    refine lv_istore_n (lv' := [(2, .int z14), (0, .ref (gb G + x0)), (1, .int x1)]) hx hb dX5_readLaw_72 rfl hl (by decide) rfl (fun ls hl => ?_)
    refine lv_iconst (v := (0 : Int32)) hx hb dX5_readLaw_73 (by decide) ?_
    refine lv_istore_n (lv' := [(3, .int (0 : Int32)), (2, .int z14), (0, .ref (gb G + x0)), (1, .int x1)]) hx hb dX5_readLaw_74 rfl hl (by decide) rfl (fun ls hl => ?_)
    refine lk_X5_readLaw_75 C hr k0 (fun U20 H locs ls hf hw hl => ?_) fuel _ _ _ _ _ hf hw (lv_sub hl [2, 3, 1, 0] rfl)
    refine lv_aload_n hx hb dX5_readLaw_96 rfl (lv_at hl 0 rfl) ?_
    revert hf
    refine k_drf (fun r21 er21 hf => ?_)
    refine gf_X5_42 C hw k0 er21 dX5_readLaw_97 ?_
    refine lv_iload_n hx hb dX5_readLaw_100 rfl (lv_at hl 2 rfl) ?_
    refine lv_iload_n hx hb dX5_readLaw_101 rfl (lv_at hl 1 rfl) ?_
    revert hf
    refine k_req (fun h22 hf => ?_)
    revert hf
    refine k_stp (fun U23 eU23 hf => ?_)
    refine w_iast C hw h22 eU23 dX5_readLaw_102 (fun H locs hw => ?_)
    refine lv_aload_n hx hb dX5_readLaw_103 rfl (lv_at hl 0 rfl) ?_
    refine lv_dup hx hb dX5_readLaw_104 rfl ?_
    refine gf_X5_354 C hw k0 dX5_readLaw_105 ?_
    refine lv_iconst (v := (1 : Int32)) hx hb dX5_readLaw_108 (by decide) ?_
    refine lv_iadd hx hb dX5_readLaw_109 ?_
    revert hf
    refine k_stp (fun U24 eU24 hf => ?_)
    refine pf_X5_354 C hw k0 eU24 dX5_readLaw_110 (fun H locs hw => ?_)
    refine lv_aload_n hx hb dX5_readLaw_113 rfl (lv_at hl 0 rfl) ?_
    revert hf
    refine k_drf (fun r25 er25 hf => ?_)
    refine gf_X5_42 C hw k0 er25 dX5_readLaw_114 ?_
    refine lv_iload_n hx hb dX5_readLaw_117 rfl (lv_at hl 2 rfl) ?_
    refine lv_iconst (v := (3 : Int32)) hx hb dX5_readLaw_118 (by decide) ?_
    refine lv_iadd hx hb dX5_readLaw_119 ?_
    refine lv_aload_n hx hb dX5_readLaw_120 rfl (lv_at hl 0 rfl) ?_
    refine gf_X5_264 C hw k0 dX5_readLaw_121 ?_
    revert hf
    refine k_req (fun h26 hf => ?_)
    revert hf
    refine k_stp (fun U27 eU27 hf => ?_)
    refine w_iast C hw h26 eU27 dX5_readLaw_124 (fun H locs hw => ?_)
    refine lv_iload_n hx hb dX5_readLaw_125 rfl (lv_at hl 1 rfl) ?_
    refine lv_iconst (v := (2 : Int32)) hx hb dX5_readLaw_126 (by decide) ?_
    refine lv_icmp_eq (tgt := 135) hx hb dX5_readLaw_127 (by decide) (fun c28 => ?_) (fun c28 => ?_)
    · replace hf := ite_t c28 hf
      exact jk_X5_readLaw_135 C hr k0 hf hw (lv_sub hl [0, 2] rfl)
    · replace hf := ite_f c28 hf
      refine lv_aload_n hx hb dX5_readLaw_130 rfl (lv_at hl 0 rfl) ?_
      refine lv_iconst (v := (0 : Int32)) hx hb dX5_readLaw_131 (by decide) ?_
      revert hf
      refine k_pcl (fun U50 h48 hf => ?_)
      refine w_afv hw (w_rV (As := [.int (0 : Int32)]) C hw (ok_X5_readExpression h48) (cw_X5_357 hts (Nat.le_of_ble_eq_true rfl) (Nat.le_of_ble_eq_true rfl)) rfl (by decide) (of_req h48).1 rfl hl.1 rfl (Nat.le_of_ble_eq_true rfl) ⟨Nat.zero_le _, Nat.zero_le _⟩ dX5_readLaw_132) (fun H locs hw => ?_)
      exact jk_X5_readLaw_135 C hr k0 hf hw (lv_sub hl [0, 2] rfl)
  · replace hf := ite_f c13 hf
    cases hf
    exact w_vret C hr hw dX5_readLaw_64
set_option maxHeartbeats 4000000 in
theorem jk_X5_readLaw_53 {l : Launch} {G : gG} {p : Program} {e : Env} {s : State} {m : MethodId} {args : Array Value} {below : List Frame} {meth : Method} {c : Code} {T : Tt} {V0 : Vt} {V' : Vt} (C : Cx G p s m args meth c cX5_readLaw RX5 4) (hr : meth.sig.returnType = none) {x0 : Nat} {x1 : Int32} {s0 : Nat} {H : Heap} {locs : List Loc} {ls : Array Slot} (k0 : T.1 x0 = 6) (hf : f_X5_readLaw_J53 T V0 x0 x1 s0 = some V') (hw : wS G V0 T H locs) (hl : lv_has ls 4 [(0, .ref (gb G + x0)), (1, .int x1)]) : W p l e (rmL 7 0 0) s m args below meth c H locs 0 0 (eQ G below none V' T args s 0 0) (F0 m 53 ls [.ref (gb G + s0)]) := by
  have hx := C.1
  have hb := C.2.1
  have hown := C.2.2.2.1
  have hts := C.2.2.2.2.1
  unfold f_X5_readLaw_J53 at hf
  refine lv_iconst (v := (0 : Int32)) hx hb dX5_readLaw_53 (by decide) ?_
  exact jk_X5_readLaw_54 C hr k0 hf hw (lv_sub hl [0, 1] rfl)
set_option maxHeartbeats 4000000 in
theorem jk_X5_readLaw_27 {l : Launch} {G : gG} {p : Program} {e : Env} {s : State} {m : MethodId} {args : Array Value} {below : List Frame} {meth : Method} {c : Code} {T : Tt} {V0 : Vt} {V' : Vt} (C : Cx G p s m args meth c cX5_readLaw RX5 4) (hr : meth.sig.returnType = none) {x0 : Nat} {x2 : Int32} {s0 : Int32} {kc4 : Int32 → Int32 → Option (Vt)} {kx4_34 : Int32 → Option (Vt)} {H : Heap} {locs : List Loc} {ls : Array Slot} (k0 : T.1 x0 = 6) (hf : f_X5_readLaw_J27 T V0 x0 x2 s0 kc4 kx4_34 = some V') (hw : wS G V0 T H locs) (hl : lv_has ls 4 [(0, .ref (gb G + x0)), (2, .int x2)]) (hkc4 : ∀ (y1 : Int32) (y2 : Int32) (H : Heap) (locs : List Loc) (ls : Array Slot), kc4 y1 y2 = some V' → wS G V0 T H locs → lv_has ls 4 [(0, .ref (gb G + x0)), (1, .int y1), (2, .int y2)] → W p l e (rmL 7 0 0) s m args below meth c H locs 0 0 (eQ G below none V' T args s 0 0) (F0 m 4 ls [])) (hkx4_34 : ∀ (y1 : Int32) (H : Heap) (locs : List Loc) (ls : Array Slot), kx4_34 y1 = some V' → wS G V0 T H locs → lv_has ls 4 [(0, .ref (gb G + x0)), (1, .int y1)] → W p l e (rmL 7 0 0) s m args below meth c H locs 0 0 (eQ G below none V' T args s 0 0) (F0 m 34 ls [])) : W p l e (rmL 7 0 0) s m args below meth c H locs 0 0 (eQ G below none V' T args s 0 0) (F0 m 27 ls [.int s0]) := by
  have hx := C.1
  have hb := C.2.1
  have hown := C.2.2.2.1
  have hts := C.2.2.2.2.1
  unfold f_X5_readLaw_J27 at hf
  refine lv_istore_n (lv' := [(1, .int s0), (0, .ref (gb G + x0)), (2, .int x2)]) hx hb dX5_readLaw_27 rfl hl (by decide) rfl (fun ls hl => ?_)
  revert hf
  refine k_stp (fun z7 ez7 hf => ?_)
  refine lv_iinc (k := 2) (lv' := [(2, .int z7), (1, .int s0), (0, .ref (gb G + x0))]) hx hb dX5_readLaw_28 hl rfl (inc_e (by decide) ez7) (by decide) rfl (fun ls hl => ?_)
  refine lv_goto (tgt := 4) hx hb dX5_readLaw_31 (by decide) ?_
  exact hkc4 _ _ _ _ _ hf hw (lv_sub hl [2, 1, 0] rfl)
set_option maxHeartbeats 4000000 in
theorem lk_X5_readLaw_4 {l : Launch} {G : gG} {p : Program} {e : Env} {s : State} {m : MethodId} {args : Array Value} {below : List Frame} {meth : Method} {c : Code} {T : Tt} {V0 : Vt} {V' : Vt} (C : Cx G p s m args meth c cX5_readLaw RX5 4) (hr : meth.sig.returnType = none) {x0 : Nat} {kx4_34 : Int32 → Option (Vt)} (k0 : T.1 x0 = 6) (hkx4_34 : ∀ (y1 : Int32) (H : Heap) (locs : List Loc) (ls : Array Slot), kx4_34 y1 = some V' → wS G V0 T H locs → lv_has ls 4 [(0, .ref (gb G + x0)), (1, .int y1)] → W p l e (rmL 7 0 0) s m args below meth c H locs 0 0 (eQ G below none V' T args s 0 0) (F0 m 34 ls [])) : ∀ (n : Nat) (x1 : Int32) (x2 : Int32) (H : Heap) (locs : List Loc) (ls : Array Slot), f_X5_readLaw_L4 T V0 x0 kx4_34 n x1 x2 = some V' → wS G V0 T H locs → lv_has ls 4 [(0, .ref (gb G + x0)), (1, .int x1), (2, .int x2)] → W p l e (rmL 7 0 0) s m args below meth c H locs 0 0 (eQ G below none V' T args s 0 0) (F0 m 4 ls []) := by
  have hx := C.1
  have hb := C.2.1
  have hown := C.2.2.2.1
  have hts := C.2.2.2.2.1
  intro n
  induction n with
  | zero =>
    intro x1 x2 H locs ls hf
    cases hf
  | succ n ih =>
    intro x1 x2 H locs ls hf hw hl
    unfold f_X5_readLaw_L4 at hf
    refine lv_iload_n hx hb dX5_readLaw_4 rfl (lv_at hl 2 rfl) ?_
    refine lv_iconst (v := (3 : Int32)) hx hb dX5_readLaw_5 (by decide) ?_
    refine lv_icmp_ge (tgt := 34) hx hb dX5_readLaw_6 (by decide) (fun c1 => ?_) (fun c1 => ?_)
    · replace hf := ite_t c1 hf
      exact hkx4_34 _ _ _ _ hf hw (lv_sub hl [0, 1] rfl)
    · replace hf := ite_f c1 hf
      refine lv_aload_n hx hb dX5_readLaw_9 rfl (lv_at hl 0 rfl) ?_
      refine lv_aload_n hx hb dX5_readLaw_10 rfl (lv_at hl 0 rfl) ?_
      revert hf
      refine k_drf (fun r2 er2 hf => ?_)
      refine gf_X5_92 C hw k0 er2 dX5_readLaw_11 ?_
      refine lv_iload_n hx hb dX5_readLaw_14 rfl (lv_at hl 2 rfl) ?_
      revert hf
      refine k_req (fun h3 hf => ?_)
      refine w_lald C hw h3 rfl dX5_readLaw_15 ?_
      revert hf
      refine k_pcl (fun z5 h4 hf => ?_)
      refine w_afi hw (w_rV (As := [.long (V0.2.1 r2 (ixN x2))]) C hw (ok_X5_isWord h4) (cw_X5_283 hts (Nat.le_of_ble_eq_true rfl) (Nat.le_of_ble_eq_true rfl)) rfl (by decide) (of_req h4).1 rfl hl.1 rfl (Nat.le_of_ble_eq_true rfl) ⟨Nat.zero_le _, Nat.zero_le _⟩ dX5_readLaw_16) (fun H locs hw => ?_)
      refine lv_if_eq (tgt := 26) hx hb dX5_readLaw_19 (by decide) (fun c6 => ?_) (fun c6 => ?_)
      · replace hf := ite_t c6 hf
        refine lv_iload_n hx hb dX5_readLaw_26 rfl (lv_at hl 1 rfl) ?_
        exact jk_X5_readLaw_27 C hr k0 hf hw (lv_sub hl [0, 2] rfl) ih hkx4_34
      · replace hf := ite_f c6 hf
        refine lv_iload_n hx hb dX5_readLaw_22 rfl (lv_at hl 2 rfl) ?_
        refine lv_goto (tgt := 27) hx hb dX5_readLaw_23 (by decide) ?_
        exact jk_X5_readLaw_27 C hr k0 hf hw (lv_sub hl [0, 2] rfl) ih hkx4_34
set_option maxHeartbeats 4000000 in
theorem ok_X5_readLaw {l : Launch} {G : gG} {T : Tt} {V0 : Vt} {o : Nat} {V' : Vt} (hf : f_X5_readLaw T V0 o = some V') : okM l G yX5_readLaw cX5_readLaw 4 none 7 [.ref (gb G + o)] V0 T none V' T 0 0 := by
  refine ok_intro (by decide) (Nat.le_of_ble_eq_true rfl) ?_
  intro p e s m below meth c ls C hr hnm hw hl
  have hx := C.1
  have hb := C.2.1
  have hown := C.2.2.2.1
  have hts := C.2.2.2.2.1
  have hl : lv_has ls 4 [(0, .ref (gb G + o))] := hl
  unfold f_X5_readLaw at hf
  revert hf
  refine k_req (fun k0 hf => ?_)
  refine lv_iconst (v := ((-1) : Int32)) hx hb dX5_readLaw_0 (by decide) ?_
  refine lv_istore_n (lv' := [(1, .int ((-1) : Int32)), (0, .ref (gb G + o))]) hx hb dX5_readLaw_1 rfl hl (by decide) rfl (fun ls hl => ?_)
  refine lv_iconst (v := (0 : Int32)) hx hb dX5_readLaw_2 (by decide) ?_
  refine lv_istore_n (lv' := [(2, .int (0 : Int32)), (1, .int ((-1) : Int32)), (0, .ref (gb G + o))]) hx hb dX5_readLaw_3 rfl hl (by decide) rfl (fun ls hl => ?_)
  refine lk_X5_readLaw_4 C hr k0 (fun z8 H locs ls hf hw hl => ?_) fuel _ _ _ _ _ hf hw (lv_sub hl [2, 1, 0] rfl)
  refine lv_aload_n hx hb dX5_readLaw_34 rfl (lv_at hl 0 rfl) ?_
  refine lv_iload_n hx hb dX5_readLaw_35 rfl (lv_at hl 1 rfl) ?_
  refine lv_iconst (v := ((-1) : Int32)) hx hb dX5_readLaw_36 (by decide) ?_
  refine lv_icmp_eq (tgt := 53) hx hb dX5_readLaw_37 (by decide) (fun c9 => ?_) (fun c9 => ?_)
  · replace hf := ite_t c9 hf
    exact jk_X5_readLaw_53 C hr k0 hf hw (lv_sub hl [0, 1] rfl)
  · replace hf := ite_f c9 hf
    refine lv_aload_n hx hb dX5_readLaw_40 rfl (lv_at hl 0 rfl) ?_
    refine gf_X5_354 C hw k0 dX5_readLaw_41 ?_
    refine lv_bipush (v := (12 : Int32)) hx hb dX5_readLaw_44 (by decide) ?_
    refine lv_icmp_ge (tgt := 53) hx hb dX5_readLaw_46 (by decide) (fun c51 => ?_) (fun c51 => ?_)
    · replace hf := ite_t c51 hf
      exact jk_X5_readLaw_53 C hr k0 hf hw (lv_sub hl [0, 1] rfl)
    · replace hf := ite_f c51 hf
      refine lv_iconst (v := (1 : Int32)) hx hb dX5_readLaw_49 (by decide) ?_
      refine lv_goto (tgt := 54) hx hb dX5_readLaw_50 (by decide) ?_
      exact jk_X5_readLaw_54 C hr k0 hf hw (lv_sub hl [0, 1] rfl)
set_option maxHeartbeats 4000000 in
theorem jk_X5_endText_19 {l : Launch} {G : gG} {p : Program} {e : Env} {s : State} {m : MethodId} {args : Array Value} {below : List Frame} {meth : Method} {c : Code} {T : Tt} {V0 : Vt} {V' : Vt} (C : Cx G p s m args meth c cX5_endText RX5 1) (hr : meth.sig.returnType = none) {x0 : Nat} {H : Heap} {locs : List Loc} {ls : Array Slot} (k0 : T.1 x0 = 6) (hf : f_X5_endText_J19 T V0 x0 = some V') (hw : wS G V0 T H locs) (hl : lv_has ls 1 [(0, .ref (gb G + x0))]) : W p l e (rmL 3 0 0) s m args below meth c H locs 0 0 (eQ G below none V' T args s 0 0) (F0 m 19 ls []) := by
  have hx := C.1
  have hb := C.2.1
  have hown := C.2.2.2.1
  have hts := C.2.2.2.2.1
  unfold f_X5_endText_J19 at hf
  refine lv_aload_n hx hb dX5_endText_19 rfl (lv_at hl 0 rfl) ?_
  refine lv_iconst (v := (0 : Int32)) hx hb dX5_endText_20 (by decide) ?_
  revert hf
  refine k_stp (fun U2 eU2 hf => ?_)
  refine pf_X5_302 C hw k0 (by decide) eU2 dX5_endText_21 (fun H locs hw => ?_)
  refine lv_aload_n hx hb dX5_endText_24 rfl (lv_at hl 0 rfl) ?_
  refine lv_iconst (v := (0 : Int32)) hx hb dX5_endText_25 (by decide) ?_
  revert hf
  refine k_stp (fun U3 eU3 hf => ?_)
  refine pf_X5_217 C hw k0 eU3 dX5_endText_26 (fun H locs hw => ?_)
  cases hf
  exact w_vret C hr hw dX5_endText_29
set_option maxHeartbeats 4000000 in
theorem ok_X5_endText {l : Launch} {G : gG} {T : Tt} {V0 : Vt} {o : Nat} {V' : Vt} (hf : f_X5_endText T V0 o = some V') : okM l G yX5_endText cX5_endText 1 none 3 [.ref (gb G + o)] V0 T none V' T 0 0 := by
  refine ok_intro (by decide) (Nat.le_of_ble_eq_true rfl) ?_
  intro p e s m below meth c ls C hr hnm hw hl
  have hx := C.1
  have hb := C.2.1
  have hown := C.2.2.2.1
  have hts := C.2.2.2.2.1
  have hl : lv_has ls 1 [(0, .ref (gb G + o))] := hl
  unfold f_X5_endText at hf
  revert hf
  refine k_req (fun k0 hf => ?_)
  refine lv_aload_n hx hb dX5_endText_0 rfl (lv_at hl 0 rfl) ?_
  refine gf_X5_229 C hw k0 dX5_endText_1 ?_
  refine lv_if_ne (tgt := 19) hx hb dX5_endText_4 (by decide) (fun c1 => ?_) (fun c1 => ?_)
  · replace hf := ite_f c1 hf
    exact jk_X5_endText_19 C hr k0 hf hw (lv_sub hl [0] rfl)
  · replace hf := ite_t c1 hf
    refine lv_aload_n hx hb dX5_endText_7 rfl (lv_at hl 0 rfl) ?_
    refine gf_X5_249 C hw k0 dX5_endText_8 ?_
    refine lv_if_eq (tgt := 19) hx hb dX5_endText_11 (by decide) (fun c4 => ?_) (fun c4 => ?_)
    · replace hf := ite_t c4 hf
      exact jk_X5_endText_19 C hr k0 hf hw (lv_sub hl [0] rfl)
    · replace hf := ite_f c4 hf
      refine lv_aload_n hx hb dX5_endText_14 rfl (lv_at hl 0 rfl) ?_
      refine lv_iconst (v := (0 : Int32)) hx hb dX5_endText_15 (by decide) ?_
      revert hf
      refine k_pcl (fun U7 h5 hf => ?_)
      refine w_afv hw (w_rV (As := [.int (0 : Int32)]) C hw (ok_X5_must h5) (cw_X5_260 hts (Nat.le_of_ble_eq_true rfl) (Nat.le_of_ble_eq_true rfl)) rfl (by decide) (of_req h5).1 rfl hl.1 rfl (Nat.le_of_ble_eq_true rfl) ⟨Nat.zero_le _, Nat.zero_le _⟩ dX5_endText_16) (fun H locs hw => ?_)
      exact jk_X5_endText_19 C hr k0 hf hw (lv_sub hl [0] rfl)
set_option maxHeartbeats 4000000 in
theorem lk_X5_law_146 {l : Launch} {G : gG} {p : Program} {e : Env} {s : State} {m : MethodId} {args : Array Value} {below : List Frame} {meth : Method} {c : Code} {T : Tt} {r : Int32} {V' : Vt} (C : Cx G p s m args meth c cX5_law RX5 3) (hr : meth.sig.returnType = (some .int)) {x0 : Nat} {x1 : Int32} {kx146_200 : Vt → Option (Int32 × Vt)} (k0 : T.1 x0 = 6) (hkx146_200 : ∀ (W1 : Vt) (H : Heap) (locs : List Loc) (ls : Array Slot), kx146_200 W1 = some (r, V') → wS G W1 T H locs → lv_has ls 3 [(0, .ref (gb G + x0))] → W p l e (rmL 8 0 0) s m args below meth c H locs 0 0 (eQ G below (some (.int r)) V' T args s 0 0) (F0 m 200 ls [])) : ∀ (n : Nat) (x2 : Int32) (V1 : Vt) (H : Heap) (locs : List Loc) (ls : Array Slot), f_X5_law_L146 T x0 x1 kx146_200 n x2 V1 = some (r, V') → wS G V1 T H locs → lv_has ls 3 [(0, .ref (gb G + x0)), (1, .int x1), (2, .int x2)] → W p l e (rmL 8 0 0) s m args below meth c H locs 0 0 (eQ G below (some (.int r)) V' T args s 0 0) (F0 m 146 ls []) := by
  have hx := C.1
  have hb := C.2.1
  have hown := C.2.2.2.1
  have hts := C.2.2.2.2.1
  intro n
  induction n with
  | zero =>
    intro x2 V1 H locs ls hf
    cases hf
  | succ n ih =>
    intro x2 V1 H locs ls hf hw hl
    unfold f_X5_law_L146 at hf
    refine lv_iload_n hx hb dX5_law_146 rfl (lv_at hl 2 rfl) ?_
    refine lv_aload_n hx hb dX5_law_147 rfl (lv_at hl 0 rfl) ?_
    refine gf_X5_264 C hw k0 dX5_law_148 ?_
    refine lv_icmp_ge (tgt := 200) hx hb dX5_law_151 (by decide) (fun c40 => ?_) (fun c40 => ?_)
    · replace hf := ite_t c40 hf
      exact hkx146_200 _ _ _ _ hf hw (lv_sub hl [0] rfl)
    · replace hf := ite_f c40 hf
      refine lv_aload_n hx hb dX5_law_154 rfl (lv_at hl 0 rfl) ?_
      revert hf
      refine k_drf (fun r41 er41 hf => ?_)
      refine gf_X5_13 C hw k0 er41 dX5_law_155 ?_
      refine lv_iload_n hx hb dX5_law_158 rfl (lv_at hl 1 rfl) ?_
      refine lv_bipush (v := (98 : Int32)) hx hb dX5_law_159 (by decide) ?_
      refine lv_iadd hx hb dX5_law_161 ?_
      refine lv_iconst (v := (2 : Int32)) hx hb dX5_law_162 (by decide) ?_
      refine lv_iload_n hx hb dX5_law_163 rfl (lv_at hl 2 rfl) ?_
      refine lv_imul hx hb dX5_law_164 ?_
      refine lv_iadd hx hb dX5_law_165 ?_
      refine lv_aload_n hx hb dX5_law_166 rfl (lv_at hl 0 rfl) ?_
      revert hf
      refine k_drf (fun r42 er42 hf => ?_)
      refine gf_X5_45 C hw k0 er42 dX5_law_167 ?_
      refine lv_iload_n hx hb dX5_law_170 rfl (lv_at hl 2 rfl) ?_
      revert hf
      refine k_req (fun h43 hf => ?_)
      refine w_iald C hw h43 rfl dX5_law_171 ?_
      revert hf
      refine k_req (fun h44 hf => ?_)
      revert hf
      refine k_stp (fun U45 eU45 hf => ?_)
      refine w_iast C hw h44 eU45 dX5_law_172 (fun H locs hw => ?_)
      refine lv_aload_n hx hb dX5_law_173 rfl (lv_at hl 0 rfl) ?_
      revert hf
      refine k_drf (fun r46 er46 hf => ?_)
      refine gf_X5_13 C hw k0 er46 dX5_law_174 ?_
      refine lv_iload_n hx hb dX5_law_177 rfl (lv_at hl 1 rfl) ?_
      refine lv_bipush (v := (98 : Int32)) hx hb dX5_law_178 (by decide) ?_
      refine lv_iadd hx hb dX5_law_180 ?_
      refine lv_iconst (v := (2 : Int32)) hx hb dX5_law_181 (by decide) ?_
      refine lv_iload_n hx hb dX5_law_182 rfl (lv_at hl 2 rfl) ?_
      refine lv_imul hx hb dX5_law_183 ?_
      refine lv_iadd hx hb dX5_law_184 ?_
      refine lv_iconst (v := (1 : Int32)) hx hb dX5_law_185 (by decide) ?_
      refine lv_iadd hx hb dX5_law_186 ?_
      refine lv_aload_n hx hb dX5_law_187 rfl (lv_at hl 0 rfl) ?_
      revert hf
      refine k_drf (fun r47 er47 hf => ?_)
      refine gf_X5_48 C hw k0 er47 dX5_law_188 ?_
      refine lv_iload_n hx hb dX5_law_191 rfl (lv_at hl 2 rfl) ?_
      revert hf
      refine k_req (fun h48 hf => ?_)
      refine w_iald C hw h48 rfl dX5_law_192 ?_
      revert hf
      refine k_req (fun h49 hf => ?_)
      revert hf
      refine k_stp (fun U50 eU50 hf => ?_)
      refine w_iast C hw h49 eU50 dX5_law_193 (fun H locs hw => ?_)
      revert hf
      refine k_stp (fun z51 ez51 hf => ?_)
      refine lv_iinc (k := 2) (lv' := [(2, .int z51), (0, .ref (gb G + x0)), (1, .int x1)]) hx hb dX5_law_194 hl rfl (inc_e (by decide) ez51) (by decide) rfl (fun ls hl => ?_)
      refine lv_goto (tgt := 146) hx hb dX5_law_197 (by decide) ?_
      exact ih _ _ _ _ _ hf hw (lv_sub hl [1, 2, 0] rfl)
set_option maxHeartbeats 4000000 in
theorem lk_X5_law_111 {l : Launch} {G : gG} {p : Program} {e : Env} {s : State} {m : MethodId} {args : Array Value} {below : List Frame} {meth : Method} {c : Code} {T : Tt} {r : Int32} {V' : Vt} (C : Cx G p s m args meth c cX5_law RX5 3) (hr : meth.sig.returnType = (some .int)) {x0 : Nat} {x1 : Int32} {kx111_144 : Vt → Option (Int32 × Vt)} (k0 : T.1 x0 = 6) (hkx111_144 : ∀ (W1 : Vt) (H : Heap) (locs : List Loc) (ls : Array Slot), kx111_144 W1 = some (r, V') → wS G W1 T H locs → lv_has ls 3 [(0, .ref (gb G + x0)), (1, .int x1)] → W p l e (rmL 8 0 0) s m args below meth c H locs 0 0 (eQ G below (some (.int r)) V' T args s 0 0) (F0 m 144 ls [])) : ∀ (n : Nat) (x2 : Int32) (V1 : Vt) (H : Heap) (locs : List Loc) (ls : Array Slot), f_X5_law_L111 T x0 x1 kx111_144 n x2 V1 = some (r, V') → wS G V1 T H locs → lv_has ls 3 [(0, .ref (gb G + x0)), (1, .int x1), (2, .int x2)] → W p l e (rmL 8 0 0) s m args below meth c H locs 0 0 (eQ G below (some (.int r)) V' T args s 0 0) (F0 m 111 ls []) := by
  have hx := C.1
  have hb := C.2.1
  have hown := C.2.2.2.1
  have hts := C.2.2.2.2.1
  intro n
  induction n with
  | zero =>
    intro x2 V1 H locs ls hf
    cases hf
  | succ n ih =>
    intro x2 V1 H locs ls hf hw hl
    unfold f_X5_law_L111 at hf
    refine lv_iload_n hx hb dX5_law_111 rfl (lv_at hl 2 rfl) ?_
    refine lv_bipush (v := (8 : Int32)) hx hb dX5_law_112 (by decide) ?_
    refine lv_aload_n hx hb dX5_law_114 rfl (lv_at hl 0 rfl) ?_
    refine gf_X5_354 C hw k0 dX5_law_115 ?_
    refine lv_imul hx hb dX5_law_118 ?_
    refine lv_icmp_ge (tgt := 144) hx hb dX5_law_119 (by decide) (fun c32 => ?_) (fun c32 => ?_)
    · replace hf := ite_t c32 hf
      exact hkx111_144 _ _ _ _ hf hw (lv_sub hl [0, 1] rfl)
    · replace hf := ite_f c32 hf
      refine lv_aload_n hx hb dX5_law_122 rfl (lv_at hl 0 rfl) ?_
      revert hf
      refine k_drf (fun r33 er33 hf => ?_)
      refine gf_X5_13 C hw k0 er33 dX5_law_123 ?_
      refine lv_iload_n hx hb dX5_law_126 rfl (lv_at hl 1 rfl) ?_
      refine lv_iconst (v := (2 : Int32)) hx hb dX5_law_127 (by decide) ?_
      refine lv_iadd hx hb dX5_law_128 ?_
      refine lv_iload_n hx hb dX5_law_129 rfl (lv_at hl 2 rfl) ?_
      refine lv_iadd hx hb dX5_law_130 ?_
      refine lv_aload_n hx hb dX5_law_131 rfl (lv_at hl 0 rfl) ?_
      revert hf
      refine k_drf (fun r34 er34 hf => ?_)
      refine gf_X5_42 C hw k0 er34 dX5_law_132 ?_
      refine lv_iload_n hx hb dX5_law_135 rfl (lv_at hl 2 rfl) ?_
      revert hf
      refine k_req (fun h35 hf => ?_)
      refine w_iald C hw h35 rfl dX5_law_136 ?_
      revert hf
      refine k_req (fun h36 hf => ?_)
      revert hf
      refine k_stp (fun U37 eU37 hf => ?_)
      refine w_iast C hw h36 eU37 dX5_law_137 (fun H locs hw => ?_)
      revert hf
      refine k_stp (fun z38 ez38 hf => ?_)
      refine lv_iinc (k := 2) (lv' := [(2, .int z38), (0, .ref (gb G + x0)), (1, .int x1)]) hx hb dX5_law_138 hl rfl (inc_e (by decide) ez38) (by decide) rfl (fun ls hl => ?_)
      refine lv_goto (tgt := 111) hx hb dX5_law_141 (by decide) ?_
      exact ih _ _ _ _ _ hf hw (lv_sub hl [1, 2, 0] rfl)
set_option maxHeartbeats 4000000 in
theorem jk_X5_law_64 {l : Launch} {G : gG} {p : Program} {e : Env} {s : State} {m : MethodId} {args : Array Value} {below : List Frame} {meth : Method} {c : Code} {T : Tt} {V0 : Vt} {r : Int32} {V' : Vt} (C : Cx G p s m args meth c cX5_law RX5 3) (hr : meth.sig.returnType = (some .int)) {x0 : Nat} {H : Heap} {locs : List Loc} {ls : Array Slot} (k0 : T.1 x0 = 6) (hf : f_X5_law_J64 T V0 x0 = some (r, V')) (hw : wS G V0 T H locs) (hl : lv_has ls 3 [(0, .ref (gb G + x0))]) : W p l e (rmL 8 0 0) s m args below meth c H locs 0 0 (eQ G below (some (.int r)) V' T args s 0 0) (F0 m 64 ls []) := by
  have hx := C.1
  have hb := C.2.1
  have hown := C.2.2.2.1
  have hts := C.2.2.2.2.1
  unfold f_X5_law_J64 at hf
  refine lv_aload_n hx hb dX5_law_64 rfl (lv_at hl 0 rfl) ?_
  revert hf
  refine k_pcl (fun U24 h22 hf => ?_)
  refine w_afv hw (w_rV (As := []) C hw (ok_X5_endText h22) (cw_X5_368 hts (Nat.le_of_ble_eq_true rfl) (Nat.le_of_ble_eq_true rfl)) rfl (by decide) (of_req h22).1 rfl hl.1 rfl (Nat.le_of_ble_eq_true rfl) ⟨Nat.zero_le _, Nat.zero_le _⟩ dX5_law_65) (fun H locs hw => ?_)
  refine lv_aload_n hx hb dX5_law_68 rfl (lv_at hl 0 rfl) ?_
  refine gf_X5_229 C hw k0 dX5_law_69 ?_
  refine lv_if_eq (tgt := 82) hx hb dX5_law_72 (by decide) (fun c25 => ?_) (fun c25 => ?_)
  · replace hf := ite_t c25 hf
    refine lv_sipush (v := (3990 : Int32)) hx hb dX5_law_82 (by decide) ?_
    refine lv_sipush (v := (900 : Int32)) hx hb dX5_law_85 (by decide) ?_
    refine lv_aload_n hx hb dX5_law_88 rfl (lv_at hl 0 rfl) ?_
    revert hf
    refine k_drf (fun r26 er26 hf => ?_)
    refine gf_X5_13 C hw k0 er26 dX5_law_89 ?_
    refine lv_iconst (v := (2 : Int32)) hx hb dX5_law_92 (by decide) ?_
    revert hf
    refine k_req (fun h27 hf => ?_)
    refine w_iald C hw h27 rfl dX5_law_93 ?_
    refine lv_imul hx hb dX5_law_94 ?_
    refine lv_iadd hx hb dX5_law_95 ?_
    revert hf
    refine k_stp (fun z28 ez28 hf => ?_)
    refine w_nmI ez28 ?_
    refine lv_istore_n (lv' := [(1, .int z28), (0, .ref (gb G + x0))]) hx hb dX5_law_96 rfl hl (by decide) rfl (fun ls hl => ?_)
    refine lv_aload_n hx hb dX5_law_97 rfl (lv_at hl 1 rfl) ?_
    revert hf
    refine k_drf (fun r29 er29 hf => ?_)
    refine gf_X5_13 C hw k0 er29 dX5_law_98 ?_
    refine lv_iload_n hx hb dX5_law_101 rfl (lv_at hl 0 rfl) ?_
    refine lv_iconst (v := (1 : Int32)) hx hb dX5_law_102 (by decide) ?_
    refine lv_iadd hx hb dX5_law_103 ?_
    refine lv_aload_n hx hb dX5_law_104 rfl (lv_at hl 1 rfl) ?_
    refine gf_X5_354 C hw k0 dX5_law_105 ?_
    revert hf
    refine k_req (fun h30 hf => ?_)
    revert hf
    refine k_stp (fun U31 eU31 hf => ?_)
    refine w_iast C hw h30 eU31 dX5_law_108 (fun H locs hw => ?_)
    refine lv_iconst (v := (0 : Int32)) hx hb dX5_law_109 (by decide) ?_
    refine lv_istore_n (lv' := [(2, .int (0 : Int32)), (1, .int z28), (0, .ref (gb G + x0))]) hx hb dX5_law_110 rfl hl (by decide) rfl (fun ls hl => ?_)
    refine lk_X5_law_111 C hr k0 (fun U39 H locs ls hf hw hl => ?_) fuel _ _ _ _ _ hf hw (lv_sub hl [2, 1, 0] rfl)
    refine lv_iconst (v := (0 : Int32)) hx hb dX5_law_144 (by decide) ?_
    refine lv_istore_n (lv' := [(2, .int (0 : Int32)), (0, .ref (gb G + x0)), (1, .int z28)]) hx hb dX5_law_145 rfl hl (by decide) rfl (fun ls hl => ?_)
    refine lk_X5_law_146 C hr k0 (fun U52 H locs ls hf hw hl => ?_) fuel _ _ _ _ _ hf hw (lv_sub hl [1, 2, 0] rfl)
    refine lv_aload_n hx hb dX5_law_200 rfl (lv_at hl 0 rfl) ?_
    revert hf
    refine k_drf (fun r53 er53 hf => ?_)
    refine gf_X5_13 C hw k0 er53 dX5_law_201 ?_
    refine lv_iconst (v := (2 : Int32)) hx hb dX5_law_204 (by decide) ?_
    refine lv_dup2_11 hx hb dX5_law_205 rfl rfl ?_
    revert hf
    refine k_req (fun h54 hf => ?_)
    refine w_iald C hw h54 rfl dX5_law_206 ?_
    refine lv_iconst (v := (1 : Int32)) hx hb dX5_law_207 (by decide) ?_
    refine lv_iadd hx hb dX5_law_208 ?_
    revert hf
    refine k_req (fun h55 hf => ?_)
    revert hf
    refine k_stp (fun U56 eU56 hf => ?_)
    refine w_iast C hw h55 eU56 dX5_law_209 (fun H locs hw => ?_)
    refine lv_aload_n hx hb dX5_law_210 rfl (lv_at hl 0 rfl) ?_
    refine lv_aload_n hx hb dX5_law_211 rfl (lv_at hl 0 rfl) ?_
    revert hf
    refine k_drf (fun r57 er57 hf => ?_)
    refine gf_X5_13 C hw k0 er57 dX5_law_212 ?_
    refine lv_iconst (v := (2 : Int32)) hx hb dX5_law_215 (by decide) ?_
    revert hf
    refine k_req (fun h58 hf => ?_)
    refine w_iald C hw h58 rfl dX5_law_216 ?_
    refine lv_iconst (v := (1 : Int32)) hx hb dX5_law_217 (by decide) ?_
    refine lv_isub hx hb dX5_law_218 ?_
    revert hf
    refine k_cal (fun z60 U61 h59 hf => ?_)
    refine w_afi hw (w_rV (As := [.int ((U56.1 r57 (ixN (2 : Int32))) - (1 : Int32))]) C hw (ok_X5_tell h59) (cw_X5_142 hts (Nat.le_of_ble_eq_true rfl) (Nat.le_of_ble_eq_true rfl)) rfl (by decide) (of_req h59).1 rfl hl.1 rfl (Nat.le_of_ble_eq_true rfl) ⟨Nat.zero_le _, Nat.zero_le _⟩ dX5_law_219) (fun H locs hw => ?_)
    cases hf
    exact w_iret C hr hw dX5_law_222
  · replace hf := ite_f c25 hf
    refine lv_aload_n hx hb dX5_law_75 rfl (lv_at hl 0 rfl) ?_
    refine lv_bipush (v := ((-6) : Int32)) hx hb dX5_law_76 (by decide) ?_
    revert hf
    refine k_cal (fun z63 U64 h62 hf => ?_)
    refine w_afi hw (w_rV (As := [.int ((-6) : Int32)]) C hw (ok_X5_tell h62) (cw_X5_142 hts (Nat.le_of_ble_eq_true rfl) (Nat.le_of_ble_eq_true rfl)) rfl (by decide) (of_req h62).1 rfl hl.1 rfl (Nat.le_of_ble_eq_true rfl) ⟨Nat.zero_le _, Nat.zero_le _⟩ dX5_law_78) (fun H locs hw => ?_)
    cases hf
    exact w_iret C hr hw dX5_law_81
set_option maxHeartbeats 4000000 in
theorem lk_X5_law_37 {l : Launch} {G : gG} {p : Program} {e : Env} {s : State} {m : MethodId} {args : Array Value} {below : List Frame} {meth : Method} {c : Code} {T : Tt} {r : Int32} {V' : Vt} (C : Cx G p s m args meth c cX5_law RX5 3) (hr : meth.sig.returnType = (some .int)) {x0 : Nat} {kx37_64 : Vt → Option (Int32 × Vt)} (k0 : T.1 x0 = 6) (hkx37_64 : ∀ (W1 : Vt) (H : Heap) (locs : List Loc) (ls : Array Slot), kx37_64 W1 = some (r, V') → wS G W1 T H locs → lv_has ls 3 [(0, .ref (gb G + x0))] → W p l e (rmL 8 0 0) s m args below meth c H locs 0 0 (eQ G below (some (.int r)) V' T args s 0 0) (F0 m 64 ls [])) : ∀ (n : Nat) (V1 : Vt) (H : Heap) (locs : List Loc) (ls : Array Slot), f_X5_law_L37 T x0 kx37_64 n V1 = some (r, V') → wS G V1 T H locs → lv_has ls 3 [(0, .ref (gb G + x0))] → W p l e (rmL 8 0 0) s m args below meth c H locs 0 0 (eQ G below (some (.int r)) V' T args s 0 0) (F0 m 37 ls []) := by
  have hx := C.1
  have hb := C.2.1
  have hown := C.2.2.2.1
  have hts := C.2.2.2.2.1
  intro n
  induction n with
  | zero =>
    intro V1 H locs ls hf
    cases hf
  | succ n ih =>
    intro V1 H locs ls hf hw hl
    unfold f_X5_law_L37 at hf
    refine lv_aload_n hx hb dX5_law_37 rfl (lv_at hl 0 rfl) ?_
    refine gf_X5_229 C hw k0 dX5_law_38 ?_
    refine lv_if_ne (tgt := 64) hx hb dX5_law_41 (by decide) (fun c11 => ?_) (fun c11 => ?_)
    · replace hf := ite_f c11 hf
      exact hkx37_64 _ _ _ _ hf hw (lv_sub hl [0] rfl)
    · replace hf := ite_t c11 hf
      refine lv_aload_n hx hb dX5_law_44 rfl (lv_at hl 0 rfl) ?_
      refine lv_bipush (v := (59 : Int32)) hx hb dX5_law_45 (by decide) ?_
      revert hf
      refine k_pcl (fun z13 h12 hf => ?_)
      refine w_afi hw (w_rV (As := [.int (59 : Int32)]) C hw (ok_X5_isSign h12) (cw_X5_296 hts (Nat.le_of_ble_eq_true rfl) (Nat.le_of_ble_eq_true rfl)) rfl (by decide) (of_req h12).1 rfl hl.1 rfl (Nat.le_of_ble_eq_true rfl) ⟨Nat.zero_le _, Nat.zero_le _⟩ dX5_law_47) (fun H locs hw => ?_)
      refine lv_if_eq (tgt := 64) hx hb dX5_law_50 (by decide) (fun c14 => ?_) (fun c14 => ?_)
      · replace hf := ite_t c14 hf
        exact hkx37_64 _ _ _ _ hf hw (lv_sub hl [0] rfl)
      · replace hf := ite_f c14 hf
        refine lv_aload_n hx hb dX5_law_53 rfl (lv_at hl 0 rfl) ?_
        revert hf
        refine k_pcl (fun U17 h15 hf => ?_)
        refine w_afv hw (w_rV (As := []) C hw (ok_X5_next h15) (cw_X5_233 hts (Nat.le_of_ble_eq_true rfl) (Nat.le_of_ble_eq_true rfl)) rfl (by decide) (of_req h15).1 rfl hl.1 rfl (Nat.le_of_ble_eq_true rfl) ⟨Nat.zero_le _, Nat.zero_le _⟩ dX5_law_54) (fun H locs hw => ?_)
        refine lv_aload_n hx hb dX5_law_57 rfl (lv_at hl 0 rfl) ?_
        revert hf
        refine k_pcl (fun U20 h18 hf => ?_)
        refine w_afv hw (w_rV (As := []) C hw (ok_X5_readLaw h18) (cw_X5_365 hts (Nat.le_of_ble_eq_true rfl) (Nat.le_of_ble_eq_true rfl)) rfl (by decide) (of_req h18).1 rfl hl.1 rfl (Nat.le_of_ble_eq_true rfl) ⟨Nat.zero_le _, Nat.zero_le _⟩ dX5_law_58) (fun H locs hw => ?_)
        refine lv_goto (tgt := 37) hx hb dX5_law_61 (by decide) ?_
        exact ih _ _ _ _ hf hw (lv_sub hl [0] rfl)
set_option maxHeartbeats 4000000 in
theorem ok_X5_law {l : Launch} {G : gG} {T : Tt} {V0 : Vt} {o : Nat} {r : Int32} {V' : Vt} (hf : f_X5_law T V0 o = some (r, V')) : okM l G yX5_law cX5_law 3 (some .int) 8 [.ref (gb G + o)] V0 T (some (.int r)) V' T 0 0 := by
  refine ok_intro (by decide) (Nat.le_of_ble_eq_true rfl) ?_
  intro p e s m below meth c ls C hr hnm hw hl
  have hx := C.1
  have hb := C.2.1
  have hown := C.2.2.2.1
  have hts := C.2.2.2.2.1
  have hl : lv_has ls 3 [(0, .ref (gb G + o))] := hl
  unfold f_X5_law at hf
  revert hf
  refine k_req (fun k0 hf => ?_)
  refine lv_aload_n hx hb dX5_law_0 rfl (lv_at hl 0 rfl) ?_
  refine lv_iconst (v := (0 : Int32)) hx hb dX5_law_1 (by decide) ?_
  revert hf
  refine k_stp (fun U1 eU1 hf => ?_)
  refine pf_X5_133 C hw k0 eU1 dX5_law_2 (fun H locs hw => ?_)
  refine lv_aload_n hx hb dX5_law_5 rfl (lv_at hl 0 rfl) ?_
  revert hf
  refine k_drf (fun r2 er2 hf => ?_)
  refine gf_X5_13 C hw k0 er2 dX5_law_6 ?_
  refine lv_iconst (v := (2 : Int32)) hx hb dX5_law_9 (by decide) ?_
  revert hf
  refine k_req (fun h3 hf => ?_)
  refine w_iald C hw h3 rfl dX5_law_10 ?_
  refine lv_bipush (v := (6 : Int32)) hx hb dX5_law_11 (by decide) ?_
  refine lv_icmp_ne (tgt := 28) hx hb dX5_law_13 (by decide) (fun c4 => ?_) (fun c4 => ?_)
  · replace hf := ite_f c4 hf
    refine lv_aload_n hx hb dX5_law_28 rfl (lv_at hl 0 rfl) ?_
    refine lv_iconst (v := (0 : Int32)) hx hb dX5_law_29 (by decide) ?_
    revert hf
    refine k_pcl (fun U7 h5 hf => ?_)
    refine w_afv hw (w_rV (As := [.int (0 : Int32)]) C hw (ok_X5_beginText h5) (cw_X5_362 hts (Nat.le_of_ble_eq_true rfl) (Nat.le_of_ble_eq_true rfl)) rfl (by decide) (of_req h5).1 rfl hl.1 rfl (Nat.le_of_ble_eq_true rfl) ⟨Nat.zero_le _, Nat.zero_le _⟩ dX5_law_30) (fun H locs hw => ?_)
    refine lv_aload_n hx hb dX5_law_33 rfl (lv_at hl 0 rfl) ?_
    revert hf
    refine k_pcl (fun U10 h8 hf => ?_)
    refine w_afv hw (w_rV (As := []) C hw (ok_X5_readLaw h8) (cw_X5_365 hts (Nat.le_of_ble_eq_true rfl) (Nat.le_of_ble_eq_true rfl)) rfl (by decide) (of_req h8).1 rfl hl.1 rfl (Nat.le_of_ble_eq_true rfl) ⟨Nat.zero_le _, Nat.zero_le _⟩ dX5_law_34) (fun H locs hw => ?_)
    refine lk_X5_law_37 C hr k0 (fun U21 H locs ls hf hw hl => ?_) fuel _ _ _ _ hf hw (lv_sub hl [0] rfl)
    exact jk_X5_law_64 C hr k0 hf hw (lv_sub hl [0] rfl)
  · replace hf := ite_t c4 hf
    refine lv_aload_n hx hb dX5_law_16 rfl (lv_at hl 0 rfl) ?_
    refine lv_iconst (v := (0 : Int32)) hx hb dX5_law_17 (by decide) ?_
    revert hf
    refine k_stp (fun U65 eU65 hf => ?_)
    refine pf_X5_217 C hw k0 eU65 dX5_law_18 (fun H locs hw => ?_)
    refine lv_aload_n hx hb dX5_law_21 rfl (lv_at hl 0 rfl) ?_
    refine lv_bipush (v := ((-5) : Int32)) hx hb dX5_law_22 (by decide) ?_
    revert hf
    refine k_cal (fun z67 U68 h66 hf => ?_)
    refine w_afi hw (w_rV (As := [.int ((-5) : Int32)]) C hw (ok_X5_tell h66) (cw_X5_142 hts (Nat.le_of_ble_eq_true rfl) (Nat.le_of_ble_eq_true rfl)) rfl (by decide) (of_req h66).1 rfl hl.1 rfl (Nat.le_of_ble_eq_true rfl) ⟨Nat.zero_le _, Nat.zero_le _⟩ dX5_law_24) (fun H locs hw => ?_)
    cases hf
    exact w_iret C hr hw dX5_law_27
set_option maxHeartbeats 4000000 in
theorem ok_X5_isLaw {l : Launch} {G : gG} {T : Tt} {V0 : Vt} {o : Nat} {a0 : Int32} {r : Int32} (hf : f_X5_isLaw T V0 o a0 = some r) : okM l G yX5_isLaw cX5_isLaw 2 (some .boolean) 1 [.ref (gb G + o), .int a0] V0 T (some (.int r)) V0 T 0 0 := by
  refine ok_intro (by decide) (Nat.le_of_ble_eq_true rfl) ?_
  intro p e s m below meth c ls C hr hnm hw hl
  have hx := C.1
  have hb := C.2.1
  have hown := C.2.2.2.1
  have hts := C.2.2.2.2.1
  have hl : lv_has ls 2 [(0, .ref (gb G + o)), (1, .int a0)] := hl
  unfold f_X5_isLaw at hf
  revert hf
  refine k_req (fun k0 hf => ?_)
  refine lv_iload_n hx hb dX5_isLaw_0 rfl (lv_at hl 1 rfl) ?_
  refine lv_iconst (v := ((-1) : Int32)) hx hb dX5_isLaw_1 (by decide) ?_
  refine lv_icmp_eq (tgt := 23) hx hb dX5_isLaw_2 (by decide) (fun c1 => ?_) (fun c1 => ?_)
  · replace hf := ite_t c1 hf
    refine lv_iconst (v := (1 : Int32)) hx hb dX5_isLaw_23 (by decide) ?_
    refine lv_goto (tgt := 28) hx hb dX5_isLaw_24 (by decide) ?_
    cases hf
    exact w_zret C hr hw (by decide) dX5_isLaw_28
  · replace hf := ite_f c1 hf
    refine lv_iload_n hx hb dX5_isLaw_5 rfl (lv_at hl 1 rfl) ?_
    refine lv_i2l hx hb dX5_isLaw_6 rfl ?_
    refine lv_lconst (v := (0 : Int64)) hx hb dX5_isLaw_7 (by decide) ?_
    refine lv_aload_n hx hb dX5_isLaw_8 rfl (lv_at hl 0 rfl) ?_
    revert hf
    refine k_drf (fun r2 er2 hf => ?_)
    refine gf_X5_13 C hw k0 er2 dX5_isLaw_9 ?_
    refine lv_iconst (v := (2 : Int32)) hx hb dX5_isLaw_12 (by decide) ?_
    revert hf
    refine k_req (fun h3 hf => ?_)
    refine w_iald C hw h3 rfl dX5_isLaw_13 ?_
    refine lv_i2l hx hb dX5_isLaw_14 rfl ?_
    refine lv_lconst (v := (1 : Int64)) hx hb dX5_isLaw_15 (by decide) ?_
    refine lv_lsub hx hb dX5_isLaw_16 ?_
    revert hf
    refine k_pcl (fun z5 h4 hf => ?_)
    refine w_afi hw (w_rS (As := [.long (Int32.toInt64 a0), .long (0 : Int64), .long ((Int32.toInt64 (V0.1 r2 (ixN (2 : Int32)))) - (1 : Int64))]) C hw (ok_X5_in h4) (cw_X5_153 hts (Nat.le_of_ble_eq_true rfl) (Nat.le_of_ble_eq_true rfl)) rfl hl.1 rfl (Nat.le_of_ble_eq_true rfl) ⟨Nat.zero_le _, Nat.zero_le _⟩ dX5_isLaw_17) (fun H locs hw => ?_)
    refine lv_if_eq (tgt := 27) hx hb dX5_isLaw_20 (by decide) (fun c6 => ?_) (fun c6 => ?_)
    · replace hf := ite_t c6 hf
      refine lv_iconst (v := (0 : Int32)) hx hb dX5_isLaw_27 (by decide) ?_
      cases hf
      exact w_zret C hr hw (by decide) dX5_isLaw_28
    · replace hf := ite_f c6 hf
      refine lv_iconst (v := (1 : Int32)) hx hb dX5_isLaw_23 (by decide) ?_
      refine lv_goto (tgt := 28) hx hb dX5_isLaw_24 (by decide) ?_
      cases hf
      exact w_zret C hr hw (by decide) dX5_isLaw_28
set_option maxHeartbeats 4000000 in
theorem ok_X5_force {l : Launch} {G : gG} {T : Tt} {V0 : Vt} {o : Nat} {a0 : Int32} {r : Int32} {V' : Vt} (hf : f_X5_force T V0 o a0 = some (r, V')) : okM l G yX5_force cX5_force 2 (some .int) 2 [.ref (gb G + o), .int a0] V0 T (some (.int r)) V' T 0 0 := by
  refine ok_intro (by decide) (Nat.le_of_ble_eq_true rfl) ?_
  intro p e s m below meth c ls C hr hnm hw hl
  have hx := C.1
  have hb := C.2.1
  have hown := C.2.2.2.1
  have hts := C.2.2.2.2.1
  have hl : lv_has ls 2 [(0, .ref (gb G + o)), (1, .int a0)] := hl
  unfold f_X5_force at hf
  revert hf
  refine k_req (fun k0 hf => ?_)
  refine lv_aload_n hx hb dX5_force_0 rfl (lv_at hl 0 rfl) ?_
  refine lv_iconst (v := (0 : Int32)) hx hb dX5_force_1 (by decide) ?_
  revert hf
  refine k_stp (fun U1 eU1 hf => ?_)
  refine pf_X5_133 C hw k0 eU1 dX5_force_2 (fun H locs hw => ?_)
  refine lv_aload_n hx hb dX5_force_5 rfl (lv_at hl 0 rfl) ?_
  refine lv_iload_n hx hb dX5_force_6 rfl (lv_at hl 1 rfl) ?_
  revert hf
  refine k_pcl (fun z3 h2 hf => ?_)
  refine w_afi hw (w_rV (As := [.int a0]) C hw (ok_X5_isLaw h2) (cw_X5_371 hts (Nat.le_of_ble_eq_true rfl) (Nat.le_of_ble_eq_true rfl)) rfl (by decide) (of_req h2).1 rfl hl.1 rfl (Nat.le_of_ble_eq_true rfl) ⟨Nat.zero_le _, Nat.zero_le _⟩ dX5_force_7) (fun H locs hw => ?_)
  refine lv_if_eq (tgt := 22) hx hb dX5_force_10 (by decide) (fun c4 => ?_) (fun c4 => ?_)
  · replace hf := ite_t c4 hf
    refine lv_aload_n hx hb dX5_force_22 rfl (lv_at hl 0 rfl) ?_
    refine lv_bipush (v := ((-2) : Int32)) hx hb dX5_force_23 (by decide) ?_
    revert hf
    refine k_cal (fun z6 U7 h5 hf => ?_)
    refine w_afi hw (w_rV (As := [.int ((-2) : Int32)]) C hw (ok_X5_tell h5) (cw_X5_142 hts (Nat.le_of_ble_eq_true rfl) (Nat.le_of_ble_eq_true rfl)) rfl (by decide) (of_req h5).1 rfl hl.1 rfl (Nat.le_of_ble_eq_true rfl) ⟨Nat.zero_le _, Nat.zero_le _⟩ dX5_force_25) (fun H locs hw => ?_)
    cases hf
    exact w_iret C hr hw dX5_force_28
  · replace hf := ite_f c4 hf
    refine lv_aload_n hx hb dX5_force_13 rfl (lv_at hl 0 rfl) ?_
    refine lv_iconst (v := (4 : Int32)) hx hb dX5_force_14 (by decide) ?_
    refine lv_iload_n hx hb dX5_force_15 rfl (lv_at hl 1 rfl) ?_
    revert hf
    refine k_cal (fun z9 U10 h8 hf => ?_)
    refine w_afi hw (w_rV (As := [.int (4 : Int32), .int a0]) C hw (ok_X5_change h8) (cw_X5_214 hts (Nat.le_of_ble_eq_true rfl) (Nat.le_of_ble_eq_true rfl)) rfl (by decide) (of_req h8).1 rfl hl.1 rfl (Nat.le_of_ble_eq_true rfl) ⟨Nat.zero_le _, Nat.zero_le _⟩ dX5_force_16) (fun H locs hw => ?_)
    refine lv_goto (tgt := 28) hx hb dX5_force_19 (by decide) ?_
    cases hf
    exact w_iret C hr hw dX5_force_28
set_option maxHeartbeats 4000000 in
theorem ok_X5_whyNotPour {l : Launch} {G : gG} {T : Tt} {V0 : Vt} {o : Nat} {a0 : Int32} {a1 : Int32} {r : Int32} (hf : f_X5_whyNotPour T V0 o a0 a1 = some r) : okM l G yX5_whyNotPour cX5_whyNotPour 3 (some .int) 3 [.ref (gb G + o), .int a0, .int a1] V0 T (some (.int r)) V0 T 0 0 := by
  refine ok_intro (by decide) (Nat.le_of_ble_eq_true rfl) ?_
  intro p e s m below meth c ls C hr hnm hw hl
  have hx := C.1
  have hb := C.2.1
  have hown := C.2.2.2.1
  have hts := C.2.2.2.2.1
  have hl : lv_has ls 3 [(0, .ref (gb G + o)), (1, .int a0), (2, .int a1)] := hl
  unfold f_X5_whyNotPour at hf
  revert hf
  refine k_req (fun k0 hf => ?_)
  refine lv_iload_n hx hb dX5_whyNotPour_0 rfl (lv_at hl 2 rfl) ?_
  refine lv_i2l hx hb dX5_whyNotPour_1 rfl ?_
  refine lv_lconst (v := (1 : Int64)) hx hb dX5_whyNotPour_2 (by decide) ?_
  refine lv_ldc2 (v := (999 : Int64)) hx hb hown (hts _ q1729) dX5_whyNotPour_3 ?_
  revert hf
  refine k_pcl (fun z2 h1 hf => ?_)
  refine w_afi hw (w_rS (As := [.long (Int32.toInt64 a1), .long (1 : Int64), .long (999 : Int64)]) C hw (ok_X5_in h1) (cw_X5_153 hts (Nat.le_of_ble_eq_true rfl) (Nat.le_of_ble_eq_true rfl)) rfl hl.1 rfl (Nat.le_of_ble_eq_true rfl) ⟨Nat.zero_le _, Nat.zero_le _⟩ dX5_whyNotPour_6) (fun H locs hw => ?_)
  refine lv_if_ne (tgt := 14) hx hb dX5_whyNotPour_9 (by decide) (fun c3 => ?_) (fun c3 => ?_)
  · replace hf := ite_f c3 hf
    refine lv_aload_n hx hb dX5_whyNotPour_14 rfl (lv_at hl 0 rfl) ?_
    refine lv_iload_n hx hb dX5_whyNotPour_15 rfl (lv_at hl 1 rfl) ?_
    revert hf
    refine k_pcl (fun z5 h4 hf => ?_)
    refine w_afi hw (w_rV (As := [.int a0]) C hw (ok_X5_isCask h4) (cw_X5_184 hts (Nat.le_of_ble_eq_true rfl) (Nat.le_of_ble_eq_true rfl)) rfl (by decide) (of_req h4).1 rfl hl.1 rfl (Nat.le_of_ble_eq_true rfl) ⟨Nat.zero_le _, Nat.zero_le _⟩ dX5_whyNotPour_16) (fun H locs hw => ?_)
    refine lv_if_ne (tgt := 25) hx hb dX5_whyNotPour_19 (by decide) (fun c6 => ?_) (fun c6 => ?_)
    · replace hf := ite_f c6 hf
      refine lv_aload_n hx hb dX5_whyNotPour_25 rfl (lv_at hl 0 rfl) ?_
      refine lv_iload_n hx hb dX5_whyNotPour_26 rfl (lv_at hl 1 rfl) ?_
      revert hf
      refine k_pcl (fun z8 h7 hf => ?_)
      refine w_afi hw (w_rV (As := [.int a0]) C hw (ok_X5_roomOf h7) (cw_X5_374 hts (Nat.le_of_ble_eq_true rfl) (Nat.le_of_ble_eq_true rfl)) rfl (by decide) (of_req h7).1 rfl hl.1 rfl (Nat.le_of_ble_eq_true rfl) ⟨Nat.zero_le _, Nat.zero_le _⟩ dX5_whyNotPour_27) (fun H locs hw => ?_)
      refine lv_sipush (v := (1000 : Int32)) hx hb dX5_whyNotPour_30 (by decide) ?_
      refine lv_iload_n hx hb dX5_whyNotPour_33 rfl (lv_at hl 2 rfl) ?_
      refine lv_imul hx hb dX5_whyNotPour_34 ?_
      refine lv_icmp_ge (tgt := 43) hx hb dX5_whyNotPour_35 (by decide) (fun c9 => ?_) (fun c9 => ?_)
      · replace hf := ite_t c9 hf
        refine lv_iconst (v := (0 : Int32)) hx hb dX5_whyNotPour_43 (by decide) ?_
        cases hf
        exact w_iret C hr hw dX5_whyNotPour_44
      · replace hf := ite_f c9 hf
        refine lv_bipush (v := ((-3) : Int32)) hx hb dX5_whyNotPour_38 (by decide) ?_
        refine lv_goto (tgt := 44) hx hb dX5_whyNotPour_40 (by decide) ?_
        cases hf
        exact w_iret C hr hw dX5_whyNotPour_44
    · replace hf := ite_t c6 hf
      refine lv_bipush (v := ((-2) : Int32)) hx hb dX5_whyNotPour_22 (by decide) ?_
      cases hf
      exact w_iret C hr hw dX5_whyNotPour_24
  · replace hf := ite_t c3 hf
    refine lv_iconst (v := ((-1) : Int32)) hx hb dX5_whyNotPour_12 (by decide) ?_
    cases hf
    exact w_iret C hr hw dX5_whyNotPour_13
set_option maxHeartbeats 4000000 in
theorem lk_X5_keepAll_2 {l : Launch} {G : gG} {p : Program} {e : Env} {s : State} {m : MethodId} {args : Array Value} {below : List Frame} {meth : Method} {c : Code} {T : Tt} {V' : Vt} (C : Cx G p s m args meth c cX5_keepAll RX5 3) (hr : meth.sig.returnType = none) {x0 : Nat} {x1 : Int32} {kx2_35 : Vt → Option (Vt)} (k0 : T.1 x0 = 6) (hkx2_35 : ∀ (W1 : Vt) (H : Heap) (locs : List Loc) (ls : Array Slot), kx2_35 W1 = some V' → wS G W1 T H locs → lv_has ls 3 [] → W p l e (rmL 0 0 0) s m args below meth c H locs 0 0 (eQ G below none V' T args s 0 0) (F0 m 35 ls [])) : ∀ (n : Nat) (x2 : Int32) (V1 : Vt) (H : Heap) (locs : List Loc) (ls : Array Slot), f_X5_keepAll_L2 T x0 x1 kx2_35 n x2 V1 = some V' → wS G V1 T H locs → lv_has ls 3 [(0, .ref (gb G + x0)), (1, .int x1), (2, .int x2)] → W p l e (rmL 0 0 0) s m args below meth c H locs 0 0 (eQ G below none V' T args s 0 0) (F0 m 2 ls []) := by
  have hx := C.1
  have hb := C.2.1
  have hown := C.2.2.2.1
  have hts := C.2.2.2.2.1
  intro n
  induction n with
  | zero =>
    intro x2 V1 H locs ls hf
    cases hf
  | succ n ih =>
    intro x2 V1 H locs ls hf hw hl
    unfold f_X5_keepAll_L2 at hf
    refine lv_iload_n hx hb dX5_keepAll_2 rfl (lv_at hl 2 rfl) ?_
    refine lv_sipush (v := (165 : Int32)) hx hb dX5_keepAll_3 (by decide) ?_
    refine lv_icmp_ge (tgt := 35) hx hb dX5_keepAll_6 (by decide) (fun c1 => ?_) (fun c1 => ?_)
    · replace hf := ite_t c1 hf
      exact hkx2_35 _ _ _ _ hf hw (lv_sub hl [] rfl)
    · replace hf := ite_f c1 hf
      refine lv_aload_n hx hb dX5_keepAll_9 rfl (lv_at hl 0 rfl) ?_
      revert hf
      refine k_drf (fun r2 er2 hf => ?_)
      refine gf_X5_23 C hw k0 er2 dX5_keepAll_10 ?_
      refine lv_sipush (v := (165 : Int32)) hx hb dX5_keepAll_13 (by decide) ?_
      refine lv_iload_n hx hb dX5_keepAll_16 rfl (lv_at hl 1 rfl) ?_
      refine lv_imul hx hb dX5_keepAll_17 ?_
      refine lv_iload_n hx hb dX5_keepAll_18 rfl (lv_at hl 2 rfl) ?_
      refine lv_iadd hx hb dX5_keepAll_19 ?_
      refine lv_aload_n hx hb dX5_keepAll_20 rfl (lv_at hl 0 rfl) ?_
      revert hf
      refine k_drf (fun r3 er3 hf => ?_)
      refine gf_X5_13 C hw k0 er3 dX5_keepAll_21 ?_
      refine lv_iconst (v := (5 : Int32)) hx hb dX5_keepAll_24 (by decide) ?_
      refine lv_iload_n hx hb dX5_keepAll_25 rfl (lv_at hl 2 rfl) ?_
      refine lv_iadd hx hb dX5_keepAll_26 ?_
      revert hf
      refine k_req (fun h4 hf => ?_)
      refine w_iald C hw h4 rfl dX5_keepAll_27 ?_
      revert hf
      refine k_req (fun h5 hf => ?_)
      revert hf
      refine k_stp (fun U6 eU6 hf => ?_)
      refine w_iast C hw h5 eU6 dX5_keepAll_28 (fun H locs hw => ?_)
      revert hf
      refine k_stp (fun z7 ez7 hf => ?_)
      refine lv_iinc (k := 2) (lv' := [(2, .int z7), (0, .ref (gb G + x0)), (1, .int x1)]) hx hb dX5_keepAll_29 hl rfl (inc_e (by decide) ez7) (by decide) rfl (fun ls hl => ?_)
      refine lv_goto (tgt := 2) hx hb dX5_keepAll_32 (by decide) ?_
      exact ih _ _ _ _ _ hf hw (lv_sub hl [1, 2, 0] rfl)
set_option maxHeartbeats 4000000 in
theorem ok_X5_keepAll {l : Launch} {G : gG} {T : Tt} {V0 : Vt} {o : Nat} {a0 : Int32} {V' : Vt} (hf : f_X5_keepAll T V0 o a0 = some V') : okM l G yX5_keepAll cX5_keepAll 3 none 0 [.ref (gb G + o), .int a0] V0 T none V' T 0 0 := by
  refine ok_intro (by decide) (Nat.le_of_ble_eq_true rfl) ?_
  intro p e s m below meth c ls C hr hnm hw hl
  have hx := C.1
  have hb := C.2.1
  have hown := C.2.2.2.1
  have hts := C.2.2.2.2.1
  have hl : lv_has ls 3 [(0, .ref (gb G + o)), (1, .int a0)] := hl
  unfold f_X5_keepAll at hf
  revert hf
  refine k_req (fun k0 hf => ?_)
  refine lv_iconst (v := (0 : Int32)) hx hb dX5_keepAll_0 (by decide) ?_
  refine lv_istore_n (lv' := [(2, .int (0 : Int32)), (0, .ref (gb G + o)), (1, .int a0)]) hx hb dX5_keepAll_1 rfl hl (by decide) rfl (fun ls hl => ?_)
  refine lk_X5_keepAll_2 C hr k0 (fun U8 H locs ls hf hw hl => ?_) fuel _ _ _ _ _ hf hw (lv_sub hl [1, 2, 0] rfl)
  cases hf
  exact w_vret C hr hw dX5_keepAll_35
set_option maxHeartbeats 4000000 in
theorem jk_X5_remember_78 {l : Launch} {G : gG} {p : Program} {e : Env} {s : State} {m : MethodId} {args : Array Value} {below : List Frame} {meth : Method} {c : Code} {T : Tt} {V0 : Vt} {V' : Vt} (C : Cx G p s m args meth c cX5_remember RX5 3) (hr : meth.sig.returnType = none) {x0 : Nat} {x1 : Int32} {H : Heap} {locs : List Loc} {ls : Array Slot} (k0 : T.1 x0 = 6) (hf : f_X5_remember_J78 T V0 x0 x1 = some V') (hw : wS G V0 T H locs) (hl : lv_has ls 3 [(0, .ref (gb G + x0)), (1, .int x1)]) : W p l e (rmL 1 0 0) s m args below meth c H locs 0 0 (eQ G below none V' T args s 0 0) (F0 m 78 ls []) := by
  have hx := C.1
  have hb := C.2.1
  have hown := C.2.2.2.1
  have hts := C.2.2.2.2.1
  unfold f_X5_remember_J78 at hf
  refine lv_aload_n hx hb dX5_remember_78 rfl (lv_at hl 0 rfl) ?_
  refine lv_aload_n hx hb dX5_remember_79 rfl (lv_at hl 0 rfl) ?_
  refine gf_X5_139 C hw k0 dX5_remember_80 ?_
  revert hf
  refine k_pcl (fun U4 h2 hf => ?_)
  refine w_afv hw (w_rV (As := [.int (V0.1 x0 8)]) C hw (ok_X5_keepAll h2) (cw_X5_146 hts (Nat.le_of_ble_eq_true rfl) (Nat.le_of_ble_eq_true rfl)) rfl (by decide) (of_req h2).1 rfl hl.1 rfl (Nat.le_of_ble_eq_true rfl) ⟨Nat.zero_le _, Nat.zero_le _⟩ dX5_remember_83) (fun H locs hw => ?_)
  refine lv_aload_n hx hb dX5_remember_86 rfl (lv_at hl 0 rfl) ?_
  revert hf
  refine k_drf (fun r5 er5 hf => ?_)
  refine gf_X5_26 C hw k0 er5 dX5_remember_87 ?_
  refine lv_aload_n hx hb dX5_remember_90 rfl (lv_at hl 0 rfl) ?_
  refine gf_X5_139 C hw k0 dX5_remember_91 ?_
  refine lv_iload_n hx hb dX5_remember_94 rfl (lv_at hl 1 rfl) ?_
  revert hf
  refine k_req (fun h6 hf => ?_)
  revert hf
  refine k_stp (fun U7 eU7 hf => ?_)
  refine w_iast C hw h6 eU7 dX5_remember_95 (fun H locs hw => ?_)
  refine lv_aload_n hx hb dX5_remember_96 rfl (lv_at hl 0 rfl) ?_
  refine lv_dup hx hb dX5_remember_97 rfl ?_
  refine gf_X5_139 C hw k0 dX5_remember_98 ?_
  refine lv_iconst (v := (1 : Int32)) hx hb dX5_remember_101 (by decide) ?_
  refine lv_iadd hx hb dX5_remember_102 ?_
  revert hf
  refine k_stp (fun U8 eU8 hf => ?_)
  refine pf_X5_139 C hw k0 eU8 dX5_remember_103 (fun H locs hw => ?_)
  cases hf
  exact w_vret C hr hw dX5_remember_106
set_option maxHeartbeats 4000000 in
theorem lk_X5_remember_42 {l : Launch} {G : gG} {p : Program} {e : Env} {s : State} {m : MethodId} {args : Array Value} {below : List Frame} {meth : Method} {c : Code} {T : Tt} {V' : Vt} (C : Cx G p s m args meth c cX5_remember RX5 3) (hr : meth.sig.returnType = none) {x0 : Nat} {x1 : Int32} {kx42_68 : Vt → Option (Vt)} (k0 : T.1 x0 = 6) (hkx42_68 : ∀ (W1 : Vt) (H : Heap) (locs : List Loc) (ls : Array Slot), kx42_68 W1 = some V' → wS G W1 T H locs → lv_has ls 3 [(0, .ref (gb G + x0)), (1, .int x1)] → W p l e (rmL 1 0 0) s m args below meth c H locs 0 0 (eQ G below none V' T args s 0 0) (F0 m 68 ls [])) : ∀ (n : Nat) (x2 : Int32) (V1 : Vt) (H : Heap) (locs : List Loc) (ls : Array Slot), f_X5_remember_L42 T x0 x1 kx42_68 n x2 V1 = some V' → wS G V1 T H locs → lv_has ls 3 [(0, .ref (gb G + x0)), (1, .int x1), (2, .int x2)] → W p l e (rmL 1 0 0) s m args below meth c H locs 0 0 (eQ G below none V' T args s 0 0) (F0 m 42 ls []) := by
  have hx := C.1
  have hb := C.2.1
  have hown := C.2.2.2.1
  have hts := C.2.2.2.2.1
  intro n
  induction n with
  | zero =>
    intro x2 V1 H locs ls hf
    cases hf
  | succ n ih =>
    intro x2 V1 H locs ls hf hw hl
    unfold f_X5_remember_L42 at hf
    refine lv_iload_n hx hb dX5_remember_42 rfl (lv_at hl 2 rfl) ?_
    refine lv_bipush (v := (15 : Int32)) hx hb dX5_remember_43 (by decide) ?_
    refine lv_icmp_ge (tgt := 68) hx hb dX5_remember_45 (by decide) (fun c17 => ?_) (fun c17 => ?_)
    · replace hf := ite_t c17 hf
      exact hkx42_68 _ _ _ _ hf hw (lv_sub hl [0, 1] rfl)
    · replace hf := ite_f c17 hf
      refine lv_aload_n hx hb dX5_remember_48 rfl (lv_at hl 0 rfl) ?_
      revert hf
      refine k_drf (fun r18 er18 hf => ?_)
      refine gf_X5_26 C hw k0 er18 dX5_remember_49 ?_
      refine lv_iload_n hx hb dX5_remember_52 rfl (lv_at hl 2 rfl) ?_
      refine lv_aload_n hx hb dX5_remember_53 rfl (lv_at hl 0 rfl) ?_
      revert hf
      refine k_drf (fun r19 er19 hf => ?_)
      refine gf_X5_26 C hw k0 er19 dX5_remember_54 ?_
      refine lv_iload_n hx hb dX5_remember_57 rfl (lv_at hl 2 rfl) ?_
      refine lv_iconst (v := (1 : Int32)) hx hb dX5_remember_58 (by decide) ?_
      refine lv_iadd hx hb dX5_remember_59 ?_
      revert hf
      refine k_req (fun h20 hf => ?_)
      refine w_iald C hw h20 rfl dX5_remember_60 ?_
      revert hf
      refine k_req (fun h21 hf => ?_)
      revert hf
      refine k_stp (fun U22 eU22 hf => ?_)
      refine w_iast C hw h21 eU22 dX5_remember_61 (fun H locs hw => ?_)
      revert hf
      refine k_stp (fun z23 ez23 hf => ?_)
      refine lv_iinc (k := 2) (lv' := [(2, .int z23), (0, .ref (gb G + x0)), (1, .int x1)]) hx hb dX5_remember_62 hl rfl (inc_e (by decide) ez23) (by decide) rfl (fun ls hl => ?_)
      refine lv_goto (tgt := 42) hx hb dX5_remember_65 (by decide) ?_
      exact ih _ _ _ _ _ hf hw (lv_sub hl [1, 2, 0] rfl)
set_option maxHeartbeats 4000000 in
theorem lk_X5_remember_11 {l : Launch} {G : gG} {p : Program} {e : Env} {s : State} {m : MethodId} {args : Array Value} {below : List Frame} {meth : Method} {c : Code} {T : Tt} {V' : Vt} (C : Cx G p s m args meth c cX5_remember RX5 3) (hr : meth.sig.returnType = none) {x0 : Nat} {x1 : Int32} {kx11_40 : Vt → Option (Vt)} (k0 : T.1 x0 = 6) (hkx11_40 : ∀ (W1 : Vt) (H : Heap) (locs : List Loc) (ls : Array Slot), kx11_40 W1 = some V' → wS G W1 T H locs → lv_has ls 3 [(0, .ref (gb G + x0)), (1, .int x1)] → W p l e (rmL 1 0 0) s m args below meth c H locs 0 0 (eQ G below none V' T args s 0 0) (F0 m 40 ls [])) : ∀ (n : Nat) (x2 : Int32) (V1 : Vt) (H : Heap) (locs : List Loc) (ls : Array Slot), f_X5_remember_L11 T x0 x1 kx11_40 n x2 V1 = some V' → wS G V1 T H locs → lv_has ls 3 [(0, .ref (gb G + x0)), (1, .int x1), (2, .int x2)] → W p l e (rmL 1 0 0) s m args below meth c H locs 0 0 (eQ G below none V' T args s 0 0) (F0 m 11 ls []) := by
  have hx := C.1
  have hb := C.2.1
  have hown := C.2.2.2.1
  have hts := C.2.2.2.2.1
  intro n
  induction n with
  | zero =>
    intro x2 V1 H locs ls hf
    cases hf
  | succ n ih =>
    intro x2 V1 H locs ls hf hw hl
    unfold f_X5_remember_L11 at hf
    refine lv_iload_n hx hb dX5_remember_11 rfl (lv_at hl 2 rfl) ?_
    refine lv_sipush (v := (2475 : Int32)) hx hb dX5_remember_12 (by decide) ?_
    refine lv_icmp_ge (tgt := 40) hx hb dX5_remember_15 (by decide) (fun c9 => ?_) (fun c9 => ?_)
    · replace hf := ite_t c9 hf
      exact hkx11_40 _ _ _ _ hf hw (lv_sub hl [0, 1] rfl)
    · replace hf := ite_f c9 hf
      refine lv_aload_n hx hb dX5_remember_18 rfl (lv_at hl 0 rfl) ?_
      revert hf
      refine k_drf (fun r10 er10 hf => ?_)
      refine gf_X5_23 C hw k0 er10 dX5_remember_19 ?_
      refine lv_iload_n hx hb dX5_remember_22 rfl (lv_at hl 2 rfl) ?_
      refine lv_aload_n hx hb dX5_remember_23 rfl (lv_at hl 0 rfl) ?_
      revert hf
      refine k_drf (fun r11 er11 hf => ?_)
      refine gf_X5_23 C hw k0 er11 dX5_remember_24 ?_
      refine lv_iload_n hx hb dX5_remember_27 rfl (lv_at hl 2 rfl) ?_
      refine lv_sipush (v := (165 : Int32)) hx hb dX5_remember_28 (by decide) ?_
      refine lv_iadd hx hb dX5_remember_31 ?_
      revert hf
      refine k_req (fun h12 hf => ?_)
      refine w_iald C hw h12 rfl dX5_remember_32 ?_
      revert hf
      refine k_req (fun h13 hf => ?_)
      revert hf
      refine k_stp (fun U14 eU14 hf => ?_)
      refine w_iast C hw h13 eU14 dX5_remember_33 (fun H locs hw => ?_)
      revert hf
      refine k_stp (fun z15 ez15 hf => ?_)
      refine lv_iinc (k := 2) (lv' := [(2, .int z15), (0, .ref (gb G + x0)), (1, .int x1)]) hx hb dX5_remember_34 hl rfl (inc_e (by decide) ez15) (by decide) rfl (fun ls hl => ?_)
      refine lv_goto (tgt := 11) hx hb dX5_remember_37 (by decide) ?_
      exact ih _ _ _ _ _ hf hw (lv_sub hl [1, 2, 0] rfl)
set_option maxHeartbeats 4000000 in
theorem ok_X5_remember {l : Launch} {G : gG} {T : Tt} {V0 : Vt} {o : Nat} {a0 : Int32} {V' : Vt} (hf : f_X5_remember T V0 o a0 = some V') : okM l G yX5_remember cX5_remember 3 none 1 [.ref (gb G + o), .int a0] V0 T none V' T 0 0 := by
  refine ok_intro (by decide) (Nat.le_of_ble_eq_true rfl) ?_
  intro p e s m below meth c ls C hr hnm hw hl
  have hx := C.1
  have hb := C.2.1
  have hown := C.2.2.2.1
  have hts := C.2.2.2.2.1
  have hl : lv_has ls 3 [(0, .ref (gb G + o)), (1, .int a0)] := hl
  unfold f_X5_remember at hf
  revert hf
  refine k_req (fun k0 hf => ?_)
  refine lv_aload_n hx hb dX5_remember_0 rfl (lv_at hl 0 rfl) ?_
  refine gf_X5_139 C hw k0 dX5_remember_1 ?_
  refine lv_bipush (v := (16 : Int32)) hx hb dX5_remember_4 (by decide) ?_
  refine lv_icmp_ne (tgt := 78) hx hb dX5_remember_6 (by decide) (fun c1 => ?_) (fun c1 => ?_)
  · replace hf := ite_f c1 hf
    exact jk_X5_remember_78 C hr k0 hf hw (lv_sub hl [0, 1] rfl)
  · replace hf := ite_t c1 hf
    refine lv_iconst (v := (0 : Int32)) hx hb dX5_remember_9 (by decide) ?_
    refine lv_istore_n (lv' := [(2, .int (0 : Int32)), (0, .ref (gb G + o)), (1, .int a0)]) hx hb dX5_remember_10 rfl hl (by decide) rfl (fun ls hl => ?_)
    refine lk_X5_remember_11 C hr k0 (fun U16 H locs ls hf hw hl => ?_) fuel _ _ _ _ _ hf hw (lv_sub hl [1, 2, 0] rfl)
    refine lv_iconst (v := (0 : Int32)) hx hb dX5_remember_40 (by decide) ?_
    refine lv_istore_n (lv' := [(2, .int (0 : Int32)), (0, .ref (gb G + o)), (1, .int a0)]) hx hb dX5_remember_41 rfl hl (by decide) rfl (fun ls hl => ?_)
    refine lk_X5_remember_42 C hr k0 (fun U24 H locs ls hf hw hl => ?_) fuel _ _ _ _ _ hf hw (lv_sub hl [1, 2, 0] rfl)
    refine lv_aload_n hx hb dX5_remember_68 rfl (lv_at hl 0 rfl) ?_
    refine lv_dup hx hb dX5_remember_69 rfl ?_
    refine gf_X5_139 C hw k0 dX5_remember_70 ?_
    refine lv_iconst (v := (1 : Int32)) hx hb dX5_remember_73 (by decide) ?_
    refine lv_isub hx hb dX5_remember_74 ?_
    revert hf
    refine k_stp (fun U25 eU25 hf => ?_)
    refine pf_X5_139 C hw k0 eU25 dX5_remember_75 (fun H locs hw => ?_)
    exact jk_X5_remember_78 C hr k0 hf hw (lv_sub hl [0, 1] rfl)
set_option maxHeartbeats 4000000 in
theorem ok_X5_pourIt {l : Launch} {G : gG} {T : Tt} {V0 : Vt} {o : Nat} {a0 : Int32} {a1 : Int32} {r : Int32} {V' : Vt} (hf : f_X5_pourIt T V0 o a0 a1 = some (r, V')) : okM l G yX5_pourIt cX5_pourIt 3 (some .int) 2 [.ref (gb G + o), .int a0, .int a1] V0 T (some (.int r)) V' T 0 0 := by
  refine ok_intro (by decide) (Nat.le_of_ble_eq_true rfl) ?_
  intro p e s m below meth c ls C hr hnm hw hl
  have hx := C.1
  have hb := C.2.1
  have hown := C.2.2.2.1
  have hts := C.2.2.2.2.1
  have hl : lv_has ls 3 [(0, .ref (gb G + o)), (1, .int a0), (2, .int a1)] := hl
  unfold f_X5_pourIt at hf
  revert hf
  refine k_req (fun k0 hf => ?_)
  refine lv_aload_n hx hb dX5_pourIt_0 rfl (lv_at hl 0 rfl) ?_
  revert hf
  refine k_drf (fun r1 er1 hf => ?_)
  refine gf_X5_13 C hw k0 er1 dX5_pourIt_1 ?_
  refine lv_bipush (v := (10 : Int32)) hx hb dX5_pourIt_4 (by decide) ?_
  refine lv_bipush (v := (20 : Int32)) hx hb dX5_pourIt_6 (by decide) ?_
  refine lv_iload_n hx hb dX5_pourIt_8 rfl (lv_at hl 1 rfl) ?_
  refine lv_imul hx hb dX5_pourIt_9 ?_
  refine lv_iadd hx hb dX5_pourIt_10 ?_
  refine lv_dup2_11 hx hb dX5_pourIt_11 rfl rfl ?_
  revert hf
  refine k_req (fun h2 hf => ?_)
  refine w_iald C hw h2 rfl dX5_pourIt_12 ?_
  refine lv_sipush (v := (1000 : Int32)) hx hb dX5_pourIt_13 (by decide) ?_
  refine lv_iload_n hx hb dX5_pourIt_16 rfl (lv_at hl 2 rfl) ?_
  refine lv_imul hx hb dX5_pourIt_17 ?_
  refine lv_iadd hx hb dX5_pourIt_18 ?_
  revert hf
  refine k_req (fun h3 hf => ?_)
  revert hf
  refine k_stp (fun U4 eU4 hf => ?_)
  refine w_iast C hw h3 eU4 dX5_pourIt_19 (fun H locs hw => ?_)
  refine lv_aload_n hx hb dX5_pourIt_20 rfl (lv_at hl 0 rfl) ?_
  refine lv_iload_n hx hb dX5_pourIt_21 rfl (lv_at hl 1 rfl) ?_
  revert hf
  refine k_pcl (fun z6 h5 hf => ?_)
  refine w_afi hw (w_rV (As := [.int a0]) C hw (ok_X5_allOf h5) (cw_X5_166 hts (Nat.le_of_ble_eq_true rfl) (Nat.le_of_ble_eq_true rfl)) rfl (by decide) (of_req h5).1 rfl hl.1 rfl (Nat.le_of_ble_eq_true rfl) ⟨Nat.zero_le _, Nat.zero_le _⟩ dX5_pourIt_22) (fun H locs hw => ?_)
  refine lv_sipush (v := (1000 : Int32)) hx hb dX5_pourIt_25 (by decide) ?_
  refine lv_idiv hx hb dX5_pourIt_28 (by decide) ?_
  cases hf
  exact w_iret C hr hw dX5_pourIt_29
set_option maxHeartbeats 4000000 in
theorem ok_X5_pourNow {l : Launch} {G : gG} {T : Tt} {V0 : Vt} {o : Nat} {a0 : Int32} {a1 : Int32} {r : Int32} {V' : Vt} (hf : f_X5_pourNow T V0 o a0 a1 = some (r, V')) : okM l G yX5_pourNow cX5_pourNow 4 (some .int) 4 [.ref (gb G + o), .int a0, .int a1] V0 T (some (.int r)) V' T 0 0 := by
  refine ok_intro (by decide) (Nat.le_of_ble_eq_true rfl) ?_
  intro p e s m below meth c ls C hr hnm hw hl
  have hx := C.1
  have hb := C.2.1
  have hown := C.2.2.2.1
  have hts := C.2.2.2.2.1
  have hl : lv_has ls 4 [(0, .ref (gb G + o)), (1, .int a0), (2, .int a1)] := hl
  unfold f_X5_pourNow at hf
  revert hf
  refine k_req (fun k0 hf => ?_)
  refine lv_aload_n hx hb dX5_pourNow_0 rfl (lv_at hl 0 rfl) ?_
  refine lv_iload_n hx hb dX5_pourNow_1 rfl (lv_at hl 1 rfl) ?_
  refine lv_iload_n hx hb dX5_pourNow_2 rfl (lv_at hl 2 rfl) ?_
  revert hf
  refine k_pcl (fun z2 h1 hf => ?_)
  refine w_afi hw (w_rV (As := [.int a0, .int a1]) C hw (ok_X5_whyNotPour h1) (cw_X5_418 hts (Nat.le_of_ble_eq_true rfl) (Nat.le_of_ble_eq_true rfl)) rfl (by decide) (of_req h1).1 rfl hl.1 rfl (Nat.le_of_ble_eq_true rfl) ⟨Nat.zero_le _, Nat.zero_le _⟩ dX5_pourNow_3) (fun H locs hw => ?_)
  refine lv_istore_n (lv' := [(3, .int z2), (0, .ref (gb G + o)), (1, .int a0), (2, .int a1)]) hx hb dX5_pourNow_6 rfl hl (by decide) rfl (fun ls hl => ?_)
  refine lv_iload_n hx hb dX5_pourNow_7 rfl (lv_at hl 0 rfl) ?_
  refine lv_if_ge (tgt := 13) hx hb dX5_pourNow_8 (by decide) (fun c3 => ?_) (fun c3 => ?_)
  · replace hf := ite_t c3 hf
    refine lv_aload_n hx hb dX5_pourNow_13 rfl (lv_at hl 1 rfl) ?_
    refine lv_iconst (v := (0 : Int32)) hx hb dX5_pourNow_14 (by decide) ?_
    revert hf
    refine k_pcl (fun U6 h4 hf => ?_)
    refine w_afv hw (w_rV (As := [.int (0 : Int32)]) C hw (ok_X5_remember h4) (cw_X5_421 hts (Nat.le_of_ble_eq_true rfl) (Nat.le_of_ble_eq_true rfl)) rfl (by decide) (of_req h4).1 rfl hl.1 rfl (Nat.le_of_ble_eq_true rfl) ⟨Nat.zero_le _, Nat.zero_le _⟩ dX5_pourNow_15) (fun H locs hw => ?_)
    refine lv_aload_n hx hb dX5_pourNow_18 rfl (lv_at hl 1 rfl) ?_
    refine lv_iload_n hx hb dX5_pourNow_19 rfl (lv_at hl 2 rfl) ?_
    refine lv_iload_n hx hb dX5_pourNow_20 rfl (lv_at hl 3 rfl) ?_
    revert hf
    refine k_cal (fun z8 U9 h7 hf => ?_)
    refine w_afi hw (w_rV (As := [.int a0, .int a1]) C hw (ok_X5_pourIt h7) (cw_X5_424 hts (Nat.le_of_ble_eq_true rfl) (Nat.le_of_ble_eq_true rfl)) rfl (by decide) (of_req h7).1 rfl hl.1 rfl (Nat.le_of_ble_eq_true rfl) ⟨Nat.zero_le _, Nat.zero_le _⟩ dX5_pourNow_21) (fun H locs hw => ?_)
    cases hf
    exact w_iret C hr hw dX5_pourNow_24
  · replace hf := ite_f c3 hf
    refine lv_iload_n hx hb dX5_pourNow_11 rfl (lv_at hl 0 rfl) ?_
    cases hf
    exact w_iret C hr hw dX5_pourNow_12
set_option maxHeartbeats 4000000 in
theorem ok_X5_pour {l : Launch} {G : gG} {T : Tt} {V0 : Vt} {o : Nat} {a0 : Int32} {a1 : Int32} {r : Int32} {V' : Vt} (hf : f_X5_pour T V0 o a0 a1 = some (r, V')) : okM l G yX5_pour cX5_pour 3 (some .int) 5 [.ref (gb G + o), .int a0, .int a1] V0 T (some (.int r)) V' T 0 0 := by
  refine ok_intro (by decide) (Nat.le_of_ble_eq_true rfl) ?_
  intro p e s m below meth c ls C hr hnm hw hl
  have hx := C.1
  have hb := C.2.1
  have hown := C.2.2.2.1
  have hts := C.2.2.2.2.1
  have hl : lv_has ls 3 [(0, .ref (gb G + o)), (1, .int a0), (2, .int a1)] := hl
  unfold f_X5_pour at hf
  revert hf
  refine k_req (fun k0 hf => ?_)
  refine lv_aload_n hx hb dX5_pour_0 rfl (lv_at hl 0 rfl) ?_
  refine lv_iconst (v := (0 : Int32)) hx hb dX5_pour_1 (by decide) ?_
  revert hf
  refine k_stp (fun U1 eU1 hf => ?_)
  refine pf_X5_133 C hw k0 eU1 dX5_pour_2 (fun H locs hw => ?_)
  refine lv_aload_n hx hb dX5_pour_5 rfl (lv_at hl 0 rfl) ?_
  refine lv_aload_n hx hb dX5_pour_6 rfl (lv_at hl 0 rfl) ?_
  refine lv_iload_n hx hb dX5_pour_7 rfl (lv_at hl 1 rfl) ?_
  refine lv_iload_n hx hb dX5_pour_8 rfl (lv_at hl 2 rfl) ?_
  revert hf
  refine k_cal (fun z3 U4 h2 hf => ?_)
  refine w_afi hw (w_rV (As := [.int a0, .int a1]) C hw (ok_X5_pourNow h2) (cw_X5_427 hts (Nat.le_of_ble_eq_true rfl) (Nat.le_of_ble_eq_true rfl)) rfl (by decide) (of_req h2).1 rfl hl.1 rfl (Nat.le_of_ble_eq_true rfl) ⟨Nat.zero_le _, Nat.zero_le _⟩ dX5_pour_9) (fun H locs hw => ?_)
  revert hf
  refine k_cal (fun z6 U7 h5 hf => ?_)
  refine w_afi hw (w_rV (As := [.int z3]) C hw (ok_X5_tell h5) (cw_X5_142 hts (Nat.le_of_ble_eq_true rfl) (Nat.le_of_ble_eq_true rfl)) rfl (by decide) (of_req h5).1 rfl hl.1 rfl (Nat.le_of_ble_eq_true rfl) ⟨Nat.zero_le _, Nat.zero_le _⟩ dX5_pour_12) (fun H locs hw => ?_)
  cases hf
  exact w_iret C hr hw dX5_pour_15
set_option maxHeartbeats 4000000 in
theorem jk_X5_whyNotRack_79 {l : Launch} {G : gG} {p : Program} {e : Env} {s : State} {m : MethodId} {args : Array Value} {below : List Frame} {meth : Method} {c : Code} {T : Tt} {V0 : Vt} {r : Int32} {V' : Vt} (C : Cx G p s m args meth c cX5_whyNotRack RX5 5) (hr : meth.sig.returnType = (some .int)) {x0 : Nat} {x1 : Int32} {x2 : Int32} {x3 : Int32} {s0 : Int32} {H : Heap} {locs : List Loc} {ls : Array Slot} (k0 : T.1 x0 = 6) (hf : f_X5_whyNotRack_J79 T V0 x0 x1 x2 x3 s0 = some (r, V')) (hw : wS G V0 T H locs) (hl : lv_has ls 5 [(0, .ref (gb G + x0)), (1, .int x1), (2, .int x2), (3, .int x3)]) : W p l e (rmL 9 0 0) s m args below meth c H locs 0 0 (eQ G below (some (.int r)) V' T args s 0 0) (F0 m 79 ls [.int s0]) := by
  have hx := C.1
  have hb := C.2.1
  have hown := C.2.2.2.1
  have hts := C.2.2.2.2.1
  unfold f_X5_whyNotRack_J79 at hf
  refine lv_istore (lv' := [(4, .int s0), (0, .ref (gb G + x0)), (1, .int x1), (2, .int x2), (3, .int x3)]) hx hb dX5_whyNotRack_79 hl (by decide) rfl (fun ls hl => ?_)
  refine lv_iload hx hb dX5_whyNotRack_81 (lv_at hl 0 rfl) ?_
  refine lv_if_eq (tgt := 125) hx hb dX5_whyNotRack_83 (by decide) (fun c15 => ?_) (fun c15 => ?_)
  · replace hf := ite_t c15 hf
    refine lv_bipush (v := ((-3) : Int32)) hx hb dX5_whyNotRack_125 (by decide) ?_
    cases hf
    exact w_iret C hr hw dX5_whyNotRack_127
  · replace hf := ite_f c15 hf
    refine lv_aload_n hx hb dX5_whyNotRack_86 rfl (lv_at hl 1 rfl) ?_
    refine lv_iload_n hx hb dX5_whyNotRack_87 rfl (lv_at hl 2 rfl) ?_
    revert hf
    refine k_cal (fun z17 U18 h16 hf => ?_)
    refine w_afi hw (w_rV (As := [.int x1]) C hw (ok_X5_yieldsOf h16) (cw_X5_194 hts (Nat.le_of_ble_eq_true rfl) (Nat.le_of_ble_eq_true rfl)) rfl (by decide) (of_req h16).1 rfl hl.1 rfl (Nat.le_of_ble_eq_true rfl) ⟨Nat.zero_le _, Nat.zero_le _⟩ dX5_whyNotRack_88) (fun H locs hw => ?_)
    refine lv_iload_n hx hb dX5_whyNotRack_91 rfl (lv_at hl 4 rfl) ?_
    refine lv_icmp_lt (tgt := 125) hx hb dX5_whyNotRack_92 (by decide) (fun c19 => ?_) (fun c19 => ?_)
    · replace hf := ite_t c19 hf
      refine lv_bipush (v := ((-3) : Int32)) hx hb dX5_whyNotRack_125 (by decide) ?_
      cases hf
      exact w_iret C hr hw dX5_whyNotRack_127
    · replace hf := ite_f c19 hf
      refine lv_aload_n hx hb dX5_whyNotRack_95 rfl (lv_at hl 1 rfl) ?_
      refine lv_iload_n hx hb dX5_whyNotRack_96 rfl (lv_at hl 2 rfl) ?_
      revert hf
      refine k_pcl (fun z21 h20 hf => ?_)
      refine w_afi hw (w_rV (As := [.int x1]) C hw (ok_X5_allOf h20) (cw_X5_166 hts (Nat.le_of_ble_eq_true rfl) (Nat.le_of_ble_eq_true rfl)) rfl (by decide) (of_req h20).1 rfl hl.1 rfl (Nat.le_of_ble_eq_true rfl) ⟨Nat.zero_le _, Nat.zero_le _⟩ dX5_whyNotRack_97) (fun H locs hw => ?_)
      refine lv_sipush (v := (1000 : Int32)) hx hb dX5_whyNotRack_100 (by decide) ?_
      refine lv_iload_n hx hb dX5_whyNotRack_103 rfl (lv_at hl 4 rfl) ?_
      refine lv_imul hx hb dX5_whyNotRack_104 ?_
      refine lv_icmp_lt (tgt := 125) hx hb dX5_whyNotRack_105 (by decide) (fun c22 => ?_) (fun c22 => ?_)
      · replace hf := ite_t c22 hf
        refine lv_bipush (v := ((-3) : Int32)) hx hb dX5_whyNotRack_125 (by decide) ?_
        cases hf
        exact w_iret C hr hw dX5_whyNotRack_127
      · replace hf := ite_f c22 hf
        refine lv_aload_n hx hb dX5_whyNotRack_108 rfl (lv_at hl 1 rfl) ?_
        refine lv_iload_n hx hb dX5_whyNotRack_109 rfl (lv_at hl 3 rfl) ?_
        revert hf
        refine k_pcl (fun z24 h23 hf => ?_)
        refine w_afi hw (w_rV (As := [.int x2]) C hw (ok_X5_roomOf h23) (cw_X5_374 hts (Nat.le_of_ble_eq_true rfl) (Nat.le_of_ble_eq_true rfl)) rfl (by decide) (of_req h23).1 rfl hl.1 rfl (Nat.le_of_ble_eq_true rfl) ⟨Nat.zero_le _, Nat.zero_le _⟩ dX5_whyNotRack_110) (fun H locs hw => ?_)
        refine lv_sipush (v := (1000 : Int32)) hx hb dX5_whyNotRack_113 (by decide) ?_
        refine lv_iload_n hx hb dX5_whyNotRack_116 rfl (lv_at hl 4 rfl) ?_
        refine lv_imul hx hb dX5_whyNotRack_117 ?_
        refine lv_icmp_lt (tgt := 125) hx hb dX5_whyNotRack_118 (by decide) (fun c25 => ?_) (fun c25 => ?_)
        · replace hf := ite_t c25 hf
          refine lv_bipush (v := ((-3) : Int32)) hx hb dX5_whyNotRack_125 (by decide) ?_
          cases hf
          exact w_iret C hr hw dX5_whyNotRack_127
        · replace hf := ite_f c25 hf
          refine lv_iconst (v := (0 : Int32)) hx hb dX5_whyNotRack_121 (by decide) ?_
          refine lv_goto (tgt := 127) hx hb dX5_whyNotRack_122 (by decide) ?_
          cases hf
          exact w_iret C hr hw dX5_whyNotRack_127
set_option maxHeartbeats 4000000 in
theorem jk_X5_whyNotRack_78 {l : Launch} {G : gG} {p : Program} {e : Env} {s : State} {m : MethodId} {args : Array Value} {below : List Frame} {meth : Method} {c : Code} {T : Tt} {V0 : Vt} {r : Int32} {V' : Vt} (C : Cx G p s m args meth c cX5_whyNotRack RX5 5) (hr : meth.sig.returnType = (some .int)) {x0 : Nat} {x1 : Int32} {x2 : Int32} {x3 : Int32} {H : Heap} {locs : List Loc} {ls : Array Slot} (k0 : T.1 x0 = 6) (hf : f_X5_whyNotRack_J78 T V0 x0 x1 x2 x3 = some (r, V')) (hw : wS G V0 T H locs) (hl : lv_has ls 5 [(0, .ref (gb G + x0)), (1, .int x1), (2, .int x2), (3, .int x3)]) : W p l e (rmL 9 0 0) s m args below meth c H locs 0 0 (eQ G below (some (.int r)) V' T args s 0 0) (F0 m 78 ls []) := by
  have hx := C.1
  have hb := C.2.1
  have hown := C.2.2.2.1
  have hts := C.2.2.2.2.1
  unfold f_X5_whyNotRack_J78 at hf
  refine lv_iconst (v := (0 : Int32)) hx hb dX5_whyNotRack_78 (by decide) ?_
  exact jk_X5_whyNotRack_79 C hr k0 hf hw (lv_sub hl [0, 1, 2, 3] rfl)
set_option maxHeartbeats 4000000 in
theorem ok_X5_whyNotRack {l : Launch} {G : gG} {T : Tt} {V0 : Vt} {o : Nat} {a0 : Int32} {a1 : Int32} {a2 : Int32} {r : Int32} {V' : Vt} (hf : f_X5_whyNotRack T V0 o a0 a1 a2 = some (r, V')) : okM l G yX5_whyNotRack cX5_whyNotRack 5 (some .int) 9 [.ref (gb G + o), .int a0, .int a1, .int a2] V0 T (some (.int r)) V' T 0 0 := by
  refine ok_intro (by decide) (Nat.le_of_ble_eq_true rfl) ?_
  intro p e s m below meth c ls C hr hnm hw hl
  have hx := C.1
  have hb := C.2.1
  have hown := C.2.2.2.1
  have hts := C.2.2.2.2.1
  have hl : lv_has ls 5 [(0, .ref (gb G + o)), (1, .int a0), (2, .int a1), (3, .int a2)] := hl
  unfold f_X5_whyNotRack at hf
  revert hf
  refine k_req (fun k0 hf => ?_)
  refine lv_iload_n hx hb dX5_whyNotRack_0 rfl (lv_at hl 3 rfl) ?_
  refine lv_i2l hx hb dX5_whyNotRack_1 rfl ?_
  refine lv_lconst (v := (1 : Int64)) hx hb dX5_whyNotRack_2 (by decide) ?_
  refine lv_ldc2 (v := (999 : Int64)) hx hb hown (hts _ q1729) dX5_whyNotRack_3 ?_
  revert hf
  refine k_pcl (fun z2 h1 hf => ?_)
  refine w_afi hw (w_rS (As := [.long (Int32.toInt64 a2), .long (1 : Int64), .long (999 : Int64)]) C hw (ok_X5_in h1) (cw_X5_153 hts (Nat.le_of_ble_eq_true rfl) (Nat.le_of_ble_eq_true rfl)) rfl hl.1 rfl (Nat.le_of_ble_eq_true rfl) ⟨Nat.zero_le _, Nat.zero_le _⟩ dX5_whyNotRack_6) (fun H locs hw => ?_)
  refine lv_if_ne (tgt := 14) hx hb dX5_whyNotRack_9 (by decide) (fun c3 => ?_) (fun c3 => ?_)
  · replace hf := ite_f c3 hf
    refine lv_aload_n hx hb dX5_whyNotRack_14 rfl (lv_at hl 0 rfl) ?_
    refine lv_iload_n hx hb dX5_whyNotRack_15 rfl (lv_at hl 1 rfl) ?_
    revert hf
    refine k_pcl (fun z5 h4 hf => ?_)
    refine w_afi hw (w_rV (As := [.int a0]) C hw (ok_X5_isCask h4) (cw_X5_184 hts (Nat.le_of_ble_eq_true rfl) (Nat.le_of_ble_eq_true rfl)) rfl (by decide) (of_req h4).1 rfl hl.1 rfl (Nat.le_of_ble_eq_true rfl) ⟨Nat.zero_le _, Nat.zero_le _⟩ dX5_whyNotRack_16) (fun H locs hw => ?_)
    refine lv_if_eq (tgt := 30) hx hb dX5_whyNotRack_19 (by decide) (fun c6 => ?_) (fun c6 => ?_)
    · replace hf := ite_t c6 hf
      refine lv_bipush (v := ((-2) : Int32)) hx hb dX5_whyNotRack_30 (by decide) ?_
      cases hf
      exact w_iret C hr hw dX5_whyNotRack_32
    · replace hf := ite_f c6 hf
      refine lv_aload_n hx hb dX5_whyNotRack_22 rfl (lv_at hl 0 rfl) ?_
      refine lv_iload_n hx hb dX5_whyNotRack_23 rfl (lv_at hl 2 rfl) ?_
      revert hf
      refine k_pcl (fun z8 h7 hf => ?_)
      refine w_afi hw (w_rV (As := [.int a1]) C hw (ok_X5_isCask h7) (cw_X5_184 hts (Nat.le_of_ble_eq_true rfl) (Nat.le_of_ble_eq_true rfl)) rfl (by decide) (of_req h7).1 rfl hl.1 rfl (Nat.le_of_ble_eq_true rfl) ⟨Nat.zero_le _, Nat.zero_le _⟩ dX5_whyNotRack_24) (fun H locs hw => ?_)
      refine lv_if_ne (tgt := 33) hx hb dX5_whyNotRack_27 (by decide) (fun c9 => ?_) (fun c9 => ?_)
      · replace hf := ite_f c9 hf
        refine lv_aload_n hx hb dX5_whyNotRack_33 rfl (lv_at hl 0 rfl) ?_
        revert hf
        refine k_drf (fun r10 er10 hf => ?_)
        refine gf_X5_13 C hw k0 er10 dX5_whyNotRack_34 ?_
        refine lv_sipush (v := (170 : Int32)) hx hb dX5_whyNotRack_37 (by decide) ?_
        refine lv_iload_n hx hb dX5_whyNotRack_40 rfl (lv_at hl 2 rfl) ?_
        refine lv_iadd hx hb dX5_whyNotRack_41 ?_
        revert hf
        refine k_req (fun h11 hf => ?_)
        refine w_iald C hw h11 rfl dX5_whyNotRack_42 ?_
        refine lv_aload_n hx hb dX5_whyNotRack_43 rfl (lv_at hl 0 rfl) ?_
        revert hf
        refine k_drf (fun r12 er12 hf => ?_)
        refine gf_X5_13 C hw k0 er12 dX5_whyNotRack_44 ?_
        refine lv_sipush (v := (170 : Int32)) hx hb dX5_whyNotRack_47 (by decide) ?_
        refine lv_iload_n hx hb dX5_whyNotRack_50 rfl (lv_at hl 1 rfl) ?_
        refine lv_iadd hx hb dX5_whyNotRack_51 ?_
        revert hf
        refine k_req (fun h13 hf => ?_)
        refine w_iald C hw h13 rfl dX5_whyNotRack_52 ?_
        refine lv_iconst (v := (1 : Int32)) hx hb dX5_whyNotRack_53 (by decide) ?_
        refine lv_isub hx hb dX5_whyNotRack_54 ?_
        refine lv_icmp_ne (tgt := 78) hx hb dX5_whyNotRack_55 (by decide) (fun c14 => ?_) (fun c14 => ?_)
        · replace hf := ite_f c14 hf
          exact jk_X5_whyNotRack_78 C hr k0 hf hw (lv_sub hl [0, 1, 2, 3] rfl)
        · replace hf := ite_t c14 hf
          refine lv_aload_n hx hb dX5_whyNotRack_58 rfl (lv_at hl 0 rfl) ?_
          refine lv_iload_n hx hb dX5_whyNotRack_59 rfl (lv_at hl 1 rfl) ?_
          revert hf
          refine k_cal (fun z27 U28 h26 hf => ?_)
          refine w_afi hw (w_rV (As := [.int a0]) C hw (ok_X5_isBarred h26) (cw_X5_197 hts (Nat.le_of_ble_eq_true rfl) (Nat.le_of_ble_eq_true rfl)) rfl (by decide) (of_req h26).1 rfl hl.1 rfl (Nat.le_of_ble_eq_true rfl) ⟨Nat.zero_le _, Nat.zero_le _⟩ dX5_whyNotRack_60) (fun H locs hw => ?_)
          refine lv_if_ne (tgt := 78) hx hb dX5_whyNotRack_63 (by decide) (fun c29 => ?_) (fun c29 => ?_)
          · replace hf := ite_f c29 hf
            exact jk_X5_whyNotRack_78 C hr k0 hf hw (lv_sub hl [0, 1, 2, 3] rfl)
          · replace hf := ite_t c29 hf
            refine lv_aload_n hx hb dX5_whyNotRack_66 rfl (lv_at hl 0 rfl) ?_
            refine lv_iload_n hx hb dX5_whyNotRack_67 rfl (lv_at hl 2 rfl) ?_
            revert hf
            refine k_cal (fun z31 U32 h30 hf => ?_)
            refine w_afi hw (w_rV (As := [.int a1]) C hw (ok_X5_isBarred h30) (cw_X5_197 hts (Nat.le_of_ble_eq_true rfl) (Nat.le_of_ble_eq_true rfl)) rfl (by decide) (of_req h30).1 rfl hl.1 rfl (Nat.le_of_ble_eq_true rfl) ⟨Nat.zero_le _, Nat.zero_le _⟩ dX5_whyNotRack_68) (fun H locs hw => ?_)
            refine lv_if_ne (tgt := 78) hx hb dX5_whyNotRack_71 (by decide) (fun c33 => ?_) (fun c33 => ?_)
            · replace hf := ite_f c33 hf
              exact jk_X5_whyNotRack_78 C hr k0 hf hw (lv_sub hl [0, 1, 2, 3] rfl)
            · replace hf := ite_t c33 hf
              refine lv_iconst (v := (1 : Int32)) hx hb dX5_whyNotRack_74 (by decide) ?_
              refine lv_goto (tgt := 79) hx hb dX5_whyNotRack_75 (by decide) ?_
              exact jk_X5_whyNotRack_79 C hr k0 hf hw (lv_sub hl [0, 1, 2, 3] rfl)
      · replace hf := ite_t c9 hf
        refine lv_bipush (v := ((-2) : Int32)) hx hb dX5_whyNotRack_30 (by decide) ?_
        cases hf
        exact w_iret C hr hw dX5_whyNotRack_32
  · replace hf := ite_t c3 hf
    refine lv_iconst (v := ((-1) : Int32)) hx hb dX5_whyNotRack_12 (by decide) ?_
    cases hf
    exact w_iret C hr hw dX5_whyNotRack_13
set_option maxHeartbeats 4000000 in
theorem jk_X5_takeOut_115 {l : Launch} {G : gG} {p : Program} {e : Env} {s : State} {m : MethodId} {args : Array Value} {below : List Frame} {meth : Method} {c : Code} {T : Tt} {V0 : Vt} {r : Int32} {V' : Vt} (C : Cx G p s m args meth c cX5_takeOut RX5 9) (hr : meth.sig.returnType = (some .int)) {x0 : Nat} {x1 : Int32} {x2 : Int32} {x5 : Int32} {x6 : Int64} {x8 : Int32} {kc74 : Int32 → Int64 → Int32 → Vt → Option (Int32 × Vt)} {kx74_163 : Int64 → Vt → Option (Int32 × Vt)} {H : Heap} {locs : List Loc} {ls : Array Slot} (k0 : T.1 x0 = 6) (hf : f_X5_takeOut_J115 T V0 x0 x1 x2 x5 x6 x8 kc74 kx74_163 = some (r, V')) (hw : wS G V0 T H locs) (hl : lv_has ls 9 [(0, .ref (gb G + x0)), (1, .int x1), (2, .int x2), (5, .int x5), (6, .long x6), (8, .int x8)]) (hkc74 : ∀ (y5 : Int32) (y6 : Int64) (y8 : Int32) (W1 : Vt) (H : Heap) (locs : List Loc) (ls : Array Slot), kc74 y5 y6 y8 W1 = some (r, V') → wS G W1 T H locs → lv_has ls 9 [(0, .ref (gb G + x0)), (1, .int x1), (2, .int x2), (5, .int y5), (6, .long y6), (8, .int y8)] → W p l e (rmL 2 0 0) s m args below meth c H locs 0 0 (eQ G below (some (.int r)) V' T args s 0 0) (F0 m 74 ls [])) (hkx74_163 : ∀ (y6 : Int64) (W1 : Vt) (H : Heap) (locs : List Loc) (ls : Array Slot), kx74_163 y6 W1 = some (r, V') → wS G W1 T H locs → lv_has ls 9 [(2, .int x2), (6, .long y6)] → W p l e (rmL 2 0 0) s m args below meth c H locs 0 0 (eQ G below (some (.int r)) V' T args s 0 0) (F0 m 163 ls [])) : W p l e (rmL 2 0 0) s m args below meth c H locs 0 0 (eQ G below (some (.int r)) V' T args s 0 0) (F0 m 115 ls []) := by
  have hx := C.1
  have hb := C.2.1
  have hown := C.2.2.2.1
  have hts := C.2.2.2.2.1
  unfold f_X5_takeOut_J115 at hf
  refine lv_lload hx hb dX5_takeOut_115 (lv_at hl 4 rfl) ?_
  refine lv_iload hx hb dX5_takeOut_117 (lv_at hl 5 rfl) ?_
  refine lv_i2l hx hb dX5_takeOut_119 rfl ?_
  refine lv_aload_n hx hb dX5_takeOut_120 rfl (lv_at hl 0 rfl) ?_
  revert hf
  refine k_drf (fun r20 er20 hf => ?_)
  refine gf_X5_104 C hw k0 er20 dX5_takeOut_121 ?_
  refine lv_iload hx hb dX5_takeOut_124 (lv_at hl 5 rfl) ?_
  revert hf
  refine k_req (fun h21 hf => ?_)
  refine w_iald C hw h21 rfl dX5_takeOut_126 ?_
  refine lv_i2l hx hb dX5_takeOut_127 rfl ?_
  refine lv_lmul hx hb dX5_takeOut_128 ?_
  refine lv_ladd hx hb dX5_takeOut_129 ?_
  revert hf
  refine k_stp (fun z22 ez22 hf => ?_)
  refine w_nmL ez22 ?_
  refine lv_lstore (lv' := [(6, .long z22), (0, .ref (gb G + x0)), (1, .int x1), (2, .int x2), (5, .int x5), (8, .int x8)]) hx hb dX5_takeOut_130 hl (by decide) rfl (fun ls hl => ?_)
  refine lv_aload_n hx hb dX5_takeOut_132 rfl (lv_at hl 1 rfl) ?_
  revert hf
  refine k_drf (fun r23 er23 hf => ?_)
  refine gf_X5_13 C hw k0 er23 dX5_takeOut_133 ?_
  refine lv_bipush (v := (10 : Int32)) hx hb dX5_takeOut_136 (by decide) ?_
  refine lv_bipush (v := (20 : Int32)) hx hb dX5_takeOut_138 (by decide) ?_
  refine lv_iload_n hx hb dX5_takeOut_140 rfl (lv_at hl 2 rfl) ?_
  refine lv_imul hx hb dX5_takeOut_141 ?_
  refine lv_iadd hx hb dX5_takeOut_142 ?_
  refine lv_iload hx hb dX5_takeOut_143 (lv_at hl 5 rfl) ?_
  refine lv_iadd hx hb dX5_takeOut_145 ?_
  refine lv_dup2_11 hx hb dX5_takeOut_146 rfl rfl ?_
  revert hf
  refine k_req (fun h24 hf => ?_)
  refine w_iald C hw h24 rfl dX5_takeOut_147 ?_
  refine lv_aload_n hx hb dX5_takeOut_148 rfl (lv_at hl 1 rfl) ?_
  revert hf
  refine k_drf (fun r25 er25 hf => ?_)
  refine gf_X5_104 C hw k0 er25 dX5_takeOut_149 ?_
  refine lv_iload hx hb dX5_takeOut_152 (lv_at hl 5 rfl) ?_
  revert hf
  refine k_req (fun h26 hf => ?_)
  refine w_iald C hw h26 rfl dX5_takeOut_154 ?_
  refine lv_isub hx hb dX5_takeOut_155 ?_
  revert hf
  refine k_req (fun h27 hf => ?_)
  revert hf
  refine k_stp (fun U28 eU28 hf => ?_)
  refine w_iast C hw h27 eU28 dX5_takeOut_156 (fun H locs hw => ?_)
  revert hf
  refine k_stp (fun z29 ez29 hf => ?_)
  refine lv_iinc (k := 5) (lv' := [(8, .int z29), (6, .long z22), (0, .ref (gb G + x0)), (1, .int x1), (2, .int x2), (5, .int x5)]) hx hb dX5_takeOut_157 hl rfl (inc_e (by decide) ez29) (by decide) rfl (fun ls hl => ?_)
  refine lv_goto (tgt := 74) hx hb dX5_takeOut_160 (by decide) ?_
  exact hkc74 _ _ _ _ _ _ _ hf hw (lv_sub hl [2, 3, 4, 5, 1, 0] rfl)
set_option maxHeartbeats 4000000 in
theorem lk_X5_takeOut_74 {l : Launch} {G : gG} {p : Program} {e : Env} {s : State} {m : MethodId} {args : Array Value} {below : List Frame} {meth : Method} {c : Code} {T : Tt} {r : Int32} {V' : Vt} (C : Cx G p s m args meth c cX5_takeOut RX5 9) (hr : meth.sig.returnType = (some .int)) {x0 : Nat} {x1 : Int32} {x2 : Int32} {kx74_163 : Int64 → Vt → Option (Int32 × Vt)} (k0 : T.1 x0 = 6) (hkx74_163 : ∀ (y6 : Int64) (W1 : Vt) (H : Heap) (locs : List Loc) (ls : Array Slot), kx74_163 y6 W1 = some (r, V') → wS G W1 T H locs → lv_has ls 9 [(2, .int x2), (6, .long y6)] → W p l e (rmL 2 0 0) s m args below meth c H locs 0 0 (eQ G below (some (.int r)) V' T args s 0 0) (F0 m 163 ls [])) : ∀ (n : Nat) (x5 : Int32) (x6 : Int64) (x8 : Int32) (V1 : Vt) (H : Heap) (locs : List Loc) (ls : Array Slot), f_X5_takeOut_L74 T x0 x1 x2 kx74_163 n x5 x6 x8 V1 = some (r, V') → wS G V1 T H locs → lv_has ls 9 [(0, .ref (gb G + x0)), (1, .int x1), (2, .int x2), (5, .int x5), (6, .long x6), (8, .int x8)] → W p l e (rmL 2 0 0) s m args below meth c H locs 0 0 (eQ G below (some (.int r)) V' T args s 0 0) (F0 m 74 ls []) := by
  have hx := C.1
  have hb := C.2.1
  have hown := C.2.2.2.1
  have hts := C.2.2.2.2.1
  intro n
  induction n with
  | zero =>
    intro x5 x6 x8 V1 H locs ls hf
    cases hf
  | succ n ih =>
    intro x5 x6 x8 V1 H locs ls hf hw hl
    unfold f_X5_takeOut_L74 at hf
    refine lv_iload hx hb dX5_takeOut_74 (lv_at hl 5 rfl) ?_
    refine lv_if_lt (tgt := 163) hx hb dX5_takeOut_76 (by decide) (fun c18 => ?_) (fun c18 => ?_)
    · replace hf := ite_t c18 hf
      exact hkx74_163 _ _ _ _ _ hf hw (lv_sub hl [2, 4] rfl)
    · replace hf := ite_f c18 hf
      refine lv_iload hx hb dX5_takeOut_79 (lv_at hl 3 rfl) ?_
      refine lv_if_le (tgt := 115) hx hb dX5_takeOut_81 (by decide) (fun c19 => ?_) (fun c19 => ?_)
      · replace hf := ite_t c19 hf
        exact jk_X5_takeOut_115 C hr k0 hf hw (lv_sub hl [0, 1, 2, 3, 4, 5] rfl) ih hkx74_163
      · replace hf := ite_f c19 hf
        refine lv_aload_n hx hb dX5_takeOut_84 rfl (lv_at hl 0 rfl) ?_
        revert hf
        refine k_drf (fun r30 er30 hf => ?_)
        refine gf_X5_104 C hw k0 er30 dX5_takeOut_85 ?_
        refine lv_iload hx hb dX5_takeOut_88 (lv_at hl 5 rfl) ?_
        revert hf
        refine k_req (fun h31 hf => ?_)
        refine w_iald C hw h31 rfl dX5_takeOut_90 ?_
        refine lv_aload_n hx hb dX5_takeOut_91 rfl (lv_at hl 0 rfl) ?_
        refine lv_iload_n hx hb dX5_takeOut_92 rfl (lv_at hl 1 rfl) ?_
        refine lv_iload hx hb dX5_takeOut_93 (lv_at hl 5 rfl) ?_
        revert hf
        refine k_pcl (fun z33 h32 hf => ?_)
        refine w_afi hw (w_rV (As := [.int x1, .int x8]) C hw (ok_X5_dropsOf h32) (cw_X5_160 hts (Nat.le_of_ble_eq_true rfl) (Nat.le_of_ble_eq_true rfl)) rfl (by decide) (of_req h32).1 rfl hl.1 rfl (Nat.le_of_ble_eq_true rfl) ⟨Nat.zero_le _, Nat.zero_le _⟩ dX5_takeOut_95) (fun H locs hw => ?_)
        refine lv_icmp_ge (tgt := 115) hx hb dX5_takeOut_98 (by decide) (fun c34 => ?_) (fun c34 => ?_)
        · replace hf := ite_t c34 hf
          exact jk_X5_takeOut_115 C hr k0 hf hw (lv_sub hl [0, 1, 2, 3, 4, 5] rfl) ih hkx74_163
        · replace hf := ite_f c34 hf
          refine lv_aload_n hx hb dX5_takeOut_101 rfl (lv_at hl 0 rfl) ?_
          revert hf
          refine k_drf (fun r35 er35 hf => ?_)
          refine gf_X5_104 C hw k0 er35 dX5_takeOut_102 ?_
          refine lv_iload hx hb dX5_takeOut_105 (lv_at hl 5 rfl) ?_
          refine lv_dup2_11 hx hb dX5_takeOut_107 rfl rfl ?_
          revert hf
          refine k_req (fun h36 hf => ?_)
          refine w_iald C hw h36 rfl dX5_takeOut_108 ?_
          refine lv_iconst (v := (1 : Int32)) hx hb dX5_takeOut_109 (by decide) ?_
          refine lv_iadd hx hb dX5_takeOut_110 ?_
          revert hf
          refine k_req (fun h37 hf => ?_)
          revert hf
          refine k_stp (fun U38 eU38 hf => ?_)
          refine w_iast C hw h37 eU38 dX5_takeOut_111 (fun H locs hw => ?_)
          revert hf
          refine k_stp (fun z39 ez39 hf => ?_)
          refine lv_iinc (k := 3) (lv' := [(5, .int z39), (0, .ref (gb G + x0)), (1, .int x1), (2, .int x2), (6, .long x6), (8, .int x8)]) hx hb dX5_takeOut_112 hl rfl (inc_e (by decide) ez39) (by decide) rfl (fun ls hl => ?_)
          exact jk_X5_takeOut_115 C hr k0 hf hw (lv_sub hl [1, 2, 3, 0, 4, 5] rfl) ih hkx74_163
set_option maxHeartbeats 4000000 in
theorem lk_X5_takeOut_17 {l : Launch} {G : gG} {p : Program} {e : Env} {s : State} {m : MethodId} {args : Array Value} {below : List Frame} {meth : Method} {c : Code} {T : Tt} {r : Int32} {V' : Vt} (C : Cx G p s m args meth c cX5_takeOut RX5 9) (hr : meth.sig.returnType = (some .int)) {x0 : Nat} {x1 : Int32} {x2 : Int32} {x3 : Int64} {kx17_67 : Int32 → Vt → Option (Int32 × Vt)} (k0 : T.1 x0 = 6) (hkx17_67 : ∀ (y5 : Int32) (W1 : Vt) (H : Heap) (locs : List Loc) (ls : Array Slot), kx17_67 y5 W1 = some (r, V') → wS G W1 T H locs → lv_has ls 9 [(0, .ref (gb G + x0)), (1, .int x1), (2, .int x2), (5, .int y5)] → W p l e (rmL 2 0 0) s m args below meth c H locs 0 0 (eQ G below (some (.int r)) V' T args s 0 0) (F0 m 67 ls [])) : ∀ (n : Nat) (x5 : Int32) (x6 : Int32) (V1 : Vt) (H : Heap) (locs : List Loc) (ls : Array Slot), f_X5_takeOut_L17 T x0 x1 x2 x3 kx17_67 n x5 x6 V1 = some (r, V') → wS G V1 T H locs → lv_has ls 9 [(0, .ref (gb G + x0)), (1, .int x1), (2, .int x2), (3, .long x3), (5, .int x5), (6, .int x6)] → W p l e (rmL 2 0 0) s m args below meth c H locs 0 0 (eQ G below (some (.int r)) V' T args s 0 0) (F0 m 17 ls []) := by
  have hx := C.1
  have hb := C.2.1
  have hown := C.2.2.2.1
  have hts := C.2.2.2.2.1
  intro n
  induction n with
  | zero =>
    intro x5 x6 V1 H locs ls hf
    cases hf
  | succ n ih =>
    intro x5 x6 V1 H locs ls hf hw hl
    unfold f_X5_takeOut_L17 at hf
    refine lv_iload hx hb dX5_takeOut_17 (lv_at hl 5 rfl) ?_
    refine lv_bipush (v := (20 : Int32)) hx hb dX5_takeOut_19 (by decide) ?_
    refine lv_icmp_ge (tgt := 67) hx hb dX5_takeOut_21 (by decide) (fun c5 => ?_) (fun c5 => ?_)
    · replace hf := ite_t c5 hf
      exact hkx17_67 _ _ _ _ _ hf hw (lv_sub hl [0, 1, 2, 4] rfl)
    · replace hf := ite_f c5 hf
      refine lv_aload_n hx hb dX5_takeOut_24 rfl (lv_at hl 0 rfl) ?_
      revert hf
      refine k_drf (fun r6 er6 hf => ?_)
      refine gf_X5_104 C hw k0 er6 dX5_takeOut_25 ?_
      refine lv_iload hx hb dX5_takeOut_28 (lv_at hl 5 rfl) ?_
      refine lv_aload_n hx hb dX5_takeOut_30 rfl (lv_at hl 0 rfl) ?_
      refine lv_iload_n hx hb dX5_takeOut_31 rfl (lv_at hl 1 rfl) ?_
      refine lv_iload hx hb dX5_takeOut_32 (lv_at hl 5 rfl) ?_
      revert hf
      refine k_pcl (fun z8 h7 hf => ?_)
      refine w_afi hw (w_rV (As := [.int x1, .int x6]) C hw (ok_X5_dropsOf h7) (cw_X5_160 hts (Nat.le_of_ble_eq_true rfl) (Nat.le_of_ble_eq_true rfl)) rfl (by decide) (of_req h7).1 rfl hl.1 rfl (Nat.le_of_ble_eq_true rfl) ⟨Nat.zero_le _, Nat.zero_le _⟩ dX5_takeOut_34) (fun H locs hw => ?_)
      refine lv_i2l hx hb dX5_takeOut_37 rfl ?_
      refine lv_iload_n hx hb dX5_takeOut_38 rfl (lv_at hl 2 rfl) ?_
      refine lv_i2l hx hb dX5_takeOut_39 rfl ?_
      refine lv_lmul hx hb dX5_takeOut_40 ?_
      refine lv_ldc2 (v := (1000 : Int64)) hx hb hown (hts _ q1750) dX5_takeOut_41 ?_
      refine lv_lmul hx hb dX5_takeOut_44 ?_
      refine lv_lload_n hx hb dX5_takeOut_45 rfl (lv_at hl 3 rfl) ?_
      revert hf
      refine k_req (fun h9 hf => ?_)
      refine lv_ldiv hx hb dX5_takeOut_46 h9 ?_
      refine lv_l2i hx hb dX5_takeOut_47 rfl ?_
      revert hf
      refine k_req (fun h10 hf => ?_)
      revert hf
      refine k_stp (fun U11 eU11 hf => ?_)
      refine w_iast C hw h10 eU11 dX5_takeOut_48 (fun H locs hw => ?_)
      refine lv_iload hx hb dX5_takeOut_49 (lv_at hl 4 rfl) ?_
      refine lv_aload_n hx hb dX5_takeOut_51 rfl (lv_at hl 0 rfl) ?_
      revert hf
      refine k_drf (fun r12 er12 hf => ?_)
      refine gf_X5_104 C hw k0 er12 dX5_takeOut_52 ?_
      refine lv_iload hx hb dX5_takeOut_55 (lv_at hl 5 rfl) ?_
      revert hf
      refine k_req (fun h13 hf => ?_)
      refine w_iald C hw h13 rfl dX5_takeOut_57 ?_
      refine lv_isub hx hb dX5_takeOut_58 ?_
      revert hf
      refine k_stp (fun z14 ez14 hf => ?_)
      refine w_nmI ez14 ?_
      refine lv_istore (lv' := [(5, .int z14), (0, .ref (gb G + x0)), (1, .int x1), (2, .int x2), (3, .long x3), (6, .int x6)]) hx hb dX5_takeOut_59 hl (by decide) rfl (fun ls hl => ?_)
      revert hf
      refine k_stp (fun z15 ez15 hf => ?_)
      refine lv_iinc (k := 5) (lv' := [(6, .int z15), (5, .int z14), (0, .ref (gb G + x0)), (1, .int x1), (2, .int x2), (3, .long x3)]) hx hb dX5_takeOut_61 hl rfl (inc_e (by decide) ez15) (by decide) rfl (fun ls hl => ?_)
      refine lv_goto (tgt := 17) hx hb dX5_takeOut_64 (by decide) ?_
      exact ih _ _ _ _ _ _ hf hw (lv_sub hl [2, 3, 4, 5, 1, 0] rfl)
set_option maxHeartbeats 4000000 in
theorem ok_X5_takeOut {l : Launch} {G : gG} {T : Tt} {V0 : Vt} {o : Nat} {a0 : Int32} {a1 : Int32} {r : Int32} {V' : Vt} (hf : f_X5_takeOut T V0 o a0 a1 = some (r, V')) : okM l G yX5_takeOut cX5_takeOut 9 (some .int) 2 [.ref (gb G + o), .int a0, .int a1] V0 T (some (.int r)) V' T 0 0 := by
  refine ok_intro (by decide) (Nat.le_of_ble_eq_true rfl) ?_
  intro p e s m below meth c ls C hr hnm hw hl
  have hx := C.1
  have hb := C.2.1
  have hown := C.2.2.2.1
  have hts := C.2.2.2.2.1
  have hl : lv_has ls 9 [(0, .ref (gb G + o)), (1, .int a0), (2, .int a1)] := hl
  unfold f_X5_takeOut at hf
  revert hf
  refine k_req (fun k0 hf => ?_)
  refine lv_aload_n hx hb dX5_takeOut_0 rfl (lv_at hl 0 rfl) ?_
  refine lv_iload_n hx hb dX5_takeOut_1 rfl (lv_at hl 1 rfl) ?_
  revert hf
  refine k_pcl (fun z2 h1 hf => ?_)
  refine w_afi hw (w_rV (As := [.int a0]) C hw (ok_X5_allOf h1) (cw_X5_166 hts (Nat.le_of_ble_eq_true rfl) (Nat.le_of_ble_eq_true rfl)) rfl (by decide) (of_req h1).1 rfl hl.1 rfl (Nat.le_of_ble_eq_true rfl) ⟨Nat.zero_le _, Nat.zero_le _⟩ dX5_takeOut_2) (fun H locs hw => ?_)
  refine lv_i2l hx hb dX5_takeOut_5 rfl ?_
  revert hf
  refine k_stp (fun z3 ez3 hf => ?_)
  refine w_nmL ez3 ?_
  refine lv_lstore_n (lv' := [(3, .long z3), (0, .ref (gb G + o)), (1, .int a0), (2, .int a1)]) hx hb dX5_takeOut_6 rfl hl (by decide) rfl (fun ls hl => ?_)
  refine lv_sipush (v := (1000 : Int32)) hx hb dX5_takeOut_7 (by decide) ?_
  refine lv_iload_n hx hb dX5_takeOut_10 rfl (lv_at hl 3 rfl) ?_
  refine lv_imul hx hb dX5_takeOut_11 ?_
  revert hf
  refine k_stp (fun z4 ez4 hf => ?_)
  refine w_nmI ez4 ?_
  refine lv_istore (lv' := [(5, .int z4), (3, .long z3), (0, .ref (gb G + o)), (1, .int a0), (2, .int a1)]) hx hb dX5_takeOut_12 hl (by decide) rfl (fun ls hl => ?_)
  refine lv_iconst (v := (0 : Int32)) hx hb dX5_takeOut_14 (by decide) ?_
  refine lv_istore (lv' := [(6, .int (0 : Int32)), (5, .int z4), (3, .long z3), (0, .ref (gb G + o)), (1, .int a0), (2, .int a1)]) hx hb dX5_takeOut_15 hl (by decide) rfl (fun ls hl => ?_)
  refine lk_X5_takeOut_17 C hr k0 (fun z16 U17 H locs ls hf hw hl => ?_) fuel _ _ _ _ _ _ hf hw (lv_sub hl [3, 4, 5, 2, 1, 0] rfl)
  refine lv_lconst (v := (0 : Int64)) hx hb dX5_takeOut_67 (by decide) ?_
  refine lv_lstore (lv' := [(6, .long (0 : Int64)), (0, .ref (gb G + o)), (1, .int a0), (2, .int a1), (5, .int z16)]) hx hb dX5_takeOut_68 hl (by decide) rfl (fun ls hl => ?_)
  refine lv_bipush (v := (19 : Int32)) hx hb dX5_takeOut_70 (by decide) ?_
  refine lv_istore (lv' := [(8, .int (19 : Int32)), (6, .long (0 : Int64)), (0, .ref (gb G + o)), (1, .int a0), (2, .int a1), (5, .int z16)]) hx hb dX5_takeOut_72 hl (by decide) rfl (fun ls hl => ?_)
  refine lk_X5_takeOut_74 C hr k0 (fun z40 U41 H locs ls hf hw hl => ?_) fuel _ _ _ _ _ _ _ hf hw (lv_sub hl [2, 3, 4, 5, 1, 0] rfl)
  refine lv_lload hx hb dX5_takeOut_163 (lv_at hl 1 rfl) ?_
  refine lv_iload_n hx hb dX5_takeOut_165 rfl (lv_at hl 0 rfl) ?_
  refine lv_i2l hx hb dX5_takeOut_166 rfl ?_
  revert hf
  refine k_req (fun h42 hf => ?_)
  refine lv_ldiv hx hb dX5_takeOut_167 h42 ?_
  refine lv_l2i hx hb dX5_takeOut_168 rfl ?_
  cases hf
  exact w_iret C hr hw dX5_takeOut_169
set_option maxHeartbeats 4000000 in
theorem lk_X5_rackIt_10 {l : Launch} {G : gG} {p : Program} {e : Env} {s : State} {m : MethodId} {args : Array Value} {below : List Frame} {meth : Method} {c : Code} {T : Tt} {r : Int32} {V' : Vt} (C : Cx G p s m args meth c cX5_rackIt RX5 5) (hr : meth.sig.returnType = (some .int)) {x0 : Nat} {x2 : Int32} {kx10_48 : Vt → Option (Int32 × Vt)} (k0 : T.1 x0 = 6) (hkx10_48 : ∀ (W1 : Vt) (H : Heap) (locs : List Loc) (ls : Array Slot), kx10_48 W1 = some (r, V') → wS G W1 T H locs → lv_has ls 5 [(0, .ref (gb G + x0)), (2, .int x2)] → W p l e (rmL 3 0 0) s m args below meth c H locs 0 0 (eQ G below (some (.int r)) V' T args s 0 0) (F0 m 48 ls [])) : ∀ (n : Nat) (x4 : Int32) (V1 : Vt) (H : Heap) (locs : List Loc) (ls : Array Slot), f_X5_rackIt_L10 T x0 x2 kx10_48 n x4 V1 = some (r, V') → wS G V1 T H locs → lv_has ls 5 [(0, .ref (gb G + x0)), (2, .int x2), (4, .int x4)] → W p l e (rmL 3 0 0) s m args below meth c H locs 0 0 (eQ G below (some (.int r)) V' T args s 0 0) (F0 m 10 ls []) := by
  have hx := C.1
  have hb := C.2.1
  have hown := C.2.2.2.1
  have hts := C.2.2.2.2.1
  intro n
  induction n with
  | zero =>
    intro x4 V1 H locs ls hf
    cases hf
  | succ n ih =>
    intro x4 V1 H locs ls hf hw hl
    unfold f_X5_rackIt_L10 at hf
    refine lv_iload hx hb dX5_rackIt_10 (lv_at hl 2 rfl) ?_
    refine lv_bipush (v := (20 : Int32)) hx hb dX5_rackIt_12 (by decide) ?_
    refine lv_icmp_ge (tgt := 48) hx hb dX5_rackIt_14 (by decide) (fun c4 => ?_) (fun c4 => ?_)
    · replace hf := ite_t c4 hf
      exact hkx10_48 _ _ _ _ hf hw (lv_sub hl [0, 1] rfl)
    · replace hf := ite_f c4 hf
      refine lv_aload_n hx hb dX5_rackIt_17 rfl (lv_at hl 0 rfl) ?_
      revert hf
      refine k_drf (fun r5 er5 hf => ?_)
      refine gf_X5_13 C hw k0 er5 dX5_rackIt_18 ?_
      refine lv_bipush (v := (10 : Int32)) hx hb dX5_rackIt_21 (by decide) ?_
      refine lv_bipush (v := (20 : Int32)) hx hb dX5_rackIt_23 (by decide) ?_
      refine lv_iload_n hx hb dX5_rackIt_25 rfl (lv_at hl 1 rfl) ?_
      refine lv_imul hx hb dX5_rackIt_26 ?_
      refine lv_iadd hx hb dX5_rackIt_27 ?_
      refine lv_iload hx hb dX5_rackIt_28 (lv_at hl 2 rfl) ?_
      refine lv_iadd hx hb dX5_rackIt_30 ?_
      refine lv_dup2_11 hx hb dX5_rackIt_31 rfl rfl ?_
      revert hf
      refine k_req (fun h6 hf => ?_)
      refine w_iald C hw h6 rfl dX5_rackIt_32 ?_
      refine lv_aload_n hx hb dX5_rackIt_33 rfl (lv_at hl 0 rfl) ?_
      revert hf
      refine k_drf (fun r7 er7 hf => ?_)
      refine gf_X5_104 C hw k0 er7 dX5_rackIt_34 ?_
      refine lv_iload hx hb dX5_rackIt_37 (lv_at hl 2 rfl) ?_
      revert hf
      refine k_req (fun h8 hf => ?_)
      refine w_iald C hw h8 rfl dX5_rackIt_39 ?_
      refine lv_iadd hx hb dX5_rackIt_40 ?_
      revert hf
      refine k_req (fun h9 hf => ?_)
      revert hf
      refine k_stp (fun U10 eU10 hf => ?_)
      refine w_iast C hw h9 eU10 dX5_rackIt_41 (fun H locs hw => ?_)
      revert hf
      refine k_stp (fun z11 ez11 hf => ?_)
      refine lv_iinc (k := 2) (lv' := [(4, .int z11), (0, .ref (gb G + x0)), (2, .int x2)]) hx hb dX5_rackIt_42 hl rfl (inc_e (by decide) ez11) (by decide) rfl (fun ls hl => ?_)
      refine lv_goto (tgt := 10) hx hb dX5_rackIt_45 (by decide) ?_
      exact ih _ _ _ _ _ hf hw (lv_sub hl [1, 2, 0] rfl)
set_option maxHeartbeats 4000000 in
theorem ok_X5_rackIt {l : Launch} {G : gG} {T : Tt} {V0 : Vt} {o : Nat} {a0 : Int32} {a1 : Int32} {a2 : Int32} {r : Int32} {V' : Vt} (hf : f_X5_rackIt T V0 o a0 a1 a2 = some (r, V')) : okM l G yX5_rackIt cX5_rackIt 5 (some .int) 3 [.ref (gb G + o), .int a0, .int a1, .int a2] V0 T (some (.int r)) V' T 0 0 := by
  refine ok_intro (by decide) (Nat.le_of_ble_eq_true rfl) ?_
  intro p e s m below meth c ls C hr hnm hw hl
  have hx := C.1
  have hb := C.2.1
  have hown := C.2.2.2.1
  have hts := C.2.2.2.2.1
  have hl : lv_has ls 5 [(0, .ref (gb G + o)), (1, .int a0), (2, .int a1), (3, .int a2)] := hl
  unfold f_X5_rackIt at hf
  revert hf
  refine k_req (fun k0 hf => ?_)
  refine lv_aload_n hx hb dX5_rackIt_0 rfl (lv_at hl 0 rfl) ?_
  refine lv_iload_n hx hb dX5_rackIt_1 rfl (lv_at hl 1 rfl) ?_
  refine lv_iload_n hx hb dX5_rackIt_2 rfl (lv_at hl 3 rfl) ?_
  revert hf
  refine k_cal (fun z2 U3 h1 hf => ?_)
  refine w_afi hw (w_rV (As := [.int a0, .int a2]) C hw (ok_X5_takeOut h1) (cw_X5_430 hts (Nat.le_of_ble_eq_true rfl) (Nat.le_of_ble_eq_true rfl)) rfl (by decide) (of_req h1).1 rfl hl.1 rfl (Nat.le_of_ble_eq_true rfl) ⟨Nat.zero_le _, Nat.zero_le _⟩ dX5_rackIt_3) (fun H locs hw => ?_)
  refine lv_pop hx hb dX5_rackIt_6 rfl ?_
  refine lv_iconst (v := (0 : Int32)) hx hb dX5_rackIt_7 (by decide) ?_
  refine lv_istore (lv' := [(4, .int (0 : Int32)), (0, .ref (gb G + o)), (1, .int a0), (2, .int a1), (3, .int a2)]) hx hb dX5_rackIt_8 hl (by decide) rfl (fun ls hl => ?_)
  refine lk_X5_rackIt_10 C hr k0 (fun U12 H locs ls hf hw hl => ?_) fuel _ _ _ _ _ hf hw (lv_sub hl [1, 3, 0] rfl)
  refine lv_aload_n hx hb dX5_rackIt_48 rfl (lv_at hl 0 rfl) ?_
  refine lv_iload_n hx hb dX5_rackIt_49 rfl (lv_at hl 1 rfl) ?_
  revert hf
  refine k_pcl (fun z14 h13 hf => ?_)
  refine w_afi hw (w_rV (As := [.int a1]) C hw (ok_X5_meanOf h13) (cw_X5_169 hts (Nat.le_of_ble_eq_true rfl) (Nat.le_of_ble_eq_true rfl)) rfl (by decide) (of_req h13).1 rfl hl.1 rfl (Nat.le_of_ble_eq_true rfl) ⟨Nat.zero_le _, Nat.zero_le _⟩ dX5_rackIt_50) (fun H locs hw => ?_)
  cases hf
  exact w_iret C hr hw dX5_rackIt_53
set_option maxHeartbeats 4000000 in
theorem ok_X5_rackNow {l : Launch} {G : gG} {T : Tt} {V0 : Vt} {o : Nat} {a0 : Int32} {a1 : Int32} {a2 : Int32} {r : Int32} {V' : Vt} (hf : f_X5_rackNow T V0 o a0 a1 a2 = some (r, V')) : okM l G yX5_rackNow cX5_rackNow 5 (some .int) 10 [.ref (gb G + o), .int a0, .int a1, .int a2] V0 T (some (.int r)) V' T 0 0 := by
  refine ok_intro (by decide) (Nat.le_of_ble_eq_true rfl) ?_
  intro p e s m below meth c ls C hr hnm hw hl
  have hx := C.1
  have hb := C.2.1
  have hown := C.2.2.2.1
  have hts := C.2.2.2.2.1
  have hl : lv_has ls 5 [(0, .ref (gb G + o)), (1, .int a0), (2, .int a1), (3, .int a2)] := hl
  unfold f_X5_rackNow at hf
  revert hf
  refine k_req (fun k0 hf => ?_)
  refine lv_aload_n hx hb dX5_rackNow_0 rfl (lv_at hl 0 rfl) ?_
  refine lv_iload_n hx hb dX5_rackNow_1 rfl (lv_at hl 1 rfl) ?_
  refine lv_iload_n hx hb dX5_rackNow_2 rfl (lv_at hl 2 rfl) ?_
  refine lv_iload_n hx hb dX5_rackNow_3 rfl (lv_at hl 3 rfl) ?_
  revert hf
  refine k_cal (fun z2 U3 h1 hf => ?_)
  refine w_afi hw (w_rV (As := [.int a0, .int a1, .int a2]) C hw (ok_X5_whyNotRack h1) (cw_X5_433 hts (Nat.le_of_ble_eq_true rfl) (Nat.le_of_ble_eq_true rfl)) rfl (by decide) (of_req h1).1 rfl hl.1 rfl (Nat.le_of_ble_eq_true rfl) ⟨Nat.zero_le _, Nat.zero_le _⟩ dX5_rackNow_4) (fun H locs hw => ?_)
  refine lv_istore (lv' := [(4, .int z2), (0, .ref (gb G + o)), (1, .int a0), (2, .int a1), (3, .int a2)]) hx hb dX5_rackNow_7 hl (by decide) rfl (fun ls hl => ?_)
  refine lv_iload hx hb dX5_rackNow_9 (lv_at hl 0 rfl) ?_
  refine lv_if_ge (tgt := 17) hx hb dX5_rackNow_11 (by decide) (fun c4 => ?_) (fun c4 => ?_)
  · replace hf := ite_t c4 hf
    refine lv_aload_n hx hb dX5_rackNow_17 rfl (lv_at hl 1 rfl) ?_
    refine lv_iconst (v := (1 : Int32)) hx hb dX5_rackNow_18 (by decide) ?_
    revert hf
    refine k_pcl (fun U7 h5 hf => ?_)
    refine w_afv hw (w_rV (As := [.int (1 : Int32)]) C hw (ok_X5_remember h5) (cw_X5_421 hts (Nat.le_of_ble_eq_true rfl) (Nat.le_of_ble_eq_true rfl)) rfl (by decide) (of_req h5).1 rfl hl.1 rfl (Nat.le_of_ble_eq_true rfl) ⟨Nat.zero_le _, Nat.zero_le _⟩ dX5_rackNow_19) (fun H locs hw => ?_)
    refine lv_aload_n hx hb dX5_rackNow_22 rfl (lv_at hl 1 rfl) ?_
    refine lv_iload_n hx hb dX5_rackNow_23 rfl (lv_at hl 2 rfl) ?_
    refine lv_iload_n hx hb dX5_rackNow_24 rfl (lv_at hl 3 rfl) ?_
    refine lv_iload_n hx hb dX5_rackNow_25 rfl (lv_at hl 4 rfl) ?_
    revert hf
    refine k_cal (fun z9 U10 h8 hf => ?_)
    refine w_afi hw (w_rV (As := [.int a0, .int a1, .int a2]) C hw (ok_X5_rackIt h8) (cw_X5_437 hts (Nat.le_of_ble_eq_true rfl) (Nat.le_of_ble_eq_true rfl)) rfl (by decide) (of_req h8).1 rfl hl.1 rfl (Nat.le_of_ble_eq_true rfl) ⟨Nat.zero_le _, Nat.zero_le _⟩ dX5_rackNow_26) (fun H locs hw => ?_)
    cases hf
    exact w_iret C hr hw dX5_rackNow_29
  · replace hf := ite_f c4 hf
    refine lv_iload hx hb dX5_rackNow_14 (lv_at hl 0 rfl) ?_
    cases hf
    exact w_iret C hr hw dX5_rackNow_16
set_option maxHeartbeats 4000000 in
theorem ok_X5_rack {l : Launch} {G : gG} {T : Tt} {V0 : Vt} {o : Nat} {a0 : Int32} {a1 : Int32} {a2 : Int32} {r : Int32} {V' : Vt} (hf : f_X5_rack T V0 o a0 a1 a2 = some (r, V')) : okM l G yX5_rack cX5_rack 4 (some .int) 11 [.ref (gb G + o), .int a0, .int a1, .int a2] V0 T (some (.int r)) V' T 0 0 := by
  refine ok_intro (by decide) (Nat.le_of_ble_eq_true rfl) ?_
  intro p e s m below meth c ls C hr hnm hw hl
  have hx := C.1
  have hb := C.2.1
  have hown := C.2.2.2.1
  have hts := C.2.2.2.2.1
  have hl : lv_has ls 4 [(0, .ref (gb G + o)), (1, .int a0), (2, .int a1), (3, .int a2)] := hl
  unfold f_X5_rack at hf
  revert hf
  refine k_req (fun k0 hf => ?_)
  refine lv_aload_n hx hb dX5_rack_0 rfl (lv_at hl 0 rfl) ?_
  refine lv_iconst (v := (0 : Int32)) hx hb dX5_rack_1 (by decide) ?_
  revert hf
  refine k_stp (fun U1 eU1 hf => ?_)
  refine pf_X5_133 C hw k0 eU1 dX5_rack_2 (fun H locs hw => ?_)
  refine lv_aload_n hx hb dX5_rack_5 rfl (lv_at hl 0 rfl) ?_
  refine lv_aload_n hx hb dX5_rack_6 rfl (lv_at hl 0 rfl) ?_
  refine lv_iload_n hx hb dX5_rack_7 rfl (lv_at hl 1 rfl) ?_
  refine lv_iload_n hx hb dX5_rack_8 rfl (lv_at hl 2 rfl) ?_
  refine lv_iload_n hx hb dX5_rack_9 rfl (lv_at hl 3 rfl) ?_
  revert hf
  refine k_cal (fun z3 U4 h2 hf => ?_)
  refine w_afi hw (w_rV (As := [.int a0, .int a1, .int a2]) C hw (ok_X5_rackNow h2) (cw_X5_440 hts (Nat.le_of_ble_eq_true rfl) (Nat.le_of_ble_eq_true rfl)) rfl (by decide) (of_req h2).1 rfl hl.1 rfl (Nat.le_of_ble_eq_true rfl) ⟨Nat.zero_le _, Nat.zero_le _⟩ dX5_rack_10) (fun H locs hw => ?_)
  revert hf
  refine k_cal (fun z6 U7 h5 hf => ?_)
  refine w_afi hw (w_rV (As := [.int z3]) C hw (ok_X5_tell h5) (cw_X5_142 hts (Nat.le_of_ble_eq_true rfl) (Nat.le_of_ble_eq_true rfl)) rfl (by decide) (of_req h5).1 rfl hl.1 rfl (Nat.le_of_ble_eq_true rfl) ⟨Nat.zero_le _, Nat.zero_le _⟩ dX5_rack_13) (fun H locs hw => ?_)
  cases hf
  exact w_iret C hr hw dX5_rack_16
set_option maxHeartbeats 4000000 in
theorem ok_X5_whyNotBottle {l : Launch} {G : gG} {T : Tt} {V0 : Vt} {o : Nat} {a0 : Int32} {a1 : Int32} {r : Int32} {V' : Vt} (hf : f_X5_whyNotBottle T V0 o a0 a1 = some (r, V')) : okM l G yX5_whyNotBottle cX5_whyNotBottle 3 (some .int) 9 [.ref (gb G + o), .int a0, .int a1] V0 T (some (.int r)) V' T 0 0 := by
  refine ok_intro (by decide) (Nat.le_of_ble_eq_true rfl) ?_
  intro p e s m below meth c ls C hr hnm hw hl
  have hx := C.1
  have hb := C.2.1
  have hown := C.2.2.2.1
  have hts := C.2.2.2.2.1
  have hl : lv_has ls 3 [(0, .ref (gb G + o)), (1, .int a0), (2, .int a1)] := hl
  unfold f_X5_whyNotBottle at hf
  revert hf
  refine k_req (fun k0 hf => ?_)
  refine lv_iload_n hx hb dX5_whyNotBottle_0 rfl (lv_at hl 2 rfl) ?_
  refine lv_i2l hx hb dX5_whyNotBottle_1 rfl ?_
  refine lv_lconst (v := (1 : Int64)) hx hb dX5_whyNotBottle_2 (by decide) ?_
  refine lv_ldc2 (v := (999 : Int64)) hx hb hown (hts _ q1729) dX5_whyNotBottle_3 ?_
  revert hf
  refine k_pcl (fun z2 h1 hf => ?_)
  refine w_afi hw (w_rS (As := [.long (Int32.toInt64 a1), .long (1 : Int64), .long (999 : Int64)]) C hw (ok_X5_in h1) (cw_X5_153 hts (Nat.le_of_ble_eq_true rfl) (Nat.le_of_ble_eq_true rfl)) rfl hl.1 rfl (Nat.le_of_ble_eq_true rfl) ⟨Nat.zero_le _, Nat.zero_le _⟩ dX5_whyNotBottle_6) (fun H locs hw => ?_)
  refine lv_if_ne (tgt := 14) hx hb dX5_whyNotBottle_9 (by decide) (fun c3 => ?_) (fun c3 => ?_)
  · replace hf := ite_f c3 hf
    refine lv_aload_n hx hb dX5_whyNotBottle_14 rfl (lv_at hl 0 rfl) ?_
    refine lv_iload_n hx hb dX5_whyNotBottle_15 rfl (lv_at hl 1 rfl) ?_
    revert hf
    refine k_pcl (fun z5 h4 hf => ?_)
    refine w_afi hw (w_rV (As := [.int a0]) C hw (ok_X5_isCask h4) (cw_X5_184 hts (Nat.le_of_ble_eq_true rfl) (Nat.le_of_ble_eq_true rfl)) rfl (by decide) (of_req h4).1 rfl hl.1 rfl (Nat.le_of_ble_eq_true rfl) ⟨Nat.zero_le _, Nat.zero_le _⟩ dX5_whyNotBottle_16) (fun H locs hw => ?_)
    refine lv_if_ne (tgt := 25) hx hb dX5_whyNotBottle_19 (by decide) (fun c6 => ?_) (fun c6 => ?_)
    · replace hf := ite_f c6 hf
      refine lv_aload_n hx hb dX5_whyNotBottle_25 rfl (lv_at hl 0 rfl) ?_
      revert hf
      refine k_drf (fun r7 er7 hf => ?_)
      refine gf_X5_13 C hw k0 er7 dX5_whyNotBottle_26 ?_
      refine lv_sipush (v := (170 : Int32)) hx hb dX5_whyNotBottle_29 (by decide) ?_
      refine lv_iload_n hx hb dX5_whyNotBottle_32 rfl (lv_at hl 1 rfl) ?_
      refine lv_iadd hx hb dX5_whyNotBottle_33 ?_
      revert hf
      refine k_req (fun h8 hf => ?_)
      refine w_iald C hw h8 rfl dX5_whyNotBottle_34 ?_
      refine lv_if_ne (tgt := 72) hx hb dX5_whyNotBottle_35 (by decide) (fun c9 => ?_) (fun c9 => ?_)
      · replace hf := ite_f c9 hf
        refine lv_bipush (v := ((-3) : Int32)) hx hb dX5_whyNotBottle_72 (by decide) ?_
        cases hf
        exact w_iret C hr hw dX5_whyNotBottle_74
      · replace hf := ite_t c9 hf
        refine lv_aload_n hx hb dX5_whyNotBottle_38 rfl (lv_at hl 0 rfl) ?_
        refine lv_iload_n hx hb dX5_whyNotBottle_39 rfl (lv_at hl 1 rfl) ?_
        revert hf
        refine k_cal (fun z11 U12 h10 hf => ?_)
        refine w_afi hw (w_rV (As := [.int a0]) C hw (ok_X5_isBarred h10) (cw_X5_197 hts (Nat.le_of_ble_eq_true rfl) (Nat.le_of_ble_eq_true rfl)) rfl (by decide) (of_req h10).1 rfl hl.1 rfl (Nat.le_of_ble_eq_true rfl) ⟨Nat.zero_le _, Nat.zero_le _⟩ dX5_whyNotBottle_40) (fun H locs hw => ?_)
        refine lv_if_ne (tgt := 72) hx hb dX5_whyNotBottle_43 (by decide) (fun c13 => ?_) (fun c13 => ?_)
        · replace hf := ite_f c13 hf
          refine lv_bipush (v := ((-3) : Int32)) hx hb dX5_whyNotBottle_72 (by decide) ?_
          cases hf
          exact w_iret C hr hw dX5_whyNotBottle_74
        · replace hf := ite_t c13 hf
          refine lv_aload_n hx hb dX5_whyNotBottle_46 rfl (lv_at hl 0 rfl) ?_
          refine lv_iload_n hx hb dX5_whyNotBottle_47 rfl (lv_at hl 1 rfl) ?_
          revert hf
          refine k_cal (fun z15 U16 h14 hf => ?_)
          refine w_afi hw (w_rV (As := [.int a0]) C hw (ok_X5_yieldsOf h14) (cw_X5_194 hts (Nat.le_of_ble_eq_true rfl) (Nat.le_of_ble_eq_true rfl)) rfl (by decide) (of_req h14).1 rfl hl.1 rfl (Nat.le_of_ble_eq_true rfl) ⟨Nat.zero_le _, Nat.zero_le _⟩ dX5_whyNotBottle_48) (fun H locs hw => ?_)
          refine lv_iload_n hx hb dX5_whyNotBottle_51 rfl (lv_at hl 2 rfl) ?_
          refine lv_icmp_lt (tgt := 72) hx hb dX5_whyNotBottle_52 (by decide) (fun c17 => ?_) (fun c17 => ?_)
          · replace hf := ite_t c17 hf
            refine lv_bipush (v := ((-3) : Int32)) hx hb dX5_whyNotBottle_72 (by decide) ?_
            cases hf
            exact w_iret C hr hw dX5_whyNotBottle_74
          · replace hf := ite_f c17 hf
            refine lv_aload_n hx hb dX5_whyNotBottle_55 rfl (lv_at hl 0 rfl) ?_
            refine lv_iload_n hx hb dX5_whyNotBottle_56 rfl (lv_at hl 1 rfl) ?_
            revert hf
            refine k_pcl (fun z19 h18 hf => ?_)
            refine w_afi hw (w_rV (As := [.int a0]) C hw (ok_X5_allOf h18) (cw_X5_166 hts (Nat.le_of_ble_eq_true rfl) (Nat.le_of_ble_eq_true rfl)) rfl (by decide) (of_req h18).1 rfl hl.1 rfl (Nat.le_of_ble_eq_true rfl) ⟨Nat.zero_le _, Nat.zero_le _⟩ dX5_whyNotBottle_57) (fun H locs hw => ?_)
            refine lv_sipush (v := (1000 : Int32)) hx hb dX5_whyNotBottle_60 (by decide) ?_
            refine lv_iload_n hx hb dX5_whyNotBottle_63 rfl (lv_at hl 2 rfl) ?_
            refine lv_imul hx hb dX5_whyNotBottle_64 ?_
            refine lv_icmp_lt (tgt := 72) hx hb dX5_whyNotBottle_65 (by decide) (fun c20 => ?_) (fun c20 => ?_)
            · replace hf := ite_t c20 hf
              refine lv_bipush (v := ((-3) : Int32)) hx hb dX5_whyNotBottle_72 (by decide) ?_
              cases hf
              exact w_iret C hr hw dX5_whyNotBottle_74
            · replace hf := ite_f c20 hf
              refine lv_iconst (v := (0 : Int32)) hx hb dX5_whyNotBottle_68 (by decide) ?_
              refine lv_goto (tgt := 74) hx hb dX5_whyNotBottle_69 (by decide) ?_
              cases hf
              exact w_iret C hr hw dX5_whyNotBottle_74
    · replace hf := ite_t c6 hf
      refine lv_bipush (v := ((-2) : Int32)) hx hb dX5_whyNotBottle_22 (by decide) ?_
      cases hf
      exact w_iret C hr hw dX5_whyNotBottle_24
  · replace hf := ite_t c3 hf
    refine lv_iconst (v := ((-1) : Int32)) hx hb dX5_whyNotBottle_12 (by decide) ?_
    cases hf
    exact w_iret C hr hw dX5_whyNotBottle_13
