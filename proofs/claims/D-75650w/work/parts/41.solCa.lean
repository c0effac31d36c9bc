set_option maxRecDepth 100000
set_option maxHeartbeats 4000000 in
theorem jk_X0_image_37 {l : Launch} {G : gG} {p : Program} {e : Env} {s : State} {m : MethodId} {args : Array Value} {below : List Frame} {meth : Method} {c : Code} {T : Tt} {V0 : Vt} {r : Int32} {V' : Vt} {T' : Tt} {mc ms : Nat} (C : Cx G p s m args meth c cX0_image RX0 2) (hr : meth.sig.returnType = (some .int)) {x0 : Nat} {x1 : Int32} {H : Heap} {locs : List Loc} {ls : Array Slot} {cells slots n k : Nat} (hf : f_X0_image_J37 T V0 x0 x1 = some ((r, V', T'), n, k)) (hn : cells + n = mc) (hk : slots + k = ms) (hw : wS G V0 T H locs) (hl : lv_has ls 2 [(0, .ref (gb G + x0)), (1, .int x1)]) : W p l e (rmL 7 mc ms) s m args below meth c H locs cells slots (eQ G below (some (.int r)) V' T' args s mc ms) (F0 m 37 ls []) := by
  have hx := C.1
  have hb := C.2.1
  have hown := C.2.2.2.1
  have hts := C.2.2.2.2.1
  unfold f_X0_image_J37 at hf
  refine lv_aload_n hx hb dX0_image_37 rfl (lv_at hl 0 rfl) ?_
  revert hf
  refine k_req (fun k6 hf => ?_)
  revert hf
  refine k_drf (fun r7 er7 hf => ?_)
  refine gf_X0_35 C hw k6 er7 dX0_image_38 ?_
  refine lv_iload_n hx hb dX0_image_41 rfl (lv_at hl 1 rfl) ?_
  revert hf
  refine k_req (fun h8 hf => ?_)
  revert hf
  refine k_drf (fun r9 er9 hf => ?_)
  refine w_aald (v := .ref (gb G + r9)) C hw (by decide) (by decide) h8 (by rw [er9]; rfl) dX0_image_42 ?_
  refine lv_aload_n hx hb dX0_image_43 rfl (lv_at hl 0 rfl) ?_
  revert hf
  refine k_drf (fun r10 er10 hf => ?_)
  refine gf_X0_31 C hw k6 er10 dX0_image_44 ?_
  revert hf
  refine k_dcv (fun U13 T14 na ka n1 k1 h11 hf en ek => ?_)
  refine w_afv hw (w_rV (As := [.ref (gb G + r10)]) C hw (ok_X1_takes h11) (cw_X0_125 hts (Nat.le_of_ble_eq_true rfl) (Nat.le_of_ble_eq_true rfl)) rfl (by decide) (of_req h11).1 rfl hl.1 rfl (Nat.le_of_ble_eq_true rfl) ⟨by show _ ≤ mc; omega, by show _ ≤ ms; omega⟩ dX0_image_47) (fun H locs hw => ?_)
  replace hn := add_r hn en
  replace hk := add_r hk ek
  clear en ek
  generalize n1 = n at hf hn
  generalize k1 = k at hf hk
  refine lv_aload_n hx hb dX0_image_50 rfl (lv_at hl 0 rfl) ?_
  refine lv_iconst (v := (0 : Int32)) hx hb dX0_image_51 (by decide) ?_
  revert hf
  refine k_cal (fun z16 U17 h15 hf => ?_)
  refine w_afi hw (w_rV (As := [.int (0 : Int32)]) C hw (ok_X0_done h15) (cw_X0_101 hts (Nat.le_of_ble_eq_true rfl) (Nat.le_of_ble_eq_true rfl)) rfl (by decide) (of_req h15).1 rfl hl.1 rfl (Nat.le_of_ble_eq_true rfl) ⟨by show _ + 0 ≤ mc; omega, by show _ + 0 ≤ ms; omega⟩ dX0_image_52) (fun H locs hw => ?_)
  cases hf
  cases hn
  cases hk
  exact w_iret C hr hw dX0_image_55
set_option maxHeartbeats 4000000 in
theorem ok_X0_image {l : Launch} {G : gG} {T : Tt} {V0 : Vt} {o : Nat} {a0 : Int32} {r : Int32} {V' : Vt} {T' : Tt} {n k : Nat} (hf : f_X0_image T V0 o a0 = some ((r, V', T'), n, k)) : okM l G yX0_image cX0_image 2 (some .int) 7 [.ref (gb G + o), .int a0] V0 T (some (.int r)) V' T' n k := by
  refine ok_intro (by decide) (Nat.le_of_ble_eq_true rfl) ?_
  intro p e s m below meth c ls C hr hnm hw hl
  have hx := C.1
  have hb := C.2.1
  have hown := C.2.2.2.1
  have hts := C.2.2.2.2.1
  have hl : lv_has ls 2 [(0, .ref (gb G + o)), (1, .int a0)] := hl
  unfold f_X0_image at hf
  revert hf
  refine k_req (fun k0 hf => ?_)
  obtain ⟨mc, emc⟩ : ∃ mc, mc = n := ⟨_, rfl⟩
  obtain ⟨ms, ems⟩ : ∃ ms, ms = k := ⟨_, rfl⟩
  have hn : 0 + n = mc := by omega
  have hk : 0 + k = ms := by omega
  rw [← emc, ← ems]
  clear emc ems
  refine lv_iload_n hx hb dX0_image_0 rfl (lv_at hl 1 rfl) ?_
  refine lv_iconst (v := (0 : Int32)) hx hb dX0_image_1 (by decide) ?_
  refine lv_iconst (v := (1 : Int32)) hx hb dX0_image_2 (by decide) ?_
  revert hf
  refine k_pcl (fun z2 h1 hf => ?_)
  refine w_afi hw (w_rS (As := [.int a0, .int (0 : Int32), .int (1 : Int32)]) C hw (ok_X0_in h1) (cw_X0_108 hts (Nat.le_of_ble_eq_true rfl) (Nat.le_of_ble_eq_true rfl)) rfl hl.1 rfl (Nat.le_of_ble_eq_true rfl) ⟨by show _ + 0 ≤ mc; omega, by show _ + 0 ≤ ms; omega⟩ dX0_image_3) (fun H locs hw => ?_)
  refine lv_if_ne (tgt := 15) hx hb dX0_image_6 (by decide) (fun c3 => ?_) (fun c3 => ?_)
  · replace hf := ite_f c3 hf
    refine lv_aload_n hx hb dX0_image_15 rfl (lv_at hl 0 rfl) ?_
    revert hf
    refine k_drf (fun r4 er4 hf => ?_)
    refine gf_X0_35 C hw k0 er4 dX0_image_16 ?_
    refine lv_iload_n hx hb dX0_image_19 rfl (lv_at hl 1 rfl) ?_
    revert hf
    refine k_req (fun h5 hf => ?_)
    refine w_aald C hw (by decide) (by decide) h5 rfl dX0_image_20 ?_
    by_cases e29 : (V0.2.2 r4 (ixN a0)) = none
    · replace hf := ite_t e29 hf
      refine w_topN e29 ?_
      refine lv_ifnonnullN hx hb dX0_image_21 ?_
      refine lv_aload_n hx hb dX0_image_24 rfl (lv_at hl 0 rfl) ?_
      revert hf
      refine k_drf (fun r18 er18 hf => ?_)
      refine gf_X0_35 C hw k0 er18 dX0_image_25 ?_
      refine lv_iload_n hx hb dX0_image_28 rfl (lv_at hl 1 rfl) ?_
      revert hf
      refine k_inc (fun n1 k1 hf en ek => ?_)
      revert hf
      refine k_stp (fun q19 eq19 hf => ?_)
      revert hf
      refine k_stp (fun U20 eU20 hf => ?_)
      revert hf
      refine k_stp (fun T21 eT21 hf => ?_)
      refine nw_X1 C hw q176 (by show _ ≤ mc; omega) (by show _ ≤ ms; omega) eq19 eU20 eT21 dX0_image_29 (fun H hw => ?_)
      replace hn := add_r hn en
      replace hk := add_r hk ek
      clear en ek
      generalize n1 = n at hf hn
      generalize k1 = k at hf hk
      refine lv_dup hx hb dX0_image_32 rfl ?_
      revert hf
      refine k_dcv (fun U24 T25 na ka n1 k1 h22 hf en ek => ?_)
      refine w_afv hw (w_rIN (As := []) C hw (ok_X1_init h22) (cw_X0_30 C (Nat.le_of_ble_eq_true rfl) (Nat.le_of_ble_eq_true rfl)) rfl hl.1 rfl (Nat.le_of_ble_eq_true rfl) ⟨by show _ ≤ mc; omega, by show _ ≤ ms; omega⟩ dX0_image_33) (fun H locs hw => ?_)
      replace hn := add_r hn en
      replace hk := add_r hk ek
      clear en ek
      generalize n1 = n at hf hn
      generalize k1 = k at hf hk
      revert hf
      refine k_req (fun h26 hf => ?_)
      revert hf
      refine k_req (fun h27 hf => ?_)
      revert hf
      refine k_stp (fun U28 eU28 hf => ?_)
      refine w_aast6 C hw h26 h27 eU28 dX0_image_36 (fun H locs hw => ?_)
      exact jk_X0_image_37 C hr hf hn hk hw (lv_sub hl [0, 1] rfl)
    · replace hf := ite_f e29 hf
      refine w_topS e29 (fun r30 => ?_)
      refine lv_ifnonnull (tgt := 37) hx hb dX0_image_21 (by decide) ?_
      exact jk_X0_image_37 C hr hf hn hk hw (lv_sub hl [0, 1] rfl)
  · replace hf := ite_t c3 hf
    refine lv_aload_n hx hb dX0_image_9 rfl (lv_at hl 0 rfl) ?_
    refine lv_iconst (v := ((-1) : Int32)) hx hb dX0_image_10 (by decide) ?_
    revert hf
    refine k_cal (fun z32 U33 h31 hf => ?_)
    refine w_afi hw (w_rV (As := [.int ((-1) : Int32)]) C hw (ok_X0_refuse h31) (cw_X0_122 hts (Nat.le_of_ble_eq_true rfl) (Nat.le_of_ble_eq_true rfl)) rfl (by decide) (of_req h31).1 rfl hl.1 rfl (Nat.le_of_ble_eq_true rfl) ⟨by show _ + 0 ≤ mc; omega, by show _ + 0 ≤ ms; omega⟩ dX0_image_11) (fun H locs hw => ?_)
    cases hf
    cases hn
    cases hk
    exact w_iret C hr hw dX0_image_14
set_option maxHeartbeats 4000000 in
theorem ok_X0_back {l : Launch} {G : gG} {T : Tt} {V0 : Vt} {o : Nat} {a0 : Int32} {r : Int32} {V' : Vt} {T' : Tt} {n k : Nat} (hf : f_X0_back T V0 o a0 = some ((r, V', T'), n, k)) : okM l G yX0_back cX0_back 2 (some .int) 7 [.ref (gb G + o), .int a0] V0 T (some (.int r)) V' T' n k := by
  refine ok_intro (by decide) (Nat.le_of_ble_eq_true rfl) ?_
  intro p e s m below meth c ls C hr hnm hw hl
  have hx := C.1
  have hb := C.2.1
  have hown := C.2.2.2.1
  have hts := C.2.2.2.2.1
  have hl : lv_has ls 2 [(0, .ref (gb G + o)), (1, .int a0)] := hl
  unfold f_X0_back at hf
  revert hf
  refine k_req (fun k0 hf => ?_)
  obtain ⟨mc, emc⟩ : ∃ mc, mc = n := ⟨_, rfl⟩
  obtain ⟨ms, ems⟩ : ∃ ms, ms = k := ⟨_, rfl⟩
  have hn : 0 + n = mc := by omega
  have hk : 0 + k = ms := by omega
  rw [← emc, ← ems]
  clear emc ems
  refine lv_iload_n hx hb dX0_back_0 rfl (lv_at hl 1 rfl) ?_
  refine lv_iconst (v := (0 : Int32)) hx hb dX0_back_1 (by decide) ?_
  refine lv_iconst (v := (1 : Int32)) hx hb dX0_back_2 (by decide) ?_
  revert hf
  refine k_pcl (fun z2 h1 hf => ?_)
  refine w_afi hw (w_rS (As := [.int a0, .int (0 : Int32), .int (1 : Int32)]) C hw (ok_X0_in h1) (cw_X0_108 hts (Nat.le_of_ble_eq_true rfl) (Nat.le_of_ble_eq_true rfl)) rfl hl.1 rfl (Nat.le_of_ble_eq_true rfl) ⟨by show _ + 0 ≤ mc; omega, by show _ + 0 ≤ ms; omega⟩ dX0_back_3) (fun H locs hw => ?_)
  refine lv_if_ne (tgt := 15) hx hb dX0_back_6 (by decide) (fun c3 => ?_) (fun c3 => ?_)
  · replace hf := ite_f c3 hf
    refine lv_aload_n hx hb dX0_back_15 rfl (lv_at hl 0 rfl) ?_
    revert hf
    refine k_drf (fun r4 er4 hf => ?_)
    refine gf_X0_35 C hw k0 er4 dX0_back_16 ?_
    refine lv_iload_n hx hb dX0_back_19 rfl (lv_at hl 1 rfl) ?_
    revert hf
    refine k_req (fun h5 hf => ?_)
    refine w_aald C hw (by decide) (by decide) h5 rfl dX0_back_20 ?_
    by_cases e20 : (V0.2.2 r4 (ixN a0)) = none
    · replace hf := ite_t e20 hf
      refine w_topN e20 ?_
      refine lv_ifnonnullN hx hb dX0_back_21 ?_
      refine lv_aload_n hx hb dX0_back_24 rfl (lv_at hl 0 rfl) ?_
      refine lv_bipush (v := ((-2) : Int32)) hx hb dX0_back_25 (by decide) ?_
      revert hf
      refine k_cal (fun z18 U19 h17 hf => ?_)
      refine w_afi hw (w_rV (As := [.int ((-2) : Int32)]) C hw (ok_X0_refuse h17) (cw_X0_122 hts (Nat.le_of_ble_eq_true rfl) (Nat.le_of_ble_eq_true rfl)) rfl (by decide) (of_req h17).1 rfl hl.1 rfl (Nat.le_of_ble_eq_true rfl) ⟨by show _ + 0 ≤ mc; omega, by show _ + 0 ≤ ms; omega⟩ dX0_back_27) (fun H locs hw => ?_)
      cases hf
      cases hn
      cases hk
      exact w_iret C hr hw dX0_back_30
    · replace hf := ite_f e20 hf
      refine w_topS e20 (fun r21 => ?_)
      refine lv_ifnonnull (tgt := 31) hx hb dX0_back_21 (by decide) ?_
      refine lv_aload_n hx hb dX0_back_31 rfl (lv_at hl 0 rfl) ?_
      revert hf
      refine k_drf (fun r6 er6 hf => ?_)
      refine gf_X0_31 C hw k0 er6 dX0_back_32 ?_
      refine lv_aload_n hx hb dX0_back_35 rfl (lv_at hl 0 rfl) ?_
      revert hf
      refine k_drf (fun r7 er7 hf => ?_)
      refine gf_X0_35 C hw k0 er7 dX0_back_36 ?_
      refine lv_iload_n hx hb dX0_back_39 rfl (lv_at hl 1 rfl) ?_
      revert hf
      refine k_req (fun h8 hf => ?_)
      revert hf
      refine k_drf (fun r9 er9 hf => ?_)
      refine w_aald (v := .ref (gb G + r9)) C hw (by decide) (by decide) h8 (by rw [er9]; rfl) dX0_back_40 ?_
      revert hf
      refine k_dcv (fun U12 T13 na ka n1 k1 h10 hf en ek => ?_)
      refine w_afv hw (w_rV (As := [.ref (gb G + r9)]) C hw (ok_X1_takes h10) (cw_X0_125 hts (Nat.le_of_ble_eq_true rfl) (Nat.le_of_ble_eq_true rfl)) rfl (by decide) (of_req h10).1 rfl hl.1 rfl (Nat.le_of_ble_eq_true rfl) ⟨by show _ ≤ mc; omega, by show _ ≤ ms; omega⟩ dX0_back_41) (fun H locs hw => ?_)
      replace hn := add_r hn en
      replace hk := add_r hk ek
      clear en ek
      generalize n1 = n at hf hn
      generalize k1 = k at hf hk
      refine lv_aload_n hx hb dX0_back_44 rfl (lv_at hl 0 rfl) ?_
      refine lv_iconst (v := (0 : Int32)) hx hb dX0_back_45 (by decide) ?_
      revert hf
      refine k_cal (fun z15 U16 h14 hf => ?_)
      refine w_afi hw (w_rV (As := [.int (0 : Int32)]) C hw (ok_X0_settles h14) (cw_X0_129 hts (Nat.le_of_ble_eq_true rfl) (Nat.le_of_ble_eq_true rfl)) rfl (by decide) (of_req h14).1 rfl hl.1 rfl (Nat.le_of_ble_eq_true rfl) ⟨by show _ + 0 ≤ mc; omega, by show _ + 0 ≤ ms; omega⟩ dX0_back_46) (fun H locs hw => ?_)
      cases hf
      cases hn
      cases hk
      exact w_iret C hr hw dX0_back_49
  · replace hf := ite_t c3 hf
    refine lv_aload_n hx hb dX0_back_9 rfl (lv_at hl 0 rfl) ?_
    refine lv_iconst (v := ((-1) : Int32)) hx hb dX0_back_10 (by decide) ?_
    revert hf
    refine k_cal (fun z23 U24 h22 hf => ?_)
    refine w_afi hw (w_rV (As := [.int ((-1) : Int32)]) C hw (ok_X0_refuse h22) (cw_X0_122 hts (Nat.le_of_ble_eq_true rfl) (Nat.le_of_ble_eq_true rfl)) rfl (by decide) (of_req h22).1 rfl hl.1 rfl (Nat.le_of_ble_eq_true rfl) ⟨by show _ + 0 ≤ mc; omega, by show _ + 0 ≤ ms; omega⟩ dX0_back_11) (fun H locs hw => ?_)
    cases hf
    cases hn
    cases hk
    exact w_iret C hr hw dX0_back_14
set_option maxHeartbeats 4000000 in
theorem ok_X0_says {l : Launch} {G : gG} {T : Tt} {V0 : Vt} {o : Nat} {a0 : Int32} {a1 : Nat} {a2 : Int32} {r : Int64} {V' : Vt} (hf : f_X0_says T V0 o a0 a1 a2 = some (r, V')) : okM l G yX0_says cX0_says 5 (some .long) 424 [.ref (gb G + o), .int a0, .ref (gb G + a1), .int a2] V0 T (some (.long r)) V' T 0 0 := by
  refine ok_intro (by decide) (Nat.le_of_ble_eq_true rfl) ?_
  intro p e s m below meth c ls C hr hnm hw hl
  have hx := C.1
  have hb := C.2.1
  have hown := C.2.2.2.1
  have hts := C.2.2.2.2.1
  have hl : lv_has ls 5 [(0, .ref (gb G + o)), (1, .int a0), (2, .ref (gb G + a1)), (3, .int a2)] := hl
  unfold f_X0_says at hf
  revert hf
  refine k_req (fun k0 hf => ?_)
  refine lv_aload_n hx hb dX0_says_0 rfl (lv_at hl 0 rfl) ?_
  revert hf
  refine k_drf (fun r1 er1 hf => ?_)
  refine gf_X0_31 C hw k0 er1 dX0_says_1 ?_
  revert hf
  refine k_req (fun k2 hf => ?_)
  refine gf_X0_257 C hw k2 dX0_says_4 ?_
  refine lv_iconst (v := ((-1) : Int32)) hx hb dX0_says_7 (by decide) ?_
  refine lv_icmp_ne (tgt := 15) hx hb dX0_says_8 (by decide) (fun c3 => ?_) (fun c3 => ?_)
  · replace hf := ite_f c3 hf
    refine lv_aload_n hx hb dX0_says_15 rfl (lv_at hl 0 rfl) ?_
    revert hf
    refine k_drf (fun r4 er4 hf => ?_)
    refine gf_X0_75 C hw k0 er4 dX0_says_16 ?_
    revert hf
    refine k_req (fun k5 hf => ?_)
    revert hf
    refine k_drf (fun r6 er6 hf => ?_)
    refine gf_X0_262 C hw k5 er6 dX0_says_19 ?_
    refine lv_astore (lv' := [(4, .ref (gb G + r6)), (0, .ref (gb G + o)), (1, .int a0), (2, .ref (gb G + a1)), (3, .int a2)]) hx hb dX0_says_22 hl (by decide) rfl (fun ls hl => ?_)
    refine lv_aload hx hb dX0_says_24 (lv_at hl 0 rfl) ?_
    refine lv_iconst (v := (0 : Int32)) hx hb dX0_says_26 (by decide) ?_
    refine lv_iload_n hx hb dX0_says_27 rfl (lv_at hl 4 rfl) ?_
    refine lv_i2l hx hb dX0_says_28 rfl ?_
    revert hf
    refine k_req (fun h7 hf => ?_)
    revert hf
    refine k_stp (fun U8 eU8 hf => ?_)
    refine w_last C hw h7 eU8 dX0_says_29 (fun H locs hw => ?_)
    refine lv_aload hx hb dX0_says_30 (lv_at hl 0 rfl) ?_
    refine lv_iconst (v := (1 : Int32)) hx hb dX0_says_32 (by decide) ?_
    refine lv_aload_n hx hb dX0_says_33 rfl (lv_at hl 1 rfl) ?_
    revert hf
    refine k_drf (fun r9 er9 hf => ?_)
    refine gf_X0_31 C hw k0 er9 dX0_says_34 ?_
    revert hf
    refine k_req (fun k10 hf => ?_)
    revert hf
    refine k_drf (fun r11 er11 hf => ?_)
    refine gf_X0_132 C hw k10 er11 dX0_says_37 ?_
    refine lv_iload_n hx hb dX0_says_40 rfl (lv_at hl 4 rfl) ?_
    revert hf
    refine k_req (fun h12 hf => ?_)
    refine w_iald C hw h12 rfl dX0_says_41 ?_
    refine lv_i2l hx hb dX0_says_42 rfl ?_
    revert hf
    refine k_req (fun h13 hf => ?_)
    revert hf
    refine k_stp (fun U14 eU14 hf => ?_)
    refine w_last C hw h13 eU14 dX0_says_43 (fun H locs hw => ?_)
    refine lv_aload hx hb dX0_says_44 (lv_at hl 0 rfl) ?_
    refine lv_iconst (v := (2 : Int32)) hx hb dX0_says_46 (by decide) ?_
    refine lv_aload_n hx hb dX0_says_47 rfl (lv_at hl 1 rfl) ?_
    revert hf
    refine k_drf (fun r15 er15 hf => ?_)
    refine gf_X0_31 C hw k0 er15 dX0_says_48 ?_
    revert hf
    refine k_req (fun k16 hf => ?_)
    revert hf
    refine k_drf (fun r17 er17 hf => ?_)
    refine gf_X0_135 C hw k16 er17 dX0_says_51 ?_
    refine lv_iload_n hx hb dX0_says_54 rfl (lv_at hl 4 rfl) ?_
    revert hf
    refine k_req (fun h18 hf => ?_)
    refine w_iald C hw h18 rfl dX0_says_55 ?_
    refine lv_i2l hx hb dX0_says_56 rfl ?_
    revert hf
    refine k_req (fun h19 hf => ?_)
    revert hf
    refine k_stp (fun U20 eU20 hf => ?_)
    refine w_last C hw h19 eU20 dX0_says_57 (fun H locs hw => ?_)
    refine lv_aload hx hb dX0_says_58 (lv_at hl 0 rfl) ?_
    refine lv_iconst (v := (3 : Int32)) hx hb dX0_says_60 (by decide) ?_
    refine lv_aload_n hx hb dX0_says_61 rfl (lv_at hl 3 rfl) ?_
    refine lv_iload_n hx hb dX0_says_62 rfl (lv_at hl 4 rfl) ?_
    revert hf
    refine k_pcl (fun z22 h21 hf => ?_)
    refine w_afi hw (w_rV (As := [.int a2]) C hw (ok_X2_full h21) (cw_X0_265 hts (Nat.le_of_ble_eq_true rfl) (Nat.le_of_ble_eq_true rfl)) rfl (by decide) (of_req h21).1 rfl hl.1 rfl (Nat.le_of_ble_eq_true rfl) ⟨Nat.zero_le _, Nat.zero_le _⟩ dX0_says_63) (fun H locs hw => ?_)
    refine lv_i2l hx hb dX0_says_66 rfl ?_
    revert hf
    refine k_req (fun h23 hf => ?_)
    revert hf
    refine k_stp (fun U24 eU24 hf => ?_)
    refine w_last C hw h23 eU24 dX0_says_67 (fun H locs hw => ?_)
    refine lv_aload hx hb dX0_says_68 (lv_at hl 0 rfl) ?_
    refine lv_iconst (v := (4 : Int32)) hx hb dX0_says_70 (by decide) ?_
    refine lv_aload_n hx hb dX0_says_71 rfl (lv_at hl 3 rfl) ?_
    refine lv_iload_n hx hb dX0_says_72 rfl (lv_at hl 4 rfl) ?_
    revert hf
    refine k_pcl (fun z26 h25 hf => ?_)
    refine w_afi hw (w_rV (As := [.int a2]) C hw (ok_X2_years h25) (cw_X0_268 hts (Nat.le_of_ble_eq_true rfl) (Nat.le_of_ble_eq_true rfl)) rfl (by decide) (of_req h25).1 rfl hl.1 rfl (Nat.le_of_ble_eq_true rfl) ⟨Nat.zero_le _, Nat.zero_le _⟩ dX0_says_73) (fun H locs hw => ?_)
    refine lv_i2l hx hb dX0_says_76 rfl ?_
    revert hf
    refine k_req (fun h27 hf => ?_)
    revert hf
    refine k_stp (fun U28 eU28 hf => ?_)
    refine w_last C hw h27 eU28 dX0_says_77 (fun H locs hw => ?_)
    refine lv_aload hx hb dX0_says_78 (lv_at hl 0 rfl) ?_
    refine lv_iconst (v := (5 : Int32)) hx hb dX0_says_80 (by decide) ?_
    refine lv_aload_n hx hb dX0_says_81 rfl (lv_at hl 3 rfl) ?_
    revert hf
    refine k_req (fun k29 hf => ?_)
    refine gf_X0_186 C hw k29 dX0_says_82 ?_
    refine lv_i2l hx hb dX0_says_85 rfl ?_
    revert hf
    refine k_req (fun h30 hf => ?_)
    revert hf
    refine k_stp (fun U31 eU31 hf => ?_)
    refine w_last C hw h30 eU31 dX0_says_86 (fun H locs hw => ?_)
    refine lv_aload hx hb dX0_says_87 (lv_at hl 0 rfl) ?_
    refine lv_bipush (v := (6 : Int32)) hx hb dX0_says_89 (by decide) ?_
    refine lv_aload_n hx hb dX0_says_91 rfl (lv_at hl 1 rfl) ?_
    revert hf
    refine k_drf (fun r32 er32 hf => ?_)
    refine gf_X0_31 C hw k0 er32 dX0_says_92 ?_
    revert hf
    refine k_req (fun k33 hf => ?_)
    refine gf_X0_192 C hw k33 dX0_says_95 ?_
    refine lv_i2l hx hb dX0_says_98 rfl ?_
    revert hf
    refine k_req (fun h34 hf => ?_)
    revert hf
    refine k_stp (fun U35 eU35 hf => ?_)
    refine w_last C hw h34 eU35 dX0_says_99 (fun H locs hw => ?_)
    refine lv_aload_n hx hb dX0_says_100 rfl (lv_at hl 1 rfl) ?_
    revert hf
    refine k_drf (fun r36 er36 hf => ?_)
    refine gf_X0_31 C hw k0 er36 dX0_says_101 ?_
    revert hf
    refine k_req (fun k37 hf => ?_)
    revert hf
    refine k_drf (fun r38 er38 hf => ?_)
    refine gf_X0_221 C hw k37 er38 dX0_says_104 ?_
    refine lv_aload_n hx hb dX0_says_107 rfl (lv_at hl 1 rfl) ?_
    revert hf
    refine k_drf (fun r39 er39 hf => ?_)
    refine gf_X0_31 C hw k0 er39 dX0_says_108 ?_
    revert hf
    refine k_req (fun k40 hf => ?_)
    refine gf_X0_257 C hw k40 dX0_says_111 ?_
    revert hf
    refine k_pcl (fun r42 h41 hf => ?_)
    refine w_afr hw (w_rV (As := [.int (U35.1 r39 11)]) C hw (ok_J2_get h41) (cw_X0_271 hts (Nat.le_of_ble_eq_true rfl) (Nat.le_of_ble_eq_true rfl)) rfl (by decide) (of_req h41).1 rfl hl.1 rfl (Nat.le_of_ble_eq_true rfl) ⟨Nat.zero_le _, Nat.zero_le _⟩ dX0_says_114) (fun H locs hw => ?_)
    revert hf
    refine k_req (fun k43 hf => ?_)
    refine w_castS (ci := 16) C hw rfl (by decide) k43 q624 dX0_says_117 ?_
    refine lv_iload_n hx hb dX0_says_120 rfl (lv_at hl 2 rfl) ?_
    refine lv_aload_n hx hb dX0_says_121 rfl (lv_at hl 1 rfl) ?_
    revert hf
    refine k_drf (fun r44 er44 hf => ?_)
    refine gf_X0_75 C hw k0 er44 dX0_says_122 ?_
    revert hf
    refine k_pcl (fun z46 h45 hf => ?_)
    refine w_afl hw (w_rV (As := [.int a0, .ref (gb G + r44)]) C hw (ok_X19_told h45) (cw_X0_275 hts (Nat.le_of_ble_eq_true rfl) (Nat.le_of_ble_eq_true rfl)) rfl (by decide) (of_req h45).1 rfl hl.1 rfl (Nat.le_of_ble_eq_true rfl) ⟨Nat.zero_le _, Nat.zero_le _⟩ dX0_says_125) (fun H locs hw => ?_)
    cases hf
    exact w_lret C hr hw dX0_says_128
  · replace hf := ite_t c3 hf
    refine lv_ldc2 (v := ((-4000000000) : Int64)) hx hb hown (hts _ q600) dX0_says_11 ?_
    cases hf
    exact w_lret C hr hw dX0_says_14
set_option maxHeartbeats 4000000 in
theorem ok_X0_losesOf {l : Launch} {G : gG} {T : Tt} {V0 : Vt} {o : Nat} {a0 : Nat} {a1 : Int32} {r : Int32} {V' : Vt} (hf : f_X0_losesOf T V0 o a0 a1 = some (r, V')) : okM l G yX0_losesOf cX0_losesOf 5 (some .int) 425 [.ref (gb G + o), .ref (gb G + a0), .int a1] V0 T (some (.int r)) V' T 0 0 := by
  refine ok_intro (by decide) (Nat.le_of_ble_eq_true rfl) ?_
  intro p e s m below meth c ls C hr hnm hw hl
  have hx := C.1
  have hb := C.2.1
  have hown := C.2.2.2.1
  have hts := C.2.2.2.2.1
  have hl : lv_has ls 5 [(0, .ref (gb G + o)), (1, .ref (gb G + a0)), (2, .int a1)] := hl
  unfold f_X0_losesOf at hf
  revert hf
  refine k_req (fun k0 hf => ?_)
  refine lv_aload_n hx hb dX0_losesOf_0 rfl (lv_at hl 0 rfl) ?_
  refine lv_iconst (v := (0 : Int32)) hx hb dX0_losesOf_1 (by decide) ?_
  refine lv_aload_n hx hb dX0_losesOf_2 rfl (lv_at hl 1 rfl) ?_
  refine lv_iload_n hx hb dX0_losesOf_3 rfl (lv_at hl 2 rfl) ?_
  revert hf
  refine k_cal (fun z2 U3 h1 hf => ?_)
  refine w_afl hw (w_rV (As := [.int (0 : Int32), .ref (gb G + a0), .int a1]) C hw (ok_X0_says h1) (cw_X0_279 hts (Nat.le_of_ble_eq_true rfl) (Nat.le_of_ble_eq_true rfl)) rfl (by decide) (of_req h1).1 rfl hl.1 rfl (Nat.le_of_ble_eq_true rfl) ⟨Nat.zero_le _, Nat.zero_le _⟩ dX0_losesOf_4) (fun H locs hw => ?_)
  refine lv_lstore_n (lv' := [(3, .long z2), (0, .ref (gb G + o)), (1, .ref (gb G + a0)), (2, .int a1)]) hx hb dX0_losesOf_7 rfl hl (by decide) rfl (fun ls hl => ?_)
  refine lv_lload_n hx hb dX0_losesOf_8 rfl (lv_at hl 0 rfl) ?_
  refine lv_ldc2 (v := ((-4000000000) : Int64)) hx hb hown (hts _ q600) dX0_losesOf_9 ?_
  refine W.lcmp hx hb dX0_losesOf_12 ?_
  refine lv_if_ne (tgt := 20) hx hb dX0_losesOf_13 (by decide) (fun c4 => ?_) (fun c4 => ?_)
  · replace hf := ite_f c4 hf
    refine lv_lload_n hx hb dX0_losesOf_20 rfl (lv_at hl 0 rfl) ?_
    refine lv_bipush (v := (99 : Int32)) hx hb dX0_losesOf_21 (by decide) ?_
    revert hf
    refine k_pcl (fun z6 h5 hf => ?_)
    refine w_afi hw (w_rS (As := [.long z2, .int (99 : Int32)]) C hw (ok_X0_within h5) (cw_X0_283 hts (Nat.le_of_ble_eq_true rfl) (Nat.le_of_ble_eq_true rfl)) rfl hl.1 rfl (Nat.le_of_ble_eq_true rfl) ⟨Nat.zero_le _, Nat.zero_le _⟩ dX0_losesOf_23) (fun H locs hw => ?_)
    cases hf
    exact w_iret C hr hw dX0_losesOf_26
  · replace hf := ite_t c4 hf
    refine lv_iconst (v := (0 : Int32)) hx hb dX0_losesOf_16 (by decide) ?_
    refine lv_goto (tgt := 26) hx hb dX0_losesOf_17 (by decide) ?_
    cases hf
    exact w_iret C hr hw dX0_losesOf_26
set_option maxHeartbeats 4000000 in
theorem ok_X0_yieldOf {l : Launch} {G : gG} {T : Tt} {V0 : Vt} {o : Nat} {a0 : Nat} {a1 : Int32} {r : Int32} {V' : Vt} (hf : f_X0_yieldOf T V0 o a0 a1 = some (r, V')) : okM l G yX0_yieldOf cX0_yieldOf 5 (some .int) 425 [.ref (gb G + o), .ref (gb G + a0), .int a1] V0 T (some (.int r)) V' T 0 0 := by
  refine ok_intro (by decide) (Nat.le_of_ble_eq_true rfl) ?_
  intro p e s m below meth c ls C hr hnm hw hl
  have hx := C.1
  have hb := C.2.1
  have hown := C.2.2.2.1
  have hts := C.2.2.2.2.1
  have hl : lv_has ls 5 [(0, .ref (gb G + o)), (1, .ref (gb G + a0)), (2, .int a1)] := hl
  unfold f_X0_yieldOf at hf
  revert hf
  refine k_req (fun k0 hf => ?_)
  refine lv_aload_n hx hb dX0_yieldOf_0 rfl (lv_at hl 0 rfl) ?_
  refine lv_iconst (v := (1 : Int32)) hx hb dX0_yieldOf_1 (by decide) ?_
  refine lv_aload_n hx hb dX0_yieldOf_2 rfl (lv_at hl 1 rfl) ?_
  refine lv_iload_n hx hb dX0_yieldOf_3 rfl (lv_at hl 2 rfl) ?_
  revert hf
  refine k_cal (fun z2 U3 h1 hf => ?_)
  refine w_afl hw (w_rV (As := [.int (1 : Int32), .ref (gb G + a0), .int a1]) C hw (ok_X0_says h1) (cw_X0_279 hts (Nat.le_of_ble_eq_true rfl) (Nat.le_of_ble_eq_true rfl)) rfl (by decide) (of_req h1).1 rfl hl.1 rfl (Nat.le_of_ble_eq_true rfl) ⟨Nat.zero_le _, Nat.zero_le _⟩ dX0_yieldOf_4) (fun H locs hw => ?_)
  refine lv_lstore_n (lv' := [(3, .long z2), (0, .ref (gb G + o)), (1, .ref (gb G + a0)), (2, .int a1)]) hx hb dX0_yieldOf_7 rfl hl (by decide) rfl (fun ls hl => ?_)
  refine lv_lload_n hx hb dX0_yieldOf_8 rfl (lv_at hl 0 rfl) ?_
  refine lv_ldc2 (v := ((-4000000000) : Int64)) hx hb hown (hts _ q600) dX0_yieldOf_9 ?_
  refine W.lcmp hx hb dX0_yieldOf_12 ?_
  refine lv_if_ne (tgt := 22) hx hb dX0_yieldOf_13 (by decide) (fun c4 => ?_) (fun c4 => ?_)
  · replace hf := ite_f c4 hf
    refine lv_lload_n hx hb dX0_yieldOf_22 rfl (lv_at hl 0 rfl) ?_
    refine lv_sipush (v := (999 : Int32)) hx hb dX0_yieldOf_23 (by decide) ?_
    revert hf
    refine k_pcl (fun z6 h5 hf => ?_)
    refine w_afi hw (w_rS (As := [.long z2, .int (999 : Int32)]) C hw (ok_X0_within h5) (cw_X0_283 hts (Nat.le_of_ble_eq_true rfl) (Nat.le_of_ble_eq_true rfl)) rfl hl.1 rfl (Nat.le_of_ble_eq_true rfl) ⟨Nat.zero_le _, Nat.zero_le _⟩ dX0_yieldOf_26) (fun H locs hw => ?_)
    cases hf
    exact w_iret C hr hw dX0_yieldOf_29
  · replace hf := ite_t c4 hf
    refine lv_sipush (v := (999 : Int32)) hx hb dX0_yieldOf_16 (by decide) ?_
    refine lv_goto (tgt := 29) hx hb dX0_yieldOf_19 (by decide) ?_
    cases hf
    exact w_iret C hr hw dX0_yieldOf_29
set_option maxHeartbeats 4000000 in
theorem ok_X0_isBarred {l : Launch} {G : gG} {T : Tt} {V0 : Vt} {o : Nat} {a0 : Nat} {a1 : Int32} {r : Int32} {V' : Vt} (hf : f_X0_isBarred T V0 o a0 a1 = some (r, V')) : okM l G yX0_isBarred cX0_isBarred 3 (some .boolean) 425 [.ref (gb G + o), .ref (gb G + a0), .int a1] V0 T (some (.int r)) V' T 0 0 := by
  refine ok_intro (by decide) (Nat.le_of_ble_eq_true rfl) ?_
  intro p e s m below meth c ls C hr hnm hw hl
  have hx := C.1
  have hb := C.2.1
  have hown := C.2.2.2.1
  have hts := C.2.2.2.2.1
  have hl : lv_has ls 3 [(0, .ref (gb G + o)), (1, .ref (gb G + a0)), (2, .int a1)] := hl
  unfold f_X0_isBarred at hf
  revert hf
  refine k_req (fun k0 hf => ?_)
  refine lv_aload_n hx hb dX0_isBarred_0 rfl (lv_at hl 0 rfl) ?_
  refine lv_iconst (v := (2 : Int32)) hx hb dX0_isBarred_1 (by decide) ?_
  refine lv_aload_n hx hb dX0_isBarred_2 rfl (lv_at hl 1 rfl) ?_
  refine lv_iload_n hx hb dX0_isBarred_3 rfl (lv_at hl 2 rfl) ?_
  revert hf
  refine k_cal (fun z2 U3 h1 hf => ?_)
  refine w_afl hw (w_rV (As := [.int (2 : Int32), .ref (gb G + a0), .int a1]) C hw (ok_X0_says h1) (cw_X0_279 hts (Nat.le_of_ble_eq_true rfl) (Nat.le_of_ble_eq_true rfl)) rfl (by decide) (of_req h1).1 rfl hl.1 rfl (Nat.le_of_ble_eq_true rfl) ⟨Nat.zero_le _, Nat.zero_le _⟩ dX0_isBarred_4) (fun H locs hw => ?_)
  refine lv_ldc2 (v := ((-4000000000) : Int64)) hx hb hown (hts _ q600) dX0_isBarred_7 ?_
  refine W.lcmp hx hb dX0_isBarred_10 ?_
  refine lv_if_eq (tgt := 18) hx hb dX0_isBarred_11 (by decide) (fun c4 => ?_) (fun c4 => ?_)
  · replace hf := ite_t c4 hf
    refine lv_iconst (v := (0 : Int32)) hx hb dX0_isBarred_18 (by decide) ?_
    cases hf
    exact w_zret C hr hw (by decide) dX0_isBarred_19
  · replace hf := ite_f c4 hf
    refine lv_iconst (v := (1 : Int32)) hx hb dX0_isBarred_14 (by decide) ?_
    refine lv_goto (tgt := 19) hx hb dX0_isBarred_15 (by decide) ?_
    cases hf
    exact w_zret C hr hw (by decide) dX0_isBarred_19
set_option maxHeartbeats 4000000 in
theorem ok_X0_of {l : Launch} {G : gG} {T : Tt} {V0 : Vt} {o : Nat} {a0 : Int32} {a1 : Int32} {r : Int32} {V' : Vt} (hf : f_X0_of T V0 o a0 a1 = some (r, V')) : okM l G yX0_of cX0_of 4 (some .int) 426 [.ref (gb G + o), .int a0, .int a1] V0 T (some (.int r)) V' T 0 0 := by
  refine ok_intro (by decide) (Nat.le_of_ble_eq_true rfl) ?_
  intro p e s m below meth c ls C hr hnm hw hl
  have hx := C.1
  have hb := C.2.1
  have hown := C.2.2.2.1
  have hts := C.2.2.2.2.1
  have hl : lv_has ls 4 [(0, .ref (gb G + o)), (1, .int a0), (2, .int a1)] := hl
  unfold f_X0_of at hf
  revert hf
  refine k_req (fun k0 hf => ?_)
  refine lv_aload_n hx hb dX0_of_0 rfl (lv_at hl 0 rfl) ?_
  refine lv_iload_n hx hb dX0_of_1 rfl (lv_at hl 1 rfl) ?_
  revert hf
  refine k_pcl (fun z2 h1 hf => ?_)
  refine w_afi hw (w_rV (As := [.int a0]) C hw (ok_X0_isCask h1) (cw_X0_151 hts (Nat.le_of_ble_eq_true rfl) (Nat.le_of_ble_eq_true rfl)) rfl (by decide) (of_req h1).1 rfl hl.1 rfl (Nat.le_of_ble_eq_true rfl) ⟨Nat.zero_le _, Nat.zero_le _⟩ dX0_of_2) (fun H locs hw => ?_)
  refine lv_if_ne (tgt := 10) hx hb dX0_of_5 (by decide) (fun c3 => ?_) (fun c3 => ?_)
  · replace hf := ite_f c3 hf
    refine lv_aload_n hx hb dX0_of_10 rfl (lv_at hl 0 rfl) ?_
    revert hf
    refine k_pcl (fun r5 h4 hf => ?_)
    refine w_afr hw (w_rV (As := []) C hw (ok_X0_table h4) (cw_X0_137 hts (Nat.le_of_ble_eq_true rfl) (Nat.le_of_ble_eq_true rfl)) rfl (by decide) (of_req h4).1 rfl hl.1 rfl (Nat.le_of_ble_eq_true rfl) ⟨Nat.zero_le _, Nat.zero_le _⟩ dX0_of_11) (fun H locs hw => ?_)
    refine lv_astore_n (lv' := [(3, .ref (gb G + r5)), (0, .ref (gb G + o)), (1, .int a0), (2, .int a1)]) hx hb dX0_of_14 rfl hl (by decide) rfl (fun ls hl => ?_)
    refine lv_iload_n hx hb dX0_of_15 rfl (lv_at hl 3 rfl) ?_
    refine lv_bipush (v := (8 : Int32)) hx hb dX0_of_16 (by decide) ?_
    refine lv_bipush (v := (27 : Int32)) hx hb dX0_of_18 (by decide) ?_
    revert hf
    refine k_pcl (fun z7 h6 hf => ?_)
    refine w_afi hw (w_rS (As := [.int a1, .int (8 : Int32), .int (27 : Int32)]) C hw (ok_X0_in h6) (cw_X0_108 hts (Nat.le_of_ble_eq_true rfl) (Nat.le_of_ble_eq_true rfl)) rfl hl.1 rfl (Nat.le_of_ble_eq_true rfl) ⟨Nat.zero_le _, Nat.zero_le _⟩ dX0_of_20) (fun H locs hw => ?_)
    refine lv_if_eq (tgt := 41) hx hb dX0_of_23 (by decide) (fun c8 => ?_) (fun c8 => ?_)
    · replace hf := ite_t c8 hf
      refine lv_iload_n hx hb dX0_of_41 rfl (lv_at hl 3 rfl) ?_
      by_cases c9 : a1 = (0 : Int32)
      · replace hf := ite_t c9 hf
        refine lv_tableIn (tgt := 88) (off := 46) hx hb dX0_of_42 (by rw [c9]; decide) (by rw [c9]; decide) (by rw [c9]; decide) (by decide) ?_
        refine lv_aload_n hx hb dX0_of_88 rfl (lv_at hl 1 rfl) ?_
        revert hf
        refine k_drf (fun r10 er10 hf => ?_)
        refine gf_X0_31 C hw k0 er10 dX0_of_89 ?_
        revert hf
        refine k_req (fun k11 hf => ?_)
        revert hf
        refine k_drf (fun r12 er12 hf => ?_)
        refine gf_X0_132 C hw k11 er12 dX0_of_92 ?_
        refine lv_iload_n hx hb dX0_of_95 rfl (lv_at hl 2 rfl) ?_
        revert hf
        refine k_req (fun h13 hf => ?_)
        refine w_iald C hw h13 rfl dX0_of_96 ?_
        cases hf
        exact w_iret C hr hw dX0_of_97
      · replace hf := ite_f c9 hf
        by_cases c14 : a1 = (1 : Int32)
        · replace hf := ite_t c14 hf
          refine lv_tableIn (tgt := 98) (off := 56) hx hb dX0_of_42 (by rw [c14]; decide) (by rw [c14]; decide) (by rw [c14]; decide) (by decide) ?_
          refine lv_aload_n hx hb dX0_of_98 rfl (lv_at hl 1 rfl) ?_
          revert hf
          refine k_drf (fun r15 er15 hf => ?_)
          refine gf_X0_31 C hw k0 er15 dX0_of_99 ?_
          revert hf
          refine k_req (fun k16 hf => ?_)
          revert hf
          refine k_drf (fun r17 er17 hf => ?_)
          refine gf_X0_135 C hw k16 er17 dX0_of_102 ?_
          refine lv_iload_n hx hb dX0_of_105 rfl (lv_at hl 2 rfl) ?_
          revert hf
          refine k_req (fun h18 hf => ?_)
          refine w_iald C hw h18 rfl dX0_of_106 ?_
          cases hf
          exact w_iret C hr hw dX0_of_107
        · replace hf := ite_f c14 hf
          by_cases c19 : a1 = (2 : Int32)
          · replace hf := ite_t c19 hf
            refine lv_tableIn (tgt := 108) (off := 66) hx hb dX0_of_42 (by rw [c19]; decide) (by rw [c19]; decide) (by rw [c19]; decide) (by decide) ?_
            refine lv_aload_n hx hb dX0_of_108 rfl (lv_at hl 0 rfl) ?_
            refine lv_iload_n hx hb dX0_of_109 rfl (lv_at hl 2 rfl) ?_
            revert hf
            refine k_pcl (fun z21 h20 hf => ?_)
            refine w_afi hw (w_rV (As := [.int a0]) C hw (ok_X2_all h20) (cw_X0_155 hts (Nat.le_of_ble_eq_true rfl) (Nat.le_of_ble_eq_true rfl)) rfl (by decide) (of_req h20).1 rfl hl.1 rfl (Nat.le_of_ble_eq_true rfl) ⟨Nat.zero_le _, Nat.zero_le _⟩ dX0_of_110) (fun H locs hw => ?_)
            cases hf
            exact w_iret C hr hw dX0_of_113
          · replace hf := ite_f c19 hf
            by_cases c22 : a1 = (3 : Int32)
            · replace hf := ite_t c22 hf
              refine lv_tableIn (tgt := 114) (off := 72) hx hb dX0_of_42 (by rw [c22]; decide) (by rw [c22]; decide) (by rw [c22]; decide) (by decide) ?_
              refine lv_aload_n hx hb dX0_of_114 rfl (lv_at hl 0 rfl) ?_
              refine lv_iload_n hx hb dX0_of_115 rfl (lv_at hl 2 rfl) ?_
              revert hf
              refine k_pcl (fun z24 h23 hf => ?_)
              refine w_afi hw (w_rV (As := [.int a0]) C hw (ok_X2_mean h23) (cw_X0_158 hts (Nat.le_of_ble_eq_true rfl) (Nat.le_of_ble_eq_true rfl)) rfl (by decide) (of_req h23).1 rfl hl.1 rfl (Nat.le_of_ble_eq_true rfl) ⟨Nat.zero_le _, Nat.zero_le _⟩ dX0_of_116) (fun H locs hw => ?_)
              cases hf
              exact w_iret C hr hw dX0_of_119
            · replace hf := ite_f c22 hf
              by_cases c25 : a1 = (4 : Int32)
              · replace hf := ite_t c25 hf
                refine lv_tableIn (tgt := 120) (off := 78) hx hb dX0_of_42 (by rw [c25]; decide) (by rw [c25]; decide) (by rw [c25]; decide) (by decide) ?_
                refine lv_aload_n hx hb dX0_of_120 rfl (lv_at hl 0 rfl) ?_
                refine lv_iload_n hx hb dX0_of_121 rfl (lv_at hl 2 rfl) ?_
                refine lv_aload_n hx hb dX0_of_122 rfl (lv_at hl 1 rfl) ?_
                revert hf
                refine k_drf (fun r26 er26 hf => ?_)
                refine gf_X0_31 C hw k0 er26 dX0_of_123 ?_
                revert hf
                refine k_req (fun k27 hf => ?_)
                refine gf_X0_161 C hw k27 dX0_of_126 ?_
                revert hf
                refine k_pcl (fun z29 h28 hf => ?_)
                refine w_afi hw (w_rV (As := [.int a0, .int (V0.1 r26 10)]) C hw (ok_X2_label h28) (cw_X0_164 hts (Nat.le_of_ble_eq_true rfl) (Nat.le_of_ble_eq_true rfl)) rfl (by decide) (of_req h28).1 rfl hl.1 rfl (Nat.le_of_ble_eq_true rfl) ⟨Nat.zero_le _, Nat.zero_le _⟩ dX0_of_129) (fun H locs hw => ?_)
                cases hf
                exact w_iret C hr hw dX0_of_132
              · replace hf := ite_f c25 hf
                by_cases c30 : a1 = (5 : Int32)
                · replace hf := ite_t c30 hf
                  refine lv_tableIn (tgt := 133) (off := 91) hx hb dX0_of_42 (by rw [c30]; decide) (by rw [c30]; decide) (by rw [c30]; decide) (by decide) ?_
                  refine lv_aload_n hx hb dX0_of_133 rfl (lv_at hl 1 rfl) ?_
                  refine lv_aload_n hx hb dX0_of_134 rfl (lv_at hl 0 rfl) ?_
                  refine lv_iload_n hx hb dX0_of_135 rfl (lv_at hl 2 rfl) ?_
                  revert hf
                  refine k_cal (fun z32 U33 h31 hf => ?_)
                  refine w_afi hw (w_rV (As := [.ref (gb G + r5), .int a0]) C hw (ok_X0_losesOf h31) (cw_X0_168 hts (Nat.le_of_ble_eq_true rfl) (Nat.le_of_ble_eq_true rfl)) rfl (by decide) (of_req h31).1 rfl hl.1 rfl (Nat.le_of_ble_eq_true rfl) ⟨Nat.zero_le _, Nat.zero_le _⟩ dX0_of_136) (fun H locs hw => ?_)
                  cases hf
                  exact w_iret C hr hw dX0_of_139
                · replace hf := ite_f c30 hf
                  by_cases c34 : a1 = (6 : Int32)
                  · replace hf := ite_t c34 hf
                    refine lv_tableIn (tgt := 140) (off := 98) hx hb dX0_of_42 (by rw [c34]; decide) (by rw [c34]; decide) (by rw [c34]; decide) (by decide) ?_
                    refine lv_aload_n hx hb dX0_of_140 rfl (lv_at hl 1 rfl) ?_
                    refine lv_aload_n hx hb dX0_of_141 rfl (lv_at hl 0 rfl) ?_
                    refine lv_iload_n hx hb dX0_of_142 rfl (lv_at hl 2 rfl) ?_
                    revert hf
                    refine k_cal (fun z36 U37 h35 hf => ?_)
                    refine w_afi hw (w_rV (As := [.ref (gb G + r5), .int a0]) C hw (ok_X0_yieldOf h35) (cw_X0_172 hts (Nat.le_of_ble_eq_true rfl) (Nat.le_of_ble_eq_true rfl)) rfl (by decide) (of_req h35).1 rfl hl.1 rfl (Nat.le_of_ble_eq_true rfl) ⟨Nat.zero_le _, Nat.zero_le _⟩ dX0_of_143) (fun H locs hw => ?_)
                    cases hf
                    exact w_iret C hr hw dX0_of_146
                  · replace hf := ite_f c34 hf
                    by_cases c38 : a1 = (7 : Int32)
                    · replace hf := ite_t c38 hf
                      refine lv_tableIn (tgt := 147) (off := 105) hx hb dX0_of_42 (by rw [c38]; decide) (by rw [c38]; decide) (by rw [c38]; decide) (by decide) ?_
                      refine lv_aload_n hx hb dX0_of_147 rfl (lv_at hl 1 rfl) ?_
                      refine lv_aload_n hx hb dX0_of_148 rfl (lv_at hl 0 rfl) ?_
                      refine lv_iload_n hx hb dX0_of_149 rfl (lv_at hl 2 rfl) ?_
                      revert hf
                      refine k_cal (fun z40 U41 h39 hf => ?_)
                      refine w_afi hw (w_rV (As := [.ref (gb G + r5), .int a0]) C hw (ok_X0_isBarred h39) (cw_X0_175 hts (Nat.le_of_ble_eq_true rfl) (Nat.le_of_ble_eq_true rfl)) rfl (by decide) (of_req h39).1 rfl hl.1 rfl (Nat.le_of_ble_eq_true rfl) ⟨Nat.zero_le _, Nat.zero_le _⟩ dX0_of_150) (fun H locs hw => ?_)
                      refine lv_if_eq (tgt := 160) hx hb dX0_of_153 (by decide) (fun c42 => ?_) (fun c42 => ?_)
                      · replace hf := ite_t c42 hf
                        refine lv_iconst (v := (0 : Int32)) hx hb dX0_of_160 (by decide) ?_
                        cases hf
                        exact w_iret C hr hw dX0_of_161
                      · replace hf := ite_f c42 hf
                        refine lv_iconst (v := (1 : Int32)) hx hb dX0_of_156 (by decide) ?_
                        refine lv_goto (tgt := 161) hx hb dX0_of_157 (by decide) ?_
                        cases hf
                        exact w_iret C hr hw dX0_of_161
                    · replace hf := ite_f c38 hf
                      have gc9 := lv_neT (a := 0) c9 (by decide)
                      have gc14 := lv_neT (a := 1) c14 (by decide)
                      have gc19 := lv_neT (a := 2) c19 (by decide)
                      have gc22 := lv_neT (a := 3) c22 (by decide)
                      have gc25 := lv_neT (a := 4) c25 (by decide)
                      have gc30 := lv_neT (a := 5) c30 (by decide)
                      have gc34 := lv_neT (a := 6) c34 (by decide)
                      have gc38 := lv_neT (a := 7) c38 (by decide)
                      refine lv_tableOut (tgt := 162) hx hb dX0_of_42 (by show Int32.toInt a1 < 0 ∨ 7 < Int32.toInt a1; omega) (by decide) ?_
                      refine lv_iconst (v := ((-1) : Int32)) hx hb dX0_of_162 (by decide) ?_
                      cases hf
                      exact w_iret C hr hw dX0_of_163
    · replace hf := ite_f c8 hf
      refine lv_aload_n hx hb dX0_of_26 rfl (lv_at hl 0 rfl) ?_
      revert hf
      refine k_req (fun k43 hf => ?_)
      revert hf
      refine k_drf (fun r44 er44 hf => ?_)
      refine gf_X0_140 C hw k43 er44 dX0_of_27 ?_
      refine lv_bipush (v := (20 : Int32)) hx hb dX0_of_30 (by decide) ?_
      refine lv_iload_n hx hb dX0_of_32 rfl (lv_at hl 2 rfl) ?_
      refine lv_imul hx hb dX0_of_33 ?_
      refine lv_iload_n hx hb dX0_of_34 rfl (lv_at hl 3 rfl) ?_
      refine lv_iadd hx hb dX0_of_35 ?_
      refine lv_bipush (v := (8 : Int32)) hx hb dX0_of_36 (by decide) ?_
      refine lv_isub hx hb dX0_of_38 ?_
      revert hf
      refine k_req (fun h45 hf => ?_)
      refine w_iald C hw h45 rfl dX0_of_39 ?_
      cases hf
      exact w_iret C hr hw dX0_of_40
  · replace hf := ite_t c3 hf
    refine lv_iconst (v := ((-1) : Int32)) hx hb dX0_of_8 (by decide) ?_
    cases hf
    exact w_iret C hr hw dX0_of_9
set_option maxHeartbeats 4000000 in
theorem ok_X0_reads {l : Launch} {G : gG} {T : Tt} {V0 : Vt} {o : Nat} {a0 : Nat} {r : Int32} {V' : Vt} {T' : Tt} {n k : Nat} (hf : f_X0_reads T V0 o a0 = some ((r, V', T'), n, k)) : okH l G yX0_reads cX0_reads 3 (some .boolean) [(0, 4, 7, 216)] 132 [.ref (gb G + o), .ref (gb G + a0)] V0 T (some (.int r)) V' T' n k := by
  refine okH_intro (by decide) (Nat.le_of_ble_eq_true rfl) ?_
  intro p e s m below meth c ls C hr htab hw hl
  have hx := C.1
  have hb := C.2.1
  have hown := C.2.2.2.1
  have hts := C.2.2.2.2.1
  have hl : lv_has ls 3 [(0, .ref (gb G + o)), (1, .ref (gb G + a0))] := hl
  unfold f_X0_reads at hf
  revert hf
  refine k_req (fun k0 hf => ?_)
  obtain ⟨mc, emc⟩ : ∃ mc, mc = n := ⟨_, rfl⟩
  obtain ⟨ms, ems⟩ : ∃ ms, ms = k := ⟨_, rfl⟩
  have hn : 0 + n = mc := by omega
  have hk : 0 + k = ms := by omega
  rw [← emc, ← ems]
  clear emc ems
  refine lv_aload_n hx hb dX0_reads_0 rfl (lv_at hl 1 rfl) ?_
  rcases of_dhl hf with ⟨z2, U3, T4, na, ka, n1, k1, h1, hf, en, ek⟩ | ⟨q5, U3, T4, na, ka, n1, k1, h1, hf, en, ek⟩
  · refine x_in hw (xu_X0_211 (As := []) C hw (Nat.le_of_ble_eq_true rfl) (Nat.le_of_ble_eq_true rfl) (ok_X6_read h1) (of_req h1).1 hl.1 rfl (Nat.le_of_ble_eq_true rfl) ⟨by show _ ≤ mc; omega, by show _ ≤ ms; omega⟩ dX0_reads_1) (fun H locs hw => ?_)
    refine W.eq (g2 := F0 m 4 ls []) rfl ?_
    replace hn := add_r hn en
    replace hk := add_r hk ek
    clear en ek
    generalize n1 = n at hf hn
    generalize k1 = k at hf hk
    refine lv_goto (tgt := 18) hx hb dX0_reads_4 (by decide) ?_
    refine lv_aload_n hx hb dX0_reads_18 rfl (lv_at hl 0 rfl) ?_
    refine lv_iconst (v := ((-1) : Int32)) hx hb dX0_reads_19 (by decide) ?_
    revert hf
    refine k_req (fun k9 hf => ?_)
    revert hf
    refine k_stp (fun U10 eU10 hf => ?_)
    refine pf_X0_66 C hw k9 eU10 dX0_reads_20 (fun H locs hw => ?_)
    refine lv_iconst (v := (1 : Int32)) hx hb dX0_reads_23 (by decide) ?_
    cases hf
    cases hn
    cases hk
    exact h_ret (w_zret C hr hw (by decide) dX0_reads_24)
  · refine x_out hw (xu_X0_211 (As := []) C hw (Nat.le_of_ble_eq_true rfl) (Nat.le_of_ble_eq_true rfl) (ok_X6_read h1) (of_req h1).1 hl.1 rfl (Nat.le_of_ble_eq_true rfl) ⟨by show _ ≤ mc; omega, by show _ ≤ ms; omega⟩ dX0_reads_1) (fun H locs ce hw g1 g2 g3 => ?_)
    refine h_catch C htab (by decide) (by decide) (by decide) q776 q864 g1 g2 g3 ?_
    replace hn := add_r hn en
    replace hk := add_r hk ek
    clear en ek
    generalize n1 = n at hf hn
    generalize k1 = k at hf hk
    refine lv_astore_n (lv' := [(2, .ref (gb G + q5)), (0, .ref (gb G + o)), (1, .ref (gb G + a0))]) hx hb dX0_reads_7 rfl hl (by decide) rfl (fun ls hl => ?_)
    refine lv_aload_n hx hb dX0_reads_8 rfl (lv_at hl 1 rfl) ?_
    refine lv_aload_n hx hb dX0_reads_9 rfl (lv_at hl 0 rfl) ?_
    revert hf
    refine k_req (fun k6 hf => ?_)
    refine gf_X0_218 C hw k6 dX0_reads_10 ?_
    revert hf
    refine k_req (fun k7 hf => ?_)
    revert hf
    refine k_stp (fun U8 eU8 hf => ?_)
    refine pf_X0_66 C hw k7 eU8 dX0_reads_13 (fun H locs hw => ?_)
    refine lv_iconst (v := (0 : Int32)) hx hb dX0_reads_16 (by decide) ?_
    cases hf
    cases hn
    cases hk
    exact h_ret (w_zret C hr hw (by decide) dX0_reads_17)
set_option maxHeartbeats 4000000 in
theorem ok_X0_law {l : Launch} {G : gG} {T : Tt} {V0 : Vt} {o : Nat} {r : Int32} {V' : Vt} {T' : Tt} {n k : Nat} (hf : f_X0_law T V0 o = some ((r, V', T'), n, k)) : okM l G yX0_law cX0_law 3 (some .int) 133 [.ref (gb G + o)] V0 T (some (.int r)) V' T' n k := by
  refine ok_intro (by decide) (Nat.le_of_ble_eq_true rfl) ?_
  intro p e s m below meth c ls C hr hnm hw hl
  have hx := C.1
  have hb := C.2.1
  have hown := C.2.2.2.1
  have hts := C.2.2.2.2.1
  have hl : lv_has ls 3 [(0, .ref (gb G + o))] := hl
  unfold f_X0_law at hf
  revert hf
  refine k_req (fun k0 hf => ?_)
  obtain ⟨mc, emc⟩ : ∃ mc, mc = n := ⟨_, rfl⟩
  obtain ⟨ms, ems⟩ : ∃ ms, ms = k := ⟨_, rfl⟩
  have hn : 0 + n = mc := by omega
  have hk : 0 + k = ms := by omega
  rw [← emc, ← ems]
  clear emc ems
  refine lv_aload_n hx hb dX0_law_0 rfl (lv_at hl 0 rfl) ?_
  refine gf_X0_201 C hw k0 dX0_law_1 ?_
  revert hf
  refine k_stp (fun z1 ez1 hf => ?_)
  refine w_nmI ez1 ?_
  refine lv_istore_n (lv' := [(1, .int z1), (0, .ref (gb G + o))]) hx hb dX0_law_4 rfl hl (by decide) rfl (fun ls hl => ?_)
  refine lv_aload_n hx hb dX0_law_5 rfl (lv_at hl 1 rfl) ?_
  refine lv_iconst (v := (0 : Int32)) hx hb dX0_law_6 (by decide) ?_
  revert hf
  refine k_stp (fun U2 eU2 hf => ?_)
  refine pf_X0_201 C hw k0 eU2 dX0_law_7 (fun H locs hw => ?_)
  refine lv_aload_n hx hb dX0_law_10 rfl (lv_at hl 1 rfl) ?_
  revert hf
  refine k_drf (fun r3 er3 hf => ?_)
  refine gf_X0_31 C hw k0 er3 dX0_law_11 ?_
  revert hf
  refine k_req (fun k4 hf => ?_)
  revert hf
  refine k_drf (fun r5 er5 hf => ?_)
  refine gf_X0_221 C hw k4 er5 dX0_law_14 ?_
  revert hf
  refine k_pcl (fun z7 h6 hf => ?_)
  refine w_afi hw (w_rV (As := []) C hw (ok_J2_size h6) (cw_X0_116 hts (Nat.le_of_ble_eq_true rfl) (Nat.le_of_ble_eq_true rfl)) rfl (by decide) (of_req h6).1 rfl hl.1 rfl (Nat.le_of_ble_eq_true rfl) ⟨by show _ + 0 ≤ mc; omega, by show _ + 0 ≤ ms; omega⟩ dX0_law_17) (fun H locs hw => ?_)
  refine lv_bipush (v := (6 : Int32)) hx hb dX0_law_20 (by decide) ?_
  refine lv_icmp_ne (tgt := 32) hx hb dX0_law_22 (by decide) (fun c8 => ?_) (fun c8 => ?_)
  · replace hf := ite_f c8 hf
    revert hf
    refine k_inc (fun n1 k1 hf en ek => ?_)
    revert hf
    refine k_stp (fun q9 eq9 hf => ?_)
    revert hf
    refine k_stp (fun U10 eU10 hf => ?_)
    revert hf
    refine k_stp (fun T11 eT11 hf => ?_)
    refine nw_X7 C hw q735 (by show _ ≤ mc; omega) (by show _ ≤ ms; omega) eq9 eU10 eT11 dX0_law_32 (fun H hw => ?_)
    replace hn := add_r hn en
    replace hk := add_r hk ek
    clear en ek
    generalize n1 = n at hf hn
    generalize k1 = k at hf hk
    refine lv_dup hx hb dX0_law_35 rfl ?_
    refine lv_aload_n hx hb dX0_law_36 rfl (lv_at hl 1 rfl) ?_
    revert hf
    refine k_req (fun k12 hf => ?_)
    revert hf
    refine k_drf (fun r13 er13 hf => ?_)
    refine gf_X0_62 C hw k12 er13 dX0_law_37 ?_
    refine lv_iload_n hx hb dX0_law_40 rfl (lv_at hl 0 rfl) ?_
    revert hf
    refine k_dcv (fun U16 T17 na ka n1 k1 h14 hf en ek => ?_)
    refine w_afv hw (w_rI (As := [.ref (gb G + r13), .int z1]) C hw (ok_X7_init h14) (cw_X0_226 hts (Nat.le_of_ble_eq_true rfl) (Nat.le_of_ble_eq_true rfl)) rfl hl.1 rfl (Nat.le_of_ble_eq_true rfl) ⟨by show _ ≤ mc; omega, by show _ ≤ ms; omega⟩ dX0_law_41) (fun H locs hw => ?_)
    replace hn := add_r hn en
    replace hk := add_r hk ek
    clear en ek
    generalize n1 = n at hf hn
    generalize k1 = k at hf hk
    refine lv_astore_n (lv' := [(2, .ref (gb G + q9)), (1, .int z1), (0, .ref (gb G + o))]) hx hb dX0_law_44 rfl hl (by decide) rfl (fun ls hl => ?_)
    refine lv_aload_n hx hb dX0_law_45 rfl (lv_at hl 2 rfl) ?_
    refine lv_aload_n hx hb dX0_law_46 rfl (lv_at hl 0 rfl) ?_
    revert hf
    refine k_dcl (fun z19 U20 T21 na ka n1 k1 h18 hf en ek => ?_)
    refine w_afi hw (w_rH (As := [.ref (gb G + q9)]) C hw (ok_X0_reads h18) (cw_X0_229 hts (Nat.le_of_ble_eq_true rfl) (Nat.le_of_ble_eq_true rfl)) rfl (by decide) (of_req h18).1 rfl hl.1 rfl (Nat.le_of_ble_eq_true rfl) ⟨by show _ ≤ mc; omega, by show _ ≤ ms; omega⟩ dX0_law_47) (fun H locs hw => ?_)
    replace hn := add_r hn en
    replace hk := add_r hk ek
    clear en ek
    generalize n1 = n at hf hn
    generalize k1 = k at hf hk
    refine lv_if_ne (tgt := 60) hx hb dX0_law_50 (by decide) (fun c22 => ?_) (fun c22 => ?_)
    · replace hf := ite_f c22 hf
      refine lv_aload_n hx hb dX0_law_60 rfl (lv_at hl 2 rfl) ?_
      revert hf
      refine k_req (fun k23 hf => ?_)
      revert hf
      refine k_drf (fun r24 er24 hf => ?_)
      refine gf_X0_31 C hw k23 er24 dX0_law_61 ?_
      revert hf
      refine k_req (fun k25 hf => ?_)
      revert hf
      refine k_drf (fun r26 er26 hf => ?_)
      refine gf_X0_221 C hw k25 er26 dX0_law_64 ?_
      revert hf
      refine k_inc (fun n1 k1 hf en ek => ?_)
      revert hf
      refine k_stp (fun q27 eq27 hf => ?_)
      revert hf
      refine k_stp (fun U28 eU28 hf => ?_)
      revert hf
      refine k_stp (fun T29 eT29 hf => ?_)
      refine nw_X19 C hw q624 (by show _ ≤ mc; omega) (by show _ ≤ ms; omega) eq27 eU28 eT29 dX0_law_67 (fun H hw => ?_)
      replace hn := add_r hn en
      replace hk := add_r hk ek
      clear en ek
      generalize n1 = n at hf hn
      generalize k1 = k at hf hk
      refine lv_dup hx hb dX0_law_70 rfl ?_
      refine lv_aload_n hx hb dX0_law_71 rfl (lv_at hl 0 rfl) ?_
      revert hf
      refine k_req (fun k30 hf => ?_)
      revert hf
      refine k_drf (fun r31 er31 hf => ?_)
      refine gf_X0_235 C hw k30 er31 dX0_law_72 ?_
      revert hf
      refine k_pcl (fun U34 h32 hf => ?_)
      refine w_afv hw (w_rI (As := [.ref (gb G + r31)]) C hw (ok_X19_init h32) (cw_X0_238 hts (Nat.le_of_ble_eq_true rfl) (Nat.le_of_ble_eq_true rfl)) rfl hl.1 rfl (Nat.le_of_ble_eq_true rfl) ⟨by show _ + 0 ≤ mc; omega, by show _ + 0 ≤ ms; omega⟩ dX0_law_75) (fun H locs hw => ?_)
      revert hf
      refine k_dcl (fun z36 U37 T38 na ka n1 k1 h35 hf en ek => ?_)
      refine w_afi hw (w_rV (As := [.ref (gb G + q27)]) C hw (ok_J2_add h35) (cw_X0_241 hts (Nat.le_of_ble_eq_true rfl) (Nat.le_of_ble_eq_true rfl)) rfl (by decide) (of_req h35).1 rfl hl.1 rfl (Nat.le_of_ble_eq_true rfl) ⟨by show _ ≤ mc; omega, by show _ ≤ ms; omega⟩ dX0_law_78) (fun H locs hw => ?_)
      replace hn := add_r hn en
      replace hk := add_r hk ek
      clear en ek
      generalize n1 = n at hf hn
      generalize k1 = k at hf hk
      refine lv_pop hx hb dX0_law_81 rfl ?_
      refine lv_aload_n hx hb dX0_law_82 rfl (lv_at hl 2 rfl) ?_
      refine lv_aload_n hx hb dX0_law_83 rfl (lv_at hl 2 rfl) ?_
      revert hf
      refine k_req (fun k39 hf => ?_)
      revert hf
      refine k_drf (fun r40 er40 hf => ?_)
      refine gf_X0_31 C hw k39 er40 dX0_law_84 ?_
      revert hf
      refine k_req (fun k41 hf => ?_)
      revert hf
      refine k_drf (fun r42 er42 hf => ?_)
      refine gf_X0_221 C hw k41 er42 dX0_law_87 ?_
      revert hf
      refine k_pcl (fun z44 h43 hf => ?_)
      refine w_afi hw (w_rV (As := []) C hw (ok_J2_size h43) (cw_X0_116 hts (Nat.le_of_ble_eq_true rfl) (Nat.le_of_ble_eq_true rfl)) rfl (by decide) (of_req h43).1 rfl hl.1 rfl (Nat.le_of_ble_eq_true rfl) ⟨by show _ + 0 ≤ mc; omega, by show _ + 0 ≤ ms; omega⟩ dX0_law_90) (fun H locs hw => ?_)
      refine lv_iconst (v := (1 : Int32)) hx hb dX0_law_93 (by decide) ?_
      refine lv_isub hx hb dX0_law_94 ?_
      revert hf
      refine k_cal (fun z46 U47 h45 hf => ?_)
      refine w_afi hw (w_rV (As := [.int (z44 - (1 : Int32))]) C hw (ok_X0_done h45) (cw_X0_101 hts (Nat.le_of_ble_eq_true rfl) (Nat.le_of_ble_eq_true rfl)) rfl (by decide) (of_req h45).1 rfl hl.1 rfl (Nat.le_of_ble_eq_true rfl) ⟨by show _ + 0 ≤ mc; omega, by show _ + 0 ≤ ms; omega⟩ dX0_law_95) (fun H locs hw => ?_)
      cases hf
      cases hn
      cases hk
      exact w_iret C hr hw dX0_law_98
    · replace hf := ite_t c22 hf
      refine lv_aload_n hx hb dX0_law_53 rfl (lv_at hl 2 rfl) ?_
      refine lv_bipush (v := ((-6) : Int32)) hx hb dX0_law_54 (by decide) ?_
      revert hf
      refine k_cal (fun z49 U50 h48 hf => ?_)
      refine w_afi hw (w_rV (As := [.int ((-6) : Int32)]) C hw (ok_X0_refuse h48) (cw_X0_122 hts (Nat.le_of_ble_eq_true rfl) (Nat.le_of_ble_eq_true rfl)) rfl (by decide) (of_req h48).1 rfl hl.1 rfl (Nat.le_of_ble_eq_true rfl) ⟨by show _ + 0 ≤ mc; omega, by show _ + 0 ≤ ms; omega⟩ dX0_law_56) (fun H locs hw => ?_)
      cases hf
      cases hn
      cases hk
      exact w_iret C hr hw dX0_law_59
  · replace hf := ite_t c8 hf
    refine lv_aload_n hx hb dX0_law_25 rfl (lv_at hl 1 rfl) ?_
    refine lv_bipush (v := ((-5) : Int32)) hx hb dX0_law_26 (by decide) ?_
    revert hf
    refine k_cal (fun z52 U53 h51 hf => ?_)
    refine w_afi hw (w_rV (As := [.int ((-5) : Int32)]) C hw (ok_X0_refuse h51) (cw_X0_122 hts (Nat.le_of_ble_eq_true rfl) (Nat.le_of_ble_eq_true rfl)) rfl (by decide) (of_req h51).1 rfl hl.1 rfl (Nat.le_of_ble_eq_true rfl) ⟨by show _ + 0 ≤ mc; omega, by show _ + 0 ≤ ms; omega⟩ dX0_law_28) (fun H locs hw => ?_)
    cases hf
    cases hn
    cases hk
    exact w_iret C hr hw dX0_law_31
set_option maxHeartbeats 4000000 in
theorem ok_X0_plan {l : Launch} {G : gG} {T : Tt} {V0 : Vt} {o : Nat} {r : Int32} {V' : Vt} {T' : Tt} {n k : Nat} (hf : f_X0_plan T V0 o = some ((r, V', T'), n, k)) : okM l G yX0_plan cX0_plan 3 (some .int) 133 [.ref (gb G + o)] V0 T (some (.int r)) V' T' n k := by
  refine ok_intro (by decide) (Nat.le_of_ble_eq_true rfl) ?_
  intro p e s m below meth c ls C hr hnm hw hl
  have hx := C.1
  have hb := C.2.1
  have hown := C.2.2.2.1
  have hts := C.2.2.2.2.1
  have hl : lv_has ls 3 [(0, .ref (gb G + o))] := hl
  unfold f_X0_plan at hf
  revert hf
  refine k_req (fun k0 hf => ?_)
  obtain ⟨mc, emc⟩ : ∃ mc, mc = n := ⟨_, rfl⟩
  obtain ⟨ms, ems⟩ : ∃ ms, ms = k := ⟨_, rfl⟩
  have hn : 0 + n = mc := by omega
  have hk : 0 + k = ms := by omega
  rw [← emc, ← ems]
  clear emc ems
  refine lv_aload_n hx hb dX0_plan_0 rfl (lv_at hl 0 rfl) ?_
  refine gf_X0_201 C hw k0 dX0_plan_1 ?_
  revert hf
  refine k_stp (fun z1 ez1 hf => ?_)
  refine w_nmI ez1 ?_
  refine lv_istore_n (lv' := [(1, .int z1), (0, .ref (gb G + o))]) hx hb dX0_plan_4 rfl hl (by decide) rfl (fun ls hl => ?_)
  refine lv_aload_n hx hb dX0_plan_5 rfl (lv_at hl 1 rfl) ?_
  refine lv_iconst (v := (0 : Int32)) hx hb dX0_plan_6 (by decide) ?_
  revert hf
  refine k_stp (fun U2 eU2 hf => ?_)
  refine pf_X0_201 C hw k0 eU2 dX0_plan_7 (fun H locs hw => ?_)
  refine lv_aload_n hx hb dX0_plan_10 rfl (lv_at hl 1 rfl) ?_
  revert hf
  refine k_drf (fun r3 er3 hf => ?_)
  refine gf_X0_31 C hw k0 er3 dX0_plan_11 ?_
  revert hf
  refine k_req (fun k4 hf => ?_)
  revert hf
  refine k_drf (fun r5 er5 hf => ?_)
  refine gf_X0_112 C hw k4 er5 dX0_plan_14 ?_
  revert hf
  refine k_pcl (fun z7 h6 hf => ?_)
  refine w_afi hw (w_rV (As := []) C hw (ok_J2_size h6) (cw_X0_116 hts (Nat.le_of_ble_eq_true rfl) (Nat.le_of_ble_eq_true rfl)) rfl (by decide) (of_req h6).1 rfl hl.1 rfl (Nat.le_of_ble_eq_true rfl) ⟨by show _ + 0 ≤ mc; omega, by show _ + 0 ≤ ms; omega⟩ dX0_plan_17) (fun H locs hw => ?_)
  refine lv_iconst (v := (4 : Int32)) hx hb dX0_plan_20 (by decide) ?_
  refine lv_icmp_ne (tgt := 31) hx hb dX0_plan_21 (by decide) (fun c8 => ?_) (fun c8 => ?_)
  · replace hf := ite_f c8 hf
    revert hf
    refine k_inc (fun n1 k1 hf en ek => ?_)
    revert hf
    refine k_stp (fun q9 eq9 hf => ?_)
    revert hf
    refine k_stp (fun U10 eU10 hf => ?_)
    revert hf
    refine k_stp (fun T11 eT11 hf => ?_)
    refine nw_X20 C hw q1209 (by show _ ≤ mc; omega) (by show _ ≤ ms; omega) eq9 eU10 eT11 dX0_plan_31 (fun H hw => ?_)
    replace hn := add_r hn en
    replace hk := add_r hk ek
    clear en ek
    generalize n1 = n at hf hn
    generalize k1 = k at hf hk
    refine lv_dup hx hb dX0_plan_34 rfl ?_
    refine lv_aload_n hx hb dX0_plan_35 rfl (lv_at hl 1 rfl) ?_
    revert hf
    refine k_req (fun k12 hf => ?_)
    revert hf
    refine k_drf (fun r13 er13 hf => ?_)
    refine gf_X0_62 C hw k12 er13 dX0_plan_36 ?_
    refine lv_iload_n hx hb dX0_plan_39 rfl (lv_at hl 0 rfl) ?_
    revert hf
    refine k_dcv (fun U16 T17 na ka n1 k1 h14 hf en ek => ?_)
    refine w_afv hw (w_rI (As := [.ref (gb G + r13), .int z1]) C hw (ok_X20_init h14) (cw_X0_247 hts (Nat.le_of_ble_eq_true rfl) (Nat.le_of_ble_eq_true rfl)) rfl hl.1 rfl (Nat.le_of_ble_eq_true rfl) ⟨by show _ ≤ mc; omega, by show _ ≤ ms; omega⟩ dX0_plan_40) (fun H locs hw => ?_)
    replace hn := add_r hn en
    replace hk := add_r hk ek
    clear en ek
    generalize n1 = n at hf hn
    generalize k1 = k at hf hk
    refine lv_astore_n (lv' := [(2, .ref (gb G + q9)), (1, .int z1), (0, .ref (gb G + o))]) hx hb dX0_plan_43 rfl hl (by decide) rfl (fun ls hl => ?_)
    refine lv_aload_n hx hb dX0_plan_44 rfl (lv_at hl 2 rfl) ?_
    refine lv_aload_n hx hb dX0_plan_45 rfl (lv_at hl 0 rfl) ?_
    revert hf
    refine k_dcl (fun z19 U20 T21 na ka n1 k1 h18 hf en ek => ?_)
    refine w_afi hw (w_rH (As := [.ref (gb G + q9)]) C hw (ok_X0_reads h18) (cw_X0_229 hts (Nat.le_of_ble_eq_true rfl) (Nat.le_of_ble_eq_true rfl)) rfl (by decide) (of_req h18).1 rfl hl.1 rfl (Nat.le_of_ble_eq_true rfl) ⟨by show _ ≤ mc; omega, by show _ ≤ ms; omega⟩ dX0_plan_46) (fun H locs hw => ?_)
    replace hn := add_r hn en
    replace hk := add_r hk ek
    clear en ek
    generalize n1 = n at hf hn
    generalize k1 = k at hf hk
    refine lv_if_ne (tgt := 59) hx hb dX0_plan_49 (by decide) (fun c22 => ?_) (fun c22 => ?_)
    · replace hf := ite_f c22 hf
      refine lv_aload_n hx hb dX0_plan_59 rfl (lv_at hl 2 rfl) ?_
      revert hf
      refine k_req (fun k23 hf => ?_)
      revert hf
      refine k_drf (fun r24 er24 hf => ?_)
      refine gf_X0_31 C hw k23 er24 dX0_plan_60 ?_
      revert hf
      refine k_req (fun k25 hf => ?_)
      revert hf
      refine k_drf (fun r26 er26 hf => ?_)
      refine gf_X0_112 C hw k25 er26 dX0_plan_63 ?_
      revert hf
      refine k_inc (fun n1 k1 hf en ek => ?_)
      revert hf
      refine k_stp (fun q27 eq27 hf => ?_)
      revert hf
      refine k_stp (fun U28 eU28 hf => ?_)
      revert hf
      refine k_stp (fun T29 eT29 hf => ?_)
      refine nw_X21 C hw q1229 (by show _ ≤ mc; omega) (by show _ ≤ ms; omega) eq27 eU28 eT29 dX0_plan_66 (fun H hw => ?_)
      replace hn := add_r hn en
      replace hk := add_r hk ek
      clear en ek
      generalize n1 = n at hf hn
      generalize k1 = k at hf hk
      refine lv_dup hx hb dX0_plan_69 rfl ?_
      refine lv_aload_n hx hb dX0_plan_70 rfl (lv_at hl 0 rfl) ?_
      revert hf
      refine k_req (fun k30 hf => ?_)
      revert hf
      refine k_drf (fun r31 er31 hf => ?_)
      refine gf_X0_250 C hw k30 er31 dX0_plan_71 ?_
      revert hf
      refine k_pcl (fun U34 h32 hf => ?_)
      refine w_afv hw (w_rI (As := [.ref (gb G + r31)]) C hw (ok_X21_init h32) (cw_X0_253 hts (Nat.le_of_ble_eq_true rfl) (Nat.le_of_ble_eq_true rfl)) rfl hl.1 rfl (Nat.le_of_ble_eq_true rfl) ⟨by show _ + 0 ≤ mc; omega, by show _ + 0 ≤ ms; omega⟩ dX0_plan_74) (fun H locs hw => ?_)
      revert hf
      refine k_dcl (fun z36 U37 T38 na ka n1 k1 h35 hf en ek => ?_)
      refine w_afi hw (w_rV (As := [.ref (gb G + q27)]) C hw (ok_J2_add h35) (cw_X0_241 hts (Nat.le_of_ble_eq_true rfl) (Nat.le_of_ble_eq_true rfl)) rfl (by decide) (of_req h35).1 rfl hl.1 rfl (Nat.le_of_ble_eq_true rfl) ⟨by show _ ≤ mc; omega, by show _ ≤ ms; omega⟩ dX0_plan_77) (fun H locs hw => ?_)
      replace hn := add_r hn en
      replace hk := add_r hk ek
      clear en ek
      generalize n1 = n at hf hn
      generalize k1 = k at hf hk
      refine lv_pop hx hb dX0_plan_80 rfl ?_
      refine lv_aload_n hx hb dX0_plan_81 rfl (lv_at hl 2 rfl) ?_
      refine lv_aload_n hx hb dX0_plan_82 rfl (lv_at hl 2 rfl) ?_
      revert hf
      refine k_req (fun k39 hf => ?_)
      revert hf
      refine k_drf (fun r40 er40 hf => ?_)
      refine gf_X0_31 C hw k39 er40 dX0_plan_83 ?_
      revert hf
      refine k_req (fun k41 hf => ?_)
      revert hf
      refine k_drf (fun r42 er42 hf => ?_)
      refine gf_X0_112 C hw k41 er42 dX0_plan_86 ?_
      revert hf
      refine k_pcl (fun z44 h43 hf => ?_)
      refine w_afi hw (w_rV (As := []) C hw (ok_J2_size h43) (cw_X0_116 hts (Nat.le_of_ble_eq_true rfl) (Nat.le_of_ble_eq_true rfl)) rfl (by decide) (of_req h43).1 rfl hl.1 rfl (Nat.le_of_ble_eq_true rfl) ⟨by show _ + 0 ≤ mc; omega, by show _ + 0 ≤ ms; omega⟩ dX0_plan_89) (fun H locs hw => ?_)
      refine lv_iconst (v := (1 : Int32)) hx hb dX0_plan_92 (by decide) ?_
      refine lv_isub hx hb dX0_plan_93 ?_
      revert hf
      refine k_cal (fun z46 U47 h45 hf => ?_)
      refine w_afi hw (w_rV (As := [.int (z44 - (1 : Int32))]) C hw (ok_X0_done h45) (cw_X0_101 hts (Nat.le_of_ble_eq_true rfl) (Nat.le_of_ble_eq_true rfl)) rfl (by decide) (of_req h45).1 rfl hl.1 rfl (Nat.le_of_ble_eq_true rfl) ⟨by show _ + 0 ≤ mc; omega, by show _ + 0 ≤ ms; omega⟩ dX0_plan_94) (fun H locs hw => ?_)
      cases hf
      cases hn
      cases hk
      exact w_iret C hr hw dX0_plan_97
    · replace hf := ite_t c22 hf
      refine lv_aload_n hx hb dX0_plan_52 rfl (lv_at hl 2 rfl) ?_
      refine lv_bipush (v := ((-6) : Int32)) hx hb dX0_plan_53 (by decide) ?_
      revert hf
      refine k_cal (fun z49 U50 h48 hf => ?_)
      refine w_afi hw (w_rV (As := [.int ((-6) : Int32)]) C hw (ok_X0_refuse h48) (cw_X0_122 hts (Nat.le_of_ble_eq_true rfl) (Nat.le_of_ble_eq_true rfl)) rfl (by decide) (of_req h48).1 rfl hl.1 rfl (Nat.le_of_ble_eq_true rfl) ⟨by show _ + 0 ≤ mc; omega, by show _ + 0 ≤ ms; omega⟩ dX0_plan_55) (fun H locs hw => ?_)
      cases hf
      cases hn
      cases hk
      exact w_iret C hr hw dX0_plan_58
  · replace hf := ite_t c8 hf
    refine lv_aload_n hx hb dX0_plan_24 rfl (lv_at hl 1 rfl) ?_
    refine lv_bipush (v := ((-5) : Int32)) hx hb dX0_plan_25 (by decide) ?_
    revert hf
    refine k_cal (fun z52 U53 h51 hf => ?_)
    refine w_afi hw (w_rV (As := [.int ((-5) : Int32)]) C hw (ok_X0_refuse h51) (cw_X0_122 hts (Nat.le_of_ble_eq_true rfl) (Nat.le_of_ble_eq_true rfl)) rfl (by decide) (of_req h51).1 rfl hl.1 rfl (Nat.le_of_ble_eq_true rfl) ⟨by show _ + 0 ≤ mc; omega, by show _ + 0 ≤ ms; omega⟩ dX0_plan_27) (fun H locs hw => ?_)
    cases hf
    cases hn
    cases hk
    exact w_iret C hr hw dX0_plan_30
set_option maxHeartbeats 4000000 in
theorem ok_X0_isLaw {l : Launch} {G : gG} {T : Tt} {V0 : Vt} {o : Nat} {a0 : Int32} {r : Int32} (hf : f_X0_isLaw T V0 o a0 = some r) : okM l G yX0_isLaw cX0_isLaw 2 (some .boolean) 1 [.ref (gb G + o), .int a0] V0 T (some (.int r)) V0 T 0 0 := by
  refine ok_intro (by decide) (Nat.le_of_ble_eq_true rfl) ?_
  intro p e s m below meth c ls C hr hnm hw hl
  have hx := C.1
  have hb := C.2.1
  have hown := C.2.2.2.1
  have hts := C.2.2.2.2.1
  have hl : lv_has ls 2 [(0, .ref (gb G + o)), (1, .int a0)] := hl
  unfold f_X0_isLaw at hf
  revert hf
  refine k_req (fun k0 hf => ?_)
  refine lv_iload_n hx hb dX0_isLaw_0 rfl (lv_at hl 1 rfl) ?_
  refine lv_iconst (v := ((-1) : Int32)) hx hb dX0_isLaw_1 (by decide) ?_
  refine lv_aload_n hx hb dX0_isLaw_2 rfl (lv_at hl 0 rfl) ?_
  revert hf
  refine k_drf (fun r1 er1 hf => ?_)
  refine gf_X0_31 C hw k0 er1 dX0_isLaw_3 ?_
  revert hf
  refine k_req (fun k2 hf => ?_)
  revert hf
  refine k_drf (fun r3 er3 hf => ?_)
  refine gf_X0_221 C hw k2 er3 dX0_isLaw_6 ?_
  revert hf
  refine k_pcl (fun z5 h4 hf => ?_)
  refine w_afi hw (w_rV (As := []) C hw (ok_J2_size h4) (cw_X0_116 hts (Nat.le_of_ble_eq_true rfl) (Nat.le_of_ble_eq_true rfl)) rfl (by decide) (of_req h4).1 rfl hl.1 rfl (Nat.le_of_ble_eq_true rfl) ⟨Nat.zero_le _, Nat.zero_le _⟩ dX0_isLaw_9) (fun H locs hw => ?_)
  refine lv_iconst (v := (1 : Int32)) hx hb dX0_isLaw_12 (by decide) ?_
  refine lv_isub hx hb dX0_isLaw_13 ?_
  revert hf
  refine k_pcl (fun z7 h6 hf => ?_)
  refine w_afi hw (w_rS (As := [.int a0, .int ((-1) : Int32), .int (z5 - (1 : Int32))]) C hw (ok_X0_in h6) (cw_X0_108 hts (Nat.le_of_ble_eq_true rfl) (Nat.le_of_ble_eq_true rfl)) rfl hl.1 rfl (Nat.le_of_ble_eq_true rfl) ⟨Nat.zero_le _, Nat.zero_le _⟩ dX0_isLaw_14) (fun H locs hw => ?_)
  revert hf
  refine k_req (fun h8 hf => ?_)
  cases hf
  exact w_zret C hr hw h8 dX0_isLaw_17
set_option maxHeartbeats 4000000 in
theorem ok_X0_force {l : Launch} {G : gG} {T : Tt} {V0 : Vt} {o : Nat} {a0 : Int32} {r : Int32} {V' : Vt} (hf : f_X0_force T V0 o a0 = some (r, V')) : okM l G yX0_force cX0_force 3 (some .int) 2 [.ref (gb G + o), .int a0] V0 T (some (.int r)) V' T 0 0 := by
  refine ok_intro (by decide) (Nat.le_of_ble_eq_true rfl) ?_
  intro p e s m below meth c ls C hr hnm hw hl
  have hx := C.1
  have hb := C.2.1
  have hown := C.2.2.2.1
  have hts := C.2.2.2.2.1
  have hl : lv_has ls 3 [(0, .ref (gb G + o)), (1, .int a0)] := hl
  unfold f_X0_force at hf
  revert hf
  refine k_req (fun k0 hf => ?_)
  refine lv_aload_n hx hb dX0_force_0 rfl (lv_at hl 0 rfl) ?_
  refine lv_iload_n hx hb dX0_force_1 rfl (lv_at hl 1 rfl) ?_
  revert hf
  refine k_pcl (fun z2 h1 hf => ?_)
  refine w_afi hw (w_rV (As := [.int a0]) C hw (ok_X0_isLaw h1) (cw_X0_254 hts (Nat.le_of_ble_eq_true rfl) (Nat.le_of_ble_eq_true rfl)) rfl (by decide) (of_req h1).1 rfl hl.1 rfl (Nat.le_of_ble_eq_true rfl) ⟨Nat.zero_le _, Nat.zero_le _⟩ dX0_force_2) (fun H locs hw => ?_)
  refine lv_if_ne (tgt := 15) hx hb dX0_force_5 (by decide) (fun c3 => ?_) (fun c3 => ?_)
  · replace hf := ite_f c3 hf
    refine lv_aload_n hx hb dX0_force_15 rfl (lv_at hl 0 rfl) ?_
    revert hf
    refine k_drf (fun r4 er4 hf => ?_)
    refine gf_X0_31 C hw k0 er4 dX0_force_16 ?_
    revert hf
    refine k_req (fun k5 hf => ?_)
    refine gf_X0_257 C hw k5 dX0_force_19 ?_
    revert hf
    refine k_stp (fun z6 ez6 hf => ?_)
    refine w_nmI ez6 ?_
    refine lv_istore_n (lv' := [(2, .int z6), (0, .ref (gb G + o)), (1, .int a0)]) hx hb dX0_force_22 rfl hl (by decide) rfl (fun ls hl => ?_)
    refine lv_aload_n hx hb dX0_force_23 rfl (lv_at hl 1 rfl) ?_
    revert hf
    refine k_drf (fun r7 er7 hf => ?_)
    refine gf_X0_31 C hw k0 er7 dX0_force_24 ?_
    refine lv_iload_n hx hb dX0_force_27 rfl (lv_at hl 2 rfl) ?_
    revert hf
    refine k_req (fun k8 hf => ?_)
    revert hf
    refine k_stp (fun U9 eU9 hf => ?_)
    refine pf_X0_257 C hw k8 eU9 dX0_force_28 (fun H locs hw => ?_)
    refine lv_aload_n hx hb dX0_force_31 rfl (lv_at hl 1 rfl) ?_
    refine lv_iload_n hx hb dX0_force_32 rfl (lv_at hl 0 rfl) ?_
    revert hf
    refine k_cal (fun z11 U12 h10 hf => ?_)
    refine w_afi hw (w_rV (As := [.int z6]) C hw (ok_X0_done h10) (cw_X0_101 hts (Nat.le_of_ble_eq_true rfl) (Nat.le_of_ble_eq_true rfl)) rfl (by decide) (of_req h10).1 rfl hl.1 rfl (Nat.le_of_ble_eq_true rfl) ⟨Nat.zero_le _, Nat.zero_le _⟩ dX0_force_33) (fun H locs hw => ?_)
    cases hf
    exact w_iret C hr hw dX0_force_36
  · replace hf := ite_t c3 hf
    refine lv_aload_n hx hb dX0_force_8 rfl (lv_at hl 0 rfl) ?_
    refine lv_bipush (v := ((-2) : Int32)) hx hb dX0_force_9 (by decide) ?_
    revert hf
    refine k_cal (fun z14 U15 h13 hf => ?_)
    refine w_afi hw (w_rV (As := [.int ((-2) : Int32)]) C hw (ok_X0_refuse h13) (cw_X0_122 hts (Nat.le_of_ble_eq_true rfl) (Nat.le_of_ble_eq_true rfl)) rfl (by decide) (of_req h13).1 rfl hl.1 rfl (Nat.le_of_ble_eq_true rfl) ⟨Nat.zero_le _, Nat.zero_le _⟩ dX0_force_11) (fun H locs hw => ?_)
    cases hf
    exact w_iret C hr hw dX0_force_14
set_option maxHeartbeats 4000000 in
theorem ok_X0_gives {l : Launch} {G : gG} {T : Tt} {V0 : Vt} {o : Nat} {a0 : Nat} {a1 : Int32} {a2 : Int32} {r : Int32} {V' : Vt} (hf : f_X0_gives T V0 o a0 a1 a2 = some (r, V')) : okM l G yX0_gives cX0_gives 4 (some .boolean) 426 [.ref (gb G + o), .ref (gb G + a0), .int a1, .int a2] V0 T (some (.int r)) V' T 0 0 := by
  refine ok_intro (by decide) (Nat.le_of_ble_eq_true rfl) ?_
  intro p e s m below meth c ls C hr hnm hw hl
  have hx := C.1
  have hb := C.2.1
  have hown := C.2.2.2.1
  have hts := C.2.2.2.2.1
  have hl : lv_has ls 4 [(0, .ref (gb G + o)), (1, .ref (gb G + a0)), (2, .int a1), (3, .int a2)] := hl
  unfold f_X0_gives at hf
  revert hf
  refine k_req (fun k0 hf => ?_)
  refine lv_aload_n hx hb dX0_gives_0 rfl (lv_at hl 0 rfl) ?_
  refine lv_aload_n hx hb dX0_gives_1 rfl (lv_at hl 1 rfl) ?_
  refine lv_iload_n hx hb dX0_gives_2 rfl (lv_at hl 2 rfl) ?_
  revert hf
  refine k_cal (fun z2 U3 h1 hf => ?_)
  refine w_afi hw (w_rV (As := [.ref (gb G + a0), .int a1]) C hw (ok_X0_isBarred h1) (cw_X0_175 hts (Nat.le_of_ble_eq_true rfl) (Nat.le_of_ble_eq_true rfl)) rfl (by decide) (of_req h1).1 rfl hl.1 rfl (Nat.le_of_ble_eq_true rfl) ⟨Nat.zero_le _, Nat.zero_le _⟩ dX0_gives_3) (fun H locs hw => ?_)
  refine lv_if_ne (tgt := 36) hx hb dX0_gives_6 (by decide) (fun c4 => ?_) (fun c4 => ?_)
  · replace hf := ite_f c4 hf
    refine lv_iconst (v := (0 : Int32)) hx hb dX0_gives_36 (by decide) ?_
    cases hf
    exact w_zret C hr hw (by decide) dX0_gives_37
  · replace hf := ite_t c4 hf
    refine lv_aload_n hx hb dX0_gives_9 rfl (lv_at hl 0 rfl) ?_
    refine lv_aload_n hx hb dX0_gives_10 rfl (lv_at hl 1 rfl) ?_
    refine lv_iload_n hx hb dX0_gives_11 rfl (lv_at hl 2 rfl) ?_
    revert hf
    refine k_cal (fun z6 U7 h5 hf => ?_)
    refine w_afi hw (w_rV (As := [.ref (gb G + a0), .int a1]) C hw (ok_X0_yieldOf h5) (cw_X0_172 hts (Nat.le_of_ble_eq_true rfl) (Nat.le_of_ble_eq_true rfl)) rfl (by decide) (of_req h5).1 rfl hl.1 rfl (Nat.le_of_ble_eq_true rfl) ⟨Nat.zero_le _, Nat.zero_le _⟩ dX0_gives_12) (fun H locs hw => ?_)
    refine lv_iload_n hx hb dX0_gives_15 rfl (lv_at hl 3 rfl) ?_
    refine lv_icmp_lt (tgt := 36) hx hb dX0_gives_16 (by decide) (fun c8 => ?_) (fun c8 => ?_)
    · replace hf := ite_t c8 hf
      refine lv_iconst (v := (0 : Int32)) hx hb dX0_gives_36 (by decide) ?_
      cases hf
      exact w_zret C hr hw (by decide) dX0_gives_37
    · replace hf := ite_f c8 hf
      refine lv_aload_n hx hb dX0_gives_19 rfl (lv_at hl 1 rfl) ?_
      refine lv_iload_n hx hb dX0_gives_20 rfl (lv_at hl 2 rfl) ?_
      revert hf
      refine k_pcl (fun z10 h9 hf => ?_)
      refine w_afi hw (w_rV (As := [.int a1]) C hw (ok_X2_all h9) (cw_X0_155 hts (Nat.le_of_ble_eq_true rfl) (Nat.le_of_ble_eq_true rfl)) rfl (by decide) (of_req h9).1 rfl hl.1 rfl (Nat.le_of_ble_eq_true rfl) ⟨Nat.zero_le _, Nat.zero_le _⟩ dX0_gives_21) (fun H locs hw => ?_)
      refine lv_iload_n hx hb dX0_gives_24 rfl (lv_at hl 3 rfl) ?_
      refine lv_sipush (v := (1000 : Int32)) hx hb dX0_gives_25 (by decide) ?_
      refine lv_imul hx hb dX0_gives_28 ?_
      refine lv_icmp_lt (tgt := 36) hx hb dX0_gives_29 (by decide) (fun c11 => ?_) (fun c11 => ?_)
      · replace hf := ite_t c11 hf
        refine lv_iconst (v := (0 : Int32)) hx hb dX0_gives_36 (by decide) ?_
        cases hf
        exact w_zret C hr hw (by decide) dX0_gives_37
      · replace hf := ite_f c11 hf
        refine lv_iconst (v := (1 : Int32)) hx hb dX0_gives_32 (by decide) ?_
        refine lv_goto (tgt := 37) hx hb dX0_gives_33 (by decide) ?_
        cases hf
        exact w_zret C hr hw (by decide) dX0_gives_37
set_option maxHeartbeats 4000000 in
theorem jk_X0_canRack_22 {l : Launch} {G : gG} {p : Program} {e : Env} {s : State} {m : MethodId} {args : Array Value} {below : List Frame} {meth : Method} {c : Code} {T : Tt} {V0 : Vt} {r : Int32} {V' : Vt} (C : Cx G p s m args meth c cX0_canRack RX0 6) (hr : meth.sig.returnType = (some .int)) {x5 : Int32} {H : Heap} {locs : List Loc} {ls : Array Slot} (hf : f_X0_canRack_J22 T V0 x5 = some (r, V')) (hw : wS G V0 T H locs) (hl : lv_has ls 6 [(5, .int x5)]) : W p l e (rmL 427 0 0) s m args below meth c H locs 0 0 (eQ G below (some (.int r)) V' T args s 0 0) (F0 m 22 ls []) := by
  have hx := C.1
  have hb := C.2.1
  have hown := C.2.2.2.1
  have hts := C.2.2.2.2.1
  unfold f_X0_canRack_J22 at hf
  refine lv_iload hx hb dX0_canRack_22 (lv_at hl 0 rfl) ?_
  refine lv_if_ge (tgt := 32) hx hb dX0_canRack_24 (by decide) (fun c4 => ?_) (fun c4 => ?_)
  · replace hf := ite_t c4 hf
    refine lv_bipush (v := ((-2) : Int32)) hx hb dX0_canRack_32 (by decide) ?_
    cases hf
    exact w_iret C hr hw dX0_canRack_34
  · replace hf := ite_f c4 hf
    refine lv_iload hx hb dX0_canRack_27 (lv_at hl 0 rfl) ?_
    refine lv_goto (tgt := 34) hx hb dX0_canRack_29 (by decide) ?_
    cases hf
    exact w_iret C hr hw dX0_canRack_34
set_option maxHeartbeats 4000000 in
theorem ok_X0_canRack {l : Launch} {G : gG} {T : Tt} {V0 : Vt} {o : Nat} {a0 : Nat} {a1 : Int32} {a2 : Int32} {a3 : Int32} {r : Int32} {V' : Vt} (hf : f_X0_canRack T V0 o a0 a1 a2 a3 = some (r, V')) : okM l G yX0_canRack cX0_canRack 6 (some .int) 427 [.ref (gb G + o), .ref (gb G + a0), .int a1, .int a2, .int a3] V0 T (some (.int r)) V' T 0 0 := by
  refine ok_intro (by decide) (Nat.le_of_ble_eq_true rfl) ?_
  intro p e s m below meth c ls C hr hnm hw hl
  have hx := C.1
  have hb := C.2.1
  have hown := C.2.2.2.1
  have hts := C.2.2.2.2.1
  have hl : lv_has ls 6 [(0, .ref (gb G + o)), (1, .ref (gb G + a0)), (2, .int a1), (3, .int a2), (4, .int a3)] := hl
  unfold f_X0_canRack at hf
  revert hf
  refine k_req (fun k0 hf => ?_)
  refine lv_aload_n hx hb dX0_canRack_0 rfl (lv_at hl 0 rfl) ?_
  refine lv_iload_n hx hb dX0_canRack_1 rfl (lv_at hl 2 rfl) ?_
  refine lv_iload hx hb dX0_canRack_2 (lv_at hl 4 rfl) ?_
  revert hf
  refine k_pcl (fun z2 h1 hf => ?_)
  refine w_afi hw (w_rV (As := [.int a1, .int a3]) C hw (ok_X0_checks h1) (cw_X0_287 hts (Nat.le_of_ble_eq_true rfl) (Nat.le_of_ble_eq_true rfl)) rfl (by decide) (of_req h1).1 rfl hl.1 rfl (Nat.le_of_ble_eq_true rfl) ⟨Nat.zero_le _, Nat.zero_le _⟩ dX0_canRack_4) (fun H locs hw => ?_)
  refine lv_istore (lv' := [(5, .int z2), (0, .ref (gb G + o)), (1, .ref (gb G + a0)), (2, .int a1), (3, .int a2), (4, .int a3)]) hx hb dX0_canRack_7 hl (by decide) rfl (fun ls hl => ?_)
  refine lv_iload hx hb dX0_canRack_9 (lv_at hl 0 rfl) ?_
  refine lv_if_lt (tgt := 22) hx hb dX0_canRack_11 (by decide) (fun c3 => ?_) (fun c3 => ?_)
  · replace hf := ite_t c3 hf
    exact jk_X0_canRack_22 C hr hf hw (lv_sub hl [0] rfl)
  · replace hf := ite_f c3 hf
    refine lv_aload_n hx hb dX0_canRack_14 rfl (lv_at hl 1 rfl) ?_
    refine lv_iload_n hx hb dX0_canRack_15 rfl (lv_at hl 4 rfl) ?_
    revert hf
    refine k_pcl (fun z6 h5 hf => ?_)
    refine w_afi hw (w_rV (As := [.int a2]) C hw (ok_X0_isCask h5) (cw_X0_151 hts (Nat.le_of_ble_eq_true rfl) (Nat.le_of_ble_eq_true rfl)) rfl (by decide) (of_req h5).1 rfl hl.1 rfl (Nat.le_of_ble_eq_true rfl) ⟨Nat.zero_le _, Nat.zero_le _⟩ dX0_canRack_16) (fun H locs hw => ?_)
    refine lv_if_ne (tgt := 35) hx hb dX0_canRack_19 (by decide) (fun c7 => ?_) (fun c7 => ?_)
    · replace hf := ite_f c7 hf
      refine lv_aload_n hx hb dX0_canRack_35 rfl (lv_at hl 1 rfl) ?_
      revert hf
      refine k_drf (fun r8 er8 hf => ?_)
      refine gf_X0_31 C hw k0 er8 dX0_canRack_36 ?_
      revert hf
      refine k_req (fun k9 hf => ?_)
      revert hf
      refine k_drf (fun r10 er10 hf => ?_)
      refine gf_X0_132 C hw k9 er10 dX0_canRack_39 ?_
      refine lv_iload_n hx hb dX0_canRack_42 rfl (lv_at hl 4 rfl) ?_
      revert hf
      refine k_req (fun h11 hf => ?_)
      refine w_iald C hw h11 rfl dX0_canRack_43 ?_
      refine lv_aload_n hx hb dX0_canRack_44 rfl (lv_at hl 1 rfl) ?_
      revert hf
      refine k_drf (fun r12 er12 hf => ?_)
      refine gf_X0_31 C hw k0 er12 dX0_canRack_45 ?_
      revert hf
      refine k_req (fun k13 hf => ?_)
      revert hf
      refine k_drf (fun r14 er14 hf => ?_)
      refine gf_X0_132 C hw k13 er14 dX0_canRack_48 ?_
      refine lv_iload_n hx hb dX0_canRack_51 rfl (lv_at hl 3 rfl) ?_
      revert hf
      refine k_req (fun h15 hf => ?_)
      refine w_iald C hw h15 rfl dX0_canRack_52 ?_
      refine lv_iconst (v := (1 : Int32)) hx hb dX0_canRack_53 (by decide) ?_
      refine lv_isub hx hb dX0_canRack_54 ?_
      refine lv_icmp_ne (tgt := 93) hx hb dX0_canRack_55 (by decide) (fun c16 => ?_) (fun c16 => ?_)
      · replace hf := ite_f c16 hf
        refine lv_bipush (v := ((-3) : Int32)) hx hb dX0_canRack_93 (by decide) ?_
        cases hf
        exact w_iret C hr hw dX0_canRack_95
      · replace hf := ite_t c16 hf
        refine lv_aload_n hx hb dX0_canRack_58 rfl (lv_at hl 1 rfl) ?_
        refine lv_aload_n hx hb dX0_canRack_59 rfl (lv_at hl 2 rfl) ?_
        refine lv_iload_n hx hb dX0_canRack_60 rfl (lv_at hl 3 rfl) ?_
        refine lv_iload hx hb dX0_canRack_61 (lv_at hl 5 rfl) ?_
        revert hf
        refine k_cal (fun z18 U19 h17 hf => ?_)
        refine w_afi hw (w_rV (As := [.ref (gb G + a0), .int a1, .int a3]) C hw (ok_X0_gives h17) (cw_X0_294 hts (Nat.le_of_ble_eq_true rfl) (Nat.le_of_ble_eq_true rfl)) rfl (by decide) (of_req h17).1 rfl hl.1 rfl (Nat.le_of_ble_eq_true rfl) ⟨Nat.zero_le _, Nat.zero_le _⟩ dX0_canRack_63) (fun H locs hw => ?_)
        refine lv_if_eq (tgt := 93) hx hb dX0_canRack_66 (by decide) (fun c20 => ?_) (fun c20 => ?_)
        · replace hf := ite_t c20 hf
          refine lv_bipush (v := ((-3) : Int32)) hx hb dX0_canRack_93 (by decide) ?_
          cases hf
          exact w_iret C hr hw dX0_canRack_95
        · replace hf := ite_f c20 hf
          refine lv_aload_n hx hb dX0_canRack_69 rfl (lv_at hl 1 rfl) ?_
          refine lv_aload_n hx hb dX0_canRack_70 rfl (lv_at hl 2 rfl) ?_
          refine lv_iload_n hx hb dX0_canRack_71 rfl (lv_at hl 4 rfl) ?_
          revert hf
          refine k_cal (fun z22 U23 h21 hf => ?_)
          refine w_afi hw (w_rV (As := [.ref (gb G + a0), .int a2]) C hw (ok_X0_isBarred h21) (cw_X0_175 hts (Nat.le_of_ble_eq_true rfl) (Nat.le_of_ble_eq_true rfl)) rfl (by decide) (of_req h21).1 rfl hl.1 rfl (Nat.le_of_ble_eq_true rfl) ⟨Nat.zero_le _, Nat.zero_le _⟩ dX0_canRack_72) (fun H locs hw => ?_)
          refine lv_if_ne (tgt := 93) hx hb dX0_canRack_75 (by decide) (fun c24 => ?_) (fun c24 => ?_)
          · replace hf := ite_f c24 hf
            refine lv_bipush (v := ((-3) : Int32)) hx hb dX0_canRack_93 (by decide) ?_
            cases hf
            exact w_iret C hr hw dX0_canRack_95
          · replace hf := ite_t c24 hf
            refine lv_aload_n hx hb dX0_canRack_78 rfl (lv_at hl 1 rfl) ?_
            refine lv_aload_n hx hb dX0_canRack_79 rfl (lv_at hl 2 rfl) ?_
            refine lv_iload_n hx hb dX0_canRack_80 rfl (lv_at hl 4 rfl) ?_
            refine lv_iload hx hb dX0_canRack_81 (lv_at hl 5 rfl) ?_
            revert hf
            refine k_pcl (fun z26 h25 hf => ?_)
            refine w_afi hw (w_rV (As := [.ref (gb G + a0), .int a2, .int a3]) C hw (ok_X0_hasRoom h25) (cw_X0_290 hts (Nat.le_of_ble_eq_true rfl) (Nat.le_of_ble_eq_true rfl)) rfl (by decide) (of_req h25).1 rfl hl.1 rfl (Nat.le_of_ble_eq_true rfl) ⟨Nat.zero_le _, Nat.zero_le _⟩ dX0_canRack_83) (fun H locs hw => ?_)
            refine lv_if_eq (tgt := 93) hx hb dX0_canRack_86 (by decide) (fun c27 => ?_) (fun c27 => ?_)
            · replace hf := ite_t c27 hf
              refine lv_bipush (v := ((-3) : Int32)) hx hb dX0_canRack_93 (by decide) ?_
              cases hf
              exact w_iret C hr hw dX0_canRack_95
            · replace hf := ite_f c27 hf
              refine lv_iconst (v := (0 : Int32)) hx hb dX0_canRack_89 (by decide) ?_
              refine lv_goto (tgt := 95) hx hb dX0_canRack_90 (by decide) ?_
              cases hf
              exact w_iret C hr hw dX0_canRack_95
    · replace hf := ite_t c7 hf
      exact jk_X0_canRack_22 C hr hf hw (lv_sub hl [0] rfl)
set_option maxHeartbeats 4000000 in
theorem ok_X0_racksKept {l : Launch} {G : gG} {T : Tt} {V0 : Vt} {o : Nat} {a0 : Int32} {a1 : Int32} {a2 : Int32} {r : Int32} {V' : Vt} (hf : f_X0_racksKept T V0 o a0 a1 a2 = some (r, V')) : okM l G yX0_racksKept cX0_racksKept 5 (some .int) 428 [.ref (gb G + o), .int a0, .int a1, .int a2] V0 T (some (.int r)) V' T 0 0 := by
  refine ok_intro (by decide) (Nat.le_of_ble_eq_true rfl) ?_
  intro p e s m below meth c ls C hr hnm hw hl
  have hx := C.1
  have hb := C.2.1
  have hown := C.2.2.2.1
  have hts := C.2.2.2.2.1
  have hl : lv_has ls 5 [(0, .ref (gb G + o)), (1, .int a0), (2, .int a1), (3, .int a2)] := hl
  unfold f_X0_racksKept at hf
  revert hf
  refine k_req (fun k0 hf => ?_)
  refine lv_aload_n hx hb dX0_racksKept_0 rfl (lv_at hl 0 rfl) ?_
  refine lv_aload_n hx hb dX0_racksKept_1 rfl (lv_at hl 0 rfl) ?_
  revert hf
  refine k_pcl (fun r2 h1 hf => ?_)
  refine w_afr hw (w_rV (As := []) C hw (ok_X0_table h1) (cw_X0_137 hts (Nat.le_of_ble_eq_true rfl) (Nat.le_of_ble_eq_true rfl)) rfl (by decide) (of_req h1).1 rfl hl.1 rfl (Nat.le_of_ble_eq_true rfl) ⟨Nat.zero_le _, Nat.zero_le _⟩ dX0_racksKept_2) (fun H locs hw => ?_)
  refine lv_iload_n hx hb dX0_racksKept_5 rfl (lv_at hl 1 rfl) ?_
  refine lv_iload_n hx hb dX0_racksKept_6 rfl (lv_at hl 2 rfl) ?_
  refine lv_iload_n hx hb dX0_racksKept_7 rfl (lv_at hl 3 rfl) ?_
  revert hf
  refine k_cal (fun z4 U5 h3 hf => ?_)
  refine w_afi hw (w_rV (As := [.ref (gb G + r2), .int a0, .int a1, .int a2]) C hw (ok_X0_canRack h3) (cw_X0_331 hts (Nat.le_of_ble_eq_true rfl) (Nat.le_of_ble_eq_true rfl)) rfl (by decide) (of_req h3).1 rfl hl.1 rfl (Nat.le_of_ble_eq_true rfl) ⟨Nat.zero_le _, Nat.zero_le _⟩ dX0_racksKept_8) (fun H locs hw => ?_)
  refine lv_istore (lv' := [(4, .int z4), (0, .ref (gb G + o)), (1, .int a0), (2, .int a1), (3, .int a2)]) hx hb dX0_racksKept_11 hl (by decide) rfl (fun ls hl => ?_)
  refine lv_iload hx hb dX0_racksKept_13 (lv_at hl 0 rfl) ?_
  refine lv_if_ge (tgt := 21) hx hb dX0_racksKept_15 (by decide) (fun c6 => ?_) (fun c6 => ?_)
  · replace hf := ite_t c6 hf
    refine lv_aload_n hx hb dX0_racksKept_21 rfl (lv_at hl 1 rfl) ?_
    refine lv_iconst (v := (1 : Int32)) hx hb dX0_racksKept_22 (by decide) ?_
    revert hf
    refine k_pcl (fun U9 h7 hf => ?_)
    refine w_afv hw (w_rV (As := [.int (1 : Int32)]) C hw (ok_X0_keeps h7) (cw_X0_325 hts (Nat.le_of_ble_eq_true rfl) (Nat.le_of_ble_eq_true rfl)) rfl (by decide) (of_req h7).1 rfl hl.1 rfl (Nat.le_of_ble_eq_true rfl) ⟨Nat.zero_le _, Nat.zero_le _⟩ dX0_racksKept_23) (fun H locs hw => ?_)
    refine lv_aload_n hx hb dX0_racksKept_26 rfl (lv_at hl 1 rfl) ?_
    refine lv_aload_n hx hb dX0_racksKept_27 rfl (lv_at hl 1 rfl) ?_
    revert hf
    refine k_pcl (fun r11 h10 hf => ?_)
    refine w_afr hw (w_rV (As := []) C hw (ok_X0_table h10) (cw_X0_137 hts (Nat.le_of_ble_eq_true rfl) (Nat.le_of_ble_eq_true rfl)) rfl (by decide) (of_req h10).1 rfl hl.1 rfl (Nat.le_of_ble_eq_true rfl) ⟨Nat.zero_le _, Nat.zero_le _⟩ dX0_racksKept_28) (fun H locs hw => ?_)
    refine lv_iload_n hx hb dX0_racksKept_31 rfl (lv_at hl 2 rfl) ?_
    refine lv_iload_n hx hb dX0_racksKept_32 rfl (lv_at hl 3 rfl) ?_
    refine lv_iload_n hx hb dX0_racksKept_33 rfl (lv_at hl 4 rfl) ?_
    revert hf
    refine k_cal (fun z13 U14 h12 hf => ?_)
    refine w_afi hw (w_rV (As := [.ref (gb G + r11), .int a0, .int a1, .int a2]) C hw (ok_X0_racks h12) (cw_X0_335 hts (Nat.le_of_ble_eq_true rfl) (Nat.le_of_ble_eq_true rfl)) rfl (by decide) (of_req h12).1 rfl hl.1 rfl (Nat.le_of_ble_eq_true rfl) ⟨Nat.zero_le _, Nat.zero_le _⟩ dX0_racksKept_34) (fun H locs hw => ?_)
    cases hf
    exact w_iret C hr hw dX0_racksKept_37
  · replace hf := ite_f c6 hf
    refine lv_iload hx hb dX0_racksKept_18 (lv_at hl 0 rfl) ?_
    cases hf
    exact w_iret C hr hw dX0_racksKept_20
set_option maxHeartbeats 4000000 in
theorem ok_X0_rack {l : Launch} {G : gG} {T : Tt} {V0 : Vt} {o : Nat} {a0 : Int32} {a1 : Int32} {a2 : Int32} {r : Int32} {V' : Vt} (hf : f_X0_rack T V0 o a0 a1 a2 = some (r, V')) : okM l G yX0_rack cX0_rack 4 (some .int) 429 [.ref (gb G + o), .int a0, .int a1, .int a2] V0 T (some (.int r)) V' T 0 0 := by
  refine ok_intro (by decide) (Nat.le_of_ble_eq_true rfl) ?_
  intro p e s m below meth c ls C hr hnm hw hl
  have hx := C.1
  have hb := C.2.1
  have hown := C.2.2.2.1
  have hts := C.2.2.2.2.1
  have hl : lv_has ls 4 [(0, .ref (gb G + o)), (1, .int a0), (2, .int a1), (3, .int a2)] := hl
  unfold f_X0_rack at hf
  revert hf
  refine k_req (fun k0 hf => ?_)
  refine lv_aload_n hx hb dX0_rack_0 rfl (lv_at hl 0 rfl) ?_
  refine lv_aload_n hx hb dX0_rack_1 rfl (lv_at hl 0 rfl) ?_
  refine lv_iload_n hx hb dX0_rack_2 rfl (lv_at hl 1 rfl) ?_
  refine lv_iload_n hx hb dX0_rack_3 rfl (lv_at hl 2 rfl) ?_
  refine lv_iload_n hx hb dX0_rack_4 rfl (lv_at hl 3 rfl) ?_
  revert hf
  refine k_cal (fun z2 U3 h1 hf => ?_)
  refine w_afi hw (w_rV (As := [.int a0, .int a1, .int a2]) C hw (ok_X0_racksKept h1) (cw_X0_354 hts (Nat.le_of_ble_eq_true rfl) (Nat.le_of_ble_eq_true rfl)) rfl (by decide) (of_req h1).1 rfl hl.1 rfl (Nat.le_of_ble_eq_true rfl) ⟨Nat.zero_le _, Nat.zero_le _⟩ dX0_rack_5) (fun H locs hw => ?_)
  revert hf
  refine k_cal (fun z5 U6 h4 hf => ?_)
  refine w_afi hw (w_rV (As := [.int z2]) C hw (ok_X0_doneOr h4) (cw_X0_351 hts (Nat.le_of_ble_eq_true rfl) (Nat.le_of_ble_eq_true rfl)) rfl (by decide) (of_req h4).1 rfl hl.1 rfl (Nat.le_of_ble_eq_true rfl) ⟨Nat.zero_le _, Nat.zero_le _⟩ dX0_rack_8) (fun H locs hw => ?_)
  cases hf
  exact w_iret C hr hw dX0_rack_11
set_option maxHeartbeats 4000000 in
theorem ok_X0_canBottle {l : Launch} {G : gG} {T : Tt} {V0 : Vt} {o : Nat} {a0 : Nat} {a1 : Int32} {a2 : Int32} {r : Int32} {V' : Vt} (hf : f_X0_canBottle T V0 o a0 a1 a2 = some (r, V')) : okM l G yX0_canBottle cX0_canBottle 5 (some .int) 427 [.ref (gb G + o), .ref (gb G + a0), .int a1, .int a2] V0 T (some (.int r)) V' T 0 0 := by
  refine ok_intro (by decide) (Nat.le_of_ble_eq_true rfl) ?_
  intro p e s m below meth c ls C hr hnm hw hl
  have hx := C.1
  have hb := C.2.1
  have hown := C.2.2.2.1
  have hts := C.2.2.2.2.1
  have hl : lv_has ls 5 [(0, .ref (gb G + o)), (1, .ref (gb G + a0)), (2, .int a1), (3, .int a2)] := hl
  unfold f_X0_canBottle at hf
  revert hf
  refine k_req (fun k0 hf => ?_)
  refine lv_aload_n hx hb dX0_canBottle_0 rfl (lv_at hl 0 rfl) ?_
  refine lv_iload_n hx hb dX0_canBottle_1 rfl (lv_at hl 2 rfl) ?_
  refine lv_iload_n hx hb dX0_canBottle_2 rfl (lv_at hl 3 rfl) ?_
  revert hf
  refine k_pcl (fun z2 h1 hf => ?_)
  refine w_afi hw (w_rV (As := [.int a1, .int a2]) C hw (ok_X0_checks h1) (cw_X0_287 hts (Nat.le_of_ble_eq_true rfl) (Nat.le_of_ble_eq_true rfl)) rfl (by decide) (of_req h1).1 rfl hl.1 rfl (Nat.le_of_ble_eq_true rfl) ⟨Nat.zero_le _, Nat.zero_le _⟩ dX0_canBottle_3) (fun H locs hw => ?_)
  refine lv_istore (lv' := [(4, .int z2), (0, .ref (gb G + o)), (1, .ref (gb G + a0)), (2, .int a1), (3, .int a2)]) hx hb dX0_canBottle_6 hl (by decide) rfl (fun ls hl => ?_)
  refine lv_iload hx hb dX0_canBottle_8 (lv_at hl 0 rfl) ?_
  refine lv_if_ge (tgt := 18) hx hb dX0_canBottle_10 (by decide) (fun c3 => ?_) (fun c3 => ?_)
  · replace hf := ite_t c3 hf
    refine lv_aload_n hx hb dX0_canBottle_18 rfl (lv_at hl 1 rfl) ?_
    revert hf
    refine k_drf (fun r4 er4 hf => ?_)
    refine gf_X0_31 C hw k0 er4 dX0_canBottle_19 ?_
    revert hf
    refine k_req (fun k5 hf => ?_)
    revert hf
    refine k_drf (fun r6 er6 hf => ?_)
    refine gf_X0_132 C hw k5 er6 dX0_canBottle_22 ?_
    refine lv_iload_n hx hb dX0_canBottle_25 rfl (lv_at hl 3 rfl) ?_
    revert hf
    refine k_req (fun h7 hf => ?_)
    refine w_iald C hw h7 rfl dX0_canBottle_26 ?_
    refine lv_if_ne (tgt := 44) hx hb dX0_canBottle_27 (by decide) (fun c8 => ?_) (fun c8 => ?_)
    · replace hf := ite_f c8 hf
      refine lv_bipush (v := ((-3) : Int32)) hx hb dX0_canBottle_44 (by decide) ?_
      cases hf
      exact w_iret C hr hw dX0_canBottle_46
    · replace hf := ite_t c8 hf
      refine lv_aload_n hx hb dX0_canBottle_30 rfl (lv_at hl 1 rfl) ?_
      refine lv_aload_n hx hb dX0_canBottle_31 rfl (lv_at hl 2 rfl) ?_
      refine lv_iload_n hx hb dX0_canBottle_32 rfl (lv_at hl 3 rfl) ?_
      refine lv_iload_n hx hb dX0_canBottle_33 rfl (lv_at hl 4 rfl) ?_
      revert hf
      refine k_cal (fun z10 U11 h9 hf => ?_)
      refine w_afi hw (w_rV (As := [.ref (gb G + a0), .int a1, .int a2]) C hw (ok_X0_gives h9) (cw_X0_294 hts (Nat.le_of_ble_eq_true rfl) (Nat.le_of_ble_eq_true rfl)) rfl (by decide) (of_req h9).1 rfl hl.1 rfl (Nat.le_of_ble_eq_true rfl) ⟨Nat.zero_le _, Nat.zero_le _⟩ dX0_canBottle_34) (fun H locs hw => ?_)
      refine lv_if_eq (tgt := 44) hx hb dX0_canBottle_37 (by decide) (fun c12 => ?_) (fun c12 => ?_)
      · replace hf := ite_t c12 hf
        refine lv_bipush (v := ((-3) : Int32)) hx hb dX0_canBottle_44 (by decide) ?_
        cases hf
        exact w_iret C hr hw dX0_canBottle_46
      · replace hf := ite_f c12 hf
        refine lv_iconst (v := (0 : Int32)) hx hb dX0_canBottle_40 (by decide) ?_
        refine lv_goto (tgt := 46) hx hb dX0_canBottle_41 (by decide) ?_
        cases hf
        exact w_iret C hr hw dX0_canBottle_46
  · replace hf := ite_f c3 hf
    refine lv_iload hx hb dX0_canBottle_13 (lv_at hl 0 rfl) ?_
    refine lv_goto (tgt := 46) hx hb dX0_canBottle_15 (by decide) ?_
    cases hf
    exact w_iret C hr hw dX0_canBottle_46
set_option maxHeartbeats 4000000 in
theorem ok_X0_bottlesKept {l : Launch} {G : gG} {T : Tt} {V0 : Vt} {o : Nat} {a0 : Int32} {a1 : Int32} {r : Int32} {V' : Vt} (hf : f_X0_bottlesKept T V0 o a0 a1 = some (r, V')) : okM l G yX0_bottlesKept cX0_bottlesKept 4 (some .int) 428 [.ref (gb G + o), .int a0, .int a1] V0 T (some (.int r)) V' T 0 0 := by
  refine ok_intro (by decide) (Nat.le_of_ble_eq_true rfl) ?_
  intro p e s m below meth c ls C hr hnm hw hl
  have hx := C.1
  have hb := C.2.1
  have hown := C.2.2.2.1
  have hts := C.2.2.2.2.1
  have hl : lv_has ls 4 [(0, .ref (gb G + o)), (1, .int a0), (2, .int a1)] := hl
  unfold f_X0_bottlesKept at hf
  revert hf
  refine k_req (fun k0 hf => ?_)
  refine lv_aload_n hx hb dX0_bottlesKept_0 rfl (lv_at hl 0 rfl) ?_
  refine lv_aload_n hx hb dX0_bottlesKept_1 rfl (lv_at hl 0 rfl) ?_
  revert hf
  refine k_pcl (fun r2 h1 hf => ?_)
  refine w_afr hw (w_rV (As := []) C hw (ok_X0_table h1) (cw_X0_137 hts (Nat.le_of_ble_eq_true rfl) (Nat.le_of_ble_eq_true rfl)) rfl (by decide) (of_req h1).1 rfl hl.1 rfl (Nat.le_of_ble_eq_true rfl) ⟨Nat.zero_le _, Nat.zero_le _⟩ dX0_bottlesKept_2) (fun H locs hw => ?_)
  refine lv_iload_n hx hb dX0_bottlesKept_5 rfl (lv_at hl 1 rfl) ?_
  refine lv_iload_n hx hb dX0_bottlesKept_6 rfl (lv_at hl 2 rfl) ?_
  revert hf
  refine k_cal (fun z4 U5 h3 hf => ?_)
  refine w_afi hw (w_rV (As := [.ref (gb G + r2), .int a0, .int a1]) C hw (ok_X0_canBottle h3) (cw_X0_338 hts (Nat.le_of_ble_eq_true rfl) (Nat.le_of_ble_eq_true rfl)) rfl (by decide) (of_req h3).1 rfl hl.1 rfl (Nat.le_of_ble_eq_true rfl) ⟨Nat.zero_le _, Nat.zero_le _⟩ dX0_bottlesKept_7) (fun H locs hw => ?_)
  refine lv_istore_n (lv' := [(3, .int z4), (0, .ref (gb G + o)), (1, .int a0), (2, .int a1)]) hx hb dX0_bottlesKept_10 rfl hl (by decide) rfl (fun ls hl => ?_)
  refine lv_iload_n hx hb dX0_bottlesKept_11 rfl (lv_at hl 0 rfl) ?_
  refine lv_if_ge (tgt := 17) hx hb dX0_bottlesKept_12 (by decide) (fun c6 => ?_) (fun c6 => ?_)
  · replace hf := ite_t c6 hf
    refine lv_aload_n hx hb dX0_bottlesKept_17 rfl (lv_at hl 1 rfl) ?_
    refine lv_iconst (v := (2 : Int32)) hx hb dX0_bottlesKept_18 (by decide) ?_
    revert hf
    refine k_pcl (fun U9 h7 hf => ?_)
    refine w_afv hw (w_rV (As := [.int (2 : Int32)]) C hw (ok_X0_keeps h7) (cw_X0_325 hts (Nat.le_of_ble_eq_true rfl) (Nat.le_of_ble_eq_true rfl)) rfl (by decide) (of_req h7).1 rfl hl.1 rfl (Nat.le_of_ble_eq_true rfl) ⟨Nat.zero_le _, Nat.zero_le _⟩ dX0_bottlesKept_19) (fun H locs hw => ?_)
    refine lv_aload_n hx hb dX0_bottlesKept_22 rfl (lv_at hl 1 rfl) ?_
    refine lv_aload_n hx hb dX0_bottlesKept_23 rfl (lv_at hl 1 rfl) ?_
    revert hf
    refine k_pcl (fun r11 h10 hf => ?_)
    refine w_afr hw (w_rV (As := []) C hw (ok_X0_table h10) (cw_X0_137 hts (Nat.le_of_ble_eq_true rfl) (Nat.le_of_ble_eq_true rfl)) rfl (by decide) (of_req h10).1 rfl hl.1 rfl (Nat.le_of_ble_eq_true rfl) ⟨Nat.zero_le _, Nat.zero_le _⟩ dX0_bottlesKept_24) (fun H locs hw => ?_)
    refine lv_iload_n hx hb dX0_bottlesKept_27 rfl (lv_at hl 2 rfl) ?_
    refine lv_iload_n hx hb dX0_bottlesKept_28 rfl (lv_at hl 3 rfl) ?_
    revert hf
    refine k_cal (fun z13 U14 h12 hf => ?_)
    refine w_afi hw (w_rV (As := [.ref (gb G + r11), .int a0, .int a1]) C hw (ok_X0_bottles h12) (cw_X0_341 hts (Nat.le_of_ble_eq_true rfl) (Nat.le_of_ble_eq_true rfl)) rfl (by decide) (of_req h12).1 rfl hl.1 rfl (Nat.le_of_ble_eq_true rfl) ⟨Nat.zero_le _, Nat.zero_le _⟩ dX0_bottlesKept_29) (fun H locs hw => ?_)
    cases hf
    exact w_iret C hr hw dX0_bottlesKept_32
  · replace hf := ite_f c6 hf
    refine lv_iload_n hx hb dX0_bottlesKept_15 rfl (lv_at hl 0 rfl) ?_
    cases hf
    exact w_iret C hr hw dX0_bottlesKept_16
set_option maxHeartbeats 4000000 in
theorem ok_X0_bottle {l : Launch} {G : gG} {T : Tt} {V0 : Vt} {o : Nat} {a0 : Int32} {a1 : Int32} {r : Int32} {V' : Vt} (hf : f_X0_bottle T V0 o a0 a1 = some (r, V')) : okM l G yX0_bottle cX0_bottle 3 (some .int) 429 [.ref (gb G + o), .int a0, .int a1] V0 T (some (.int r)) V' T 0 0 := by
  refine ok_intro (by decide) (Nat.le_of_ble_eq_true rfl) ?_
  intro p e s m below meth c ls C hr hnm hw hl
  have hx := C.1
  have hb := C.2.1
  have hown := C.2.2.2.1
  have hts := C.2.2.2.2.1
  have hl : lv_has ls 3 [(0, .ref (gb G + o)), (1, .int a0), (2, .int a1)] := hl
  unfold f_X0_bottle at hf
  revert hf
  refine k_req (fun k0 hf => ?_)
  refine lv_aload_n hx hb dX0_bottle_0 rfl (lv_at hl 0 rfl) ?_
  refine lv_aload_n hx hb dX0_bottle_1 rfl (lv_at hl 0 rfl) ?_
  refine lv_iload_n hx hb dX0_bottle_2 rfl (lv_at hl 1 rfl) ?_
  refine lv_iload_n hx hb dX0_bottle_3 rfl (lv_at hl 2 rfl) ?_
  revert hf
  refine k_cal (fun z2 U3 h1 hf => ?_)
  refine w_afi hw (w_rV (As := [.int a0, .int a1]) C hw (ok_X0_bottlesKept h1) (cw_X0_357 hts (Nat.le_of_ble_eq_true rfl) (Nat.le_of_ble_eq_true rfl)) rfl (by decide) (of_req h1).1 rfl hl.1 rfl (Nat.le_of_ble_eq_true rfl) ⟨Nat.zero_le _, Nat.zero_le _⟩ dX0_bottle_4) (fun H locs hw => ?_)
  revert hf
  refine k_cal (fun z5 U6 h4 hf => ?_)
  refine w_afi hw (w_rV (As := [.int z2]) C hw (ok_X0_doneOr h4) (cw_X0_351 hts (Nat.le_of_ble_eq_true rfl) (Nat.le_of_ble_eq_true rfl)) rfl (by decide) (of_req h4).1 rfl hl.1 rfl (Nat.le_of_ble_eq_true rfl) ⟨Nat.zero_le _, Nat.zero_le _⟩ dX0_bottle_7) (fun H locs hw => ?_)
  cases hf
  exact w_iret C hr hw dX0_bottle_10
set_option maxHeartbeats 4000000 in
theorem lk_X0_ends_49 {l : Launch} {G : gG} {p : Program} {e : Env} {s : State} {m : MethodId} {args : Array Value} {below : List Frame} {meth : Method} {c : Code} {T : Tt} {r : Int32} {V' : Vt} (C : Cx G p s m args meth c cX0_ends RX0 6) (hr : meth.sig.returnType = (some .int)) {x0 : Nat} {x1 : Nat} {x3 : Int32} {kc35 : Int32 → Int32 → Vt → Option (Int32 × Vt)} {kx35_123 : Int32 → Vt → Option (Int32 × Vt)} {kx49_112 : Int32 → Vt → Option (Int32 × Vt)} (k0 : T.1 x0 = 1) (hkc35 : ∀ (y2 : Int32) (y3 : Int32) (W1 : Vt) (H : Heap) (locs : List Loc) (ls : Array Slot), kc35 y2 y3 W1 = some (r, V') → wS G W1 T H locs → lv_has ls 6 [(0, .ref (gb G + x0)), (1, .ref (gb G + x1)), (2, .int y2), (3, .int y3)] → W p l e (rmL 426 0 0) s m args below meth c H locs 0 0 (eQ G below (some (.int r)) V' T args s 0 0) (F0 m 35 ls [])) (hkx35_123 : ∀ (y2 : Int32) (W1 : Vt) (H : Heap) (locs : List Loc) (ls : Array Slot), kx35_123 y2 W1 = some (r, V') → wS G W1 T H locs → lv_has ls 6 [(1, .ref (gb G + x1)), (2, .int y2)] → W p l e (rmL 426 0 0) s m args below meth c H locs 0 0 (eQ G below (some (.int r)) V' T args s 0 0) (F0 m 123 ls [])) (hkx49_112 : ∀ (y2 : Int32) (W1 : Vt) (H : Heap) (locs : List Loc) (ls : Array Slot), kx49_112 y2 W1 = some (r, V') → wS G W1 T H locs → lv_has ls 6 [(0, .ref (gb G + x0)), (1, .ref (gb G + x1)), (2, .int y2), (3, .int x3)] → W p l e (rmL 426 0 0) s m args below meth c H locs 0 0 (eQ G below (some (.int r)) V' T args s 0 0) (F0 m 112 ls [])) : ∀ (n : Nat) (x2 : Int32) (x4 : Int32) (V1 : Vt) (H : Heap) (locs : List Loc) (ls : Array Slot), f_X0_ends_L49 T x0 x1 x3 kc35 kx35_123 kx49_112 n x2 x4 V1 = some (r, V') → wS G V1 T H locs → lv_has ls 6 [(0, .ref (gb G + x0)), (1, .ref (gb G + x1)), (2, .int x2), (3, .int x3), (4, .int x4)] → W p l e (rmL 426 0 0) s m args below meth c H locs 0 0 (eQ G below (some (.int r)) V' T args s 0 0) (F0 m 49 ls []) := by
  have hx := C.1
  have hb := C.2.1
  have hown := C.2.2.2.1
  have hts := C.2.2.2.2.1
  intro n
  induction n with
  | zero =>
    intro x2 x4 V1 H locs ls hf
    cases hf
  | succ n ih =>
    intro x2 x4 V1 H locs ls hf hw hl
    unfold f_X0_ends_L49 at hf
    refine lv_iload hx hb dX0_ends_49 (lv_at hl 4 rfl) ?_
    refine lv_bipush (v := (20 : Int32)) hx hb dX0_ends_51 (by decide) ?_
    refine lv_icmp_ge (tgt := 112) hx hb dX0_ends_53 (by decide) (fun c15 => ?_) (fun c15 => ?_)
    · replace hf := ite_t c15 hf
      exact hkx49_112 _ _ _ _ _ hf hw (lv_sub hl [0, 1, 2, 3] rfl)
    · replace hf := ite_f c15 hf
      refine lv_aload_n hx hb dX0_ends_56 rfl (lv_at hl 1 rfl) ?_
      revert hf
      refine k_req (fun k16 hf => ?_)
      revert hf
      refine k_drf (fun r17 er17 hf => ?_)
      refine gf_X0_140 C hw k16 er17 dX0_ends_57 ?_
      refine lv_bipush (v := (20 : Int32)) hx hb dX0_ends_60 (by decide) ?_
      refine lv_iload_n hx hb dX0_ends_62 rfl (lv_at hl 3 rfl) ?_
      refine lv_imul hx hb dX0_ends_63 ?_
      refine lv_iload hx hb dX0_ends_64 (lv_at hl 4 rfl) ?_
      refine lv_iadd hx hb dX0_ends_66 ?_
      revert hf
      refine k_req (fun h18 hf => ?_)
      refine w_iald C hw h18 rfl dX0_ends_67 ?_
      refine lv_i2l hx hb dX0_ends_68 rfl ?_
      refine lv_aload_n hx hb dX0_ends_69 rfl (lv_at hl 0 rfl) ?_
      revert hf
      refine k_drf (fun r19 er19 hf => ?_)
      refine gf_X0_82 C hw k0 er19 dX0_ends_70 ?_
      refine lv_iload_n hx hb dX0_ends_73 rfl (lv_at hl 3 rfl) ?_
      revert hf
      refine k_req (fun h20 hf => ?_)
      refine w_iald C hw h20 rfl dX0_ends_74 ?_
      refine lv_i2l hx hb dX0_ends_75 rfl ?_
      refine lv_lmul hx hb dX0_ends_76 ?_
      refine lv_ldc2 (v := (1000 : Int64)) hx hb hown (hts _ q581) dX0_ends_77 ?_
      refine lv_ldiv hx hb dX0_ends_80 (by decide) ?_
      refine lv_l2i hx hb dX0_ends_81 rfl ?_
      revert hf
      refine k_stp (fun z21 ez21 hf => ?_)
      refine w_nmI ez21 ?_
      refine lv_istore (lv' := [(5, .int z21), (0, .ref (gb G + x0)), (1, .ref (gb G + x1)), (2, .int x2), (3, .int x3), (4, .int x4)]) hx hb dX0_ends_82 hl (by decide) rfl (fun ls hl => ?_)
      refine lv_aload_n hx hb dX0_ends_84 rfl (lv_at hl 2 rfl) ?_
      revert hf
      refine k_drf (fun r22 er22 hf => ?_)
      refine gf_X0_140 C hw k16 er22 dX0_ends_85 ?_
      refine lv_bipush (v := (20 : Int32)) hx hb dX0_ends_88 (by decide) ?_
      refine lv_iload_n hx hb dX0_ends_90 rfl (lv_at hl 4 rfl) ?_
      refine lv_imul hx hb dX0_ends_91 ?_
      refine lv_iload hx hb dX0_ends_92 (lv_at hl 5 rfl) ?_
      refine lv_iadd hx hb dX0_ends_94 ?_
      refine lv_dup2_11 hx hb dX0_ends_95 rfl rfl ?_
      revert hf
      refine k_req (fun h23 hf => ?_)
      refine w_iald C hw h23 rfl dX0_ends_96 ?_
      refine lv_iload hx hb dX0_ends_97 (lv_at hl 0 rfl) ?_
      refine lv_isub hx hb dX0_ends_99 ?_
      revert hf
      refine k_req (fun h24 hf => ?_)
      revert hf
      refine k_stp (fun U25 eU25 hf => ?_)
      refine w_iast C hw h24 eU25 dX0_ends_100 (fun H locs hw => ?_)
      refine lv_iload_n hx hb dX0_ends_101 rfl (lv_at hl 3 rfl) ?_
      refine lv_iload hx hb dX0_ends_102 (lv_at hl 0 rfl) ?_
      refine lv_iadd hx hb dX0_ends_104 ?_
      revert hf
      refine k_stp (fun z26 ez26 hf => ?_)
      refine w_nmI ez26 ?_
      refine lv_istore_n (lv' := [(2, .int z26), (5, .int z21), (0, .ref (gb G + x0)), (1, .ref (gb G + x1)), (3, .int x3), (4, .int x4)]) hx hb dX0_ends_105 rfl hl (by decide) rfl (fun ls hl => ?_)
      revert hf
      refine k_stp (fun z27 ez27 hf => ?_)
      refine lv_iinc (k := 5) (lv' := [(4, .int z27), (2, .int z26), (5, .int z21), (0, .ref (gb G + x0)), (1, .ref (gb G + x1)), (3, .int x3)]) hx hb dX0_ends_106 hl rfl (inc_e (by decide) ez27) (by decide) rfl (fun ls hl => ?_)
      refine lv_goto (tgt := 49) hx hb dX0_ends_109 (by decide) ?_
      exact ih _ _ _ _ _ _ hf hw (lv_sub hl [3, 4, 1, 5, 0] rfl)
set_option maxHeartbeats 4000000 in
theorem lk_X0_ends_35 {l : Launch} {G : gG} {p : Program} {e : Env} {s : State} {m : MethodId} {args : Array Value} {below : List Frame} {meth : Method} {c : Code} {T : Tt} {r : Int32} {V' : Vt} (C : Cx G p s m args meth c cX0_ends RX0 6) (hr : meth.sig.returnType = (some .int)) {x0 : Nat} {x1 : Nat} {kx35_123 : Int32 → Vt → Option (Int32 × Vt)} (k0 : T.1 x0 = 1) (hkx35_123 : ∀ (y2 : Int32) (W1 : Vt) (H : Heap) (locs : List Loc) (ls : Array Slot), kx35_123 y2 W1 = some (r, V') → wS G W1 T H locs → lv_has ls 6 [(1, .ref (gb G + x1)), (2, .int y2)] → W p l e (rmL 426 0 0) s m args below meth c H locs 0 0 (eQ G below (some (.int r)) V' T args s 0 0) (F0 m 123 ls [])) : ∀ (n : Nat) (x2 : Int32) (x3 : Int32) (V1 : Vt) (H : Heap) (locs : List Loc) (ls : Array Slot), f_X0_ends_L35 T x0 x1 kx35_123 n x2 x3 V1 = some (r, V') → wS G V1 T H locs → lv_has ls 6 [(0, .ref (gb G + x0)), (1, .ref (gb G + x1)), (2, .int x2), (3, .int x3)] → W p l e (rmL 426 0 0) s m args below meth c H locs 0 0 (eQ G below (some (.int r)) V' T args s 0 0) (F0 m 35 ls []) := by
  have hx := C.1
  have hb := C.2.1
  have hown := C.2.2.2.1
  have hts := C.2.2.2.2.1
  intro n
  induction n with
  | zero =>
    intro x2 x3 V1 H locs ls hf
    cases hf
  | succ n ih =>
    intro x2 x3 V1 H locs ls hf hw hl
    unfold f_X0_ends_L35 at hf
    refine lv_iload_n hx hb dX0_ends_35 rfl (lv_at hl 3 rfl) ?_
    refine lv_aload_n hx hb dX0_ends_36 rfl (lv_at hl 0 rfl) ?_
    revert hf
    refine k_drf (fun r12 er12 hf => ?_)
    refine gf_X0_31 C hw k0 er12 dX0_ends_37 ?_
    revert hf
    refine k_req (fun k13 hf => ?_)
    refine gf_X0_105 C hw k13 dX0_ends_40 ?_
    refine lv_icmp_ge (tgt := 123) hx hb dX0_ends_43 (by decide) (fun c14 => ?_) (fun c14 => ?_)
    · replace hf := ite_t c14 hf
      exact hkx35_123 _ _ _ _ _ hf hw (lv_sub hl [1, 2] rfl)
    · replace hf := ite_f c14 hf
      refine lv_iconst (v := (0 : Int32)) hx hb dX0_ends_46 (by decide) ?_
      refine lv_istore (lv' := [(4, .int (0 : Int32)), (0, .ref (gb G + x0)), (1, .ref (gb G + x1)), (2, .int x2), (3, .int x3)]) hx hb dX0_ends_47 hl (by decide) rfl (fun ls hl => ?_)
      refine lk_X0_ends_49 C hr k0 ih hkx35_123 (fun z28 U29 H locs ls hf hw hl => ?_) fuel _ _ _ _ _ _ hf hw (lv_sub hl [1, 2, 3, 4, 0] rfl)
      refine lv_aload_n hx hb dX0_ends_112 rfl (lv_at hl 1 rfl) ?_
      refine lv_iload_n hx hb dX0_ends_113 rfl (lv_at hl 3 rfl) ?_
      revert hf
      refine k_pcl (fun U32 h30 hf => ?_)
      refine w_afv hw (w_rV (As := [.int x3]) C hw (ok_X2_ages h30) (cw_X0_315 hts (Nat.le_of_ble_eq_true rfl) (Nat.le_of_ble_eq_true rfl)) rfl (by decide) (of_req h30).1 rfl hl.1 rfl (Nat.le_of_ble_eq_true rfl) ⟨Nat.zero_le _, Nat.zero_le _⟩ dX0_ends_114) (fun H locs hw => ?_)
      revert hf
      refine k_stp (fun z33 ez33 hf => ?_)
      refine lv_iinc (k := 3) (lv' := [(3, .int z33), (0, .ref (gb G + x0)), (1, .ref (gb G + x1)), (2, .int z28)]) hx hb dX0_ends_117 hl rfl (inc_e (by decide) ez33) (by decide) rfl (fun ls hl => ?_)
      refine lv_goto (tgt := 35) hx hb dX0_ends_120 (by decide) ?_
      exact ih _ _ _ _ _ _ hf hw (lv_sub hl [1, 2, 3, 0] rfl)
set_option maxHeartbeats 4000000 in
theorem lk_X0_ends_4 {l : Launch} {G : gG} {p : Program} {e : Env} {s : State} {m : MethodId} {args : Array Value} {below : List Frame} {meth : Method} {c : Code} {T : Tt} {r : Int32} {V' : Vt} (C : Cx G p s m args meth c cX0_ends RX0 6) (hr : meth.sig.returnType = (some .int)) {x0 : Nat} {x1 : Nat} {x2 : Int32} {kx4_33 : Vt → Option (Int32 × Vt)} (k0 : T.1 x0 = 1) (hkx4_33 : ∀ (W1 : Vt) (H : Heap) (locs : List Loc) (ls : Array Slot), kx4_33 W1 = some (r, V') → wS G W1 T H locs → lv_has ls 6 [(0, .ref (gb G + x0)), (1, .ref (gb G + x1)), (2, .int x2)] → W p l e (rmL 426 0 0) s m args below meth c H locs 0 0 (eQ G below (some (.int r)) V' T args s 0 0) (F0 m 33 ls [])) : ∀ (n : Nat) (x3 : Int32) (V1 : Vt) (H : Heap) (locs : List Loc) (ls : Array Slot), f_X0_ends_L4 T x0 x1 x2 kx4_33 n x3 V1 = some (r, V') → wS G V1 T H locs → lv_has ls 6 [(0, .ref (gb G + x0)), (1, .ref (gb G + x1)), (2, .int x2), (3, .int x3)] → W p l e (rmL 426 0 0) s m args below meth c H locs 0 0 (eQ G below (some (.int r)) V' T args s 0 0) (F0 m 4 ls []) := by
  have hx := C.1
  have hb := C.2.1
  have hown := C.2.2.2.1
  have hts := C.2.2.2.2.1
  intro n
  induction n with
  | zero =>
    intro x3 V1 H locs ls hf
    cases hf
  | succ n ih =>
    intro x3 V1 H locs ls hf hw hl
    unfold f_X0_ends_L4 at hf
    refine lv_iload_n hx hb dX0_ends_4 rfl (lv_at hl 3 rfl) ?_
    refine lv_aload_n hx hb dX0_ends_5 rfl (lv_at hl 0 rfl) ?_
    revert hf
    refine k_drf (fun r1 er1 hf => ?_)
    refine gf_X0_31 C hw k0 er1 dX0_ends_6 ?_
    revert hf
    refine k_req (fun k2 hf => ?_)
    refine gf_X0_105 C hw k2 dX0_ends_9 ?_
    refine lv_icmp_ge (tgt := 33) hx hb dX0_ends_12 (by decide) (fun c3 => ?_) (fun c3 => ?_)
    · replace hf := ite_t c3 hf
      exact hkx4_33 _ _ _ _ hf hw (lv_sub hl [0, 1, 2] rfl)
    · replace hf := ite_f c3 hf
      refine lv_aload_n hx hb dX0_ends_15 rfl (lv_at hl 0 rfl) ?_
      revert hf
      refine k_drf (fun r4 er4 hf => ?_)
      refine gf_X0_82 C hw k0 er4 dX0_ends_16 ?_
      refine lv_iload_n hx hb dX0_ends_19 rfl (lv_at hl 3 rfl) ?_
      refine lv_aload_n hx hb dX0_ends_20 rfl (lv_at hl 0 rfl) ?_
      refine lv_aload_n hx hb dX0_ends_21 rfl (lv_at hl 1 rfl) ?_
      refine lv_iload_n hx hb dX0_ends_22 rfl (lv_at hl 3 rfl) ?_
      revert hf
      refine k_cal (fun z6 U7 h5 hf => ?_)
      refine w_afi hw (w_rV (As := [.ref (gb G + x1), .int x3]) C hw (ok_X0_losesOf h5) (cw_X0_168 hts (Nat.le_of_ble_eq_true rfl) (Nat.le_of_ble_eq_true rfl)) rfl (by decide) (of_req h5).1 rfl hl.1 rfl (Nat.le_of_ble_eq_true rfl) ⟨Nat.zero_le _, Nat.zero_le _⟩ dX0_ends_23) (fun H locs hw => ?_)
      revert hf
      refine k_req (fun h8 hf => ?_)
      revert hf
      refine k_stp (fun U9 eU9 hf => ?_)
      refine w_iast C hw h8 eU9 dX0_ends_26 (fun H locs hw => ?_)
      revert hf
      refine k_stp (fun z10 ez10 hf => ?_)
      refine lv_iinc (k := 3) (lv' := [(3, .int z10), (0, .ref (gb G + x0)), (1, .ref (gb G + x1)), (2, .int x2)]) hx hb dX0_ends_27 hl rfl (inc_e (by decide) ez10) (by decide) rfl (fun ls hl => ?_)
      refine lv_goto (tgt := 4) hx hb dX0_ends_30 (by decide) ?_
      exact ih _ _ _ _ _ hf hw (lv_sub hl [1, 2, 3, 0] rfl)
set_option maxHeartbeats 4000000 in
theorem ok_X0_ends {l : Launch} {G : gG} {T : Tt} {V0 : Vt} {o : Nat} {a0 : Nat} {r : Int32} {V' : Vt} (hf : f_X0_ends T V0 o a0 = some (r, V')) : okM l G yX0_ends cX0_ends 6 (some .int) 426 [.ref (gb G + o), .ref (gb G + a0)] V0 T (some (.int r)) V' T 0 0 := by
  refine ok_intro (by decide) (Nat.le_of_ble_eq_true rfl) ?_
  intro p e s m below meth c ls C hr hnm hw hl
  have hx := C.1
  have hb := C.2.1
  have hown := C.2.2.2.1
  have hts := C.2.2.2.2.1
  have hl : lv_has ls 6 [(0, .ref (gb G + o)), (1, .ref (gb G + a0))] := hl
  unfold f_X0_ends at hf
  revert hf
  refine k_req (fun k0 hf => ?_)
  refine lv_iconst (v := (0 : Int32)) hx hb dX0_ends_0 (by decide) ?_
  refine lv_istore_n (lv' := [(2, .int (0 : Int32)), (0, .ref (gb G + o)), (1, .ref (gb G + a0))]) hx hb dX0_ends_1 rfl hl (by decide) rfl (fun ls hl => ?_)
  refine lv_iconst (v := (0 : Int32)) hx hb dX0_ends_2 (by decide) ?_
  refine lv_istore_n (lv' := [(3, .int (0 : Int32)), (2, .int (0 : Int32)), (0, .ref (gb G + o)), (1, .ref (gb G + a0))]) hx hb dX0_ends_3 rfl hl (by decide) rfl (fun ls hl => ?_)
  refine lk_X0_ends_4 C hr k0 (fun U11 H locs ls hf hw hl => ?_) fuel _ _ _ _ _ hf hw (lv_sub hl [2, 3, 1, 0] rfl)
  refine lv_iconst (v := (0 : Int32)) hx hb dX0_ends_33 (by decide) ?_
  refine lv_istore_n (lv' := [(3, .int (0 : Int32)), (0, .ref (gb G + o)), (1, .ref (gb G + a0)), (2, .int (0 : Int32))]) hx hb dX0_ends_34 rfl hl (by decide) rfl (fun ls hl => ?_)
  refine lk_X0_ends_35 C hr k0 (fun z34 U35 H locs ls hf hw hl => ?_) fuel _ _ _ _ _ _ hf hw (lv_sub hl [1, 2, 3, 0] rfl)
  refine lv_aload_n hx hb dX0_ends_123 rfl (lv_at hl 0 rfl) ?_
  refine lv_dup hx hb dX0_ends_124 rfl ?_
  revert hf
  refine k_req (fun k36 hf => ?_)
  refine gf_X0_186 C hw k36 dX0_ends_125 ?_
  refine lv_iconst (v := (1 : Int32)) hx hb dX0_ends_128 (by decide) ?_
  refine lv_iadd hx hb dX0_ends_129 ?_
  revert hf
  refine k_stp (fun U37 eU37 hf => ?_)
  refine pf_X0_186 C hw k36 eU37 dX0_ends_130 (fun H locs hw => ?_)
  refine lv_iload_n hx hb dX0_ends_133 rfl (lv_at hl 1 rfl) ?_
  cases hf
  exact w_iret C hr hw dX0_ends_134
set_option maxHeartbeats 4000000 in
theorem ok_X0_passesKept {l : Launch} {G : gG} {T : Tt} {V0 : Vt} {o : Nat} {r : Int32} {V' : Vt} (hf : f_X0_passesKept T V0 o = some (r, V')) : okM l G yX0_passesKept cX0_passesKept 1 (some .int) 427 [.ref (gb G + o)] V0 T (some (.int r)) V' T 0 0 := by
  refine ok_intro (by decide) (Nat.le_of_ble_eq_true rfl) ?_
  intro p e s m below meth c ls C hr hnm hw hl
  have hx := C.1
  have hb := C.2.1
  have hown := C.2.2.2.1
  have hts := C.2.2.2.2.1
  have hl : lv_has ls 1 [(0, .ref (gb G + o))] := hl
  unfold f_X0_passesKept at hf
  revert hf
  refine k_req (fun k0 hf => ?_)
  refine lv_aload_n hx hb dX0_passesKept_0 rfl (lv_at hl 0 rfl) ?_
  revert hf
  refine k_pcl (fun r2 h1 hf => ?_)
  refine w_afr hw (w_rV (As := []) C hw (ok_X0_table h1) (cw_X0_137 hts (Nat.le_of_ble_eq_true rfl) (Nat.le_of_ble_eq_true rfl)) rfl (by decide) (of_req h1).1 rfl hl.1 rfl (Nat.le_of_ble_eq_true rfl) ⟨Nat.zero_le _, Nat.zero_le _⟩ dX0_passesKept_1) (fun H locs hw => ?_)
  revert hf
  refine k_req (fun k3 hf => ?_)
  refine gf_X0_186 C hw k3 dX0_passesKept_4 ?_
  refine lv_sipush (v := (999 : Int32)) hx hb dX0_passesKept_7 (by decide) ?_
  refine lv_icmp_ne (tgt := 16) hx hb dX0_passesKept_10 (by decide) (fun c4 => ?_) (fun c4 => ?_)
  · replace hf := ite_f c4 hf
    refine lv_aload_n hx hb dX0_passesKept_16 rfl (lv_at hl 0 rfl) ?_
    refine lv_iconst (v := (3 : Int32)) hx hb dX0_passesKept_17 (by decide) ?_
    revert hf
    refine k_pcl (fun U7 h5 hf => ?_)
    refine w_afv hw (w_rV (As := [.int (3 : Int32)]) C hw (ok_X0_keeps h5) (cw_X0_325 hts (Nat.le_of_ble_eq_true rfl) (Nat.le_of_ble_eq_true rfl)) rfl (by decide) (of_req h5).1 rfl hl.1 rfl (Nat.le_of_ble_eq_true rfl) ⟨Nat.zero_le _, Nat.zero_le _⟩ dX0_passesKept_18) (fun H locs hw => ?_)
    refine lv_aload_n hx hb dX0_passesKept_21 rfl (lv_at hl 0 rfl) ?_
    refine lv_aload_n hx hb dX0_passesKept_22 rfl (lv_at hl 0 rfl) ?_
    revert hf
    refine k_pcl (fun r9 h8 hf => ?_)
    refine w_afr hw (w_rV (As := []) C hw (ok_X0_table h8) (cw_X0_137 hts (Nat.le_of_ble_eq_true rfl) (Nat.le_of_ble_eq_true rfl)) rfl (by decide) (of_req h8).1 rfl hl.1 rfl (Nat.le_of_ble_eq_true rfl) ⟨Nat.zero_le _, Nat.zero_le _⟩ dX0_passesKept_23) (fun H locs hw => ?_)
    revert hf
    refine k_cal (fun z11 U12 h10 hf => ?_)
    refine w_afi hw (w_rV (As := [.ref (gb G + r9)]) C hw (ok_X0_ends h10) (cw_X0_344 hts (Nat.le_of_ble_eq_true rfl) (Nat.le_of_ble_eq_true rfl)) rfl (by decide) (of_req h10).1 rfl hl.1 rfl (Nat.le_of_ble_eq_true rfl) ⟨Nat.zero_le _, Nat.zero_le _⟩ dX0_passesKept_26) (fun H locs hw => ?_)
    cases hf
    exact w_iret C hr hw dX0_passesKept_29
  · replace hf := ite_t c4 hf
    refine lv_bipush (v := ((-3) : Int32)) hx hb dX0_passesKept_13 (by decide) ?_
    cases hf
    exact w_iret C hr hw dX0_passesKept_15
set_option maxHeartbeats 4000000 in
theorem ok_X0_pass {l : Launch} {G : gG} {T : Tt} {V0 : Vt} {o : Nat} {r : Int32} {V' : Vt} (hf : f_X0_pass T V0 o = some (r, V')) : okM l G yX0_pass cX0_pass 1 (some .int) 428 [.ref (gb G + o)] V0 T (some (.int r)) V' T 0 0 := by
  refine ok_intro (by decide) (Nat.le_of_ble_eq_true rfl) ?_
  intro p e s m below meth c ls C hr hnm hw hl
  have hx := C.1
  have hb := C.2.1
  have hown := C.2.2.2.1
  have hts := C.2.2.2.2.1
  have hl : lv_has ls 1 [(0, .ref (gb G + o))] := hl
  unfold f_X0_pass at hf
  revert hf
  refine k_req (fun k0 hf => ?_)
  refine lv_aload_n hx hb dX0_pass_0 rfl (lv_at hl 0 rfl) ?_
  refine lv_aload_n hx hb dX0_pass_1 rfl (lv_at hl 0 rfl) ?_
  revert hf
  refine k_cal (fun z2 U3 h1 hf => ?_)
  refine w_afi hw (w_rV (As := []) C hw (ok_X0_passesKept h1) (cw_X0_360 hts (Nat.le_of_ble_eq_true rfl) (Nat.le_of_ble_eq_true rfl)) rfl (by decide) (of_req h1).1 rfl hl.1 rfl (Nat.le_of_ble_eq_true rfl) ⟨Nat.zero_le _, Nat.zero_le _⟩ dX0_pass_2) (fun H locs hw => ?_)
  revert hf
  refine k_cal (fun z5 U6 h4 hf => ?_)
  refine w_afi hw (w_rV (As := [.int z2]) C hw (ok_X0_doneOr h4) (cw_X0_351 hts (Nat.le_of_ble_eq_true rfl) (Nat.le_of_ble_eq_true rfl)) rfl (by decide) (of_req h4).1 rfl hl.1 rfl (Nat.le_of_ble_eq_true rfl) ⟨Nat.zero_le _, Nat.zero_le _⟩ dX0_pass_5) (fun H locs hw => ?_)
  cases hf
  exact w_iret C hr hw dX0_pass_8
set_option maxHeartbeats 4000000 in
theorem jk_X0_tellsOrder_156 {l : Launch} {G : gG} {p : Program} {e : Env} {s : State} {m : MethodId} {args : Array Value} {below : List Frame} {meth : Method} {c : Code} {T : Tt} {V0 : Vt} {V' : Vt} (C : Cx G p s m args meth c cX0_tellsOrder RX0 6) (hr : meth.sig.returnType = none) {x0 : Nat} {x1 : Nat} {x4 : Nat} {x5 : Int32} {s0 : Nat} {s1 : Int32} {s2 : Int64} {kc42 : Int32 → Vt → Option (Vt)} {kx42_163 : Vt → Option (Vt)} {H : Heap} {locs : List Loc} {ls : Array Slot} (k0 : T.1 x0 = 1) (hf : f_X0_tellsOrder_J156 T V0 x0 x1 x4 x5 s0 s1 s2 kc42 kx42_163 = some V') (hw : wS G V0 T H locs) (hl : lv_has ls 6 [(0, .ref (gb G + x0)), (1, .ref (gb G + x1)), (4, .ref (gb G + x4)), (5, .int x5)]) (hkc42 : ∀ (y5 : Int32) (W1 : Vt) (H : Heap) (locs : List Loc) (ls : Array Slot), kc42 y5 W1 = some V' → wS G W1 T H locs → lv_has ls 6 [(0, .ref (gb G + x0)), (1, .ref (gb G + x1)), (4, .ref (gb G + x4)), (5, .int y5)] → W p l e (rmL 3 0 0) s m args below meth c H locs 0 0 (eQ G below none V' T args s 0 0) (F0 m 42 ls [])) (hkx42_163 : ∀ (W1 : Vt) (H : Heap) (locs : List Loc) (ls : Array Slot), kx42_163 W1 = some V' → wS G W1 T H locs → lv_has ls 6 [] → W p l e (rmL 3 0 0) s m args below meth c H locs 0 0 (eQ G below none V' T args s 0 0) (F0 m 163 ls [])) : W p l e (rmL 3 0 0) s m args below meth c H locs 0 0 (eQ G below none V' T args s 0 0) (F0 m 156 ls [.long s2, .int s1, .ref (gb G + s0)]) := by
  have hx := C.1
  have hb := C.2.1
  have hown := C.2.2.2.1
  have hts := C.2.2.2.2.1
  unfold f_X0_tellsOrder_J156 at hf
  revert hf
  refine k_req (fun h27 hf => ?_)
  revert hf
  refine k_stp (fun U28 eU28 hf => ?_)
  refine w_last C hw h27 eU28 dX0_tellsOrder_156 (fun H locs hw => ?_)
  revert hf
  refine k_stp (fun z29 ez29 hf => ?_)
  refine lv_iinc (k := 3) (lv' := [(5, .int z29), (0, .ref (gb G + x0)), (1, .ref (gb G + x1)), (4, .ref (gb G + x4))]) hx hb dX0_tellsOrder_157 hl rfl (inc_e (by decide) ez29) (by decide) rfl (fun ls hl => ?_)
  refine lv_goto (tgt := 42) hx hb dX0_tellsOrder_160 (by decide) ?_
  exact hkc42 _ _ _ _ _ hf hw (lv_sub hl [1, 2, 3, 0] rfl)
set_option maxHeartbeats 4000000 in
theorem jk_X0_tellsOrder_126 {l : Launch} {G : gG} {p : Program} {e : Env} {s : State} {m : MethodId} {args : Array Value} {below : List Frame} {meth : Method} {c : Code} {T : Tt} {V0 : Vt} {V' : Vt} (C : Cx G p s m args meth c cX0_tellsOrder RX0 6) (hr : meth.sig.returnType = none) {x0 : Nat} {x1 : Nat} {x4 : Nat} {x5 : Int32} {s0 : Nat} {s1 : Int32} {s2 : Int64} {kc42 : Int32 → Vt → Option (Vt)} {kx42_163 : Vt → Option (Vt)} {H : Heap} {locs : List Loc} {ls : Array Slot} (k0 : T.1 x0 = 1) (hf : f_X0_tellsOrder_J126 T V0 x0 x1 x4 x5 s0 s1 s2 kc42 kx42_163 = some V') (hw : wS G V0 T H locs) (hl : lv_has ls 6 [(0, .ref (gb G + x0)), (1, .ref (gb G + x1)), (4, .ref (gb G + x4)), (5, .int x5)]) (hkc42 : ∀ (y5 : Int32) (W1 : Vt) (H : Heap) (locs : List Loc) (ls : Array Slot), kc42 y5 W1 = some V' → wS G W1 T H locs → lv_has ls 6 [(0, .ref (gb G + x0)), (1, .ref (gb G + x1)), (4, .ref (gb G + x4)), (5, .int y5)] → W p l e (rmL 3 0 0) s m args below meth c H locs 0 0 (eQ G below none V' T args s 0 0) (F0 m 42 ls [])) (hkx42_163 : ∀ (W1 : Vt) (H : Heap) (locs : List Loc) (ls : Array Slot), kx42_163 W1 = some V' → wS G W1 T H locs → lv_has ls 6 [] → W p l e (rmL 3 0 0) s m args below meth c H locs 0 0 (eQ G below none V' T args s 0 0) (F0 m 163 ls [])) : W p l e (rmL 3 0 0) s m args below meth c H locs 0 0 (eQ G below none V' T args s 0 0) (F0 m 126 ls [.long s2, .int s1, .ref (gb G + s0)]) := by
  have hx := C.1
  have hb := C.2.1
  have hown := C.2.2.2.1
  have hts := C.2.2.2.2.1
  unfold f_X0_tellsOrder_J126 at hf
  revert hf
  refine k_req (fun h22 hf => ?_)
  revert hf
  refine k_stp (fun U23 eU23 hf => ?_)
  refine w_last C hw h22 eU23 dX0_tellsOrder_126 (fun H locs hw => ?_)
  refine lv_aload hx hb dX0_tellsOrder_127 (lv_at hl 2 rfl) ?_
  refine lv_bipush (v := (20 : Int32)) hx hb dX0_tellsOrder_129 (by decide) ?_
  refine lv_iload hx hb dX0_tellsOrder_131 (lv_at hl 3 rfl) ?_
  refine lv_iadd hx hb dX0_tellsOrder_133 ?_
  refine lv_aload_n hx hb dX0_tellsOrder_134 rfl (lv_at hl 0 rfl) ?_
  refine lv_iload hx hb dX0_tellsOrder_135 (lv_at hl 3 rfl) ?_
  revert hf
  refine k_pcl (fun z25 h24 hf => ?_)
  refine w_afi hw (w_rV (As := [.int x5]) C hw (ok_X0_isCask h24) (cw_X0_151 hts (Nat.le_of_ble_eq_true rfl) (Nat.le_of_ble_eq_true rfl)) rfl (by decide) (of_req h24).1 rfl hl.1 rfl (Nat.le_of_ble_eq_true rfl) ⟨Nat.zero_le _, Nat.zero_le _⟩ dX0_tellsOrder_137) (fun H locs hw => ?_)
  refine lv_if_eq (tgt := 153) hx hb dX0_tellsOrder_140 (by decide) (fun c26 => ?_) (fun c26 => ?_)
  · replace hf := ite_t c26 hf
    refine lv_ldc2 (v := ((-1) : Int64)) hx hb hown (hts _ q696) dX0_tellsOrder_153 ?_
    exact jk_X0_tellsOrder_156 C hr k0 hf hw (lv_sub hl [0, 1, 2, 3] rfl) hkc42 hkx42_163
  · replace hf := ite_f c26 hf
    refine lv_aload_n hx hb dX0_tellsOrder_143 rfl (lv_at hl 1 rfl) ?_
    refine lv_iload hx hb dX0_tellsOrder_144 (lv_at hl 3 rfl) ?_
    revert hf
    refine k_pcl (fun z31 h30 hf => ?_)
    refine w_afi hw (w_rV (As := [.int x5]) C hw (ok_X2_years h30) (cw_X0_268 hts (Nat.le_of_ble_eq_true rfl) (Nat.le_of_ble_eq_true rfl)) rfl (by decide) (of_req h30).1 rfl hl.1 rfl (Nat.le_of_ble_eq_true rfl) ⟨Nat.zero_le _, Nat.zero_le _⟩ dX0_tellsOrder_146) (fun H locs hw => ?_)
    refine lv_i2l hx hb dX0_tellsOrder_149 rfl ?_
    refine lv_goto (tgt := 156) hx hb dX0_tellsOrder_150 (by decide) ?_
    exact jk_X0_tellsOrder_156 C hr k0 hf hw (lv_sub hl [0, 1, 2, 3] rfl) hkc42 hkx42_163
set_option maxHeartbeats 4000000 in
theorem jk_X0_tellsOrder_77 {l : Launch} {G : gG} {p : Program} {e : Env} {s : State} {m : MethodId} {args : Array Value} {below : List Frame} {meth : Method} {c : Code} {T : Tt} {V0 : Vt} {V' : Vt} (C : Cx G p s m args meth c cX0_tellsOrder RX0 6) (hr : meth.sig.returnType = none) {x0 : Nat} {x1 : Nat} {x4 : Nat} {x5 : Int32} {s0 : Nat} {s1 : Int32} {s2 : Int64} {kc42 : Int32 → Vt → Option (Vt)} {kx42_163 : Vt → Option (Vt)} {H : Heap} {locs : List Loc} {ls : Array Slot} (k0 : T.1 x0 = 1) (hf : f_X0_tellsOrder_J77 T V0 x0 x1 x4 x5 s0 s1 s2 kc42 kx42_163 = some V') (hw : wS G V0 T H locs) (hl : lv_has ls 6 [(0, .ref (gb G + x0)), (1, .ref (gb G + x1)), (4, .ref (gb G + x4)), (5, .int x5)]) (hkc42 : ∀ (y5 : Int32) (W1 : Vt) (H : Heap) (locs : List Loc) (ls : Array Slot), kc42 y5 W1 = some V' → wS G W1 T H locs → lv_has ls 6 [(0, .ref (gb G + x0)), (1, .ref (gb G + x1)), (4, .ref (gb G + x4)), (5, .int y5)] → W p l e (rmL 3 0 0) s m args below meth c H locs 0 0 (eQ G below none V' T args s 0 0) (F0 m 42 ls [])) (hkx42_163 : ∀ (W1 : Vt) (H : Heap) (locs : List Loc) (ls : Array Slot), kx42_163 W1 = some V' → wS G W1 T H locs → lv_has ls 6 [] → W p l e (rmL 3 0 0) s m args below meth c H locs 0 0 (eQ G below none V' T args s 0 0) (F0 m 163 ls [])) : W p l e (rmL 3 0 0) s m args below meth c H locs 0 0 (eQ G below none V' T args s 0 0) (F0 m 77 ls [.long s2, .int s1, .ref (gb G + s0)]) := by
  have hx := C.1
  have hb := C.2.1
  have hown := C.2.2.2.1
  have hts := C.2.2.2.2.1
  unfold f_X0_tellsOrder_J77 at hf
  revert hf
  refine k_req (fun h17 hf => ?_)
  revert hf
  refine k_stp (fun U18 eU18 hf => ?_)
  refine w_last C hw h17 eU18 dX0_tellsOrder_77 (fun H locs hw => ?_)
  refine lv_aload hx hb dX0_tellsOrder_78 (lv_at hl 2 rfl) ?_
  refine lv_bipush (v := (12 : Int32)) hx hb dX0_tellsOrder_80 (by decide) ?_
  refine lv_iload hx hb dX0_tellsOrder_82 (lv_at hl 3 rfl) ?_
  refine lv_iadd hx hb dX0_tellsOrder_84 ?_
  refine lv_aload_n hx hb dX0_tellsOrder_85 rfl (lv_at hl 0 rfl) ?_
  refine lv_iload hx hb dX0_tellsOrder_86 (lv_at hl 3 rfl) ?_
  revert hf
  refine k_pcl (fun z20 h19 hf => ?_)
  refine w_afi hw (w_rV (As := [.int x5]) C hw (ok_X0_isCask h19) (cw_X0_151 hts (Nat.le_of_ble_eq_true rfl) (Nat.le_of_ble_eq_true rfl)) rfl (by decide) (of_req h19).1 rfl hl.1 rfl (Nat.le_of_ble_eq_true rfl) ⟨Nat.zero_le _, Nat.zero_le _⟩ dX0_tellsOrder_88) (fun H locs hw => ?_)
  refine lv_if_eq (tgt := 123) hx hb dX0_tellsOrder_91 (by decide) (fun c21 => ?_) (fun c21 => ?_)
  · replace hf := ite_t c21 hf
    refine lv_ldc2 (v := ((-1) : Int64)) hx hb hown (hts _ q696) dX0_tellsOrder_123 ?_
    exact jk_X0_tellsOrder_126 C hr k0 hf hw (lv_sub hl [0, 1, 2, 3] rfl) hkc42 hkx42_163
  · replace hf := ite_f c21 hf
    refine lv_aload_n hx hb dX0_tellsOrder_94 rfl (lv_at hl 0 rfl) ?_
    revert hf
    refine k_drf (fun r32 er32 hf => ?_)
    refine gf_X0_31 C hw k0 er32 dX0_tellsOrder_95 ?_
    revert hf
    refine k_req (fun k33 hf => ?_)
    revert hf
    refine k_drf (fun r34 er34 hf => ?_)
    refine gf_X0_135 C hw k33 er34 dX0_tellsOrder_98 ?_
    refine lv_iload hx hb dX0_tellsOrder_101 (lv_at hl 3 rfl) ?_
    revert hf
    refine k_req (fun h35 hf => ?_)
    refine w_iald C hw h35 rfl dX0_tellsOrder_103 ?_
    refine lv_sipush (v := (1000 : Int32)) hx hb dX0_tellsOrder_104 (by decide) ?_
    refine lv_imul hx hb dX0_tellsOrder_107 ?_
    refine lv_aload_n hx hb dX0_tellsOrder_108 rfl (lv_at hl 1 rfl) ?_
    refine lv_iload hx hb dX0_tellsOrder_109 (lv_at hl 3 rfl) ?_
    revert hf
    refine k_pcl (fun z37 h36 hf => ?_)
    refine w_afi hw (w_rV (As := [.int x5]) C hw (ok_X2_all h36) (cw_X0_155 hts (Nat.le_of_ble_eq_true rfl) (Nat.le_of_ble_eq_true rfl)) rfl (by decide) (of_req h36).1 rfl hl.1 rfl (Nat.le_of_ble_eq_true rfl) ⟨Nat.zero_le _, Nat.zero_le _⟩ dX0_tellsOrder_111) (fun H locs hw => ?_)
    refine lv_isub hx hb dX0_tellsOrder_114 ?_
    refine lv_sipush (v := (1000 : Int32)) hx hb dX0_tellsOrder_115 (by decide) ?_
    refine lv_idiv hx hb dX0_tellsOrder_118 (by decide) ?_
    refine lv_i2l hx hb dX0_tellsOrder_119 rfl ?_
    refine lv_goto (tgt := 126) hx hb dX0_tellsOrder_120 (by decide) ?_
    exact jk_X0_tellsOrder_126 C hr k0 hf hw (lv_sub hl [0, 1, 2, 3] rfl) hkc42 hkx42_163
set_option maxHeartbeats 4000000 in
theorem lk_X0_tellsOrder_42 {l : Launch} {G : gG} {p : Program} {e : Env} {s : State} {m : MethodId} {args : Array Value} {below : List Frame} {meth : Method} {c : Code} {T : Tt} {V' : Vt} (C : Cx G p s m args meth c cX0_tellsOrder RX0 6) (hr : meth.sig.returnType = none) {x0 : Nat} {x1 : Nat} {x4 : Nat} {kx42_163 : Vt → Option (Vt)} (k0 : T.1 x0 = 1) (hkx42_163 : ∀ (W1 : Vt) (H : Heap) (locs : List Loc) (ls : Array Slot), kx42_163 W1 = some V' → wS G W1 T H locs → lv_has ls 6 [] → W p l e (rmL 3 0 0) s m args below meth c H locs 0 0 (eQ G below none V' T args s 0 0) (F0 m 163 ls [])) : ∀ (n : Nat) (x5 : Int32) (V1 : Vt) (H : Heap) (locs : List Loc) (ls : Array Slot), f_X0_tellsOrder_L42 T x0 x1 x4 kx42_163 n x5 V1 = some V' → wS G V1 T H locs → lv_has ls 6 [(0, .ref (gb G + x0)), (1, .ref (gb G + x1)), (4, .ref (gb G + x4)), (5, .int x5)] → W p l e (rmL 3 0 0) s m args below meth c H locs 0 0 (eQ G below none V' T args s 0 0) (F0 m 42 ls []) := by
  have hx := C.1
  have hb := C.2.1
  have hown := C.2.2.2.1
  have hts := C.2.2.2.2.1
  intro n
  induction n with
  | zero =>
    intro x5 V1 H locs ls hf
    cases hf
  | succ n ih =>
    intro x5 V1 H locs ls hf hw hl
    unfold f_X0_tellsOrder_L42 at hf
    refine lv_iload hx hb dX0_tellsOrder_42 (lv_at hl 3 rfl) ?_
    refine lv_bipush (v := (8 : Int32)) hx hb dX0_tellsOrder_44 (by decide) ?_
    refine lv_icmp_ge (tgt := 163) hx hb dX0_tellsOrder_46 (by decide) (fun c13 => ?_) (fun c13 => ?_)
    · replace hf := ite_t c13 hf
      exact hkx42_163 _ _ _ _ hf hw (lv_sub hl [] rfl)
    · replace hf := ite_f c13 hf
      refine lv_aload hx hb dX0_tellsOrder_49 (lv_at hl 2 rfl) ?_
      refine lv_iconst (v := (4 : Int32)) hx hb dX0_tellsOrder_51 (by decide) ?_
      refine lv_iload hx hb dX0_tellsOrder_52 (lv_at hl 3 rfl) ?_
      refine lv_iadd hx hb dX0_tellsOrder_54 ?_
      refine lv_aload_n hx hb dX0_tellsOrder_55 rfl (lv_at hl 0 rfl) ?_
      refine lv_iload hx hb dX0_tellsOrder_56 (lv_at hl 3 rfl) ?_
      revert hf
      refine k_pcl (fun z15 h14 hf => ?_)
      refine w_afi hw (w_rV (As := [.int x5]) C hw (ok_X0_isCask h14) (cw_X0_151 hts (Nat.le_of_ble_eq_true rfl) (Nat.le_of_ble_eq_true rfl)) rfl (by decide) (of_req h14).1 rfl hl.1 rfl (Nat.le_of_ble_eq_true rfl) ⟨Nat.zero_le _, Nat.zero_le _⟩ dX0_tellsOrder_58) (fun H locs hw => ?_)
      refine lv_if_eq (tgt := 74) hx hb dX0_tellsOrder_61 (by decide) (fun c16 => ?_) (fun c16 => ?_)
      · replace hf := ite_t c16 hf
        refine lv_ldc2 (v := ((-1) : Int64)) hx hb hown (hts _ q696) dX0_tellsOrder_74 ?_
        exact jk_X0_tellsOrder_77 C hr k0 hf hw (lv_sub hl [0, 1, 2, 3] rfl) ih hkx42_163
      · replace hf := ite_f c16 hf
        refine lv_aload_n hx hb dX0_tellsOrder_64 rfl (lv_at hl 1 rfl) ?_
        refine lv_iload hx hb dX0_tellsOrder_65 (lv_at hl 3 rfl) ?_
        revert hf
        refine k_pcl (fun z39 h38 hf => ?_)
        refine w_afi hw (w_rV (As := [.int x5]) C hw (ok_X2_full h38) (cw_X0_265 hts (Nat.le_of_ble_eq_true rfl) (Nat.le_of_ble_eq_true rfl)) rfl (by decide) (of_req h38).1 rfl hl.1 rfl (Nat.le_of_ble_eq_true rfl) ⟨Nat.zero_le _, Nat.zero_le _⟩ dX0_tellsOrder_67) (fun H locs hw => ?_)
        refine lv_i2l hx hb dX0_tellsOrder_70 rfl ?_
        refine lv_goto (tgt := 77) hx hb dX0_tellsOrder_71 (by decide) ?_
        exact jk_X0_tellsOrder_77 C hr k0 hf hw (lv_sub hl [0, 1, 2, 3] rfl) ih hkx42_163
set_option maxHeartbeats 4000000 in
theorem ok_X0_tellsOrder {l : Launch} {G : gG} {T : Tt} {V0 : Vt} {o : Nat} {a0 : Nat} {a1 : Int32} {a2 : Int32} {V' : Vt} (hf : f_X0_tellsOrder T V0 o a0 a1 a2 = some V') : okM l G yX0_tellsOrder cX0_tellsOrder 6 none 3 [.ref (gb G + o), .ref (gb G + a0), .int a1, .int a2] V0 T none V' T 0 0 := by
  refine ok_intro (by decide) (Nat.le_of_ble_eq_true rfl) ?_
  intro p e s m below meth c ls C hr hnm hw hl
  have hx := C.1
  have hb := C.2.1
  have hown := C.2.2.2.1
  have hts := C.2.2.2.2.1
  have hl : lv_has ls 6 [(0, .ref (gb G + o)), (1, .ref (gb G + a0)), (2, .int a1), (3, .int a2)] := hl
  unfold f_X0_tellsOrder at hf
  revert hf
  refine k_req (fun k0 hf => ?_)
  refine lv_aload_n hx hb dX0_tellsOrder_0 rfl (lv_at hl 0 rfl) ?_
  revert hf
  refine k_drf (fun r1 er1 hf => ?_)
  refine gf_X0_75 C hw k0 er1 dX0_tellsOrder_1 ?_
  revert hf
  refine k_req (fun k2 hf => ?_)
  revert hf
  refine k_drf (fun r3 er3 hf => ?_)
  refine gf_X0_262 C hw k2 er3 dX0_tellsOrder_4 ?_
  refine lv_astore (lv' := [(4, .ref (gb G + r3)), (0, .ref (gb G + o)), (1, .ref (gb G + a0)), (2, .int a1), (3, .int a2)]) hx hb dX0_tellsOrder_7 hl (by decide) rfl (fun ls hl => ?_)
  refine lv_aload hx hb dX0_tellsOrder_9 (lv_at hl 0 rfl) ?_
  refine lv_iconst (v := (0 : Int32)) hx hb dX0_tellsOrder_11 (by decide) ?_
  refine lv_aload_n hx hb dX0_tellsOrder_12 rfl (lv_at hl 2 rfl) ?_
  revert hf
  refine k_req (fun k4 hf => ?_)
  refine gf_X0_186 C hw k4 dX0_tellsOrder_13 ?_
  refine lv_i2l hx hb dX0_tellsOrder_16 rfl ?_
  revert hf
  refine k_req (fun h5 hf => ?_)
  revert hf
  refine k_stp (fun U6 eU6 hf => ?_)
  refine w_last C hw h5 eU6 dX0_tellsOrder_17 (fun H locs hw => ?_)
  refine lv_aload hx hb dX0_tellsOrder_18 (lv_at hl 0 rfl) ?_
  refine lv_iconst (v := (1 : Int32)) hx hb dX0_tellsOrder_20 (by decide) ?_
  refine lv_iload_n hx hb dX0_tellsOrder_21 rfl (lv_at hl 3 rfl) ?_
  refine lv_i2l hx hb dX0_tellsOrder_22 rfl ?_
  revert hf
  refine k_req (fun h7 hf => ?_)
  revert hf
  refine k_stp (fun U8 eU8 hf => ?_)
  refine w_last C hw h7 eU8 dX0_tellsOrder_23 (fun H locs hw => ?_)
  refine lv_aload hx hb dX0_tellsOrder_24 (lv_at hl 0 rfl) ?_
  refine lv_iconst (v := (2 : Int32)) hx hb dX0_tellsOrder_26 (by decide) ?_
  refine lv_iload_n hx hb dX0_tellsOrder_27 rfl (lv_at hl 4 rfl) ?_
  refine lv_i2l hx hb dX0_tellsOrder_28 rfl ?_
  revert hf
  refine k_req (fun h9 hf => ?_)
  revert hf
  refine k_stp (fun U10 eU10 hf => ?_)
  refine w_last C hw h9 eU10 dX0_tellsOrder_29 (fun H locs hw => ?_)
  refine lv_aload hx hb dX0_tellsOrder_30 (lv_at hl 0 rfl) ?_
  refine lv_iconst (v := (3 : Int32)) hx hb dX0_tellsOrder_32 (by decide) ?_
  refine lv_aload_n hx hb dX0_tellsOrder_33 rfl (lv_at hl 2 rfl) ?_
  refine gf_X0_306 C hw k4 dX0_tellsOrder_34 ?_
  refine lv_i2l hx hb dX0_tellsOrder_37 rfl ?_
  revert hf
  refine k_req (fun h11 hf => ?_)
  revert hf
  refine k_stp (fun U12 eU12 hf => ?_)
  refine w_last C hw h11 eU12 dX0_tellsOrder_38 (fun H locs hw => ?_)
  refine lv_iconst (v := (0 : Int32)) hx hb dX0_tellsOrder_39 (by decide) ?_
  refine lv_istore (lv' := [(5, .int (0 : Int32)), (4, .ref (gb G + r3)), (0, .ref (gb G + o)), (1, .ref (gb G + a0)), (2, .int a1), (3, .int a2)]) hx hb dX0_tellsOrder_40 hl (by decide) rfl (fun ls hl => ?_)
  refine lk_X0_tellsOrder_42 C hr k0 (fun U40 H locs ls hf hw hl => ?_) fuel _ _ _ _ _ hf hw (lv_sub hl [2, 3, 1, 0] rfl)
  cases hf
  exact w_vret C hr hw dX0_tellsOrder_163
set_option maxHeartbeats 4000000 in
theorem ok_X0_runsOrder {l : Launch} {G : gG} {T : Tt} {V0 : Vt} {o : Nat} {a0 : Nat} {r : Int32} {V' : Vt} (hf : f_X0_runsOrder T V0 o a0 = some (r, V')) : okM l G yX0_runsOrder cX0_runsOrder 4 (some .int) 429 [.ref (gb G + o), .ref (gb G + a0)] V0 T (some (.int r)) V' T 0 0 := by
  refine ok_intro (by decide) (Nat.le_of_ble_eq_true rfl) ?_
  intro p e s m below meth c ls C hr hnm hw hl
  have hx := C.1
  have hb := C.2.1
  have hown := C.2.2.2.1
  have hts := C.2.2.2.2.1
  have hl : lv_has ls 4 [(0, .ref (gb G + o)), (1, .ref (gb G + a0))] := hl
  unfold f_X0_runsOrder at hf
  revert hf
  refine k_req (fun k0 hf => ?_)
  refine lv_aload_n hx hb dX0_runsOrder_0 rfl (lv_at hl 1 rfl) ?_
  revert hf
  refine k_req (fun k1 hf => ?_)
  refine gf_X0_389 C hw k1 dX0_runsOrder_1 ?_
  refine lv_iconst (v := (3 : Int32)) hx hb dX0_runsOrder_4 (by decide) ?_
  refine lv_icmp_ne (tgt := 13) hx hb dX0_runsOrder_5 (by decide) (fun c2 => ?_) (fun c2 => ?_)
  · replace hf := ite_f c2 hf
    refine lv_aload_n hx hb dX0_runsOrder_13 rfl (lv_at hl 1 rfl) ?_
    refine lv_iconst (v := (0 : Int32)) hx hb dX0_runsOrder_14 (by decide) ?_
    refine lv_aload_n hx hb dX0_runsOrder_15 rfl (lv_at hl 0 rfl) ?_
    revert hf
    refine k_drf (fun r3 er3 hf => ?_)
    refine gf_X0_75 C hw k0 er3 dX0_runsOrder_16 ?_
    revert hf
    refine k_pcl (fun z5 h4 hf => ?_)
    refine w_afi hw (w_rH (As := [.int (0 : Int32), .ref (gb G + r3)]) C hw (ok_X18_told h4) (cw_X0_392 hts (Nat.le_of_ble_eq_true rfl) (Nat.le_of_ble_eq_true rfl)) rfl (by decide) (of_req h4).1 rfl hl.1 rfl (Nat.le_of_ble_eq_true rfl) ⟨Nat.zero_le _, Nat.zero_le _⟩ dX0_runsOrder_19) (fun H locs hw => ?_)
    refine lv_istore_n (lv' := [(2, .int z5), (0, .ref (gb G + o)), (1, .ref (gb G + a0))]) hx hb dX0_runsOrder_22 rfl hl (by decide) rfl (fun ls hl => ?_)
    refine lv_aload_n hx hb dX0_runsOrder_23 rfl (lv_at hl 2 rfl) ?_
    refine lv_iconst (v := (1 : Int32)) hx hb dX0_runsOrder_24 (by decide) ?_
    refine lv_aload_n hx hb dX0_runsOrder_25 rfl (lv_at hl 1 rfl) ?_
    revert hf
    refine k_drf (fun r6 er6 hf => ?_)
    refine gf_X0_75 C hw k0 er6 dX0_runsOrder_26 ?_
    revert hf
    refine k_pcl (fun z8 h7 hf => ?_)
    refine w_afi hw (w_rH (As := [.int (1 : Int32), .ref (gb G + r6)]) C hw (ok_X18_told h7) (cw_X0_392 hts (Nat.le_of_ble_eq_true rfl) (Nat.le_of_ble_eq_true rfl)) rfl (by decide) (of_req h7).1 rfl hl.1 rfl (Nat.le_of_ble_eq_true rfl) ⟨Nat.zero_le _, Nat.zero_le _⟩ dX0_runsOrder_29) (fun H locs hw => ?_)
    refine lv_istore_n (lv' := [(3, .int z8), (2, .int z5), (0, .ref (gb G + o)), (1, .ref (gb G + a0))]) hx hb dX0_runsOrder_32 rfl hl (by decide) rfl (fun ls hl => ?_)
    refine lv_aload_n hx hb dX0_runsOrder_33 rfl (lv_at hl 3 rfl) ?_
    refine gf_X0_389 C hw k1 dX0_runsOrder_34 ?_
    refine lv_if_ne (tgt := 47) hx hb dX0_runsOrder_37 (by decide) (fun c9 => ?_) (fun c9 => ?_)
    · replace hf := ite_f c9 hf
      refine lv_aload_n hx hb dX0_runsOrder_47 rfl (lv_at hl 3 rfl) ?_
      refine gf_X0_389 C hw k1 dX0_runsOrder_48 ?_
      refine lv_iconst (v := (2 : Int32)) hx hb dX0_runsOrder_51 (by decide) ?_
      refine lv_icmp_ne (tgt := 62) hx hb dX0_runsOrder_52 (by decide) (fun c10 => ?_) (fun c10 => ?_)
      · replace hf := ite_f c10 hf
        refine lv_aload_n hx hb dX0_runsOrder_62 rfl (lv_at hl 2 rfl) ?_
        refine lv_iload_n hx hb dX0_runsOrder_63 rfl (lv_at hl 0 rfl) ?_
        refine lv_aload_n hx hb dX0_runsOrder_64 rfl (lv_at hl 3 rfl) ?_
        refine lv_iconst (v := (2 : Int32)) hx hb dX0_runsOrder_65 (by decide) ?_
        refine lv_aload_n hx hb dX0_runsOrder_66 rfl (lv_at hl 2 rfl) ?_
        revert hf
        refine k_drf (fun r11 er11 hf => ?_)
        refine gf_X0_75 C hw k0 er11 dX0_runsOrder_67 ?_
        revert hf
        refine k_pcl (fun z13 h12 hf => ?_)
        refine w_afi hw (w_rH (As := [.int (2 : Int32), .ref (gb G + r11)]) C hw (ok_X18_told h12) (cw_X0_392 hts (Nat.le_of_ble_eq_true rfl) (Nat.le_of_ble_eq_true rfl)) rfl (by decide) (of_req h12).1 rfl hl.1 rfl (Nat.le_of_ble_eq_true rfl) ⟨Nat.zero_le _, Nat.zero_le _⟩ dX0_runsOrder_70) (fun H locs hw => ?_)
        refine lv_iload_n hx hb dX0_runsOrder_73 rfl (lv_at hl 1 rfl) ?_
        revert hf
        refine k_cal (fun z15 U16 h14 hf => ?_)
        refine w_afi hw (w_rV (As := [.int z8, .int z13, .int z5]) C hw (ok_X0_racksKept h14) (cw_X0_354 hts (Nat.le_of_ble_eq_true rfl) (Nat.le_of_ble_eq_true rfl)) rfl (by decide) (of_req h14).1 rfl hl.1 rfl (Nat.le_of_ble_eq_true rfl) ⟨Nat.zero_le _, Nat.zero_le _⟩ dX0_runsOrder_74) (fun H locs hw => ?_)
        cases hf
        exact w_iret C hr hw dX0_runsOrder_77
      · replace hf := ite_t c10 hf
        refine lv_aload_n hx hb dX0_runsOrder_55 rfl (lv_at hl 2 rfl) ?_
        refine lv_iload_n hx hb dX0_runsOrder_56 rfl (lv_at hl 0 rfl) ?_
        refine lv_iload_n hx hb dX0_runsOrder_57 rfl (lv_at hl 1 rfl) ?_
        revert hf
        refine k_cal (fun z18 U19 h17 hf => ?_)
        refine w_afi hw (w_rV (As := [.int z8, .int z5]) C hw (ok_X0_bottlesKept h17) (cw_X0_357 hts (Nat.le_of_ble_eq_true rfl) (Nat.le_of_ble_eq_true rfl)) rfl (by decide) (of_req h17).1 rfl hl.1 rfl (Nat.le_of_ble_eq_true rfl) ⟨Nat.zero_le _, Nat.zero_le _⟩ dX0_runsOrder_58) (fun H locs hw => ?_)
        cases hf
        exact w_iret C hr hw dX0_runsOrder_61
    · replace hf := ite_t c9 hf
      refine lv_aload_n hx hb dX0_runsOrder_40 rfl (lv_at hl 2 rfl) ?_
      refine lv_iload_n hx hb dX0_runsOrder_41 rfl (lv_at hl 0 rfl) ?_
      refine lv_iload_n hx hb dX0_runsOrder_42 rfl (lv_at hl 1 rfl) ?_
      revert hf
      refine k_cal (fun z21 U22 h20 hf => ?_)
      refine w_afi hw (w_rV (As := [.int z8, .int z5]) C hw (ok_X0_poursKept h20) (cw_X0_348 hts (Nat.le_of_ble_eq_true rfl) (Nat.le_of_ble_eq_true rfl)) rfl (by decide) (of_req h20).1 rfl hl.1 rfl (Nat.le_of_ble_eq_true rfl) ⟨Nat.zero_le _, Nat.zero_le _⟩ dX0_runsOrder_43) (fun H locs hw => ?_)
      cases hf
      exact w_iret C hr hw dX0_runsOrder_46
  · replace hf := ite_t c2 hf
    refine lv_aload_n hx hb dX0_runsOrder_8 rfl (lv_at hl 0 rfl) ?_
    revert hf
    refine k_cal (fun z24 U25 h23 hf => ?_)
    refine w_afi hw (w_rV (As := []) C hw (ok_X0_passesKept h23) (cw_X0_360 hts (Nat.le_of_ble_eq_true rfl) (Nat.le_of_ble_eq_true rfl)) rfl (by decide) (of_req h23).1 rfl hl.1 rfl (Nat.le_of_ble_eq_true rfl) ⟨Nat.zero_le _, Nat.zero_le _⟩ dX0_runsOrder_9) (fun H locs hw => ?_)
    cases hf
    exact w_iret C hr hw dX0_runsOrder_12
set_option maxHeartbeats 4000000 in
theorem jk_X0_orders_232 {l : Launch} {G : gG} {p : Program} {e : Env} {s : State} {m : MethodId} {args : Array Value} {below : List Frame} {meth : Method} {c : Code} {T : Tt} {V0 : Vt} {r : Int32} {V' : Vt} {T' : Tt} {mc ms : Nat} (C : Cx G p s m args meth c cX0_orders RX0 10) (hr : meth.sig.returnType = (some .int)) {x0 : Nat} {x2 : Nat} {x3 : Int32} {x4 : Int32} {x5 : Int32} {x6 : Int32} {x7 : Nat} {x8 : Int32} {kc114 : Int32 → Int32 → Int32 → Vt → Option ((Int32 × Vt × Tt) × Nat × Nat)} {kx114_193 : Int32 → Vt → Option ((Int32 × Vt × Tt) × Nat × Nat)} {kx114_244 : Int32 → Vt → Option ((Int32 × Vt × Tt) × Nat × Nat)} {kc143 : Int32 → Int32 → Int32 → Vt → Option ((Int32 × Vt × Tt) × Nat × Nat)} {kx143_193 : Vt → Option ((Int32 × Vt × Tt) × Nat × Nat)} {kx143_238 : Int32 → Int32 → Vt → Option ((Int32 × Vt × Tt) × Nat × Nat)} {H : Heap} {locs : List Loc} {ls : Array Slot} {cells slots n k : Nat} (hf : f_X0_orders_J232 T V0 x0 x2 x3 x4 x5 x6 x7 x8 kc114 kx114_193 kx114_244 kc143 kx143_193 kx143_238 = some ((r, V', T'), n, k)) (hn : cells + n = mc) (hk : slots + k = ms) (hw : wS G V0 T H locs) (hl : lv_has ls 10 [(0, .ref (gb G + x0)), (2, .ref (gb G + x2)), (3, .int x3), (4, .int x4), (5, .int x5), (6, .int x6), (7, .ref (gb G + x7)), (8, .int x8)]) (hkc114 : ∀ (y4 : Int32) (y5 : Int32) (y6 : Int32) (W1 : Vt) (H : Heap) (locs : List Loc) (ls : Array Slot) (cells slots n k : Nat), kc114 y4 y5 y6 W1 = some ((r, V', T'), n, k) → cells + n = mc → slots + k = ms → wS G W1 T H locs → lv_has ls 10 [(0, .ref (gb G + x0)), (2, .ref (gb G + x2)), (3, .int x3), (4, .int y4), (5, .int y5), (6, .int y6)] → W p l e (rmL 430 mc ms) s m args below meth c H locs cells slots (eQ G below (some (.int r)) V' T' args s mc ms) (F0 m 114 ls [])) (hkx114_193 : ∀ (y6 : Int32) (W1 : Vt) (H : Heap) (locs : List Loc) (ls : Array Slot) (cells slots n k : Nat), kx114_193 y6 W1 = some ((r, V', T'), n, k) → cells + n = mc → slots + k = ms → wS G W1 T H locs → lv_has ls 10 [(0, .ref (gb G + x0)), (3, .int x3), (6, .int y6)] → W p l e (rmL 430 mc ms) s m args below meth c H locs cells slots (eQ G below (some (.int r)) V' T' args s mc ms) (F0 m 193 ls [])) (hkx114_244 : ∀ (y4 : Int32) (W1 : Vt) (H : Heap) (locs : List Loc) (ls : Array Slot) (cells slots n k : Nat), kx114_244 y4 W1 = some ((r, V', T'), n, k) → cells + n = mc → slots + k = ms → wS G W1 T H locs → lv_has ls 10 [(0, .ref (gb G + x0)), (4, .int y4)] → W p l e (rmL 430 mc ms) s m args below meth c H locs cells slots (eQ G below (some (.int r)) V' T' args s mc ms) (F0 m 244 ls [])) (hkc143 : ∀ (y4 : Int32) (y5 : Int32) (y8 : Int32) (W1 : Vt) (H : Heap) (locs : List Loc) (ls : Array Slot) (cells slots n k : Nat), kc143 y4 y5 y8 W1 = some ((r, V', T'), n, k) → cells + n = mc → slots + k = ms → wS G W1 T H locs → lv_has ls 10 [(0, .ref (gb G + x0)), (2, .ref (gb G + x2)), (3, .int x3), (4, .int y4), (5, .int y5), (6, .int x6), (7, .ref (gb G + x7)), (8, .int y8)] → W p l e (rmL 430 mc ms) s m args below meth c H locs cells slots (eQ G below (some (.int r)) V' T' args s mc ms) (F0 m 143 ls [])) (hkx143_193 : ∀ (W1 : Vt) (H : Heap) (locs : List Loc) (ls : Array Slot) (cells slots n k : Nat), kx143_193 W1 = some ((r, V', T'), n, k) → cells + n = mc → slots + k = ms → wS G W1 T H locs → lv_has ls 10 [(0, .ref (gb G + x0)), (3, .int x3), (6, .int x6)] → W p l e (rmL 430 mc ms) s m args below meth c H locs cells slots (eQ G below (some (.int r)) V' T' args s mc ms) (F0 m 193 ls [])) (hkx143_238 : ∀ (y4 : Int32) (y5 : Int32) (W1 : Vt) (H : Heap) (locs : List Loc) (ls : Array Slot) (cells slots n k : Nat), kx143_238 y4 y5 W1 = some ((r, V', T'), n, k) → cells + n = mc → slots + k = ms → wS G W1 T H locs → lv_has ls 10 [(0, .ref (gb G + x0)), (2, .ref (gb G + x2)), (3, .int x3), (4, .int y4), (5, .int y5), (6, .int x6)] → W p l e (rmL 430 mc ms) s m args below meth c H locs cells slots (eQ G below (some (.int r)) V' T' args s mc ms) (F0 m 238 ls [])) : W p l e (rmL 430 mc ms) s m args below meth c H locs cells slots (eQ G below (some (.int r)) V' T' args s mc ms) (F0 m 232 ls []) := by
  have hx := C.1
  have hb := C.2.1
  have hown := C.2.2.2.1
  have hts := C.2.2.2.2.1
  unfold f_X0_orders_J232 at hf
  revert hf
  refine k_stp (fun z70 ez70 hf => ?_)
  refine lv_iinc (k := 7) (lv' := [(8, .int z70), (0, .ref (gb G + x0)), (2, .ref (gb G + x2)), (3, .int x3), (4, .int x4), (5, .int x5), (6, .int x6), (7, .ref (gb G + x7))]) hx hb dX0_orders_232 hl rfl (inc_e (by decide) ez70) (by decide) rfl (fun ls hl => ?_)
  refine lv_goto (tgt := 143) hx hb dX0_orders_235 (by decide) ?_
  exact hkc143 _ _ _ _ _ _ _ _ _ _ _ hf hn hk hw (lv_sub hl [1, 2, 3, 4, 5, 6, 7, 0] rfl)
set_option maxHeartbeats 4000000 in
theorem jk_X0_orders_227 {l : Launch} {G : gG} {p : Program} {e : Env} {s : State} {m : MethodId} {args : Array Value} {below : List Frame} {meth : Method} {c : Code} {T : Tt} {V0 : Vt} {r : Int32} {V' : Vt} {T' : Tt} {mc ms : Nat} (C : Cx G p s m args meth c cX0_orders RX0 10) (hr : meth.sig.returnType = (some .int)) {x0 : Nat} {x2 : Nat} {x3 : Int32} {x4 : Int32} {x6 : Int32} {x7 : Nat} {x8 : Int32} {s0 : Int32} {kc114 : Int32 → Int32 → Int32 → Vt → Option ((Int32 × Vt × Tt) × Nat × Nat)} {kx114_193 : Int32 → Vt → Option ((Int32 × Vt × Tt) × Nat × Nat)} {kx114_244 : Int32 → Vt → Option ((Int32 × Vt × Tt) × Nat × Nat)} {kc143 : Int32 → Int32 → Int32 → Vt → Option ((Int32 × Vt × Tt) × Nat × Nat)} {kx143_193 : Vt → Option ((Int32 × Vt × Tt) × Nat × Nat)} {kx143_238 : Int32 → Int32 → Vt → Option ((Int32 × Vt × Tt) × Nat × Nat)} {H : Heap} {locs : List Loc} {ls : Array Slot} {cells slots n k : Nat} (hf : f_X0_orders_J227 T V0 x0 x2 x3 x4 x6 x7 x8 s0 kc114 kx114_193 kx114_244 kc143 kx143_193 kx143_238 = some ((r, V', T'), n, k)) (hn : cells + n = mc) (hk : slots + k = ms) (hw : wS G V0 T H locs) (hl : lv_has ls 10 [(0, .ref (gb G + x0)), (2, .ref (gb G + x2)), (3, .int x3), (4, .int x4), (6, .int x6), (7, .ref (gb G + x7)), (8, .int x8)]) (hkc114 : ∀ (y4 : Int32) (y5 : Int32) (y6 : Int32) (W1 : Vt) (H : Heap) (locs : List Loc) (ls : Array Slot) (cells slots n k : Nat), kc114 y4 y5 y6 W1 = some ((r, V', T'), n, k) → cells + n = mc → slots + k = ms → wS G W1 T H locs → lv_has ls 10 [(0, .ref (gb G + x0)), (2, .ref (gb G + x2)), (3, .int x3), (4, .int y4), (5, .int y5), (6, .int y6)] → W p l e (rmL 430 mc ms) s m args below meth c H locs cells slots (eQ G below (some (.int r)) V' T' args s mc ms) (F0 m 114 ls [])) (hkx114_193 : ∀ (y6 : Int32) (W1 : Vt) (H : Heap) (locs : List Loc) (ls : Array Slot) (cells slots n k : Nat), kx114_193 y6 W1 = some ((r, V', T'), n, k) → cells + n = mc → slots + k = ms → wS G W1 T H locs → lv_has ls 10 [(0, .ref (gb G + x0)), (3, .int x3), (6, .int y6)] → W p l e (rmL 430 mc ms) s m args below meth c H locs cells slots (eQ G below (some (.int r)) V' T' args s mc ms) (F0 m 193 ls [])) (hkx114_244 : ∀ (y4 : Int32) (W1 : Vt) (H : Heap) (locs : List Loc) (ls : Array Slot) (cells slots n k : Nat), kx114_244 y4 W1 = some ((r, V', T'), n, k) → cells + n = mc → slots + k = ms → wS G W1 T H locs → lv_has ls 10 [(0, .ref (gb G + x0)), (4, .int y4)] → W p l e (rmL 430 mc ms) s m args below meth c H locs cells slots (eQ G below (some (.int r)) V' T' args s mc ms) (F0 m 244 ls [])) (hkc143 : ∀ (y4 : Int32) (y5 : Int32) (y8 : Int32) (W1 : Vt) (H : Heap) (locs : List Loc) (ls : Array Slot) (cells slots n k : Nat), kc143 y4 y5 y8 W1 = some ((r, V', T'), n, k) → cells + n = mc → slots + k = ms → wS G W1 T H locs → lv_has ls 10 [(0, .ref (gb G + x0)), (2, .ref (gb G + x2)), (3, .int x3), (4, .int y4), (5, .int y5), (6, .int x6), (7, .ref (gb G + x7)), (8, .int y8)] → W p l e (rmL 430 mc ms) s m args below meth c H locs cells slots (eQ G below (some (.int r)) V' T' args s mc ms) (F0 m 143 ls [])) (hkx143_193 : ∀ (W1 : Vt) (H : Heap) (locs : List Loc) (ls : Array Slot) (cells slots n k : Nat), kx143_193 W1 = some ((r, V', T'), n, k) → cells + n = mc → slots + k = ms → wS G W1 T H locs → lv_has ls 10 [(0, .ref (gb G + x0)), (3, .int x3), (6, .int x6)] → W p l e (rmL 430 mc ms) s m args below meth c H locs cells slots (eQ G below (some (.int r)) V' T' args s mc ms) (F0 m 193 ls [])) (hkx143_238 : ∀ (y4 : Int32) (y5 : Int32) (W1 : Vt) (H : Heap) (locs : List Loc) (ls : Array Slot) (cells slots n k : Nat), kx143_238 y4 y5 W1 = some ((r, V', T'), n, k) → cells + n = mc → slots + k = ms → wS G W1 T H locs → lv_has ls 10 [(0, .ref (gb G + x0)), (2, .ref (gb G + x2)), (3, .int x3), (4, .int y4), (5, .int y5), (6, .int x6)] → W p l e (rmL 430 mc ms) s m args below meth c H locs cells slots (eQ G below (some (.int r)) V' T' args s mc ms) (F0 m 238 ls [])) : W p l e (rmL 430 mc ms) s m args below meth c H locs cells slots (eQ G below (some (.int r)) V' T' args s mc ms) (F0 m 227 ls [.int s0]) := by
  have hx := C.1
  have hb := C.2.1
  have hown := C.2.2.2.1
  have hts := C.2.2.2.2.1
  unfold f_X0_orders_J227 at hf
  refine lv_istore (lv' := [(5, .int s0), (0, .ref (gb G + x0)), (2, .ref (gb G + x2)), (3, .int x3), (4, .int x4), (6, .int x6), (7, .ref (gb G + x7)), (8, .int x8)]) hx hb dX0_orders_227 hl (by decide) rfl (fun ls hl => ?_)
  revert hf
  refine k_stp (fun z69 ez69 hf => ?_)
  refine lv_iinc (k := 4) (lv' := [(4, .int z69), (5, .int s0), (0, .ref (gb G + x0)), (2, .ref (gb G + x2)), (3, .int x3), (6, .int x6), (7, .ref (gb G + x7)), (8, .int x8)]) hx hb dX0_orders_229 hl rfl (inc_e (by decide) ez69) (by decide) rfl (fun ls hl => ?_)
  exact jk_X0_orders_232 C hr hf hn hk hw (lv_sub hl [2, 3, 4, 0, 1, 5, 6, 7] rfl) hkc114 hkx114_193 hkx114_244 hkc143 hkx143_193 hkx143_238
set_option maxHeartbeats 4000000 in
theorem lk_X0_orders_143 {l : Launch} {G : gG} {p : Program} {e : Env} {s : State} {m : MethodId} {args : Array Value} {below : List Frame} {meth : Method} {c : Code} {T : Tt} {r : Int32} {V' : Vt} {T' : Tt} {mc ms : Nat} (C : Cx G p s m args meth c cX0_orders RX0 10) (hr : meth.sig.returnType = (some .int)) {x0 : Nat} {x2 : Nat} {x3 : Int32} {x6 : Int32} {x7 : Nat} {kc114 : Int32 → Int32 → Int32 → Vt → Option ((Int32 × Vt × Tt) × Nat × Nat)} {kx114_193 : Int32 → Vt → Option ((Int32 × Vt × Tt) × Nat × Nat)} {kx114_244 : Int32 → Vt → Option ((Int32 × Vt × Tt) × Nat × Nat)} {kx143_193 : Vt → Option ((Int32 × Vt × Tt) × Nat × Nat)} {kx143_238 : Int32 → Int32 → Vt → Option ((Int32 × Vt × Tt) × Nat × Nat)} (hkc114 : ∀ (y4 : Int32) (y5 : Int32) (y6 : Int32) (W1 : Vt) (H : Heap) (locs : List Loc) (ls : Array Slot) (cells slots n k : Nat), kc114 y4 y5 y6 W1 = some ((r, V', T'), n, k) → cells + n = mc → slots + k = ms → wS G W1 T H locs → lv_has ls 10 [(0, .ref (gb G + x0)), (2, .ref (gb G + x2)), (3, .int x3), (4, .int y4), (5, .int y5), (6, .int y6)] → W p l e (rmL 430 mc ms) s m args below meth c H locs cells slots (eQ G below (some (.int r)) V' T' args s mc ms) (F0 m 114 ls [])) (hkx114_193 : ∀ (y6 : Int32) (W1 : Vt) (H : Heap) (locs : List Loc) (ls : Array Slot) (cells slots n k : Nat), kx114_193 y6 W1 = some ((r, V', T'), n, k) → cells + n = mc → slots + k = ms → wS G W1 T H locs → lv_has ls 10 [(0, .ref (gb G + x0)), (3, .int x3), (6, .int y6)] → W p l e (rmL 430 mc ms) s m args below meth c H locs cells slots (eQ G below (some (.int r)) V' T' args s mc ms) (F0 m 193 ls [])) (hkx114_244 : ∀ (y4 : Int32) (W1 : Vt) (H : Heap) (locs : List Loc) (ls : Array Slot) (cells slots n k : Nat), kx114_244 y4 W1 = some ((r, V', T'), n, k) → cells + n = mc → slots + k = ms → wS G W1 T H locs → lv_has ls 10 [(0, .ref (gb G + x0)), (4, .int y4)] → W p l e (rmL 430 mc ms) s m args below meth c H locs cells slots (eQ G below (some (.int r)) V' T' args s mc ms) (F0 m 244 ls [])) (hkx143_193 : ∀ (W1 : Vt) (H : Heap) (locs : List Loc) (ls : Array Slot) (cells slots n k : Nat), kx143_193 W1 = some ((r, V', T'), n, k) → cells + n = mc → slots + k = ms → wS G W1 T H locs → lv_has ls 10 [(0, .ref (gb G + x0)), (3, .int x3), (6, .int x6)] → W p l e (rmL 430 mc ms) s m args below meth c H locs cells slots (eQ G below (some (.int r)) V' T' args s mc ms) (F0 m 193 ls [])) (hkx143_238 : ∀ (y4 : Int32) (y5 : Int32) (W1 : Vt) (H : Heap) (locs : List Loc) (ls : Array Slot) (cells slots n k : Nat), kx143_238 y4 y5 W1 = some ((r, V', T'), n, k) → cells + n = mc → slots + k = ms → wS G W1 T H locs → lv_has ls 10 [(0, .ref (gb G + x0)), (2, .ref (gb G + x2)), (3, .int x3), (4, .int y4), (5, .int y5), (6, .int x6)] → W p l e (rmL 430 mc ms) s m args below meth c H locs cells slots (eQ G below (some (.int r)) V' T' args s mc ms) (F0 m 238 ls [])) : ∀ (nf : Nat) (x4 : Int32) (x5 : Int32) (x8 : Int32) (V1 : Vt) (H : Heap) (locs : List Loc) (ls : Array Slot) (cells slots n k : Nat), f_X0_orders_L143 T x0 x2 x3 x6 x7 kc114 kx114_193 kx114_244 kx143_193 kx143_238 nf x4 x5 x8 V1 = some ((r, V', T'), n, k) → cells + n = mc → slots + k = ms → wS G V1 T H locs → lv_has ls 10 [(0, .ref (gb G + x0)), (2, .ref (gb G + x2)), (3, .int x3), (4, .int x4), (5, .int x5), (6, .int x6), (7, .ref (gb G + x7)), (8, .int x8)] → W p l e (rmL 430 mc ms) s m args below meth c H locs cells slots (eQ G below (some (.int r)) V' T' args s mc ms) (F0 m 143 ls []) := by
  have hx := C.1
  have hb := C.2.1
  have hown := C.2.2.2.1
  have hts := C.2.2.2.2.1
  intro nf
  induction nf with
  | zero =>
    intro x4 x5 x8 V1 H locs ls cells slots n k hf
    cases hf
  | succ nf ih =>
    intro x4 x5 x8 V1 H locs ls cells slots n k hf hn hk hw hl
    unfold f_X0_orders_L143 at hf
    refine lv_iload hx hb dX0_orders_143 (lv_at hl 7 rfl) ?_
    refine lv_aload hx hb dX0_orders_145 (lv_at hl 6 rfl) ?_
    revert hf
    refine k_req (fun k52 hf => ?_)
    refine gf_X0_371 C hw k52 dX0_orders_147 ?_
    refine lv_icmp_ge (tgt := 238) hx hb dX0_orders_150 (by decide) (fun c53 => ?_) (fun c53 => ?_)
    · replace hf := ite_t c53 hf
      exact hkx143_238 _ _ _ _ _ _ _ _ _ _ hf hn hk hw (lv_sub hl [0, 1, 2, 3, 4, 5] rfl)
    · replace hf := ite_f c53 hf
      refine lv_aload_n hx hb dX0_orders_153 rfl (lv_at hl 0 rfl) ?_
      refine lv_aload_n hx hb dX0_orders_154 rfl (lv_at hl 0 rfl) ?_
      revert hf
      refine k_pcl (fun r55 h54 hf => ?_)
      refine w_afr hw (w_rV (As := []) C hw (ok_X0_table h54) (cw_X0_137 hts (Nat.le_of_ble_eq_true rfl) (Nat.le_of_ble_eq_true rfl)) rfl (by decide) (of_req h54).1 rfl hl.1 rfl (Nat.le_of_ble_eq_true rfl) ⟨by show _ + 0 ≤ mc; omega, by show _ + 0 ≤ ms; omega⟩ dX0_orders_155) (fun H locs hw => ?_)
      refine lv_iload hx hb dX0_orders_158 (lv_at hl 3 rfl) ?_
      refine lv_iload hx hb dX0_orders_160 (lv_at hl 4 rfl) ?_
      revert hf
      refine k_pcl (fun U58 h56 hf => ?_)
      refine w_afv hw (w_rV (As := [.ref (gb G + r55), .int x4, .int x5]) C hw (ok_X0_tellsOrder h56) (cw_X0_374 hts (Nat.le_of_ble_eq_true rfl) (Nat.le_of_ble_eq_true rfl)) rfl (by decide) (of_req h56).1 rfl hl.1 rfl (Nat.le_of_ble_eq_true rfl) ⟨by show _ + 0 ≤ mc; omega, by show _ + 0 ≤ ms; omega⟩ dX0_orders_162) (fun H locs hw => ?_)
      refine lv_aload hx hb dX0_orders_165 (lv_at hl 6 rfl) ?_
      refine lv_aload_n hx hb dX0_orders_167 rfl (lv_at hl 0 rfl) ?_
      revert hf
      refine k_req (fun k59 hf => ?_)
      revert hf
      refine k_drf (fun r60 er60 hf => ?_)
      refine gf_X0_75 C hw k59 er60 dX0_orders_168 ?_
      revert hf
      refine k_pcl (fun z62 h61 hf => ?_)
      refine w_afi hw (w_rH (As := [.ref (gb G + r60)]) C hw (ok_X18_isNow h61) (cw_X0_378 hts (Nat.le_of_ble_eq_true rfl) (Nat.le_of_ble_eq_true rfl)) rfl (by decide) (of_req h61).1 rfl hl.1 rfl (Nat.le_of_ble_eq_true rfl) ⟨by show _ + 0 ≤ mc; omega, by show _ + 0 ≤ ms; omega⟩ dX0_orders_171) (fun H locs hw => ?_)
      refine lv_if_ne (tgt := 180) hx hb dX0_orders_174 (by decide) (fun c63 => ?_) (fun c63 => ?_)
      · replace hf := ite_f c63 hf
        refine lv_aload_n hx hb dX0_orders_180 rfl (lv_at hl 0 rfl) ?_
        refine lv_aload hx hb dX0_orders_181 (lv_at hl 6 rfl) ?_
        revert hf
        refine k_cal (fun z65 U66 h64 hf => ?_)
        refine w_afi hw (w_rV (As := [.ref (gb G + x7)]) C hw (ok_X0_runsOrder h64) (cw_X0_382 hts (Nat.le_of_ble_eq_true rfl) (Nat.le_of_ble_eq_true rfl)) rfl (by decide) (of_req h64).1 rfl hl.1 rfl (Nat.le_of_ble_eq_true rfl) ⟨by show _ + 0 ≤ mc; omega, by show _ + 0 ≤ ms; omega⟩ dX0_orders_183) (fun H locs hw => ?_)
        refine lv_istore (lv' := [(9, .int z65), (0, .ref (gb G + x0)), (2, .ref (gb G + x2)), (3, .int x3), (4, .int x4), (5, .int x5), (6, .int x6), (7, .ref (gb G + x7)), (8, .int x8)]) hx hb dX0_orders_186 hl (by decide) rfl (fun ls hl => ?_)
        refine lv_iload hx hb dX0_orders_188 (lv_at hl 0 rfl) ?_
        refine lv_if_ge (tgt := 211) hx hb dX0_orders_190 (by decide) (fun c67 => ?_) (fun c67 => ?_)
        · replace hf := ite_t c67 hf
          refine lv_aload hx hb dX0_orders_211 (lv_at hl 7 rfl) ?_
          refine gf_X0_389 C hw k52 dX0_orders_213 ?_
          refine lv_iconst (v := (2 : Int32)) hx hb dX0_orders_216 (by decide) ?_
          refine lv_icmp_ne (tgt := 225) hx hb dX0_orders_217 (by decide) (fun c68 => ?_) (fun c68 => ?_)
          · replace hf := ite_f c68 hf
            refine lv_iload hx hb dX0_orders_225 (lv_at hl 5 rfl) ?_
            exact jk_X0_orders_227 C hr hf hn hk hw (lv_sub hl [1, 2, 3, 4, 6, 7, 8] rfl) hkc114 hkx114_193 hkx114_244 ih hkx143_193 hkx143_238
          · replace hf := ite_t c68 hf
            refine lv_iload hx hb dX0_orders_220 (lv_at hl 0 rfl) ?_
            refine lv_goto (tgt := 227) hx hb dX0_orders_222 (by decide) ?_
            exact jk_X0_orders_227 C hr hf hn hk hw (lv_sub hl [1, 2, 3, 4, 6, 7, 8] rfl) hkc114 hkx114_193 hkx114_244 ih hkx143_193 hkx143_238
        · replace hf := ite_f c67 hf
          exact hkx143_193 _ _ _ _ _ _ _ _ hf hn hk hw (lv_sub hl [1, 3, 6] rfl)
      · replace hf := ite_t c63 hf
        refine lv_goto (tgt := 232) hx hb dX0_orders_177 (by decide) ?_
        exact jk_X0_orders_232 C hr hf hn hk hw (lv_sub hl [0, 1, 2, 3, 4, 5, 6, 7] rfl) hkc114 hkx114_193 hkx114_244 ih hkx143_193 hkx143_238
set_option maxHeartbeats 4000000 in
theorem lk_X0_orders_114 {l : Launch} {G : gG} {p : Program} {e : Env} {s : State} {m : MethodId} {args : Array Value} {below : List Frame} {meth : Method} {c : Code} {T : Tt} {r : Int32} {V' : Vt} {T' : Tt} {mc ms : Nat} (C : Cx G p s m args meth c cX0_orders RX0 10) (hr : meth.sig.returnType = (some .int)) {x0 : Nat} {x2 : Nat} {x3 : Int32} {kx114_193 : Int32 → Vt → Option ((Int32 × Vt × Tt) × Nat × Nat)} {kx114_244 : Int32 → Vt → Option ((Int32 × Vt × Tt) × Nat × Nat)} (hkx114_193 : ∀ (y6 : Int32) (W1 : Vt) (H : Heap) (locs : List Loc) (ls : Array Slot) (cells slots n k : Nat), kx114_193 y6 W1 = some ((r, V', T'), n, k) → cells + n = mc → slots + k = ms → wS G W1 T H locs → lv_has ls 10 [(0, .ref (gb G + x0)), (3, .int x3), (6, .int y6)] → W p l e (rmL 430 mc ms) s m args below meth c H locs cells slots (eQ G below (some (.int r)) V' T' args s mc ms) (F0 m 193 ls [])) (hkx114_244 : ∀ (y4 : Int32) (W1 : Vt) (H : Heap) (locs : List Loc) (ls : Array Slot) (cells slots n k : Nat), kx114_244 y4 W1 = some ((r, V', T'), n, k) → cells + n = mc → slots + k = ms → wS G W1 T H locs → lv_has ls 10 [(0, .ref (gb G + x0)), (4, .int y4)] → W p l e (rmL 430 mc ms) s m args below meth c H locs cells slots (eQ G below (some (.int r)) V' T' args s mc ms) (F0 m 244 ls [])) : ∀ (nf : Nat) (x4 : Int32) (x5 : Int32) (x6 : Int32) (V1 : Vt) (H : Heap) (locs : List Loc) (ls : Array Slot) (cells slots n k : Nat), f_X0_orders_L114 T x0 x2 x3 kx114_193 kx114_244 nf x4 x5 x6 V1 = some ((r, V', T'), n, k) → cells + n = mc → slots + k = ms → wS G V1 T H locs → lv_has ls 10 [(0, .ref (gb G + x0)), (2, .ref (gb G + x2)), (3, .int x3), (4, .int x4), (5, .int x5), (6, .int x6)] → W p l e (rmL 430 mc ms) s m args below meth c H locs cells slots (eQ G below (some (.int r)) V' T' args s mc ms) (F0 m 114 ls []) := by
  have hx := C.1
  have hb := C.2.1
  have hown := C.2.2.2.1
  have hts := C.2.2.2.2.1
  intro nf
  induction nf with
  | zero =>
    intro x4 x5 x6 V1 H locs ls cells slots n k hf
    cases hf
  | succ nf ih =>
    intro x4 x5 x6 V1 H locs ls cells slots n k hf hn hk hw hl
    unfold f_X0_orders_L114 at hf
    refine lv_iload hx hb dX0_orders_114 (lv_at hl 5 rfl) ?_
    refine lv_aload_n hx hb dX0_orders_116 rfl (lv_at hl 1 rfl) ?_
    revert hf
    refine k_req (fun k43 hf => ?_)
    revert hf
    refine k_drf (fun r44 er44 hf => ?_)
    refine gf_X0_250 C hw k43 er44 dX0_orders_117 ?_
    revert hf
    refine k_pcl (fun z46 h45 hf => ?_)
    refine w_afi hw (w_rV (As := []) C hw (ok_J2_size h45) (cw_X0_116 hts (Nat.le_of_ble_eq_true rfl) (Nat.le_of_ble_eq_true rfl)) rfl (by decide) (of_req h45).1 rfl hl.1 rfl (Nat.le_of_ble_eq_true rfl) ⟨by show _ + 0 ≤ mc; omega, by show _ + 0 ≤ ms; omega⟩ dX0_orders_120) (fun H locs hw => ?_)
    refine lv_icmp_ge (tgt := 244) hx hb dX0_orders_123 (by decide) (fun c47 => ?_) (fun c47 => ?_)
    · replace hf := ite_t c47 hf
      exact hkx114_244 _ _ _ _ _ _ _ _ _ hf hn hk hw (lv_sub hl [0, 3] rfl)
    · replace hf := ite_f c47 hf
      refine lv_aload_n hx hb dX0_orders_126 rfl (lv_at hl 1 rfl) ?_
      revert hf
      refine k_drf (fun r48 er48 hf => ?_)
      refine gf_X0_250 C hw k43 er48 dX0_orders_127 ?_
      refine lv_iload hx hb dX0_orders_130 (lv_at hl 5 rfl) ?_
      revert hf
      refine k_pcl (fun r50 h49 hf => ?_)
      refine w_afr hw (w_rV (As := [.int x6]) C hw (ok_J2_get h49) (cw_X0_271 hts (Nat.le_of_ble_eq_true rfl) (Nat.le_of_ble_eq_true rfl)) rfl (by decide) (of_req h49).1 rfl hl.1 rfl (Nat.le_of_ble_eq_true rfl) ⟨by show _ + 0 ≤ mc; omega, by show _ + 0 ≤ ms; omega⟩ dX0_orders_132) (fun H locs hw => ?_)
      revert hf
      refine k_req (fun k51 hf => ?_)
      refine w_castS (ci := 15) C hw rfl (by decide) k51 q1362 dX0_orders_135 ?_
      refine lv_astore (lv' := [(7, .ref (gb G + r50)), (0, .ref (gb G + x0)), (2, .ref (gb G + x2)), (3, .int x3), (4, .int x4), (5, .int x5), (6, .int x6)]) hx hb dX0_orders_138 hl (by decide) rfl (fun ls hl => ?_)
      refine lv_iconst (v := (0 : Int32)) hx hb dX0_orders_140 (by decide) ?_
      refine lv_istore (lv' := [(8, .int (0 : Int32)), (7, .ref (gb G + r50)), (0, .ref (gb G + x0)), (2, .ref (gb G + x2)), (3, .int x3), (4, .int x4), (5, .int x5), (6, .int x6)]) hx hb dX0_orders_141 hl (by decide) rfl (fun ls hl => ?_)
      refine lk_X0_orders_143 C hr ih hkx114_193 hkx114_244 (fun U71 H locs ls cells slots n k hf hn hk hw hl => ?_) (fun z72 z73 U74 H locs ls cells slots n k hf hn hk hw hl => ?_) fuel _ _ _ _ _ _ _ _ _ _ _ hf hn hk hw (lv_sub hl [2, 3, 4, 5, 6, 7, 1, 0] rfl)
      · exact hkx114_193 _ _ _ _ _ _ _ _ _ hf hn hk hw (lv_sub hl [0, 1, 2] rfl)
      · revert hf
        refine k_stp (fun z75 ez75 hf => ?_)
        refine lv_iinc (k := 5) (lv' := [(6, .int z75), (0, .ref (gb G + x0)), (2, .ref (gb G + x2)), (3, .int x3), (4, .int z72), (5, .int z73)]) hx hb dX0_orders_238 hl rfl (inc_e (by decide) ez75) (by decide) rfl (fun ls hl => ?_)
        refine lv_goto (tgt := 114) hx hb dX0_orders_241 (by decide) ?_
        exact ih _ _ _ _ _ _ _ _ _ _ _ hf hn hk hw (lv_sub hl [1, 2, 3, 4, 5, 0] rfl)
set_option maxHeartbeats 4000000 in
theorem lk_X0_orders_56 {l : Launch} {G : gG} {p : Program} {e : Env} {s : State} {m : MethodId} {args : Array Value} {below : List Frame} {meth : Method} {c : Code} {T : Tt} {r : Int32} {V' : Vt} {T' : Tt} {mc ms : Nat} (C : Cx G p s m args meth c cX0_orders RX0 10) (hr : meth.sig.returnType = (some .int)) {x0 : Nat} {x2 : Nat} {kx56_85 : Vt → Option ((Int32 × Vt × Tt) × Nat × Nat)} (hkx56_85 : ∀ (W1 : Vt) (H : Heap) (locs : List Loc) (ls : Array Slot) (cells slots n k : Nat), kx56_85 W1 = some ((r, V', T'), n, k) → cells + n = mc → slots + k = ms → wS G W1 T H locs → lv_has ls 10 [(0, .ref (gb G + x0)), (2, .ref (gb G + x2))] → W p l e (rmL 430 mc ms) s m args below meth c H locs cells slots (eQ G below (some (.int r)) V' T' args s mc ms) (F0 m 85 ls [])) : ∀ (nf : Nat) (x3 : Int32) (V1 : Vt) (H : Heap) (locs : List Loc) (ls : Array Slot) (cells slots n k : Nat), f_X0_orders_L56 T x0 x2 kx56_85 nf x3 V1 = some ((r, V', T'), n, k) → cells + n = mc → slots + k = ms → wS G V1 T H locs → lv_has ls 10 [(0, .ref (gb G + x0)), (2, .ref (gb G + x2)), (3, .int x3)] → W p l e (rmL 430 mc ms) s m args below meth c H locs cells slots (eQ G below (some (.int r)) V' T' args s mc ms) (F0 m 56 ls []) := by
  have hx := C.1
  have hb := C.2.1
  have hown := C.2.2.2.1
  have hts := C.2.2.2.2.1
  intro nf
  induction nf with
  | zero =>
    intro x3 V1 H locs ls cells slots n k hf
    cases hf
  | succ nf ih =>
    intro x3 V1 H locs ls cells slots n k hf hn hk hw hl
    unfold f_X0_orders_L56 at hf
    refine lv_iload_n hx hb dX0_orders_56 rfl (lv_at hl 2 rfl) ?_
    refine lv_aload_n hx hb dX0_orders_57 rfl (lv_at hl 0 rfl) ?_
    revert hf
    refine k_req (fun k25 hf => ?_)
    refine gf_X0_98 C hw k25 dX0_orders_58 ?_
    refine lv_icmp_ge (tgt := 85) hx hb dX0_orders_61 (by decide) (fun c26 => ?_) (fun c26 => ?_)
    · replace hf := ite_t c26 hf
      exact hkx56_85 _ _ _ _ _ _ _ _ hf hn hk hw (lv_sub hl [0, 1] rfl)
    · replace hf := ite_f c26 hf
      refine lv_aload_n hx hb dX0_orders_64 rfl (lv_at hl 0 rfl) ?_
      revert hf
      refine k_drf (fun r27 er27 hf => ?_)
      refine gf_X0_45 C hw k25 er27 dX0_orders_65 ?_
      refine lv_iload_n hx hb dX0_orders_68 rfl (lv_at hl 2 rfl) ?_
      revert hf
      refine k_req (fun h28 hf => ?_)
      revert hf
      refine k_drf (fun r29 er29 hf => ?_)
      refine w_aald (v := .ref (gb G + r29)) C hw (by decide) (by decide) h28 (by rw [er29]; rfl) dX0_orders_69 ?_
      refine lv_aload_n hx hb dX0_orders_70 rfl (lv_at hl 0 rfl) ?_
      revert hf
      refine k_drf (fun r30 er30 hf => ?_)
      refine gf_X0_41 C hw k25 er30 dX0_orders_71 ?_
      refine lv_iload_n hx hb dX0_orders_74 rfl (lv_at hl 2 rfl) ?_
      revert hf
      refine k_req (fun h31 hf => ?_)
      revert hf
      refine k_drf (fun r32 er32 hf => ?_)
      refine w_aald (v := .ref (gb G + r32)) C hw (by decide) (by decide) h31 (by rw [er32]; rfl) dX0_orders_75 ?_
      revert hf
      refine k_pcl (fun U35 h33 hf => ?_)
      refine w_afv hw (w_rV (As := [.ref (gb G + r32)]) C hw (ok_X2_takes h33) (cw_X0_318 hts (Nat.le_of_ble_eq_true rfl) (Nat.le_of_ble_eq_true rfl)) rfl (by decide) (of_req h33).1 rfl hl.1 rfl (Nat.le_of_ble_eq_true rfl) ⟨by show _ + 0 ≤ mc; omega, by show _ + 0 ≤ ms; omega⟩ dX0_orders_76) (fun H locs hw => ?_)
      revert hf
      refine k_stp (fun z36 ez36 hf => ?_)
      refine lv_iinc (k := 2) (lv' := [(3, .int z36), (0, .ref (gb G + x0)), (2, .ref (gb G + x2))]) hx hb dX0_orders_79 hl rfl (inc_e (by decide) ez36) (by decide) rfl (fun ls hl => ?_)
      refine lv_goto (tgt := 56) hx hb dX0_orders_82 (by decide) ?_
      exact ih _ _ _ _ _ _ _ _ _ hf hn hk hw (lv_sub hl [1, 2, 0] rfl)
set_option maxHeartbeats 4000000 in
theorem ok_X0_orders {l : Launch} {G : gG} {T : Tt} {V0 : Vt} {o : Nat} {r : Int32} {V' : Vt} {T' : Tt} {n k : Nat} (hf : f_X0_orders T V0 o = some ((r, V', T'), n, k)) : okM l G yX0_orders cX0_orders 10 (some .int) 430 [.ref (gb G + o)] V0 T (some (.int r)) V' T' n k := by
  refine ok_intro (by decide) (Nat.le_of_ble_eq_true rfl) ?_
  intro p e s m below meth c ls C hr hnm hw hl
  have hx := C.1
  have hb := C.2.1
  have hown := C.2.2.2.1
  have hts := C.2.2.2.2.1
  have hl : lv_has ls 10 [(0, .ref (gb G + o))] := hl
  unfold f_X0_orders at hf
  revert hf
  refine k_req (fun k0 hf => ?_)
  obtain ⟨mc, emc⟩ : ∃ mc, mc = n := ⟨_, rfl⟩
  obtain ⟨ms, ems⟩ : ∃ ms, ms = k := ⟨_, rfl⟩
  have hn : 0 + n = mc := by omega
  have hk : 0 + k = ms := by omega
  rw [← emc, ← ems]
  clear emc ems
  refine lv_aload_n hx hb dX0_orders_0 rfl (lv_at hl 0 rfl) ?_
  refine gf_X0_201 C hw k0 dX0_orders_1 ?_
  revert hf
  refine k_stp (fun z1 ez1 hf => ?_)
  refine w_nmI ez1 ?_
  refine lv_istore_n (lv' := [(1, .int z1), (0, .ref (gb G + o))]) hx hb dX0_orders_4 rfl hl (by decide) rfl (fun ls hl => ?_)
  refine lv_aload_n hx hb dX0_orders_5 rfl (lv_at hl 1 rfl) ?_
  refine lv_iconst (v := (0 : Int32)) hx hb dX0_orders_6 (by decide) ?_
  revert hf
  refine k_stp (fun U2 eU2 hf => ?_)
  refine pf_X0_201 C hw k0 eU2 dX0_orders_7 (fun H locs hw => ?_)
  refine lv_aload_n hx hb dX0_orders_10 rfl (lv_at hl 1 rfl) ?_
  refine lv_iconst (v := ((-1) : Int32)) hx hb dX0_orders_11 (by decide) ?_
  revert hf
  refine k_stp (fun U3 eU3 hf => ?_)
  refine pf_X0_69 C hw k0 eU3 dX0_orders_12 (fun H locs hw => ?_)
  revert hf
  refine k_inc (fun n1 k1 hf en ek => ?_)
  revert hf
  refine k_stp (fun q4 eq4 hf => ?_)
  revert hf
  refine k_stp (fun U5 eU5 hf => ?_)
  revert hf
  refine k_stp (fun T6 eT6 hf => ?_)
  refine nw_X20 C hw q1209 (by show _ ≤ mc; omega) (by show _ ≤ ms; omega) eq4 eU5 eT6 dX0_orders_15 (fun H hw => ?_)
  replace hn := add_r hn en
  replace hk := add_r hk ek
  clear en ek
  generalize n1 = n at hf hn
  generalize k1 = k at hf hk
  refine lv_dup hx hb dX0_orders_18 rfl ?_
  refine lv_aload_n hx hb dX0_orders_19 rfl (lv_at hl 1 rfl) ?_
  revert hf
  refine k_req (fun k7 hf => ?_)
  revert hf
  refine k_drf (fun r8 er8 hf => ?_)
  refine gf_X0_62 C hw k7 er8 dX0_orders_20 ?_
  refine lv_iload_n hx hb dX0_orders_23 rfl (lv_at hl 0 rfl) ?_
  revert hf
  refine k_dcv (fun U11 T12 na ka n1 k1 h9 hf en ek => ?_)
  refine w_afv hw (w_rI (As := [.ref (gb G + r8), .int z1]) C hw (ok_X20_init h9) (cw_X0_247 hts (Nat.le_of_ble_eq_true rfl) (Nat.le_of_ble_eq_true rfl)) rfl hl.1 rfl (Nat.le_of_ble_eq_true rfl) ⟨by show _ ≤ mc; omega, by show _ ≤ ms; omega⟩ dX0_orders_24) (fun H locs hw => ?_)
  replace hn := add_r hn en
  replace hk := add_r hk ek
  clear en ek
  generalize n1 = n at hf hn
  generalize k1 = k at hf hk
  refine lv_astore_n (lv' := [(2, .ref (gb G + q4)), (1, .int z1), (0, .ref (gb G + o))]) hx hb dX0_orders_27 rfl hl (by decide) rfl (fun ls hl => ?_)
  refine lv_aload_n hx hb dX0_orders_28 rfl (lv_at hl 2 rfl) ?_
  refine lv_aload_n hx hb dX0_orders_29 rfl (lv_at hl 0 rfl) ?_
  revert hf
  refine k_dcl (fun z14 U15 T16 na ka n1 k1 h13 hf en ek => ?_)
  refine w_afi hw (w_rH (As := [.ref (gb G + q4)]) C hw (ok_X0_reads h13) (cw_X0_229 hts (Nat.le_of_ble_eq_true rfl) (Nat.le_of_ble_eq_true rfl)) rfl (by decide) (of_req h13).1 rfl hl.1 rfl (Nat.le_of_ble_eq_true rfl) ⟨by show _ ≤ mc; omega, by show _ ≤ ms; omega⟩ dX0_orders_30) (fun H locs hw => ?_)
  replace hn := add_r hn en
  replace hk := add_r hk ek
  clear en ek
  generalize n1 = n at hf hn
  generalize k1 = k at hf hk
  refine lv_if_ne (tgt := 43) hx hb dX0_orders_33 (by decide) (fun c17 => ?_) (fun c17 => ?_)
  · replace hf := ite_f c17 hf
    refine lv_aload_n hx hb dX0_orders_43 rfl (lv_at hl 2 rfl) ?_
    revert hf
    refine k_req (fun k18 hf => ?_)
    revert hf
    refine k_drf (fun r19 er19 hf => ?_)
    refine gf_X0_55 C hw k18 er19 dX0_orders_44 ?_
    refine lv_aload_n hx hb dX0_orders_47 rfl (lv_at hl 2 rfl) ?_
    revert hf
    refine k_pcl (fun r21 h20 hf => ?_)
    refine w_afr hw (w_rV (As := []) C hw (ok_X0_table h20) (cw_X0_137 hts (Nat.le_of_ble_eq_true rfl) (Nat.le_of_ble_eq_true rfl)) rfl (by decide) (of_req h20).1 rfl hl.1 rfl (Nat.le_of_ble_eq_true rfl) ⟨by show _ + 0 ≤ mc; omega, by show _ + 0 ≤ ms; omega⟩ dX0_orders_48) (fun H locs hw => ?_)
    revert hf
    refine k_pcl (fun U24 h22 hf => ?_)
    refine w_afv hw (w_rV (As := [.ref (gb G + r21)]) C hw (ok_X2_takes h22) (cw_X0_318 hts (Nat.le_of_ble_eq_true rfl) (Nat.le_of_ble_eq_true rfl)) rfl (by decide) (of_req h22).1 rfl hl.1 rfl (Nat.le_of_ble_eq_true rfl) ⟨by show _ + 0 ≤ mc; omega, by show _ + 0 ≤ ms; omega⟩ dX0_orders_51) (fun H locs hw => ?_)
    refine lv_iconst (v := (0 : Int32)) hx hb dX0_orders_54 (by decide) ?_
    refine lv_istore_n (lv' := [(3, .int (0 : Int32)), (2, .ref (gb G + q4)), (1, .int z1), (0, .ref (gb G + o))]) hx hb dX0_orders_55 rfl hl (by decide) rfl (fun ls hl => ?_)
    refine lk_X0_orders_56 C hr (fun U37 H locs ls cells slots n k hf hn hk hw hl => ?_) fuel _ _ _ _ _ _ _ _ _ hf hn hk hw (lv_sub hl [3, 1, 0] rfl)
    refine lv_aload_n hx hb dX0_orders_85 rfl (lv_at hl 0 rfl) ?_
    revert hf
    refine k_drf (fun r38 er38 hf => ?_)
    refine gf_X0_48 C hw k18 er38 dX0_orders_86 ?_
    refine lv_iconst (v := (0 : Int32)) hx hb dX0_orders_89 (by decide) ?_
    refine lv_aload_n hx hb dX0_orders_90 rfl (lv_at hl 0 rfl) ?_
    revert hf
    refine k_drf (fun r39 er39 hf => ?_)
    refine gf_X0_51 C hw k18 er39 dX0_orders_91 ?_
    refine lv_iconst (v := (0 : Int32)) hx hb dX0_orders_94 (by decide) ?_
    refine lv_bipush (v := (16 : Int32)) hx hb dX0_orders_95 (by decide) ?_
    revert hf
    refine k_req (fun h40 hf => ?_)
    revert hf
    refine k_stp (fun U41 eU41 hf => ?_)
    refine w_copyI C hl.1 hw q1361 h40 (Nat.le_of_ble_eq_true rfl) (Nat.le_of_ble_eq_true rfl) eU41 dX0_orders_97 (fun H locs hw => ?_)
    refine lv_aload_n hx hb dX0_orders_100 rfl (lv_at hl 0 rfl) ?_
    refine gf_X0_98 C hw k18 dX0_orders_101 ?_
    revert hf
    refine k_stp (fun z42 ez42 hf => ?_)
    refine w_nmI ez42 ?_
    refine lv_istore_n (lv' := [(3, .int z42), (0, .ref (gb G + o)), (2, .ref (gb G + q4))]) hx hb dX0_orders_104 rfl hl (by decide) rfl (fun ls hl => ?_)
    refine lv_iconst (v := (0 : Int32)) hx hb dX0_orders_105 (by decide) ?_
    refine lv_istore (lv' := [(4, .int (0 : Int32)), (3, .int z42), (0, .ref (gb G + o)), (2, .ref (gb G + q4))]) hx hb dX0_orders_106 hl (by decide) rfl (fun ls hl => ?_)
    refine lv_iconst (v := ((-1) : Int32)) hx hb dX0_orders_108 (by decide) ?_
    refine lv_istore (lv' := [(5, .int ((-1) : Int32)), (4, .int (0 : Int32)), (3, .int z42), (0, .ref (gb G + o)), (2, .ref (gb G + q4))]) hx hb dX0_orders_109 hl (by decide) rfl (fun ls hl => ?_)
    refine lv_iconst (v := (0 : Int32)) hx hb dX0_orders_111 (by decide) ?_
    refine lv_istore (lv' := [(6, .int (0 : Int32)), (5, .int ((-1) : Int32)), (4, .int (0 : Int32)), (3, .int z42), (0, .ref (gb G + o)), (2, .ref (gb G + q4))]) hx hb dX0_orders_112 hl (by decide) rfl (fun ls hl => ?_)
    refine lk_X0_orders_114 C hr (fun z76 U77 H locs ls cells slots n k hf hn hk hw hl => ?_) (fun z85 U86 H locs ls cells slots n k hf hn hk hw hl => ?_) fuel _ _ _ _ _ _ _ _ _ _ _ hf hn hk hw (lv_sub hl [4, 5, 3, 2, 1, 0] rfl)
    · refine lv_aload_n hx hb dX0_orders_193 rfl (lv_at hl 0 rfl) ?_
      refine lv_iload_n hx hb dX0_orders_194 rfl (lv_at hl 1 rfl) ?_
      revert hf
      refine k_pcl (fun U80 h78 hf => ?_)
      refine w_afv hw (w_rV (As := [.int z42]) C hw (ok_X0_putsBack h78) (cw_X0_386 hts (Nat.le_of_ble_eq_true rfl) (Nat.le_of_ble_eq_true rfl)) rfl (by decide) (of_req h78).1 rfl hl.1 rfl (Nat.le_of_ble_eq_true rfl) ⟨by show _ + 0 ≤ mc; omega, by show _ + 0 ≤ ms; omega⟩ dX0_orders_195) (fun H locs hw => ?_)
      refine lv_aload_n hx hb dX0_orders_198 rfl (lv_at hl 0 rfl) ?_
      refine lv_iload hx hb dX0_orders_199 (lv_at hl 2 rfl) ?_
      revert hf
      refine k_stp (fun U81 eU81 hf => ?_)
      refine pf_X0_69 C hw k18 eU81 dX0_orders_201 (fun H locs hw => ?_)
      refine lv_aload_n hx hb dX0_orders_204 rfl (lv_at hl 0 rfl) ?_
      refine lv_bipush (v := ((-3) : Int32)) hx hb dX0_orders_205 (by decide) ?_
      revert hf
      refine k_cal (fun z83 U84 h82 hf => ?_)
      refine w_afi hw (w_rV (As := [.int ((-3) : Int32)]) C hw (ok_X0_refuse h82) (cw_X0_122 hts (Nat.le_of_ble_eq_true rfl) (Nat.le_of_ble_eq_true rfl)) rfl (by decide) (of_req h82).1 rfl hl.1 rfl (Nat.le_of_ble_eq_true rfl) ⟨by show _ + 0 ≤ mc; omega, by show _ + 0 ≤ ms; omega⟩ dX0_orders_207) (fun H locs hw => ?_)
      cases hf
      cases hn
      cases hk
      exact w_iret C hr hw dX0_orders_210
    · refine lv_aload_n hx hb dX0_orders_244 rfl (lv_at hl 0 rfl) ?_
      refine lv_iload hx hb dX0_orders_245 (lv_at hl 1 rfl) ?_
      revert hf
      refine k_cal (fun z88 U89 h87 hf => ?_)
      refine w_afi hw (w_rV (As := [.int z85]) C hw (ok_X0_done h87) (cw_X0_101 hts (Nat.le_of_ble_eq_true rfl) (Nat.le_of_ble_eq_true rfl)) rfl (by decide) (of_req h87).1 rfl hl.1 rfl (Nat.le_of_ble_eq_true rfl) ⟨by show _ + 0 ≤ mc; omega, by show _ + 0 ≤ ms; omega⟩ dX0_orders_247) (fun H locs hw => ?_)
      cases hf
      cases hn
      cases hk
      exact w_iret C hr hw dX0_orders_250
  · replace hf := ite_t c17 hf
    refine lv_aload_n hx hb dX0_orders_36 rfl (lv_at hl 2 rfl) ?_
    refine lv_bipush (v := ((-6) : Int32)) hx hb dX0_orders_37 (by decide) ?_
    revert hf
    refine k_cal (fun z91 U92 h90 hf => ?_)
    refine w_afi hw (w_rV (As := [.int ((-6) : Int32)]) C hw (ok_X0_refuse h90) (cw_X0_122 hts (Nat.le_of_ble_eq_true rfl) (Nat.le_of_ble_eq_true rfl)) rfl (by decide) (of_req h90).1 rfl hl.1 rfl (Nat.le_of_ble_eq_true rfl) ⟨by show _ + 0 ≤ mc; omega, by show _ + 0 ≤ ms; omega⟩ dX0_orders_39) (fun H locs hw => ?_)
    cases hf
    cases hn
    cases hk
    exact w_iret C hr hw dX0_orders_42
set_option maxHeartbeats 4000000 in
theorem ok_X0_isPlan {l : Launch} {G : gG} {T : Tt} {V0 : Vt} {o : Nat} {a0 : Int32} {r : Int32} (hf : f_X0_isPlan T V0 o a0 = some r) : okM l G yX0_isPlan cX0_isPlan 2 (some .boolean) 1 [.ref (gb G + o), .int a0] V0 T (some (.int r)) V0 T 0 0 := by
  refine ok_intro (by decide) (Nat.le_of_ble_eq_true rfl) ?_
  intro p e s m below meth c ls C hr hnm hw hl
  have hx := C.1
  have hb := C.2.1
  have hown := C.2.2.2.1
  have hts := C.2.2.2.2.1
  have hl : lv_has ls 2 [(0, .ref (gb G + o)), (1, .int a0)] := hl
  unfold f_X0_isPlan at hf
  revert hf
  refine k_req (fun k0 hf => ?_)
  refine lv_iload_n hx hb dX0_isPlan_0 rfl (lv_at hl 1 rfl) ?_
  refine lv_iconst (v := (0 : Int32)) hx hb dX0_isPlan_1 (by decide) ?_
  refine lv_aload_n hx hb dX0_isPlan_2 rfl (lv_at hl 0 rfl) ?_
  revert hf
  refine k_drf (fun r1 er1 hf => ?_)
  refine gf_X0_31 C hw k0 er1 dX0_isPlan_3 ?_
  revert hf
  refine k_req (fun k2 hf => ?_)
  revert hf
  refine k_drf (fun r3 er3 hf => ?_)
  refine gf_X0_112 C hw k2 er3 dX0_isPlan_6 ?_
  revert hf
  refine k_pcl (fun z5 h4 hf => ?_)
  refine w_afi hw (w_rV (As := []) C hw (ok_J2_size h4) (cw_X0_116 hts (Nat.le_of_ble_eq_true rfl) (Nat.le_of_ble_eq_true rfl)) rfl (by decide) (of_req h4).1 rfl hl.1 rfl (Nat.le_of_ble_eq_true rfl) ⟨Nat.zero_le _, Nat.zero_le _⟩ dX0_isPlan_9) (fun H locs hw => ?_)
  refine lv_iconst (v := (1 : Int32)) hx hb dX0_isPlan_12 (by decide) ?_
  refine lv_isub hx hb dX0_isPlan_13 ?_
  revert hf
  refine k_pcl (fun z7 h6 hf => ?_)
  refine w_afi hw (w_rS (As := [.int a0, .int (0 : Int32), .int (z5 - (1 : Int32))]) C hw (ok_X0_in h6) (cw_X0_108 hts (Nat.le_of_ble_eq_true rfl) (Nat.le_of_ble_eq_true rfl)) rfl hl.1 rfl (Nat.le_of_ble_eq_true rfl) ⟨Nat.zero_le _, Nat.zero_le _⟩ dX0_isPlan_14) (fun H locs hw => ?_)
  revert hf
  refine k_req (fun h8 hf => ?_)
  cases hf
  exact w_zret C hr hw h8 dX0_isPlan_17
set_option maxHeartbeats 4000000 in
theorem jk_X0_triesOrder_96 {l : Launch} {G : gG} {p : Program} {e : Env} {s : State} {m : MethodId} {args : Array Value} {below : List Frame} {meth : Method} {c : Code} {T : Tt} {V0 : Vt} {r : Int32} {V' : Vt} (C : Cx G p s m args meth c cX0_triesOrder RX0 7) (hr : meth.sig.returnType = (some .int)) {x0 : Nat} {x1 : Nat} {x2 : Int32} {x3 : Int32} {x4 : Int32} {s0 : Int32} {H : Heap} {locs : List Loc} {ls : Array Slot} (k0 : T.1 x0 = 1) (hf : f_X0_triesOrder_J96 T V0 x0 x1 x2 x3 x4 s0 = some (r, V')) (hw : wS G V0 T H locs) (hl : lv_has ls 7 [(0, .ref (gb G + x0)), (1, .ref (gb G + x1)), (2, .int x2), (3, .int x3), (4, .int x4)]) : W p l e (rmL 428 0 0) s m args below meth c H locs 0 0 (eQ G below (some (.int r)) V' T args s 0 0) (F0 m 96 ls [.int s0]) := by
  have hx := C.1
  have hb := C.2.1
  have hown := C.2.2.2.1
  have hts := C.2.2.2.2.1
  unfold f_X0_triesOrder_J96 at hf
  refine lv_istore (lv' := [(5, .int s0), (0, .ref (gb G + x0)), (1, .ref (gb G + x1)), (2, .int x2), (3, .int x3), (4, .int x4)]) hx hb dX0_triesOrder_96 hl (by decide) rfl (fun ls hl => ?_)
  refine lv_iload hx hb dX0_triesOrder_98 (lv_at hl 0 rfl) ?_
  refine lv_if_ge (tgt := 106) hx hb dX0_triesOrder_100 (by decide) (fun c16 => ?_) (fun c16 => ?_)
  · replace hf := ite_t c16 hf
    refine lv_aload_n hx hb dX0_triesOrder_106 rfl (lv_at hl 2 rfl) ?_
    revert hf
    refine k_req (fun k17 hf => ?_)
    refine gf_X0_389 C hw k17 dX0_triesOrder_107 ?_
    refine lv_if_ne (tgt := 124) hx hb dX0_triesOrder_110 (by decide) (fun c18 => ?_) (fun c18 => ?_)
    · replace hf := ite_f c18 hf
      refine lv_aload_n hx hb dX0_triesOrder_124 rfl (lv_at hl 2 rfl) ?_
      refine gf_X0_389 C hw k17 dX0_triesOrder_125 ?_
      refine lv_iconst (v := (1 : Int32)) hx hb dX0_triesOrder_128 (by decide) ?_
      refine lv_icmp_ne (tgt := 145) hx hb dX0_triesOrder_129 (by decide) (fun c19 => ?_) (fun c19 => ?_)
      · replace hf := ite_f c19 hf
        refine lv_aload_n hx hb dX0_triesOrder_145 rfl (lv_at hl 1 rfl) ?_
        refine lv_aload_n hx hb dX0_triesOrder_146 rfl (lv_at hl 1 rfl) ?_
        revert hf
        refine k_drf (fun r20 er20 hf => ?_)
        refine gf_X0_59 C hw k0 er20 dX0_triesOrder_147 ?_
        refine lv_iload_n hx hb dX0_triesOrder_150 rfl (lv_at hl 4 rfl) ?_
        refine lv_iload_n hx hb dX0_triesOrder_151 rfl (lv_at hl 3 rfl) ?_
        revert hf
        refine k_cal (fun z22 U23 h21 hf => ?_)
        refine w_afi hw (w_rV (As := [.ref (gb G + r20), .int x3, .int x2]) C hw (ok_X0_bottles h21) (cw_X0_341 hts (Nat.le_of_ble_eq_true rfl) (Nat.le_of_ble_eq_true rfl)) rfl (by decide) (of_req h21).1 rfl hl.1 rfl (Nat.le_of_ble_eq_true rfl) ⟨Nat.zero_le _, Nat.zero_le _⟩ dX0_triesOrder_152) (fun H locs hw => ?_)
        refine lv_istore (lv' := [(6, .int z22), (5, .int s0), (0, .ref (gb G + x0)), (1, .ref (gb G + x1)), (2, .int x2), (3, .int x3), (4, .int x4)]) hx hb dX0_triesOrder_155 hl (by decide) rfl (fun ls hl => ?_)
        refine lv_aload_n hx hb dX0_triesOrder_157 rfl (lv_at hl 2 rfl) ?_
        refine lv_dup hx hb dX0_triesOrder_158 rfl ?_
        refine gf_X0_395 C hw k0 dX0_triesOrder_159 ?_
        refine lv_iload_n hx hb dX0_triesOrder_162 rfl (lv_at hl 4 rfl) ?_
        refine lv_iadd hx hb dX0_triesOrder_163 ?_
        revert hf
        refine k_stp (fun U24 eU24 hf => ?_)
        refine pf_X0_395 C hw k0 eU24 dX0_triesOrder_164 (fun H locs hw => ?_)
        refine lv_aload_n hx hb dX0_triesOrder_167 rfl (lv_at hl 2 rfl) ?_
        refine lv_aload_n hx hb dX0_triesOrder_168 rfl (lv_at hl 2 rfl) ?_
        refine gf_X0_399 C hw k0 dX0_triesOrder_169 ?_
        refine lv_iload hx hb dX0_triesOrder_172 (lv_at hl 0 rfl) ?_
        refine va_mmin hx hb (C.2.2.1.trans hl.1.symm) hown (hts _ q1335) (hts _ q514) (hts _ q145) (hts _ q515) (Nat.le_of_ble_eq_true rfl) (Nat.le_of_ble_eq_true rfl) (Nat.zero_le _) (Nat.zero_le _) dX0_triesOrder_174 ?_
        revert hf
        refine k_stp (fun U25 eU25 hf => ?_)
        refine pf_X0_399 C hw k0 eU25 dX0_triesOrder_177 (fun H locs hw => ?_)
        refine lv_iload hx hb dX0_triesOrder_180 (lv_at hl 0 rfl) ?_
        cases hf
        exact w_iret C hr hw dX0_triesOrder_182
      · replace hf := ite_t c19 hf
        refine lv_aload_n hx hb dX0_triesOrder_132 rfl (lv_at hl 1 rfl) ?_
        refine lv_aload_n hx hb dX0_triesOrder_133 rfl (lv_at hl 1 rfl) ?_
        revert hf
        refine k_drf (fun r26 er26 hf => ?_)
        refine gf_X0_59 C hw k0 er26 dX0_triesOrder_134 ?_
        refine lv_iload_n hx hb dX0_triesOrder_137 rfl (lv_at hl 4 rfl) ?_
        refine lv_iload hx hb dX0_triesOrder_138 (lv_at hl 5 rfl) ?_
        refine lv_iload_n hx hb dX0_triesOrder_140 rfl (lv_at hl 3 rfl) ?_
        revert hf
        refine k_cal (fun z28 U29 h27 hf => ?_)
        refine w_afi hw (w_rV (As := [.ref (gb G + r26), .int x3, .int x4, .int x2]) C hw (ok_X0_racks h27) (cw_X0_335 hts (Nat.le_of_ble_eq_true rfl) (Nat.le_of_ble_eq_true rfl)) rfl (by decide) (of_req h27).1 rfl hl.1 rfl (Nat.le_of_ble_eq_true rfl) ⟨Nat.zero_le _, Nat.zero_le _⟩ dX0_triesOrder_141) (fun H locs hw => ?_)
        cases hf
        exact w_iret C hr hw dX0_triesOrder_144
    · replace hf := ite_t c18 hf
      refine lv_aload_n hx hb dX0_triesOrder_113 rfl (lv_at hl 1 rfl) ?_
      refine lv_aload_n hx hb dX0_triesOrder_114 rfl (lv_at hl 1 rfl) ?_
      revert hf
      refine k_drf (fun r30 er30 hf => ?_)
      refine gf_X0_59 C hw k0 er30 dX0_triesOrder_115 ?_
      refine lv_iload_n hx hb dX0_triesOrder_118 rfl (lv_at hl 4 rfl) ?_
      refine lv_iload_n hx hb dX0_triesOrder_119 rfl (lv_at hl 3 rfl) ?_
      revert hf
      refine k_cal (fun z32 U33 h31 hf => ?_)
      refine w_afi hw (w_rV (As := [.ref (gb G + r30), .int x3, .int x2]) C hw (ok_X0_pours h31) (cw_X0_328 hts (Nat.le_of_ble_eq_true rfl) (Nat.le_of_ble_eq_true rfl)) rfl (by decide) (of_req h31).1 rfl hl.1 rfl (Nat.le_of_ble_eq_true rfl) ⟨Nat.zero_le _, Nat.zero_le _⟩ dX0_triesOrder_120) (fun H locs hw => ?_)
      cases hf
      exact w_iret C hr hw dX0_triesOrder_123
  · replace hf := ite_f c16 hf
    refine lv_iload hx hb dX0_triesOrder_103 (lv_at hl 0 rfl) ?_
    cases hf
    exact w_iret C hr hw dX0_triesOrder_105
set_option maxHeartbeats 4000000 in
theorem jk_X0_triesOrder_41 {l : Launch} {G : gG} {p : Program} {e : Env} {s : State} {m : MethodId} {args : Array Value} {below : List Frame} {meth : Method} {c : Code} {T : Tt} {V0 : Vt} {r : Int32} {V' : Vt} (C : Cx G p s m args meth c cX0_triesOrder RX0 7) (hr : meth.sig.returnType = (some .int)) {x0 : Nat} {x1 : Nat} {x2 : Int32} {x3 : Int32} {s0 : Int32} {H : Heap} {locs : List Loc} {ls : Array Slot} (k0 : T.1 x0 = 1) (hf : f_X0_triesOrder_J41 T V0 x0 x1 x2 x3 s0 = some (r, V')) (hw : wS G V0 T H locs) (hl : lv_has ls 7 [(0, .ref (gb G + x0)), (1, .ref (gb G + x1)), (2, .int x2), (3, .int x3)]) : W p l e (rmL 428 0 0) s m args below meth c H locs 0 0 (eQ G below (some (.int r)) V' T args s 0 0) (F0 m 41 ls [.int s0]) := by
  have hx := C.1
  have hb := C.2.1
  have hown := C.2.2.2.1
  have hts := C.2.2.2.2.1
  unfold f_X0_triesOrder_J41 at hf
  refine lv_istore (lv' := [(4, .int s0), (0, .ref (gb G + x0)), (1, .ref (gb G + x1)), (2, .int x2), (3, .int x3)]) hx hb dX0_triesOrder_41 hl (by decide) rfl (fun ls hl => ?_)
  refine lv_aload_n hx hb dX0_triesOrder_43 rfl (lv_at hl 2 rfl) ?_
  revert hf
  refine k_req (fun k9 hf => ?_)
  refine gf_X0_389 C hw k9 dX0_triesOrder_44 ?_
  refine lv_if_ne (tgt := 63) hx hb dX0_triesOrder_47 (by decide) (fun c10 => ?_) (fun c10 => ?_)
  · replace hf := ite_f c10 hf
    refine lv_aload_n hx hb dX0_triesOrder_63 rfl (lv_at hl 2 rfl) ?_
    refine gf_X0_389 C hw k9 dX0_triesOrder_64 ?_
    refine lv_iconst (v := (1 : Int32)) hx hb dX0_triesOrder_67 (by decide) ?_
    refine lv_icmp_ne (tgt := 86) hx hb dX0_triesOrder_68 (by decide) (fun c11 => ?_) (fun c11 => ?_)
    · replace hf := ite_f c11 hf
      refine lv_aload_n hx hb dX0_triesOrder_86 rfl (lv_at hl 1 rfl) ?_
      refine lv_aload_n hx hb dX0_triesOrder_87 rfl (lv_at hl 1 rfl) ?_
      revert hf
      refine k_drf (fun r12 er12 hf => ?_)
      refine gf_X0_59 C hw k0 er12 dX0_triesOrder_88 ?_
      refine lv_iload_n hx hb dX0_triesOrder_91 rfl (lv_at hl 4 rfl) ?_
      refine lv_iload_n hx hb dX0_triesOrder_92 rfl (lv_at hl 3 rfl) ?_
      revert hf
      refine k_cal (fun z14 U15 h13 hf => ?_)
      refine w_afi hw (w_rV (As := [.ref (gb G + r12), .int x3, .int x2]) C hw (ok_X0_canBottle h13) (cw_X0_338 hts (Nat.le_of_ble_eq_true rfl) (Nat.le_of_ble_eq_true rfl)) rfl (by decide) (of_req h13).1 rfl hl.1 rfl (Nat.le_of_ble_eq_true rfl) ⟨Nat.zero_le _, Nat.zero_le _⟩ dX0_triesOrder_93) (fun H locs hw => ?_)
      exact jk_X0_triesOrder_96 C hr k0 hf hw (lv_sub hl [1, 2, 3, 4, 0] rfl)
    · replace hf := ite_t c11 hf
      refine lv_aload_n hx hb dX0_triesOrder_71 rfl (lv_at hl 1 rfl) ?_
      refine lv_aload_n hx hb dX0_triesOrder_72 rfl (lv_at hl 1 rfl) ?_
      revert hf
      refine k_drf (fun r34 er34 hf => ?_)
      refine gf_X0_59 C hw k0 er34 dX0_triesOrder_73 ?_
      refine lv_iload_n hx hb dX0_triesOrder_76 rfl (lv_at hl 4 rfl) ?_
      refine lv_iload hx hb dX0_triesOrder_77 (lv_at hl 0 rfl) ?_
      refine lv_iload_n hx hb dX0_triesOrder_79 rfl (lv_at hl 3 rfl) ?_
      revert hf
      refine k_cal (fun z36 U37 h35 hf => ?_)
      refine w_afi hw (w_rV (As := [.ref (gb G + r34), .int x3, .int s0, .int x2]) C hw (ok_X0_canRack h35) (cw_X0_331 hts (Nat.le_of_ble_eq_true rfl) (Nat.le_of_ble_eq_true rfl)) rfl (by decide) (of_req h35).1 rfl hl.1 rfl (Nat.le_of_ble_eq_true rfl) ⟨Nat.zero_le _, Nat.zero_le _⟩ dX0_triesOrder_80) (fun H locs hw => ?_)
      refine lv_goto (tgt := 96) hx hb dX0_triesOrder_83 (by decide) ?_
      exact jk_X0_triesOrder_96 C hr k0 hf hw (lv_sub hl [1, 2, 3, 4, 0] rfl)
  · replace hf := ite_t c10 hf
    refine lv_aload_n hx hb dX0_triesOrder_50 rfl (lv_at hl 1 rfl) ?_
    refine lv_aload_n hx hb dX0_triesOrder_51 rfl (lv_at hl 1 rfl) ?_
    revert hf
    refine k_drf (fun r38 er38 hf => ?_)
    refine gf_X0_59 C hw k0 er38 dX0_triesOrder_52 ?_
    refine lv_iload_n hx hb dX0_triesOrder_55 rfl (lv_at hl 4 rfl) ?_
    refine lv_iload_n hx hb dX0_triesOrder_56 rfl (lv_at hl 3 rfl) ?_
    revert hf
    refine k_pcl (fun z40 h39 hf => ?_)
    refine w_afi hw (w_rV (As := [.ref (gb G + r38), .int x3, .int x2]) C hw (ok_X0_canPour h39) (cw_X0_321 hts (Nat.le_of_ble_eq_true rfl) (Nat.le_of_ble_eq_true rfl)) rfl (by decide) (of_req h39).1 rfl hl.1 rfl (Nat.le_of_ble_eq_true rfl) ⟨Nat.zero_le _, Nat.zero_le _⟩ dX0_triesOrder_57) (fun H locs hw => ?_)
    refine lv_goto (tgt := 96) hx hb dX0_triesOrder_60 (by decide) ?_
    exact jk_X0_triesOrder_96 C hr k0 hf hw (lv_sub hl [1, 2, 3, 4, 0] rfl)
set_option maxHeartbeats 4000000 in
theorem ok_X0_triesOrder {l : Launch} {G : gG} {T : Tt} {V0 : Vt} {o : Nat} {a0 : Nat} {r : Int32} {V' : Vt} (hf : f_X0_triesOrder T V0 o a0 = some (r, V')) : okM l G yX0_triesOrder cX0_triesOrder 7 (some .int) 428 [.ref (gb G + o), .ref (gb G + a0)] V0 T (some (.int r)) V' T 0 0 := by
  refine ok_intro (by decide) (Nat.le_of_ble_eq_true rfl) ?_
  intro p e s m below meth c ls C hr hnm hw hl
  have hx := C.1
  have hb := C.2.1
  have hown := C.2.2.2.1
  have hts := C.2.2.2.2.1
  have hl : lv_has ls 7 [(0, .ref (gb G + o)), (1, .ref (gb G + a0))] := hl
  unfold f_X0_triesOrder at hf
  revert hf
  refine k_req (fun k0 hf => ?_)
  refine lv_aload_n hx hb dX0_triesOrder_0 rfl (lv_at hl 1 rfl) ?_
  refine lv_iconst (v := (0 : Int32)) hx hb dX0_triesOrder_1 (by decide) ?_
  refine lv_aload_n hx hb dX0_triesOrder_2 rfl (lv_at hl 0 rfl) ?_
  revert hf
  refine k_drf (fun r1 er1 hf => ?_)
  refine gf_X0_75 C hw k0 er1 dX0_triesOrder_3 ?_
  revert hf
  refine k_pcl (fun z3 h2 hf => ?_)
  refine w_afi hw (w_rH (As := [.int (0 : Int32), .ref (gb G + r1)]) C hw (ok_X18_told h2) (cw_X0_392 hts (Nat.le_of_ble_eq_true rfl) (Nat.le_of_ble_eq_true rfl)) rfl (by decide) (of_req h2).1 rfl hl.1 rfl (Nat.le_of_ble_eq_true rfl) ⟨Nat.zero_le _, Nat.zero_le _⟩ dX0_triesOrder_6) (fun H locs hw => ?_)
  refine lv_istore_n (lv' := [(2, .int z3), (0, .ref (gb G + o)), (1, .ref (gb G + a0))]) hx hb dX0_triesOrder_9 rfl hl (by decide) rfl (fun ls hl => ?_)
  refine lv_aload_n hx hb dX0_triesOrder_10 rfl (lv_at hl 2 rfl) ?_
  refine lv_iconst (v := (1 : Int32)) hx hb dX0_triesOrder_11 (by decide) ?_
  refine lv_aload_n hx hb dX0_triesOrder_12 rfl (lv_at hl 1 rfl) ?_
  revert hf
  refine k_drf (fun r4 er4 hf => ?_)
  refine gf_X0_75 C hw k0 er4 dX0_triesOrder_13 ?_
  revert hf
  refine k_pcl (fun z6 h5 hf => ?_)
  refine w_afi hw (w_rH (As := [.int (1 : Int32), .ref (gb G + r4)]) C hw (ok_X18_told h5) (cw_X0_392 hts (Nat.le_of_ble_eq_true rfl) (Nat.le_of_ble_eq_true rfl)) rfl (by decide) (of_req h5).1 rfl hl.1 rfl (Nat.le_of_ble_eq_true rfl) ⟨Nat.zero_le _, Nat.zero_le _⟩ dX0_triesOrder_16) (fun H locs hw => ?_)
  refine lv_istore_n (lv' := [(3, .int z6), (2, .int z3), (0, .ref (gb G + o)), (1, .ref (gb G + a0))]) hx hb dX0_triesOrder_19 rfl hl (by decide) rfl (fun ls hl => ?_)
  refine lv_aload_n hx hb dX0_triesOrder_20 rfl (lv_at hl 3 rfl) ?_
  revert hf
  refine k_req (fun k7 hf => ?_)
  refine gf_X0_389 C hw k7 dX0_triesOrder_21 ?_
  refine lv_iconst (v := (1 : Int32)) hx hb dX0_triesOrder_24 (by decide) ?_
  refine lv_icmp_ne (tgt := 40) hx hb dX0_triesOrder_25 (by decide) (fun c8 => ?_) (fun c8 => ?_)
  · replace hf := ite_f c8 hf
    refine lv_iconst (v := ((-1) : Int32)) hx hb dX0_triesOrder_40 (by decide) ?_
    exact jk_X0_triesOrder_41 C hr k0 hf hw (lv_sub hl [2, 3, 1, 0] rfl)
  · replace hf := ite_t c8 hf
    refine lv_aload_n hx hb dX0_triesOrder_28 rfl (lv_at hl 3 rfl) ?_
    refine lv_iconst (v := (2 : Int32)) hx hb dX0_triesOrder_29 (by decide) ?_
    refine lv_aload_n hx hb dX0_triesOrder_30 rfl (lv_at hl 2 rfl) ?_
    revert hf
    refine k_drf (fun r41 er41 hf => ?_)
    refine gf_X0_75 C hw k0 er41 dX0_triesOrder_31 ?_
    revert hf
    refine k_pcl (fun z43 h42 hf => ?_)
    refine w_afi hw (w_rH (As := [.int (2 : Int32), .ref (gb G + r41)]) C hw (ok_X18_told h42) (cw_X0_392 hts (Nat.le_of_ble_eq_true rfl) (Nat.le_of_ble_eq_true rfl)) rfl (by decide) (of_req h42).1 rfl hl.1 rfl (Nat.le_of_ble_eq_true rfl) ⟨Nat.zero_le _, Nat.zero_le _⟩ dX0_triesOrder_34) (fun H locs hw => ?_)
    refine lv_goto (tgt := 41) hx hb dX0_triesOrder_37 (by decide) ?_
    exact jk_X0_triesOrder_41 C hr k0 hf hw (lv_sub hl [2, 3, 1, 0] rfl)
set_option maxHeartbeats 4000000 in
theorem jk_X0_runsYear_152 {l : Launch} {G : gG} {p : Program} {e : Env} {s : State} {m : MethodId} {args : Array Value} {below : List Frame} {meth : Method} {c : Code} {T : Tt} {V0 : Vt} {V' : Vt} (C : Cx G p s m args meth c cX0_runsYear RX0 8) (hr : meth.sig.returnType = none) {x0 : Nat} {x1 : Nat} {x2 : Int32} {x3 : Int32} {x4 : Int32} {kc12 : Int32 → Int32 → Int32 → Vt → Option (Vt)} {kx12_158 : Vt → Option (Vt)} {H : Heap} {locs : List Loc} {ls : Array Slot} (k0 : T.1 x0 = 1) (hf : f_X0_runsYear_J152 T V0 x0 x1 x2 x3 x4 kc12 kx12_158 = some V') (hw : wS G V0 T H locs) (hl : lv_has ls 8 [(0, .ref (gb G + x0)), (1, .ref (gb G + x1)), (2, .int x2), (3, .int x3), (4, .int x4)]) (hkc12 : ∀ (y2 : Int32) (y3 : Int32) (y4 : Int32) (W1 : Vt) (H : Heap) (locs : List Loc) (ls : Array Slot), kc12 y2 y3 y4 W1 = some V' → wS G W1 T H locs → lv_has ls 8 [(0, .ref (gb G + x0)), (1, .ref (gb G + x1)), (2, .int y2), (3, .int y3), (4, .int y4)] → W p l e (rmL 429 0 0) s m args below meth c H locs 0 0 (eQ G below none V' T args s 0 0) (F0 m 12 ls [])) (hkx12_158 : ∀ (W1 : Vt) (H : Heap) (locs : List Loc) (ls : Array Slot), kx12_158 W1 = some V' → wS G W1 T H locs → lv_has ls 8 [(0, .ref (gb G + x0))] → W p l e (rmL 429 0 0) s m args below meth c H locs 0 0 (eQ G below none V' T args s 0 0) (F0 m 158 ls [])) : W p l e (rmL 429 0 0) s m args below meth c H locs 0 0 (eQ G below none V' T args s 0 0) (F0 m 152 ls []) := by
  have hx := C.1
  have hb := C.2.1
  have hown := C.2.2.2.1
  have hts := C.2.2.2.2.1
  unfold f_X0_runsYear_J152 at hf
  revert hf
  refine k_stp (fun z38 ez38 hf => ?_)
  refine lv_iinc (k := 4) (lv' := [(4, .int z38), (0, .ref (gb G + x0)), (1, .ref (gb G + x1)), (2, .int x2), (3, .int x3)]) hx hb dX0_runsYear_152 hl rfl (inc_e (by decide) ez38) (by decide) rfl (fun ls hl => ?_)
  refine lv_goto (tgt := 12) hx hb dX0_runsYear_155 (by decide) ?_
  exact hkc12 _ _ _ _ _ _ _ hf hw (lv_sub hl [1, 2, 3, 4, 0] rfl)
set_option maxHeartbeats 4000000 in
theorem jk_X0_runsYear_146 {l : Launch} {G : gG} {p : Program} {e : Env} {s : State} {m : MethodId} {args : Array Value} {below : List Frame} {meth : Method} {c : Code} {T : Tt} {V0 : Vt} {V' : Vt} (C : Cx G p s m args meth c cX0_runsYear RX0 8) (hr : meth.sig.returnType = none) {x0 : Nat} {x1 : Nat} {x2 : Int32} {x3 : Int32} {x4 : Int32} {x5 : Nat} {x6 : Int32} {kc12 : Int32 → Int32 → Int32 → Vt → Option (Vt)} {kx12_158 : Vt → Option (Vt)} {kc41 : Int32 → Int32 → Int32 → Vt → Option (Vt)} {kx41_152 : Int32 → Int32 → Vt → Option (Vt)} {H : Heap} {locs : List Loc} {ls : Array Slot} (k0 : T.1 x0 = 1) (hf : f_X0_runsYear_J146 T V0 x0 x1 x2 x3 x4 x5 x6 kc12 kx12_158 kc41 kx41_152 = some V') (hw : wS G V0 T H locs) (hl : lv_has ls 8 [(0, .ref (gb G + x0)), (1, .ref (gb G + x1)), (2, .int x2), (3, .int x3), (4, .int x4), (5, .ref (gb G + x5)), (6, .int x6)]) (hkc12 : ∀ (y2 : Int32) (y3 : Int32) (y4 : Int32) (W1 : Vt) (H : Heap) (locs : List Loc) (ls : Array Slot), kc12 y2 y3 y4 W1 = some V' → wS G W1 T H locs → lv_has ls 8 [(0, .ref (gb G + x0)), (1, .ref (gb G + x1)), (2, .int y2), (3, .int y3), (4, .int y4)] → W p l e (rmL 429 0 0) s m args below meth c H locs 0 0 (eQ G below none V' T args s 0 0) (F0 m 12 ls [])) (hkx12_158 : ∀ (W1 : Vt) (H : Heap) (locs : List Loc) (ls : Array Slot), kx12_158 W1 = some V' → wS G W1 T H locs → lv_has ls 8 [(0, .ref (gb G + x0))] → W p l e (rmL 429 0 0) s m args below meth c H locs 0 0 (eQ G below none V' T args s 0 0) (F0 m 158 ls [])) (hkc41 : ∀ (y2 : Int32) (y3 : Int32) (y6 : Int32) (W1 : Vt) (H : Heap) (locs : List Loc) (ls : Array Slot), kc41 y2 y3 y6 W1 = some V' → wS G W1 T H locs → lv_has ls 8 [(0, .ref (gb G + x0)), (1, .ref (gb G + x1)), (2, .int y2), (3, .int y3), (4, .int x4), (5, .ref (gb G + x5)), (6, .int y6)] → W p l e (rmL 429 0 0) s m args below meth c H locs 0 0 (eQ G below none V' T args s 0 0) (F0 m 41 ls [])) (hkx41_152 : ∀ (y2 : Int32) (y3 : Int32) (W1 : Vt) (H : Heap) (locs : List Loc) (ls : Array Slot), kx41_152 y2 y3 W1 = some V' → wS G W1 T H locs → lv_has ls 8 [(0, .ref (gb G + x0)), (1, .ref (gb G + x1)), (2, .int y2), (3, .int y3), (4, .int x4)] → W p l e (rmL 429 0 0) s m args below meth c H locs 0 0 (eQ G below none V' T args s 0 0) (F0 m 152 ls [])) : W p l e (rmL 429 0 0) s m args below meth c H locs 0 0 (eQ G below none V' T args s 0 0) (F0 m 146 ls []) := by
  have hx := C.1
  have hb := C.2.1
  have hown := C.2.2.2.1
  have hts := C.2.2.2.2.1
  unfold f_X0_runsYear_J146 at hf
  revert hf
  refine k_stp (fun z32 ez32 hf => ?_)
  refine lv_iinc (k := 6) (lv' := [(6, .int z32), (0, .ref (gb G + x0)), (1, .ref (gb G + x1)), (2, .int x2), (3, .int x3), (4, .int x4), (5, .ref (gb G + x5))]) hx hb dX0_runsYear_146 hl rfl (inc_e (by decide) ez32) (by decide) rfl (fun ls hl => ?_)
  refine lv_goto (tgt := 41) hx hb dX0_runsYear_149 (by decide) ?_
  exact hkc41 _ _ _ _ _ _ _ hf hw (lv_sub hl [1, 2, 3, 4, 5, 6, 0] rfl)
set_option maxHeartbeats 4000000 in
theorem jk_X0_runsYear_144 {l : Launch} {G : gG} {p : Program} {e : Env} {s : State} {m : MethodId} {args : Array Value} {below : List Frame} {meth : Method} {c : Code} {T : Tt} {V0 : Vt} {V' : Vt} (C : Cx G p s m args meth c cX0_runsYear RX0 8) (hr : meth.sig.returnType = none) {x0 : Nat} {x1 : Nat} {x3 : Int32} {x4 : Int32} {x5 : Nat} {x6 : Int32} {s0 : Int32} {s1 : Int32} {kc12 : Int32 → Int32 → Int32 → Vt → Option (Vt)} {kx12_158 : Vt → Option (Vt)} {kc41 : Int32 → Int32 → Int32 → Vt → Option (Vt)} {kx41_152 : Int32 → Int32 → Vt → Option (Vt)} {H : Heap} {locs : List Loc} {ls : Array Slot} (k0 : T.1 x0 = 1) (hf : f_X0_runsYear_J144 T V0 x0 x1 x3 x4 x5 x6 s0 s1 kc12 kx12_158 kc41 kx41_152 = some V') (hw : wS G V0 T H locs) (hl : lv_has ls 8 [(0, .ref (gb G + x0)), (1, .ref (gb G + x1)), (3, .int x3), (4, .int x4), (5, .ref (gb G + x5)), (6, .int x6)]) (hkc12 : ∀ (y2 : Int32) (y3 : Int32) (y4 : Int32) (W1 : Vt) (H : Heap) (locs : List Loc) (ls : Array Slot), kc12 y2 y3 y4 W1 = some V' → wS G W1 T H locs → lv_has ls 8 [(0, .ref (gb G + x0)), (1, .ref (gb G + x1)), (2, .int y2), (3, .int y3), (4, .int y4)] → W p l e (rmL 429 0 0) s m args below meth c H locs 0 0 (eQ G below none V' T args s 0 0) (F0 m 12 ls [])) (hkx12_158 : ∀ (W1 : Vt) (H : Heap) (locs : List Loc) (ls : Array Slot), kx12_158 W1 = some V' → wS G W1 T H locs → lv_has ls 8 [(0, .ref (gb G + x0))] → W p l e (rmL 429 0 0) s m args below meth c H locs 0 0 (eQ G below none V' T args s 0 0) (F0 m 158 ls [])) (hkc41 : ∀ (y2 : Int32) (y3 : Int32) (y6 : Int32) (W1 : Vt) (H : Heap) (locs : List Loc) (ls : Array Slot), kc41 y2 y3 y6 W1 = some V' → wS G W1 T H locs → lv_has ls 8 [(0, .ref (gb G + x0)), (1, .ref (gb G + x1)), (2, .int y2), (3, .int y3), (4, .int x4), (5, .ref (gb G + x5)), (6, .int y6)] → W p l e (rmL 429 0 0) s m args below meth c H locs 0 0 (eQ G below none V' T args s 0 0) (F0 m 41 ls [])) (hkx41_152 : ∀ (y2 : Int32) (y3 : Int32) (W1 : Vt) (H : Heap) (locs : List Loc) (ls : Array Slot), kx41_152 y2 y3 W1 = some V' → wS G W1 T H locs → lv_has ls 8 [(0, .ref (gb G + x0)), (1, .ref (gb G + x1)), (2, .int y2), (3, .int y3), (4, .int x4)] → W p l e (rmL 429 0 0) s m args below meth c H locs 0 0 (eQ G below none V' T args s 0 0) (F0 m 152 ls [])) : W p l e (rmL 429 0 0) s m args below meth c H locs 0 0 (eQ G below none V' T args s 0 0) (F0 m 144 ls [.int s1, .int s0]) := by
  have hx := C.1
  have hb := C.2.1
  have hown := C.2.2.2.1
  have hts := C.2.2.2.2.1
  unfold f_X0_runsYear_J144 at hf
  refine lv_iadd hx hb dX0_runsYear_144 ?_
  revert hf
  refine k_stp (fun z31 ez31 hf => ?_)
  refine w_nmI ez31 ?_
  refine lv_istore_n (lv' := [(2, .int z31), (0, .ref (gb G + x0)), (1, .ref (gb G + x1)), (3, .int x3), (4, .int x4), (5, .ref (gb G + x5)), (6, .int x6)]) hx hb dX0_runsYear_145 rfl hl (by decide) rfl (fun ls hl => ?_)
  exact jk_X0_runsYear_146 C hr k0 hf hw (lv_sub hl [1, 2, 0, 3, 4, 5, 6] rfl) hkc12 hkx12_158 hkc41 hkx41_152
set_option maxHeartbeats 4000000 in
theorem jk_X0_runsYear_132 {l : Launch} {G : gG} {p : Program} {e : Env} {s : State} {m : MethodId} {args : Array Value} {below : List Frame} {meth : Method} {c : Code} {T : Tt} {V0 : Vt} {V' : Vt} (C : Cx G p s m args meth c cX0_runsYear RX0 8) (hr : meth.sig.returnType = none) {x0 : Nat} {x1 : Nat} {x2 : Int32} {x4 : Int32} {x5 : Nat} {x6 : Int32} {x7 : Int32} {s0 : Int32} {kc12 : Int32 → Int32 → Int32 → Vt → Option (Vt)} {kx12_158 : Vt → Option (Vt)} {kc41 : Int32 → Int32 → Int32 → Vt → Option (Vt)} {kx41_152 : Int32 → Int32 → Vt → Option (Vt)} {H : Heap} {locs : List Loc} {ls : Array Slot} (k0 : T.1 x0 = 1) (hf : f_X0_runsYear_J132 T V0 x0 x1 x2 x4 x5 x6 x7 s0 kc12 kx12_158 kc41 kx41_152 = some V') (hw : wS G V0 T H locs) (hl : lv_has ls 8 [(0, .ref (gb G + x0)), (1, .ref (gb G + x1)), (2, .int x2), (4, .int x4), (5, .ref (gb G + x5)), (6, .int x6), (7, .int x7)]) (hkc12 : ∀ (y2 : Int32) (y3 : Int32) (y4 : Int32) (W1 : Vt) (H : Heap) (locs : List Loc) (ls : Array Slot), kc12 y2 y3 y4 W1 = some V' → wS G W1 T H locs → lv_has ls 8 [(0, .ref (gb G + x0)), (1, .ref (gb G + x1)), (2, .int y2), (3, .int y3), (4, .int y4)] → W p l e (rmL 429 0 0) s m args below meth c H locs 0 0 (eQ G below none V' T args s 0 0) (F0 m 12 ls [])) (hkx12_158 : ∀ (W1 : Vt) (H : Heap) (locs : List Loc) (ls : Array Slot), kx12_158 W1 = some V' → wS G W1 T H locs → lv_has ls 8 [(0, .ref (gb G + x0))] → W p l e (rmL 429 0 0) s m args below meth c H locs 0 0 (eQ G below none V' T args s 0 0) (F0 m 158 ls [])) (hkc41 : ∀ (y2 : Int32) (y3 : Int32) (y6 : Int32) (W1 : Vt) (H : Heap) (locs : List Loc) (ls : Array Slot), kc41 y2 y3 y6 W1 = some V' → wS G W1 T H locs → lv_has ls 8 [(0, .ref (gb G + x0)), (1, .ref (gb G + x1)), (2, .int y2), (3, .int y3), (4, .int x4), (5, .ref (gb G + x5)), (6, .int y6)] → W p l e (rmL 429 0 0) s m args below meth c H locs 0 0 (eQ G below none V' T args s 0 0) (F0 m 41 ls [])) (hkx41_152 : ∀ (y2 : Int32) (y3 : Int32) (W1 : Vt) (H : Heap) (locs : List Loc) (ls : Array Slot), kx41_152 y2 y3 W1 = some V' → wS G W1 T H locs → lv_has ls 8 [(0, .ref (gb G + x0)), (1, .ref (gb G + x1)), (2, .int y2), (3, .int y3), (4, .int x4)] → W p l e (rmL 429 0 0) s m args below meth c H locs 0 0 (eQ G below none V' T args s 0 0) (F0 m 152 ls [])) : W p l e (rmL 429 0 0) s m args below meth c H locs 0 0 (eQ G below none V' T args s 0 0) (F0 m 132 ls [.int s0]) := by
  have hx := C.1
  have hb := C.2.1
  have hown := C.2.2.2.1
  have hts := C.2.2.2.2.1
  unfold f_X0_runsYear_J132 at hf
  refine lv_istore_n (lv' := [(3, .int s0), (0, .ref (gb G + x0)), (1, .ref (gb G + x1)), (2, .int x2), (4, .int x4), (5, .ref (gb G + x5)), (6, .int x6), (7, .int x7)]) hx hb dX0_runsYear_132 rfl hl (by decide) rfl (fun ls hl => ?_)
  refine lv_iload_n hx hb dX0_runsYear_133 rfl (lv_at hl 3 rfl) ?_
  refine lv_iload hx hb dX0_runsYear_134 (lv_at hl 7 rfl) ?_
  refine lv_if_ge (tgt := 143) hx hb dX0_runsYear_136 (by decide) (fun c30 => ?_) (fun c30 => ?_)
  · replace hf := ite_t c30 hf
    refine lv_iconst (v := (1 : Int32)) hx hb dX0_runsYear_143 (by decide) ?_
    exact jk_X0_runsYear_144 C hr k0 hf hw (lv_sub hl [1, 2, 0, 4, 5, 6] rfl) hkc12 hkx12_158 hkc41 hkx41_152
  · replace hf := ite_f c30 hf
    refine lv_iconst (v := (0 : Int32)) hx hb dX0_runsYear_139 (by decide) ?_
    refine lv_goto (tgt := 144) hx hb dX0_runsYear_140 (by decide) ?_
    exact jk_X0_runsYear_144 C hr k0 hf hw (lv_sub hl [1, 2, 0, 4, 5, 6] rfl) hkc12 hkx12_158 hkc41 hkx41_152
set_option maxHeartbeats 4000000 in
theorem jk_X0_runsYear_131 {l : Launch} {G : gG} {p : Program} {e : Env} {s : State} {m : MethodId} {args : Array Value} {below : List Frame} {meth : Method} {c : Code} {T : Tt} {V0 : Vt} {V' : Vt} (C : Cx G p s m args meth c cX0_runsYear RX0 8) (hr : meth.sig.returnType = none) {x0 : Nat} {x1 : Nat} {x2 : Int32} {x3 : Int32} {x4 : Int32} {x5 : Nat} {x6 : Int32} {x7 : Int32} {kc12 : Int32 → Int32 → Int32 → Vt → Option (Vt)} {kx12_158 : Vt → Option (Vt)} {kc41 : Int32 → Int32 → Int32 → Vt → Option (Vt)} {kx41_152 : Int32 → Int32 → Vt → Option (Vt)} {H : Heap} {locs : List Loc} {ls : Array Slot} (k0 : T.1 x0 = 1) (hf : f_X0_runsYear_J131 T V0 x0 x1 x2 x3 x4 x5 x6 x7 kc12 kx12_158 kc41 kx41_152 = some V') (hw : wS G V0 T H locs) (hl : lv_has ls 8 [(0, .ref (gb G + x0)), (1, .ref (gb G + x1)), (2, .int x2), (3, .int x3), (4, .int x4), (5, .ref (gb G + x5)), (6, .int x6), (7, .int x7)]) (hkc12 : ∀ (y2 : Int32) (y3 : Int32) (y4 : Int32) (W1 : Vt) (H : Heap) (locs : List Loc) (ls : Array Slot), kc12 y2 y3 y4 W1 = some V' → wS G W1 T H locs → lv_has ls 8 [(0, .ref (gb G + x0)), (1, .ref (gb G + x1)), (2, .int y2), (3, .int y3), (4, .int y4)] → W p l e (rmL 429 0 0) s m args below meth c H locs 0 0 (eQ G below none V' T args s 0 0) (F0 m 12 ls [])) (hkx12_158 : ∀ (W1 : Vt) (H : Heap) (locs : List Loc) (ls : Array Slot), kx12_158 W1 = some V' → wS G W1 T H locs → lv_has ls 8 [(0, .ref (gb G + x0))] → W p l e (rmL 429 0 0) s m args below meth c H locs 0 0 (eQ G below none V' T args s 0 0) (F0 m 158 ls [])) (hkc41 : ∀ (y2 : Int32) (y3 : Int32) (y6 : Int32) (W1 : Vt) (H : Heap) (locs : List Loc) (ls : Array Slot), kc41 y2 y3 y6 W1 = some V' → wS G W1 T H locs → lv_has ls 8 [(0, .ref (gb G + x0)), (1, .ref (gb G + x1)), (2, .int y2), (3, .int y3), (4, .int x4), (5, .ref (gb G + x5)), (6, .int y6)] → W p l e (rmL 429 0 0) s m args below meth c H locs 0 0 (eQ G below none V' T args s 0 0) (F0 m 41 ls [])) (hkx41_152 : ∀ (y2 : Int32) (y3 : Int32) (W1 : Vt) (H : Heap) (locs : List Loc) (ls : Array Slot), kx41_152 y2 y3 W1 = some V' → wS G W1 T H locs → lv_has ls 8 [(0, .ref (gb G + x0)), (1, .ref (gb G + x1)), (2, .int y2), (3, .int y3), (4, .int x4)] → W p l e (rmL 429 0 0) s m args below meth c H locs 0 0 (eQ G below none V' T args s 0 0) (F0 m 152 ls [])) : W p l e (rmL 429 0 0) s m args below meth c H locs 0 0 (eQ G below none V' T args s 0 0) (F0 m 131 ls []) := by
  have hx := C.1
  have hb := C.2.1
  have hown := C.2.2.2.1
  have hts := C.2.2.2.2.1
  unfold f_X0_runsYear_J131 at hf
  refine lv_iload_n hx hb dX0_runsYear_131 rfl (lv_at hl 3 rfl) ?_
  exact jk_X0_runsYear_132 C hr k0 hf hw (lv_sub hl [0, 1, 2, 4, 5, 6, 7] rfl) hkc12 hkx12_158 hkc41 hkx41_152
set_option maxHeartbeats 4000000 in
theorem jk_X0_runsYear_108 {l : Launch} {G : gG} {p : Program} {e : Env} {s : State} {m : MethodId} {args : Array Value} {below : List Frame} {meth : Method} {c : Code} {T : Tt} {V0 : Vt} {V' : Vt} (C : Cx G p s m args meth c cX0_runsYear RX0 8) (hr : meth.sig.returnType = none) {x0 : Nat} {x1 : Nat} {x2 : Int32} {x3 : Int32} {x4 : Int32} {x5 : Nat} {x6 : Int32} {x7 : Int32} {s0 : Nat} {s1 : Int32} {s2 : Int32} {kc12 : Int32 → Int32 → Int32 → Vt → Option (Vt)} {kx12_158 : Vt → Option (Vt)} {kc41 : Int32 → Int32 → Int32 → Vt → Option (Vt)} {kx41_152 : Int32 → Int32 → Vt → Option (Vt)} {H : Heap} {locs : List Loc} {ls : Array Slot} (k0 : T.1 x0 = 1) (hf : f_X0_runsYear_J108 T V0 x0 x1 x2 x3 x4 x5 x6 x7 s0 s1 s2 kc12 kx12_158 kc41 kx41_152 = some V') (hw : wS G V0 T H locs) (hl : lv_has ls 8 [(0, .ref (gb G + x0)), (1, .ref (gb G + x1)), (2, .int x2), (3, .int x3), (4, .int x4), (5, .ref (gb G + x5)), (6, .int x6), (7, .int x7)]) (hkc12 : ∀ (y2 : Int32) (y3 : Int32) (y4 : Int32) (W1 : Vt) (H : Heap) (locs : List Loc) (ls : Array Slot), kc12 y2 y3 y4 W1 = some V' → wS G W1 T H locs → lv_has ls 8 [(0, .ref (gb G + x0)), (1, .ref (gb G + x1)), (2, .int y2), (3, .int y3), (4, .int y4)] → W p l e (rmL 429 0 0) s m args below meth c H locs 0 0 (eQ G below none V' T args s 0 0) (F0 m 12 ls [])) (hkx12_158 : ∀ (W1 : Vt) (H : Heap) (locs : List Loc) (ls : Array Slot), kx12_158 W1 = some V' → wS G W1 T H locs → lv_has ls 8 [(0, .ref (gb G + x0))] → W p l e (rmL 429 0 0) s m args below meth c H locs 0 0 (eQ G below none V' T args s 0 0) (F0 m 158 ls [])) (hkc41 : ∀ (y2 : Int32) (y3 : Int32) (y6 : Int32) (W1 : Vt) (H : Heap) (locs : List Loc) (ls : Array Slot), kc41 y2 y3 y6 W1 = some V' → wS G W1 T H locs → lv_has ls 8 [(0, .ref (gb G + x0)), (1, .ref (gb G + x1)), (2, .int y2), (3, .int y3), (4, .int x4), (5, .ref (gb G + x5)), (6, .int y6)] → W p l e (rmL 429 0 0) s m args below meth c H locs 0 0 (eQ G below none V' T args s 0 0) (F0 m 41 ls [])) (hkx41_152 : ∀ (y2 : Int32) (y3 : Int32) (W1 : Vt) (H : Heap) (locs : List Loc) (ls : Array Slot), kx41_152 y2 y3 W1 = some V' → wS G W1 T H locs → lv_has ls 8 [(0, .ref (gb G + x0)), (1, .ref (gb G + x1)), (2, .int y2), (3, .int y3), (4, .int x4)] → W p l e (rmL 429 0 0) s m args below meth c H locs 0 0 (eQ G below none V' T args s 0 0) (F0 m 152 ls [])) : W p l e (rmL 429 0 0) s m args below meth c H locs 0 0 (eQ G below none V' T args s 0 0) (F0 m 108 ls [.int s2, .int s1, .ref (gb G + s0)]) := by
  have hx := C.1
  have hb := C.2.1
  have hown := C.2.2.2.1
  have hts := C.2.2.2.2.1
  unfold f_X0_runsYear_J108 at hf
  refine lv_ior hx hb dX0_runsYear_108 ?_
  revert hf
  refine k_req (fun k26 hf => ?_)
  revert hf
  refine k_req (fun h27 hf => ?_)
  revert hf
  refine k_stp (fun U28 eU28 hf => ?_)
  refine pf_X0_402 C hw k26 h27 eU28 dX0_runsYear_109 (fun H locs hw => ?_)
  refine lv_iload hx hb dX0_runsYear_112 (lv_at hl 7 rfl) ?_
  refine lv_if_lt (tgt := 131) hx hb dX0_runsYear_114 (by decide) (fun c29 => ?_) (fun c29 => ?_)
  · replace hf := ite_t c29 hf
    exact jk_X0_runsYear_131 C hr k0 hf hw (lv_sub hl [0, 1, 2, 3, 4, 5, 6, 7] rfl) hkc12 hkx12_158 hkc41 hkx41_152
  · replace hf := ite_f c29 hf
    refine lv_aload hx hb dX0_runsYear_117 (lv_at hl 5 rfl) ?_
    revert hf
    refine k_req (fun k33 hf => ?_)
    refine gf_X0_389 C hw k33 dX0_runsYear_119 ?_
    refine lv_iconst (v := (2 : Int32)) hx hb dX0_runsYear_122 (by decide) ?_
    refine lv_icmp_ne (tgt := 131) hx hb dX0_runsYear_123 (by decide) (fun c34 => ?_) (fun c34 => ?_)
    · replace hf := ite_f c34 hf
      exact jk_X0_runsYear_131 C hr k0 hf hw (lv_sub hl [0, 1, 2, 3, 4, 5, 6, 7] rfl) hkc12 hkx12_158 hkc41 hkx41_152
    · replace hf := ite_t c34 hf
      refine lv_iload hx hb dX0_runsYear_126 (lv_at hl 7 rfl) ?_
      refine lv_goto (tgt := 132) hx hb dX0_runsYear_128 (by decide) ?_
      exact jk_X0_runsYear_132 C hr k0 hf hw (lv_sub hl [0, 1, 2, 4, 5, 6, 7] rfl) hkc12 hkx12_158 hkc41 hkx41_152
set_option maxHeartbeats 4000000 in
theorem lk_X0_runsYear_41 {l : Launch} {G : gG} {p : Program} {e : Env} {s : State} {m : MethodId} {args : Array Value} {below : List Frame} {meth : Method} {c : Code} {T : Tt} {V' : Vt} (C : Cx G p s m args meth c cX0_runsYear RX0 8) (hr : meth.sig.returnType = none) {x0 : Nat} {x1 : Nat} {x4 : Int32} {x5 : Nat} {kc12 : Int32 → Int32 → Int32 → Vt → Option (Vt)} {kx12_158 : Vt → Option (Vt)} {kx41_152 : Int32 → Int32 → Vt → Option (Vt)} (k0 : T.1 x0 = 1) (hkc12 : ∀ (y2 : Int32) (y3 : Int32) (y4 : Int32) (W1 : Vt) (H : Heap) (locs : List Loc) (ls : Array Slot), kc12 y2 y3 y4 W1 = some V' → wS G W1 T H locs → lv_has ls 8 [(0, .ref (gb G + x0)), (1, .ref (gb G + x1)), (2, .int y2), (3, .int y3), (4, .int y4)] → W p l e (rmL 429 0 0) s m args below meth c H locs 0 0 (eQ G below none V' T args s 0 0) (F0 m 12 ls [])) (hkx12_158 : ∀ (W1 : Vt) (H : Heap) (locs : List Loc) (ls : Array Slot), kx12_158 W1 = some V' → wS G W1 T H locs → lv_has ls 8 [(0, .ref (gb G + x0))] → W p l e (rmL 429 0 0) s m args below meth c H locs 0 0 (eQ G below none V' T args s 0 0) (F0 m 158 ls [])) (hkx41_152 : ∀ (y2 : Int32) (y3 : Int32) (W1 : Vt) (H : Heap) (locs : List Loc) (ls : Array Slot), kx41_152 y2 y3 W1 = some V' → wS G W1 T H locs → lv_has ls 8 [(0, .ref (gb G + x0)), (1, .ref (gb G + x1)), (2, .int y2), (3, .int y3), (4, .int x4)] → W p l e (rmL 429 0 0) s m args below meth c H locs 0 0 (eQ G below none V' T args s 0 0) (F0 m 152 ls [])) : ∀ (n : Nat) (x2 : Int32) (x3 : Int32) (x6 : Int32) (V1 : Vt) (H : Heap) (locs : List Loc) (ls : Array Slot), f_X0_runsYear_L41 T x0 x1 x4 x5 kc12 kx12_158 kx41_152 n x2 x3 x6 V1 = some V' → wS G V1 T H locs → lv_has ls 8 [(0, .ref (gb G + x0)), (1, .ref (gb G + x1)), (2, .int x2), (3, .int x3), (4, .int x4), (5, .ref (gb G + x5)), (6, .int x6)] → W p l e (rmL 429 0 0) s m args below meth c H locs 0 0 (eQ G below none V' T args s 0 0) (F0 m 41 ls []) := by
  have hx := C.1
  have hb := C.2.1
  have hown := C.2.2.2.1
  have hts := C.2.2.2.2.1
  intro n
  induction n with
  | zero =>
    intro x2 x3 x6 V1 H locs ls hf
    cases hf
  | succ n ih =>
    intro x2 x3 x6 V1 H locs ls hf hw hl
    unfold f_X0_runsYear_L41 at hf
    refine lv_iload hx hb dX0_runsYear_41 (lv_at hl 6 rfl) ?_
    refine lv_aload hx hb dX0_runsYear_43 (lv_at hl 5 rfl) ?_
    revert hf
    refine k_req (fun k11 hf => ?_)
    refine gf_X0_371 C hw k11 dX0_runsYear_45 ?_
    refine lv_icmp_ge (tgt := 152) hx hb dX0_runsYear_48 (by decide) (fun c12 => ?_) (fun c12 => ?_)
    · replace hf := ite_t c12 hf
      exact hkx41_152 _ _ _ _ _ _ hf hw (lv_sub hl [0, 1, 2, 3, 4] rfl)
    · replace hf := ite_f c12 hf
      refine lv_aload hx hb dX0_runsYear_51 (lv_at hl 5 rfl) ?_
      refine gf_X0_389 C hw k11 dX0_runsYear_53 ?_
      refine lv_iconst (v := (3 : Int32)) hx hb dX0_runsYear_56 (by decide) ?_
      refine lv_icmp_eq (tgt := 152) hx hb dX0_runsYear_57 (by decide) (fun c13 => ?_) (fun c13 => ?_)
      · replace hf := ite_t c13 hf
        exact hkx41_152 _ _ _ _ _ _ hf hw (lv_sub hl [0, 1, 2, 3, 4] rfl)
      · replace hf := ite_f c13 hf
        refine lv_aload_n hx hb dX0_runsYear_60 rfl (lv_at hl 0 rfl) ?_
        refine lv_aload_n hx hb dX0_runsYear_61 rfl (lv_at hl 0 rfl) ?_
        revert hf
        refine k_drf (fun r14 er14 hf => ?_)
        refine gf_X0_59 C hw k0 er14 dX0_runsYear_62 ?_
        refine lv_iload_n hx hb dX0_runsYear_65 rfl (lv_at hl 2 rfl) ?_
        refine lv_iload_n hx hb dX0_runsYear_66 rfl (lv_at hl 3 rfl) ?_
        revert hf
        refine k_pcl (fun U17 h15 hf => ?_)
        refine w_afv hw (w_rV (As := [.ref (gb G + r14), .int x2, .int x3]) C hw (ok_X0_tellsOrder h15) (cw_X0_374 hts (Nat.le_of_ble_eq_true rfl) (Nat.le_of_ble_eq_true rfl)) rfl (by decide) (of_req h15).1 rfl hl.1 rfl (Nat.le_of_ble_eq_true rfl) ⟨Nat.zero_le _, Nat.zero_le _⟩ dX0_runsYear_67) (fun H locs hw => ?_)
        refine lv_aload hx hb dX0_runsYear_70 (lv_at hl 5 rfl) ?_
        refine lv_aload_n hx hb dX0_runsYear_72 rfl (lv_at hl 0 rfl) ?_
        revert hf
        refine k_drf (fun r18 er18 hf => ?_)
        refine gf_X0_75 C hw k0 er18 dX0_runsYear_73 ?_
        revert hf
        refine k_pcl (fun z20 h19 hf => ?_)
        refine w_afi hw (w_rH (As := [.ref (gb G + r18)]) C hw (ok_X18_isNow h19) (cw_X0_378 hts (Nat.le_of_ble_eq_true rfl) (Nat.le_of_ble_eq_true rfl)) rfl (by decide) (of_req h19).1 rfl hl.1 rfl (Nat.le_of_ble_eq_true rfl) ⟨Nat.zero_le _, Nat.zero_le _⟩ dX0_runsYear_76) (fun H locs hw => ?_)
        refine lv_if_ne (tgt := 85) hx hb dX0_runsYear_79 (by decide) (fun c21 => ?_) (fun c21 => ?_)
        · replace hf := ite_f c21 hf
          refine lv_aload_n hx hb dX0_runsYear_85 rfl (lv_at hl 0 rfl) ?_
          refine lv_aload hx hb dX0_runsYear_86 (lv_at hl 5 rfl) ?_
          revert hf
          refine k_cal (fun z23 U24 h22 hf => ?_)
          refine w_afi hw (w_rV (As := [.ref (gb G + x5)]) C hw (ok_X0_triesOrder h22) (cw_X0_407 hts (Nat.le_of_ble_eq_true rfl) (Nat.le_of_ble_eq_true rfl)) rfl (by decide) (of_req h22).1 rfl hl.1 rfl (Nat.le_of_ble_eq_true rfl) ⟨Nat.zero_le _, Nat.zero_le _⟩ dX0_runsYear_88) (fun H locs hw => ?_)
          refine lv_istore (lv' := [(7, .int z23), (0, .ref (gb G + x0)), (1, .ref (gb G + x1)), (2, .int x2), (3, .int x3), (4, .int x4), (5, .ref (gb G + x5)), (6, .int x6)]) hx hb dX0_runsYear_91 hl (by decide) rfl (fun ls hl => ?_)
          refine lv_aload_n hx hb dX0_runsYear_93 rfl (lv_at hl 1 rfl) ?_
          refine lv_dup hx hb dX0_runsYear_94 rfl ?_
          refine gf_X0_402 C hw k0 dX0_runsYear_95 ?_
          refine lv_iload hx hb dX0_runsYear_98 (lv_at hl 0 rfl) ?_
          refine lv_if_ge (tgt := 107) hx hb dX0_runsYear_100 (by decide) (fun c25 => ?_) (fun c25 => ?_)
          · replace hf := ite_t c25 hf
            refine lv_iconst (v := (0 : Int32)) hx hb dX0_runsYear_107 (by decide) ?_
            exact jk_X0_runsYear_108 C hr k0 hf hw (lv_sub hl [1, 2, 3, 4, 5, 6, 7, 0] rfl) hkc12 hkx12_158 ih hkx41_152
          · replace hf := ite_f c25 hf
            refine lv_iconst (v := (1 : Int32)) hx hb dX0_runsYear_103 (by decide) ?_
            refine lv_goto (tgt := 108) hx hb dX0_runsYear_104 (by decide) ?_
            exact jk_X0_runsYear_108 C hr k0 hf hw (lv_sub hl [1, 2, 3, 4, 5, 6, 7, 0] rfl) hkc12 hkx12_158 ih hkx41_152
        · replace hf := ite_t c21 hf
          refine lv_goto (tgt := 146) hx hb dX0_runsYear_82 (by decide) ?_
          exact jk_X0_runsYear_146 C hr k0 hf hw (lv_sub hl [0, 1, 2, 3, 4, 5, 6] rfl) hkc12 hkx12_158 ih hkx41_152
set_option maxHeartbeats 4000000 in
theorem lk_X0_runsYear_12 {l : Launch} {G : gG} {p : Program} {e : Env} {s : State} {m : MethodId} {args : Array Value} {below : List Frame} {meth : Method} {c : Code} {T : Tt} {V' : Vt} (C : Cx G p s m args meth c cX0_runsYear RX0 8) (hr : meth.sig.returnType = none) {x0 : Nat} {x1 : Nat} {kx12_158 : Vt → Option (Vt)} (k0 : T.1 x0 = 1) (hkx12_158 : ∀ (W1 : Vt) (H : Heap) (locs : List Loc) (ls : Array Slot), kx12_158 W1 = some V' → wS G W1 T H locs → lv_has ls 8 [(0, .ref (gb G + x0))] → W p l e (rmL 429 0 0) s m args below meth c H locs 0 0 (eQ G below none V' T args s 0 0) (F0 m 158 ls [])) : ∀ (n : Nat) (x2 : Int32) (x3 : Int32) (x4 : Int32) (V1 : Vt) (H : Heap) (locs : List Loc) (ls : Array Slot), f_X0_runsYear_L12 T x0 x1 kx12_158 n x2 x3 x4 V1 = some V' → wS G V1 T H locs → lv_has ls 8 [(0, .ref (gb G + x0)), (1, .ref (gb G + x1)), (2, .int x2), (3, .int x3), (4, .int x4)] → W p l e (rmL 429 0 0) s m args below meth c H locs 0 0 (eQ G below none V' T args s 0 0) (F0 m 12 ls []) := by
  have hx := C.1
  have hb := C.2.1
  have hown := C.2.2.2.1
  have hts := C.2.2.2.2.1
  intro n
  induction n with
  | zero =>
    intro x2 x3 x4 V1 H locs ls hf
    cases hf
  | succ n ih =>
    intro x2 x3 x4 V1 H locs ls hf hw hl
    unfold f_X0_runsYear_L12 at hf
    refine lv_iload hx hb dX0_runsYear_12 (lv_at hl 4 rfl) ?_
    refine lv_aload_n hx hb dX0_runsYear_14 rfl (lv_at hl 1 rfl) ?_
    revert hf
    refine k_req (fun k2 hf => ?_)
    revert hf
    refine k_drf (fun r3 er3 hf => ?_)
    refine gf_X0_406 C hw k2 er3 dX0_runsYear_15 ?_
    revert hf
    refine k_pcl (fun z5 h4 hf => ?_)
    refine w_afi hw (w_rV (As := []) C hw (ok_J2_size h4) (cw_X0_116 hts (Nat.le_of_ble_eq_true rfl) (Nat.le_of_ble_eq_true rfl)) rfl (by decide) (of_req h4).1 rfl hl.1 rfl (Nat.le_of_ble_eq_true rfl) ⟨Nat.zero_le _, Nat.zero_le _⟩ dX0_runsYear_18) (fun H locs hw => ?_)
    refine lv_icmp_ge (tgt := 158) hx hb dX0_runsYear_21 (by decide) (fun c6 => ?_) (fun c6 => ?_)
    · replace hf := ite_t c6 hf
      exact hkx12_158 _ _ _ _ hf hw (lv_sub hl [0] rfl)
    · replace hf := ite_f c6 hf
      refine lv_aload_n hx hb dX0_runsYear_24 rfl (lv_at hl 1 rfl) ?_
      revert hf
      refine k_drf (fun r7 er7 hf => ?_)
      refine gf_X0_406 C hw k2 er7 dX0_runsYear_25 ?_
      refine lv_iload hx hb dX0_runsYear_28 (lv_at hl 4 rfl) ?_
      revert hf
      refine k_pcl (fun r9 h8 hf => ?_)
      refine w_afr hw (w_rV (As := [.int x4]) C hw (ok_J2_get h8) (cw_X0_271 hts (Nat.le_of_ble_eq_true rfl) (Nat.le_of_ble_eq_true rfl)) rfl (by decide) (of_req h8).1 rfl hl.1 rfl (Nat.le_of_ble_eq_true rfl) ⟨Nat.zero_le _, Nat.zero_le _⟩ dX0_runsYear_30) (fun H locs hw => ?_)
      revert hf
      refine k_req (fun k10 hf => ?_)
      refine w_castS (ci := 15) C hw rfl (by decide) k10 q1362 dX0_runsYear_33 ?_
      refine lv_astore (lv' := [(5, .ref (gb G + r9)), (0, .ref (gb G + x0)), (1, .ref (gb G + x1)), (2, .int x2), (3, .int x3), (4, .int x4)]) hx hb dX0_runsYear_36 hl (by decide) rfl (fun ls hl => ?_)
      refine lv_iconst (v := (0 : Int32)) hx hb dX0_runsYear_38 (by decide) ?_
      refine lv_istore (lv' := [(6, .int (0 : Int32)), (5, .ref (gb G + r9)), (0, .ref (gb G + x0)), (1, .ref (gb G + x1)), (2, .int x2), (3, .int x3), (4, .int x4)]) hx hb dX0_runsYear_39 hl (by decide) rfl (fun ls hl => ?_)
      refine lk_X0_runsYear_41 C hr k0 ih hkx12_158 (fun z35 z36 U37 H locs ls hf hw hl => ?_) fuel _ _ _ _ _ _ _ hf hw (lv_sub hl [2, 3, 4, 5, 6, 1, 0] rfl)
      exact jk_X0_runsYear_152 C hr k0 hf hw (lv_sub hl [0, 1, 2, 3, 4] rfl) ih hkx12_158
set_option maxHeartbeats 4000000 in
theorem ok_X0_runsYear {l : Launch} {G : gG} {T : Tt} {V0 : Vt} {o : Nat} {a0 : Nat} {V' : Vt} (hf : f_X0_runsYear T V0 o a0 = some V') : okM l G yX0_runsYear cX0_runsYear 8 none 429 [.ref (gb G + o), .ref (gb G + a0)] V0 T none V' T 0 0 := by
  refine ok_intro (by decide) (Nat.le_of_ble_eq_true rfl) ?_
  intro p e s m below meth c ls C hr hnm hw hl
  have hx := C.1
  have hb := C.2.1
  have hown := C.2.2.2.1
  have hts := C.2.2.2.2.1
  have hl : lv_has ls 8 [(0, .ref (gb G + o)), (1, .ref (gb G + a0))] := hl
  unfold f_X0_runsYear at hf
  revert hf
  refine k_req (fun k0 hf => ?_)
  refine lv_iconst (v := (0 : Int32)) hx hb dX0_runsYear_0 (by decide) ?_
  refine lv_istore_n (lv' := [(2, .int (0 : Int32)), (0, .ref (gb G + o)), (1, .ref (gb G + a0))]) hx hb dX0_runsYear_1 rfl hl (by decide) rfl (fun ls hl => ?_)
  refine lv_iconst (v := ((-1) : Int32)) hx hb dX0_runsYear_2 (by decide) ?_
  refine lv_istore_n (lv' := [(3, .int ((-1) : Int32)), (2, .int (0 : Int32)), (0, .ref (gb G + o)), (1, .ref (gb G + a0))]) hx hb dX0_runsYear_3 rfl hl (by decide) rfl (fun ls hl => ?_)
  refine lv_aload_n hx hb dX0_runsYear_4 rfl (lv_at hl 2 rfl) ?_
  refine lv_iconst (v := (0 : Int32)) hx hb dX0_runsYear_5 (by decide) ?_
  revert hf
  refine k_stp (fun U1 eU1 hf => ?_)
  refine pf_X0_402 C hw k0 (by decide) eU1 dX0_runsYear_6 (fun H locs hw => ?_)
  refine lv_iconst (v := (0 : Int32)) hx hb dX0_runsYear_9 (by decide) ?_
  refine lv_istore (lv' := [(4, .int (0 : Int32)), (3, .int ((-1) : Int32)), (2, .int (0 : Int32)), (0, .ref (gb G + o)), (1, .ref (gb G + a0))]) hx hb dX0_runsYear_10 hl (by decide) rfl (fun ls hl => ?_)
  refine lk_X0_runsYear_12 C hr k0 (fun U39 H locs ls hf hw hl => ?_) fuel _ _ _ _ _ _ _ hf hw (lv_sub hl [3, 4, 2, 1, 0] rfl)
  refine lv_aload_n hx hb dX0_runsYear_158 rfl (lv_at hl 0 rfl) ?_
  refine lv_aload_n hx hb dX0_runsYear_159 rfl (lv_at hl 0 rfl) ?_
  revert hf
  refine k_drf (fun r40 er40 hf => ?_)
  refine gf_X0_59 C hw k0 er40 dX0_runsYear_160 ?_
  revert hf
  refine k_cal (fun z42 U43 h41 hf => ?_)
  refine w_afi hw (w_rV (As := [.ref (gb G + r40)]) C hw (ok_X0_ends h41) (cw_X0_344 hts (Nat.le_of_ble_eq_true rfl) (Nat.le_of_ble_eq_true rfl)) rfl (by decide) (of_req h41).1 rfl hl.1 rfl (Nat.le_of_ble_eq_true rfl) ⟨Nat.zero_le _, Nat.zero_le _⟩ dX0_runsYear_163) (fun H locs hw => ?_)
  refine lv_pop hx hb dX0_runsYear_166 rfl ?_
  cases hf
  exact w_vret C hr hw dX0_runsYear_167
