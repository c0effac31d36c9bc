set_option maxRecDepth 100000
set_option maxHeartbeats 4000000 in
theorem lk_X0_runs_6 {l : Launch} {G : gG} {p : Program} {e : Env} {s : State} {m : MethodId} {args : Array Value} {below : List Frame} {meth : Method} {c : Code} {T : Tt} {V' : Vt} (C : Cx G p s m args meth c cX0_runs RX0 4) (hr : meth.sig.returnType = none) {x0 : Nat} {x1 : Nat} {x2 : Int32} {kx6_22 : Vt → Option (Vt)} (k0 : T.1 x0 = 1) (hkx6_22 : ∀ (W1 : Vt) (H : Heap) (locs : List Loc) (ls : Array Slot), kx6_22 W1 = some V' → wS G W1 T H locs → lv_has ls 4 [] → W p l e (rmL 430 0 0) s m args below meth c H locs 0 0 (eQ G below none V' T args s 0 0) (F0 m 22 ls [])) : ∀ (n : Nat) (x3 : Int32) (V1 : Vt) (H : Heap) (locs : List Loc) (ls : Array Slot), f_X0_runs_L6 T x0 x1 x2 kx6_22 n x3 V1 = some V' → wS G V1 T H locs → lv_has ls 4 [(0, .ref (gb G + x0)), (1, .ref (gb G + x1)), (2, .int x2), (3, .int x3)] → W p l e (rmL 430 0 0) s m args below meth c H locs 0 0 (eQ G below none V' T args s 0 0) (F0 m 6 ls []) := by
  have hx := C.1
  have hb := C.2.1
  have hown := C.2.2.2.1
  have hts := C.2.2.2.2.1
  intro n
  induction n with
  | zero =>
    intro x3 V1 H locs ls hf
    cases hf
  | succ n ih =>
    intro x3 V1 H locs ls hf hw hl
    unfold f_X0_runs_L6 at hf
    refine lv_iload_n hx hb dX0_runs_6 rfl (lv_at hl 3 rfl) ?_
    refine lv_iload_n hx hb dX0_runs_7 rfl (lv_at hl 2 rfl) ?_
    refine lv_icmp_ge (tgt := 22) hx hb dX0_runs_8 (by decide) (fun c4 => ?_) (fun c4 => ?_)
    · replace hf := ite_t c4 hf
      exact hkx6_22 _ _ _ _ hf hw (lv_sub hl [] rfl)
    · replace hf := ite_f c4 hf
      refine lv_aload_n hx hb dX0_runs_11 rfl (lv_at hl 0 rfl) ?_
      refine lv_aload_n hx hb dX0_runs_12 rfl (lv_at hl 1 rfl) ?_
      revert hf
      refine k_pcl (fun U7 h5 hf => ?_)
      refine w_afv hw (w_rV (As := [.ref (gb G + x1)]) C hw (ok_X0_runsYear h5) (cw_X0_413 hts (Nat.le_of_ble_eq_true rfl) (Nat.le_of_ble_eq_true rfl)) rfl (by decide) (of_req h5).1 rfl hl.1 rfl (Nat.le_of_ble_eq_true rfl) ⟨Nat.zero_le _, Nat.zero_le _⟩ dX0_runs_13) (fun H locs hw => ?_)
      revert hf
      refine k_stp (fun z8 ez8 hf => ?_)
      refine lv_iinc (k := 3) (lv' := [(3, .int z8), (0, .ref (gb G + x0)), (1, .ref (gb G + x1)), (2, .int x2)]) hx hb dX0_runs_16 hl rfl (inc_e (by decide) ez8) (by decide) rfl (fun ls hl => ?_)
      refine lv_goto (tgt := 6) hx hb dX0_runs_19 (by decide) ?_
      exact ih _ _ _ _ _ hf hw (lv_sub hl [1, 2, 3, 0] rfl)
set_option maxHeartbeats 4000000 in
theorem ok_X0_runs {l : Launch} {G : gG} {T : Tt} {V0 : Vt} {o : Nat} {a0 : Nat} {a1 : Int32} {V' : Vt} (hf : f_X0_runs T V0 o a0 a1 = some V') : okM l G yX0_runs cX0_runs 4 none 430 [.ref (gb G + o), .ref (gb G + a0), .int a1] V0 T none V' T 0 0 := by
  refine ok_intro (by decide) (Nat.le_of_ble_eq_true rfl) ?_
  intro p e s m below meth c ls C hr hnm hw hl
  have hx := C.1
  have hb := C.2.1
  have hown := C.2.2.2.1
  have hts := C.2.2.2.2.1
  have hl : lv_has ls 4 [(0, .ref (gb G + o)), (1, .ref (gb G + a0)), (2, .int a1)] := hl
  unfold f_X0_runs at hf
  revert hf
  refine k_req (fun k0 hf => ?_)
  refine lv_aload_n hx hb dX0_runs_0 rfl (lv_at hl 0 rfl) ?_
  revert hf
  refine k_pcl (fun U3 h1 hf => ?_)
  refine w_afv hw (w_rV (As := []) C hw (ok_X0_begins h1) (cw_X0_410 hts (Nat.le_of_ble_eq_true rfl) (Nat.le_of_ble_eq_true rfl)) rfl (by decide) (of_req h1).1 rfl hl.1 rfl (Nat.le_of_ble_eq_true rfl) ⟨Nat.zero_le _, Nat.zero_le _⟩ dX0_runs_1) (fun H locs hw => ?_)
  refine lv_iconst (v := (0 : Int32)) hx hb dX0_runs_4 (by decide) ?_
  refine lv_istore_n (lv' := [(3, .int (0 : Int32)), (0, .ref (gb G + o)), (1, .ref (gb G + a0)), (2, .int a1)]) hx hb dX0_runs_5 rfl hl (by decide) rfl (fun ls hl => ?_)
  refine lk_X0_runs_6 C hr k0 (fun U9 H locs ls hf hw hl => ?_) fuel _ _ _ _ _ hf hw (lv_sub hl [1, 2, 3, 0] rfl)
  cases hf
  exact w_vret C hr hw dX0_runs_22
set_option maxHeartbeats 4000000 in
theorem ok_X0_byPlan {l : Launch} {G : gG} {T : Tt} {V0 : Vt} {o : Nat} {a0 : Int32} {a1 : Int32} {a2 : Int32} {a3 : Int32} {r : Int32} {V' : Vt} (hf : f_X0_byPlan T V0 o a0 a1 a2 a3 = some (r, V')) : okM l G yX0_byPlan cX0_byPlan 5 (some .int) 431 [.ref (gb G + o), .int a0, .int a1, .int a2, .int a3] V0 T (some (.int r)) V' T 0 0 := by
  refine ok_intro (by decide) (Nat.le_of_ble_eq_true rfl) ?_
  intro p e s m below meth c ls C hr hnm hw hl
  have hx := C.1
  have hb := C.2.1
  have hown := C.2.2.2.1
  have hts := C.2.2.2.2.1
  have hl : lv_has ls 5 [(0, .ref (gb G + o)), (1, .int a0), (2, .int a1), (3, .int a2), (4, .int a3)] := hl
  unfold f_X0_byPlan at hf
  revert hf
  refine k_req (fun k0 hf => ?_)
  refine lv_aload_n hx hb dX0_byPlan_0 rfl (lv_at hl 0 rfl) ?_
  refine lv_iload_n hx hb dX0_byPlan_1 rfl (lv_at hl 1 rfl) ?_
  revert hf
  refine k_pcl (fun z2 h1 hf => ?_)
  refine w_afi hw (w_rV (As := [.int a0]) C hw (ok_X0_isPlan h1) (cw_X0_417 hts (Nat.le_of_ble_eq_true rfl) (Nat.le_of_ble_eq_true rfl)) rfl (by decide) (of_req h1).1 rfl hl.1 rfl (Nat.le_of_ble_eq_true rfl) ⟨Nat.zero_le _, Nat.zero_le _⟩ dX0_byPlan_2) (fun H locs hw => ?_)
  refine lv_if_eq (tgt := 36) hx hb dX0_byPlan_5 (by decide) (fun c3 => ?_) (fun c3 => ?_)
  · replace hf := ite_t c3 hf
    refine lv_iconst (v := ((-1) : Int32)) hx hb dX0_byPlan_36 (by decide) ?_
    cases hf
    exact w_iret C hr hw dX0_byPlan_37
  · replace hf := ite_f c3 hf
    refine lv_iload_n hx hb dX0_byPlan_8 rfl (lv_at hl 2 rfl) ?_
    refine lv_iconst (v := (0 : Int32)) hx hb dX0_byPlan_9 (by decide) ?_
    refine lv_bipush (v := (60 : Int32)) hx hb dX0_byPlan_10 (by decide) ?_
    revert hf
    refine k_pcl (fun z5 h4 hf => ?_)
    refine w_afi hw (w_rS (As := [.int a1, .int (0 : Int32), .int (60 : Int32)]) C hw (ok_X0_in h4) (cw_X0_108 hts (Nat.le_of_ble_eq_true rfl) (Nat.le_of_ble_eq_true rfl)) rfl hl.1 rfl (Nat.le_of_ble_eq_true rfl) ⟨Nat.zero_le _, Nat.zero_le _⟩ dX0_byPlan_12) (fun H locs hw => ?_)
    refine lv_if_eq (tgt := 36) hx hb dX0_byPlan_15 (by decide) (fun c6 => ?_) (fun c6 => ?_)
    · replace hf := ite_t c6 hf
      refine lv_iconst (v := ((-1) : Int32)) hx hb dX0_byPlan_36 (by decide) ?_
      cases hf
      exact w_iret C hr hw dX0_byPlan_37
    · replace hf := ite_f c6 hf
      refine lv_aload_n hx hb dX0_byPlan_18 rfl (lv_at hl 0 rfl) ?_
      refine lv_iload_n hx hb dX0_byPlan_19 rfl (lv_at hl 3 rfl) ?_
      revert hf
      refine k_pcl (fun z8 h7 hf => ?_)
      refine w_afi hw (w_rV (As := [.int a2]) C hw (ok_X0_isCask h7) (cw_X0_151 hts (Nat.le_of_ble_eq_true rfl) (Nat.le_of_ble_eq_true rfl)) rfl (by decide) (of_req h7).1 rfl hl.1 rfl (Nat.le_of_ble_eq_true rfl) ⟨Nat.zero_le _, Nat.zero_le _⟩ dX0_byPlan_20) (fun H locs hw => ?_)
      refine lv_if_eq (tgt := 36) hx hb dX0_byPlan_23 (by decide) (fun c9 => ?_) (fun c9 => ?_)
      · replace hf := ite_t c9 hf
        refine lv_iconst (v := ((-1) : Int32)) hx hb dX0_byPlan_36 (by decide) ?_
        cases hf
        exact w_iret C hr hw dX0_byPlan_37
      · replace hf := ite_f c9 hf
        refine lv_iload hx hb dX0_byPlan_26 (lv_at hl 4 rfl) ?_
        refine lv_iconst (v := (0 : Int32)) hx hb dX0_byPlan_28 (by decide) ?_
        refine lv_iconst (v := (2 : Int32)) hx hb dX0_byPlan_29 (by decide) ?_
        revert hf
        refine k_pcl (fun z11 h10 hf => ?_)
        refine w_afi hw (w_rS (As := [.int a3, .int (0 : Int32), .int (2 : Int32)]) C hw (ok_X0_in h10) (cw_X0_108 hts (Nat.le_of_ble_eq_true rfl) (Nat.le_of_ble_eq_true rfl)) rfl hl.1 rfl (Nat.le_of_ble_eq_true rfl) ⟨Nat.zero_le _, Nat.zero_le _⟩ dX0_byPlan_30) (fun H locs hw => ?_)
        refine lv_if_ne (tgt := 38) hx hb dX0_byPlan_33 (by decide) (fun c12 => ?_) (fun c12 => ?_)
        · replace hf := ite_f c12 hf
          refine lv_aload_n hx hb dX0_byPlan_38 rfl (lv_at hl 0 rfl) ?_
          refine lv_aload_n hx hb dX0_byPlan_39 rfl (lv_at hl 0 rfl) ?_
          revert hf
          refine k_drf (fun r13 er13 hf => ?_)
          refine gf_X0_31 C hw k0 er13 dX0_byPlan_40 ?_
          revert hf
          refine k_req (fun k14 hf => ?_)
          revert hf
          refine k_drf (fun r15 er15 hf => ?_)
          refine gf_X0_112 C hw k14 er15 dX0_byPlan_43 ?_
          refine lv_iload_n hx hb dX0_byPlan_46 rfl (lv_at hl 1 rfl) ?_
          revert hf
          refine k_pcl (fun r17 h16 hf => ?_)
          refine w_afr hw (w_rV (As := [.int a0]) C hw (ok_J2_get h16) (cw_X0_271 hts (Nat.le_of_ble_eq_true rfl) (Nat.le_of_ble_eq_true rfl)) rfl (by decide) (of_req h16).1 rfl hl.1 rfl (Nat.le_of_ble_eq_true rfl) ⟨Nat.zero_le _, Nat.zero_le _⟩ dX0_byPlan_47) (fun H locs hw => ?_)
          revert hf
          refine k_req (fun k18 hf => ?_)
          refine w_castS (ci := 18) C hw rfl (by decide) k18 q1229 dX0_byPlan_50 ?_
          refine lv_iload_n hx hb dX0_byPlan_53 rfl (lv_at hl 2 rfl) ?_
          revert hf
          refine k_pcl (fun U21 h19 hf => ?_)
          refine w_afv hw (w_rV (As := [.ref (gb G + r17), .int a1]) C hw (ok_X0_runs h19) (cw_X0_420 hts (Nat.le_of_ble_eq_true rfl) (Nat.le_of_ble_eq_true rfl)) rfl (by decide) (of_req h19).1 rfl hl.1 rfl (Nat.le_of_ble_eq_true rfl) ⟨Nat.zero_le _, Nat.zero_le _⟩ dX0_byPlan_54) (fun H locs hw => ?_)
          refine lv_iload hx hb dX0_byPlan_57 (lv_at hl 4 rfl) ?_
          refine lv_if_ne (tgt := 73) hx hb dX0_byPlan_59 (by decide) (fun c22 => ?_) (fun c22 => ?_)
          · replace hf := ite_f c22 hf
            refine lv_iload hx hb dX0_byPlan_73 (lv_at hl 4 rfl) ?_
            refine lv_iconst (v := (1 : Int32)) hx hb dX0_byPlan_75 (by decide) ?_
            refine lv_icmp_ne (tgt := 90) hx hb dX0_byPlan_76 (by decide) (fun c23 => ?_) (fun c23 => ?_)
            · replace hf := ite_f c23 hf
              refine lv_aload_n hx hb dX0_byPlan_90 rfl (lv_at hl 0 rfl) ?_
              revert hf
              refine k_drf (fun r24 er24 hf => ?_)
              refine gf_X0_59 C hw k0 er24 dX0_byPlan_91 ?_
              refine lv_iload_n hx hb dX0_byPlan_94 rfl (lv_at hl 3 rfl) ?_
              refine lv_aload_n hx hb dX0_byPlan_95 rfl (lv_at hl 0 rfl) ?_
              revert hf
              refine k_drf (fun r25 er25 hf => ?_)
              refine gf_X0_31 C hw k0 er25 dX0_byPlan_96 ?_
              revert hf
              refine k_req (fun k26 hf => ?_)
              refine gf_X0_161 C hw k26 dX0_byPlan_99 ?_
              revert hf
              refine k_pcl (fun z28 h27 hf => ?_)
              refine w_afi hw (w_rV (As := [.int a2, .int (U21.1 r25 10)]) C hw (ok_X2_label h27) (cw_X0_164 hts (Nat.le_of_ble_eq_true rfl) (Nat.le_of_ble_eq_true rfl)) rfl (by decide) (of_req h27).1 rfl hl.1 rfl (Nat.le_of_ble_eq_true rfl) ⟨Nat.zero_le _, Nat.zero_le _⟩ dX0_byPlan_102) (fun H locs hw => ?_)
              cases hf
              exact w_iret C hr hw dX0_byPlan_105
            · replace hf := ite_t c23 hf
              refine lv_aload_n hx hb dX0_byPlan_79 rfl (lv_at hl 0 rfl) ?_
              revert hf
              refine k_drf (fun r29 er29 hf => ?_)
              refine gf_X0_59 C hw k0 er29 dX0_byPlan_80 ?_
              refine lv_iload_n hx hb dX0_byPlan_83 rfl (lv_at hl 3 rfl) ?_
              revert hf
              refine k_pcl (fun z31 h30 hf => ?_)
              refine w_afi hw (w_rV (As := [.int a2]) C hw (ok_X2_mean h30) (cw_X0_158 hts (Nat.le_of_ble_eq_true rfl) (Nat.le_of_ble_eq_true rfl)) rfl (by decide) (of_req h30).1 rfl hl.1 rfl (Nat.le_of_ble_eq_true rfl) ⟨Nat.zero_le _, Nat.zero_le _⟩ dX0_byPlan_84) (fun H locs hw => ?_)
              refine lv_goto (tgt := 105) hx hb dX0_byPlan_87 (by decide) ?_
              cases hf
              exact w_iret C hr hw dX0_byPlan_105
          · replace hf := ite_t c22 hf
            refine lv_aload_n hx hb dX0_byPlan_62 rfl (lv_at hl 0 rfl) ?_
            revert hf
            refine k_drf (fun r32 er32 hf => ?_)
            refine gf_X0_59 C hw k0 er32 dX0_byPlan_63 ?_
            refine lv_iload_n hx hb dX0_byPlan_66 rfl (lv_at hl 3 rfl) ?_
            revert hf
            refine k_pcl (fun z34 h33 hf => ?_)
            refine w_afi hw (w_rV (As := [.int a2]) C hw (ok_X2_all h33) (cw_X0_155 hts (Nat.le_of_ble_eq_true rfl) (Nat.le_of_ble_eq_true rfl)) rfl (by decide) (of_req h33).1 rfl hl.1 rfl (Nat.le_of_ble_eq_true rfl) ⟨Nat.zero_le _, Nat.zero_le _⟩ dX0_byPlan_67) (fun H locs hw => ?_)
            refine lv_goto (tgt := 105) hx hb dX0_byPlan_70 (by decide) ?_
            cases hf
            exact w_iret C hr hw dX0_byPlan_105
        · replace hf := ite_t c12 hf
          refine lv_iconst (v := ((-1) : Int32)) hx hb dX0_byPlan_36 (by decide) ?_
          cases hf
          exact w_iret C hr hw dX0_byPlan_37
set_option maxHeartbeats 4000000 in
theorem lk_X0_oldEnough_36 {l : Launch} {G : gG} {p : Program} {e : Env} {s : State} {m : MethodId} {args : Array Value} {below : List Frame} {meth : Method} {c : Code} {T : Tt} {r : Int32} {V' : Vt} (C : Cx G p s m args meth c cX0_oldEnough RX0 5) (hr : meth.sig.returnType = (some .int)) {x0 : Nat} {x1 : Int32} {x2 : Int32} {x3 : Int32} {kx36_55 : Int32 → Vt → Option (Int32 × Vt)} {kx36_82 : Vt → Option (Int32 × Vt)} (k0 : T.1 x0 = 1) (hkx36_55 : ∀ (y4 : Int32) (W1 : Vt) (H : Heap) (locs : List Loc) (ls : Array Slot), kx36_55 y4 W1 = some (r, V') → wS G W1 T H locs → lv_has ls 5 [(4, .int y4)] → W p l e (rmL 430 0 0) s m args below meth c H locs 0 0 (eQ G below (some (.int r)) V' T args s 0 0) (F0 m 55 ls [])) (hkx36_82 : ∀ (W1 : Vt) (H : Heap) (locs : List Loc) (ls : Array Slot), kx36_82 W1 = some (r, V') → wS G W1 T H locs → lv_has ls 5 [] → W p l e (rmL 430 0 0) s m args below meth c H locs 0 0 (eQ G below (some (.int r)) V' T args s 0 0) (F0 m 82 ls [])) : ∀ (n : Nat) (x4 : Int32) (V1 : Vt) (H : Heap) (locs : List Loc) (ls : Array Slot), f_X0_oldEnough_L36 T x0 x1 x2 x3 kx36_55 kx36_82 n x4 V1 = some (r, V') → wS G V1 T H locs → lv_has ls 5 [(0, .ref (gb G + x0)), (1, .int x1), (2, .int x2), (3, .int x3), (4, .int x4)] → W p l e (rmL 430 0 0) s m args below meth c H locs 0 0 (eQ G below (some (.int r)) V' T args s 0 0) (F0 m 36 ls []) := by
  have hx := C.1
  have hb := C.2.1
  have hown := C.2.2.2.1
  have hts := C.2.2.2.2.1
  intro n
  induction n with
  | zero =>
    intro x4 V1 H locs ls hf
    cases hf
  | succ n ih =>
    intro x4 V1 H locs ls hf hw hl
    unfold f_X0_oldEnough_L36 at hf
    refine lv_iload hx hb dX0_oldEnough_36 (lv_at hl 4 rfl) ?_
    refine lv_bipush (v := (60 : Int32)) hx hb dX0_oldEnough_38 (by decide) ?_
    refine lv_icmp_gt (tgt := 82) hx hb dX0_oldEnough_40 (by decide) (fun c13 => ?_) (fun c13 => ?_)
    · replace hf := ite_t c13 hf
      exact hkx36_82 _ _ _ _ hf hw (lv_sub hl [] rfl)
    · replace hf := ite_f c13 hf
      refine lv_aload_n hx hb dX0_oldEnough_43 rfl (lv_at hl 0 rfl) ?_
      revert hf
      refine k_drf (fun r14 er14 hf => ?_)
      refine gf_X0_59 C hw k0 er14 dX0_oldEnough_44 ?_
      refine lv_iload_n hx hb dX0_oldEnough_47 rfl (lv_at hl 2 rfl) ?_
      revert hf
      refine k_pcl (fun z16 h15 hf => ?_)
      refine w_afi hw (w_rV (As := [.int x2]) C hw (ok_X2_mean h15) (cw_X0_158 hts (Nat.le_of_ble_eq_true rfl) (Nat.le_of_ble_eq_true rfl)) rfl (by decide) (of_req h15).1 rfl hl.1 rfl (Nat.le_of_ble_eq_true rfl) ⟨Nat.zero_le _, Nat.zero_le _⟩ dX0_oldEnough_48) (fun H locs hw => ?_)
      refine lv_iload_n hx hb dX0_oldEnough_51 rfl (lv_at hl 3 rfl) ?_
      refine lv_icmp_lt (tgt := 58) hx hb dX0_oldEnough_52 (by decide) (fun c17 => ?_) (fun c17 => ?_)
      · replace hf := ite_t c17 hf
        refine lv_aload_n hx hb dX0_oldEnough_58 rfl (lv_at hl 0 rfl) ?_
        refine lv_aload_n hx hb dX0_oldEnough_59 rfl (lv_at hl 0 rfl) ?_
        revert hf
        refine k_drf (fun r18 er18 hf => ?_)
        refine gf_X0_31 C hw k0 er18 dX0_oldEnough_60 ?_
        revert hf
        refine k_req (fun k19 hf => ?_)
        revert hf
        refine k_drf (fun r20 er20 hf => ?_)
        refine gf_X0_112 C hw k19 er20 dX0_oldEnough_63 ?_
        refine lv_iload_n hx hb dX0_oldEnough_66 rfl (lv_at hl 1 rfl) ?_
        revert hf
        refine k_pcl (fun r22 h21 hf => ?_)
        refine w_afr hw (w_rV (As := [.int x1]) C hw (ok_J2_get h21) (cw_X0_271 hts (Nat.le_of_ble_eq_true rfl) (Nat.le_of_ble_eq_true rfl)) rfl (by decide) (of_req h21).1 rfl hl.1 rfl (Nat.le_of_ble_eq_true rfl) ⟨Nat.zero_le _, Nat.zero_le _⟩ dX0_oldEnough_67) (fun H locs hw => ?_)
        revert hf
        refine k_req (fun k23 hf => ?_)
        refine w_castS (ci := 18) C hw rfl (by decide) k23 q1229 dX0_oldEnough_70 ?_
        revert hf
        refine k_pcl (fun U26 h24 hf => ?_)
        refine w_afv hw (w_rV (As := [.ref (gb G + r22)]) C hw (ok_X0_runsYear h24) (cw_X0_413 hts (Nat.le_of_ble_eq_true rfl) (Nat.le_of_ble_eq_true rfl)) rfl (by decide) (of_req h24).1 rfl hl.1 rfl (Nat.le_of_ble_eq_true rfl) ⟨Nat.zero_le _, Nat.zero_le _⟩ dX0_oldEnough_73) (fun H locs hw => ?_)
        revert hf
        refine k_stp (fun z27 ez27 hf => ?_)
        refine lv_iinc (k := 4) (lv' := [(4, .int z27), (0, .ref (gb G + x0)), (1, .int x1), (2, .int x2), (3, .int x3)]) hx hb dX0_oldEnough_76 hl rfl (inc_e (by decide) ez27) (by decide) rfl (fun ls hl => ?_)
        refine lv_goto (tgt := 36) hx hb dX0_oldEnough_79 (by decide) ?_
        exact ih _ _ _ _ _ hf hw (lv_sub hl [1, 2, 3, 4, 0] rfl)
      · replace hf := ite_f c17 hf
        exact hkx36_55 _ _ _ _ _ hf hw (lv_sub hl [4] rfl)
set_option maxHeartbeats 4000000 in
theorem ok_X0_oldEnough {l : Launch} {G : gG} {T : Tt} {V0 : Vt} {o : Nat} {a0 : Int32} {a1 : Int32} {a2 : Int32} {r : Int32} {V' : Vt} (hf : f_X0_oldEnough T V0 o a0 a1 a2 = some (r, V')) : okM l G yX0_oldEnough cX0_oldEnough 5 (some .int) 430 [.ref (gb G + o), .int a0, .int a1, .int a2] V0 T (some (.int r)) V' T 0 0 := by
  refine ok_intro (by decide) (Nat.le_of_ble_eq_true rfl) ?_
  intro p e s m below meth c ls C hr hnm hw hl
  have hx := C.1
  have hb := C.2.1
  have hown := C.2.2.2.1
  have hts := C.2.2.2.2.1
  have hl : lv_has ls 5 [(0, .ref (gb G + o)), (1, .int a0), (2, .int a1), (3, .int a2)] := hl
  unfold f_X0_oldEnough at hf
  revert hf
  refine k_req (fun k0 hf => ?_)
  refine lv_aload_n hx hb dX0_oldEnough_0 rfl (lv_at hl 0 rfl) ?_
  refine lv_iload_n hx hb dX0_oldEnough_1 rfl (lv_at hl 1 rfl) ?_
  revert hf
  refine k_pcl (fun z2 h1 hf => ?_)
  refine w_afi hw (w_rV (As := [.int a0]) C hw (ok_X0_isPlan h1) (cw_X0_417 hts (Nat.le_of_ble_eq_true rfl) (Nat.le_of_ble_eq_true rfl)) rfl (by decide) (of_req h1).1 rfl hl.1 rfl (Nat.le_of_ble_eq_true rfl) ⟨Nat.zero_le _, Nat.zero_le _⟩ dX0_oldEnough_2) (fun H locs hw => ?_)
  refine lv_if_eq (tgt := 27) hx hb dX0_oldEnough_5 (by decide) (fun c3 => ?_) (fun c3 => ?_)
  · replace hf := ite_t c3 hf
    refine lv_iconst (v := ((-1) : Int32)) hx hb dX0_oldEnough_27 (by decide) ?_
    cases hf
    exact w_iret C hr hw dX0_oldEnough_28
  · replace hf := ite_f c3 hf
    refine lv_aload_n hx hb dX0_oldEnough_8 rfl (lv_at hl 0 rfl) ?_
    refine lv_iload_n hx hb dX0_oldEnough_9 rfl (lv_at hl 2 rfl) ?_
    revert hf
    refine k_pcl (fun z5 h4 hf => ?_)
    refine w_afi hw (w_rV (As := [.int a1]) C hw (ok_X0_isCask h4) (cw_X0_151 hts (Nat.le_of_ble_eq_true rfl) (Nat.le_of_ble_eq_true rfl)) rfl (by decide) (of_req h4).1 rfl hl.1 rfl (Nat.le_of_ble_eq_true rfl) ⟨Nat.zero_le _, Nat.zero_le _⟩ dX0_oldEnough_10) (fun H locs hw => ?_)
    refine lv_if_eq (tgt := 27) hx hb dX0_oldEnough_13 (by decide) (fun c6 => ?_) (fun c6 => ?_)
    · replace hf := ite_t c6 hf
      refine lv_iconst (v := ((-1) : Int32)) hx hb dX0_oldEnough_27 (by decide) ?_
      cases hf
      exact w_iret C hr hw dX0_oldEnough_28
    · replace hf := ite_f c6 hf
      refine lv_iload_n hx hb dX0_oldEnough_16 rfl (lv_at hl 3 rfl) ?_
      refine lv_iconst (v := (0 : Int32)) hx hb dX0_oldEnough_17 (by decide) ?_
      refine lv_sipush (v := (19000 : Int32)) hx hb dX0_oldEnough_18 (by decide) ?_
      revert hf
      refine k_pcl (fun z8 h7 hf => ?_)
      refine w_afi hw (w_rS (As := [.int a2, .int (0 : Int32), .int (19000 : Int32)]) C hw (ok_X0_in h7) (cw_X0_108 hts (Nat.le_of_ble_eq_true rfl) (Nat.le_of_ble_eq_true rfl)) rfl hl.1 rfl (Nat.le_of_ble_eq_true rfl) ⟨Nat.zero_le _, Nat.zero_le _⟩ dX0_oldEnough_21) (fun H locs hw => ?_)
      refine lv_if_ne (tgt := 29) hx hb dX0_oldEnough_24 (by decide) (fun c9 => ?_) (fun c9 => ?_)
      · replace hf := ite_f c9 hf
        refine lv_aload_n hx hb dX0_oldEnough_29 rfl (lv_at hl 0 rfl) ?_
        revert hf
        refine k_pcl (fun U12 h10 hf => ?_)
        refine w_afv hw (w_rV (As := []) C hw (ok_X0_begins h10) (cw_X0_410 hts (Nat.le_of_ble_eq_true rfl) (Nat.le_of_ble_eq_true rfl)) rfl (by decide) (of_req h10).1 rfl hl.1 rfl (Nat.le_of_ble_eq_true rfl) ⟨Nat.zero_le _, Nat.zero_le _⟩ dX0_oldEnough_30) (fun H locs hw => ?_)
        refine lv_iconst (v := (0 : Int32)) hx hb dX0_oldEnough_33 (by decide) ?_
        refine lv_istore (lv' := [(4, .int (0 : Int32)), (0, .ref (gb G + o)), (1, .int a0), (2, .int a1), (3, .int a2)]) hx hb dX0_oldEnough_34 hl (by decide) rfl (fun ls hl => ?_)
        refine lk_X0_oldEnough_36 C hr k0 (fun z28 U29 H locs ls hf hw hl => ?_) (fun U30 H locs ls hf hw hl => ?_) fuel _ _ _ _ _ hf hw (lv_sub hl [1, 2, 3, 4, 0] rfl)
        · refine lv_iload hx hb dX0_oldEnough_55 (lv_at hl 0 rfl) ?_
          cases hf
          exact w_iret C hr hw dX0_oldEnough_57
        · refine lv_iconst (v := ((-1) : Int32)) hx hb dX0_oldEnough_82 (by decide) ?_
          cases hf
          exact w_iret C hr hw dX0_oldEnough_83
      · replace hf := ite_t c9 hf
        refine lv_iconst (v := ((-1) : Int32)) hx hb dX0_oldEnough_27 (by decide) ?_
        cases hf
        exact w_iret C hr hw dX0_oldEnough_28
set_option maxHeartbeats 4000000 in
theorem jk_X0_settled_79 {l : Launch} {G : gG} {p : Program} {e : Env} {s : State} {m : MethodId} {args : Array Value} {below : List Frame} {meth : Method} {c : Code} {T : Tt} {V0 : Vt} {r : Int32} {V' : Vt} (C : Cx G p s m args meth c cX0_settled RX0 5) (hr : meth.sig.returnType = (some .int)) {x0 : Nat} {x1 : Int32} {x2 : Int32} {x3 : Int32} {kc24 : Int32 → Vt → Option (Int32 × Vt)} {kx24_77 : Int32 → Vt → Option (Int32 × Vt)} {kx24_85 : Vt → Option (Int32 × Vt)} {H : Heap} {locs : List Loc} {ls : Array Slot} (k0 : T.1 x0 = 1) (hf : f_X0_settled_J79 T V0 x0 x1 x2 x3 kc24 kx24_77 kx24_85 = some (r, V')) (hw : wS G V0 T H locs) (hl : lv_has ls 5 [(0, .ref (gb G + x0)), (1, .int x1), (2, .int x2), (3, .int x3)]) (hkc24 : ∀ (y3 : Int32) (W1 : Vt) (H : Heap) (locs : List Loc) (ls : Array Slot), kc24 y3 W1 = some (r, V') → wS G W1 T H locs → lv_has ls 5 [(0, .ref (gb G + x0)), (1, .int x1), (2, .int x2), (3, .int y3)] → W p l e (rmL 430 0 0) s m args below meth c H locs 0 0 (eQ G below (some (.int r)) V' T args s 0 0) (F0 m 24 ls [])) (hkx24_77 : ∀ (y3 : Int32) (W1 : Vt) (H : Heap) (locs : List Loc) (ls : Array Slot), kx24_77 y3 W1 = some (r, V') → wS G W1 T H locs → lv_has ls 5 [(3, .int y3)] → W p l e (rmL 430 0 0) s m args below meth c H locs 0 0 (eQ G below (some (.int r)) V' T args s 0 0) (F0 m 77 ls [])) (hkx24_85 : ∀ (W1 : Vt) (H : Heap) (locs : List Loc) (ls : Array Slot), kx24_85 W1 = some (r, V') → wS G W1 T H locs → lv_has ls 5 [] → W p l e (rmL 430 0 0) s m args below meth c H locs 0 0 (eQ G below (some (.int r)) V' T args s 0 0) (F0 m 85 ls [])) : W p l e (rmL 430 0 0) s m args below meth c H locs 0 0 (eQ G below (some (.int r)) V' T args s 0 0) (F0 m 79 ls []) := by
  have hx := C.1
  have hb := C.2.1
  have hown := C.2.2.2.1
  have hts := C.2.2.2.2.1
  unfold f_X0_settled_J79 at hf
  revert hf
  refine k_stp (fun z24 ez24 hf => ?_)
  refine lv_iinc (k := 3) (lv' := [(3, .int z24), (0, .ref (gb G + x0)), (1, .int x1), (2, .int x2)]) hx hb dX0_settled_79 hl rfl (inc_e (by decide) ez24) (by decide) rfl (fun ls hl => ?_)
  refine lv_goto (tgt := 24) hx hb dX0_settled_82 (by decide) ?_
  exact hkc24 _ _ _ _ _ hf hw (lv_sub hl [1, 2, 3, 0] rfl)
set_option maxHeartbeats 4000000 in
theorem lk_X0_settled_24 {l : Launch} {G : gG} {p : Program} {e : Env} {s : State} {m : MethodId} {args : Array Value} {below : List Frame} {meth : Method} {c : Code} {T : Tt} {r : Int32} {V' : Vt} (C : Cx G p s m args meth c cX0_settled RX0 5) (hr : meth.sig.returnType = (some .int)) {x0 : Nat} {x1 : Int32} {x2 : Int32} {kx24_77 : Int32 → Vt → Option (Int32 × Vt)} {kx24_85 : Vt → Option (Int32 × Vt)} (k0 : T.1 x0 = 1) (hkx24_77 : ∀ (y3 : Int32) (W1 : Vt) (H : Heap) (locs : List Loc) (ls : Array Slot), kx24_77 y3 W1 = some (r, V') → wS G W1 T H locs → lv_has ls 5 [(3, .int y3)] → W p l e (rmL 430 0 0) s m args below meth c H locs 0 0 (eQ G below (some (.int r)) V' T args s 0 0) (F0 m 77 ls [])) (hkx24_85 : ∀ (W1 : Vt) (H : Heap) (locs : List Loc) (ls : Array Slot), kx24_85 W1 = some (r, V') → wS G W1 T H locs → lv_has ls 5 [] → W p l e (rmL 430 0 0) s m args below meth c H locs 0 0 (eQ G below (some (.int r)) V' T args s 0 0) (F0 m 85 ls [])) : ∀ (n : Nat) (x3 : Int32) (V1 : Vt) (H : Heap) (locs : List Loc) (ls : Array Slot), f_X0_settled_L24 T x0 x1 x2 kx24_77 kx24_85 n x3 V1 = some (r, V') → wS G V1 T H locs → lv_has ls 5 [(0, .ref (gb G + x0)), (1, .int x1), (2, .int x2), (3, .int x3)] → W p l e (rmL 430 0 0) s m args below meth c H locs 0 0 (eQ G below (some (.int r)) V' T args s 0 0) (F0 m 24 ls []) := by
  have hx := C.1
  have hb := C.2.1
  have hown := C.2.2.2.1
  have hts := C.2.2.2.2.1
  intro n
  induction n with
  | zero =>
    intro x3 V1 H locs ls hf
    cases hf
  | succ n ih =>
    intro x3 V1 H locs ls hf hw hl
    unfold f_X0_settled_L24 at hf
    refine lv_iload_n hx hb dX0_settled_24 rfl (lv_at hl 3 rfl) ?_
    refine lv_bipush (v := (60 : Int32)) hx hb dX0_settled_25 (by decide) ?_
    refine lv_icmp_ge (tgt := 85) hx hb dX0_settled_27 (by decide) (fun c10 => ?_) (fun c10 => ?_)
    · replace hf := ite_t c10 hf
      exact hkx24_85 _ _ _ _ hf hw (lv_sub hl [] rfl)
    · replace hf := ite_f c10 hf
      refine lv_aload_n hx hb dX0_settled_30 rfl (lv_at hl 0 rfl) ?_
      revert hf
      refine k_drf (fun r11 er11 hf => ?_)
      refine gf_X0_59 C hw k0 er11 dX0_settled_31 ?_
      refine lv_iload_n hx hb dX0_settled_34 rfl (lv_at hl 2 rfl) ?_
      revert hf
      refine k_pcl (fun z13 h12 hf => ?_)
      refine w_afi hw (w_rV (As := [.int x2]) C hw (ok_X2_mean h12) (cw_X0_158 hts (Nat.le_of_ble_eq_true rfl) (Nat.le_of_ble_eq_true rfl)) rfl (by decide) (of_req h12).1 rfl hl.1 rfl (Nat.le_of_ble_eq_true rfl) ⟨Nat.zero_le _, Nat.zero_le _⟩ dX0_settled_35) (fun H locs hw => ?_)
      refine lv_istore (lv' := [(4, .int z13), (0, .ref (gb G + x0)), (1, .int x1), (2, .int x2), (3, .int x3)]) hx hb dX0_settled_38 hl (by decide) rfl (fun ls hl => ?_)
      refine lv_aload_n hx hb dX0_settled_40 rfl (lv_at hl 1 rfl) ?_
      refine lv_aload_n hx hb dX0_settled_41 rfl (lv_at hl 1 rfl) ?_
      revert hf
      refine k_drf (fun r14 er14 hf => ?_)
      refine gf_X0_31 C hw k0 er14 dX0_settled_42 ?_
      revert hf
      refine k_req (fun k15 hf => ?_)
      revert hf
      refine k_drf (fun r16 er16 hf => ?_)
      refine gf_X0_112 C hw k15 er16 dX0_settled_45 ?_
      refine lv_iload_n hx hb dX0_settled_48 rfl (lv_at hl 2 rfl) ?_
      revert hf
      refine k_pcl (fun r18 h17 hf => ?_)
      refine w_afr hw (w_rV (As := [.int x1]) C hw (ok_J2_get h17) (cw_X0_271 hts (Nat.le_of_ble_eq_true rfl) (Nat.le_of_ble_eq_true rfl)) rfl (by decide) (of_req h17).1 rfl hl.1 rfl (Nat.le_of_ble_eq_true rfl) ⟨Nat.zero_le _, Nat.zero_le _⟩ dX0_settled_49) (fun H locs hw => ?_)
      revert hf
      refine k_req (fun k19 hf => ?_)
      refine w_castS (ci := 18) C hw rfl (by decide) k19 q1229 dX0_settled_52 ?_
      revert hf
      refine k_pcl (fun U22 h20 hf => ?_)
      refine w_afv hw (w_rV (As := [.ref (gb G + r18)]) C hw (ok_X0_runsYear h20) (cw_X0_413 hts (Nat.le_of_ble_eq_true rfl) (Nat.le_of_ble_eq_true rfl)) rfl (by decide) (of_req h20).1 rfl hl.1 rfl (Nat.le_of_ble_eq_true rfl) ⟨Nat.zero_le _, Nat.zero_le _⟩ dX0_settled_55) (fun H locs hw => ?_)
      refine lv_iload hx hb dX0_settled_58 (lv_at hl 0 rfl) ?_
      refine lv_iconst (v := ((-1) : Int32)) hx hb dX0_settled_60 (by decide) ?_
      refine lv_icmp_eq (tgt := 79) hx hb dX0_settled_61 (by decide) (fun c23 => ?_) (fun c23 => ?_)
      · replace hf := ite_t c23 hf
        exact jk_X0_settled_79 C hr k0 hf hw (lv_sub hl [1, 2, 3, 4] rfl) ih hkx24_77 hkx24_85
      · replace hf := ite_f c23 hf
        refine lv_aload_n hx hb dX0_settled_64 rfl (lv_at hl 1 rfl) ?_
        revert hf
        refine k_drf (fun r25 er25 hf => ?_)
        refine gf_X0_59 C hw k0 er25 dX0_settled_65 ?_
        refine lv_iload_n hx hb dX0_settled_68 rfl (lv_at hl 3 rfl) ?_
        revert hf
        refine k_pcl (fun z27 h26 hf => ?_)
        refine w_afi hw (w_rV (As := [.int x2]) C hw (ok_X2_mean h26) (cw_X0_158 hts (Nat.le_of_ble_eq_true rfl) (Nat.le_of_ble_eq_true rfl)) rfl (by decide) (of_req h26).1 rfl hl.1 rfl (Nat.le_of_ble_eq_true rfl) ⟨Nat.zero_le _, Nat.zero_le _⟩ dX0_settled_69) (fun H locs hw => ?_)
        refine lv_iload hx hb dX0_settled_72 (lv_at hl 0 rfl) ?_
        refine lv_icmp_ne (tgt := 79) hx hb dX0_settled_74 (by decide) (fun c28 => ?_) (fun c28 => ?_)
        · replace hf := ite_f c28 hf
          exact jk_X0_settled_79 C hr k0 hf hw (lv_sub hl [1, 2, 3, 4] rfl) ih hkx24_77 hkx24_85
        · replace hf := ite_t c28 hf
          exact hkx24_77 _ _ _ _ _ hf hw (lv_sub hl [4] rfl)
set_option maxHeartbeats 4000000 in
theorem ok_X0_settled {l : Launch} {G : gG} {T : Tt} {V0 : Vt} {o : Nat} {a0 : Int32} {a1 : Int32} {r : Int32} {V' : Vt} (hf : f_X0_settled T V0 o a0 a1 = some (r, V')) : okM l G yX0_settled cX0_settled 5 (some .int) 430 [.ref (gb G + o), .int a0, .int a1] V0 T (some (.int r)) V' T 0 0 := by
  refine ok_intro (by decide) (Nat.le_of_ble_eq_true rfl) ?_
  intro p e s m below meth c ls C hr hnm hw hl
  have hx := C.1
  have hb := C.2.1
  have hown := C.2.2.2.1
  have hts := C.2.2.2.2.1
  have hl : lv_has ls 5 [(0, .ref (gb G + o)), (1, .int a0), (2, .int a1)] := hl
  unfold f_X0_settled at hf
  revert hf
  refine k_req (fun k0 hf => ?_)
  refine lv_aload_n hx hb dX0_settled_0 rfl (lv_at hl 0 rfl) ?_
  refine lv_iload_n hx hb dX0_settled_1 rfl (lv_at hl 1 rfl) ?_
  revert hf
  refine k_pcl (fun z2 h1 hf => ?_)
  refine w_afi hw (w_rV (As := [.int a0]) C hw (ok_X0_isPlan h1) (cw_X0_417 hts (Nat.le_of_ble_eq_true rfl) (Nat.le_of_ble_eq_true rfl)) rfl (by decide) (of_req h1).1 rfl hl.1 rfl (Nat.le_of_ble_eq_true rfl) ⟨Nat.zero_le _, Nat.zero_le _⟩ dX0_settled_2) (fun H locs hw => ?_)
  refine lv_if_eq (tgt := 16) hx hb dX0_settled_5 (by decide) (fun c3 => ?_) (fun c3 => ?_)
  · replace hf := ite_t c3 hf
    refine lv_iconst (v := ((-1) : Int32)) hx hb dX0_settled_16 (by decide) ?_
    cases hf
    exact w_iret C hr hw dX0_settled_17
  · replace hf := ite_f c3 hf
    refine lv_aload_n hx hb dX0_settled_8 rfl (lv_at hl 0 rfl) ?_
    refine lv_iload_n hx hb dX0_settled_9 rfl (lv_at hl 2 rfl) ?_
    revert hf
    refine k_pcl (fun z5 h4 hf => ?_)
    refine w_afi hw (w_rV (As := [.int a1]) C hw (ok_X0_isCask h4) (cw_X0_151 hts (Nat.le_of_ble_eq_true rfl) (Nat.le_of_ble_eq_true rfl)) rfl (by decide) (of_req h4).1 rfl hl.1 rfl (Nat.le_of_ble_eq_true rfl) ⟨Nat.zero_le _, Nat.zero_le _⟩ dX0_settled_10) (fun H locs hw => ?_)
    refine lv_if_ne (tgt := 18) hx hb dX0_settled_13 (by decide) (fun c6 => ?_) (fun c6 => ?_)
    · replace hf := ite_f c6 hf
      refine lv_aload_n hx hb dX0_settled_18 rfl (lv_at hl 0 rfl) ?_
      revert hf
      refine k_pcl (fun U9 h7 hf => ?_)
      refine w_afv hw (w_rV (As := []) C hw (ok_X0_begins h7) (cw_X0_410 hts (Nat.le_of_ble_eq_true rfl) (Nat.le_of_ble_eq_true rfl)) rfl (by decide) (of_req h7).1 rfl hl.1 rfl (Nat.le_of_ble_eq_true rfl) ⟨Nat.zero_le _, Nat.zero_le _⟩ dX0_settled_19) (fun H locs hw => ?_)
      refine lv_iconst (v := (0 : Int32)) hx hb dX0_settled_22 (by decide) ?_
      refine lv_istore_n (lv' := [(3, .int (0 : Int32)), (0, .ref (gb G + o)), (1, .int a0), (2, .int a1)]) hx hb dX0_settled_23 rfl hl (by decide) rfl (fun ls hl => ?_)
      refine lk_X0_settled_24 C hr k0 (fun z29 U30 H locs ls hf hw hl => ?_) (fun U31 H locs ls hf hw hl => ?_) fuel _ _ _ _ _ hf hw (lv_sub hl [1, 2, 3, 0] rfl)
      · refine lv_iload_n hx hb dX0_settled_77 rfl (lv_at hl 0 rfl) ?_
        cases hf
        exact w_iret C hr hw dX0_settled_78
      · refine lv_iconst (v := ((-1) : Int32)) hx hb dX0_settled_85 (by decide) ?_
        cases hf
        exact w_iret C hr hw dX0_settled_86
    · replace hf := ite_t c6 hf
      refine lv_iconst (v := ((-1) : Int32)) hx hb dX0_settled_16 (by decide) ?_
      cases hf
      exact w_iret C hr hw dX0_settled_17
set_option maxHeartbeats 4000000 in
theorem lk_X0_starves_16 {l : Launch} {G : gG} {p : Program} {e : Env} {s : State} {m : MethodId} {args : Array Value} {below : List Frame} {meth : Method} {c : Code} {T : Tt} {r : Int32} {V' : Vt} (C : Cx G p s m args meth c cX0_starves RX0 3) (hr : meth.sig.returnType = (some .int)) {x0 : Nat} {x1 : Int32} {kx16_47 : Int32 → Vt → Option (Int32 × Vt)} {kx16_55 : Vt → Option (Int32 × Vt)} (k0 : T.1 x0 = 1) (hkx16_47 : ∀ (y2 : Int32) (W1 : Vt) (H : Heap) (locs : List Loc) (ls : Array Slot), kx16_47 y2 W1 = some (r, V') → wS G W1 T H locs → lv_has ls 3 [(2, .int y2)] → W p l e (rmL 430 0 0) s m args below meth c H locs 0 0 (eQ G below (some (.int r)) V' T args s 0 0) (F0 m 47 ls [])) (hkx16_55 : ∀ (W1 : Vt) (H : Heap) (locs : List Loc) (ls : Array Slot), kx16_55 W1 = some (r, V') → wS G W1 T H locs → lv_has ls 3 [] → W p l e (rmL 430 0 0) s m args below meth c H locs 0 0 (eQ G below (some (.int r)) V' T args s 0 0) (F0 m 55 ls [])) : ∀ (n : Nat) (x2 : Int32) (V1 : Vt) (H : Heap) (locs : List Loc) (ls : Array Slot), f_X0_starves_L16 T x0 x1 kx16_47 kx16_55 n x2 V1 = some (r, V') → wS G V1 T H locs → lv_has ls 3 [(0, .ref (gb G + x0)), (1, .int x1), (2, .int x2)] → W p l e (rmL 430 0 0) s m args below meth c H locs 0 0 (eQ G below (some (.int r)) V' T args s 0 0) (F0 m 16 ls []) := by
  have hx := C.1
  have hb := C.2.1
  have hown := C.2.2.2.1
  have hts := C.2.2.2.2.1
  intro n
  induction n with
  | zero =>
    intro x2 V1 H locs ls hf
    cases hf
  | succ n ih =>
    intro x2 V1 H locs ls hf hw hl
    unfold f_X0_starves_L16 at hf
    refine lv_iload_n hx hb dX0_starves_16 rfl (lv_at hl 2 rfl) ?_
    refine lv_bipush (v := (60 : Int32)) hx hb dX0_starves_17 (by decide) ?_
    refine lv_icmp_ge (tgt := 55) hx hb dX0_starves_19 (by decide) (fun c7 => ?_) (fun c7 => ?_)
    · replace hf := ite_t c7 hf
      exact hkx16_55 _ _ _ _ hf hw (lv_sub hl [] rfl)
    · replace hf := ite_f c7 hf
      refine lv_aload_n hx hb dX0_starves_22 rfl (lv_at hl 0 rfl) ?_
      refine lv_aload_n hx hb dX0_starves_23 rfl (lv_at hl 0 rfl) ?_
      revert hf
      refine k_drf (fun r8 er8 hf => ?_)
      refine gf_X0_31 C hw k0 er8 dX0_starves_24 ?_
      revert hf
      refine k_req (fun k9 hf => ?_)
      revert hf
      refine k_drf (fun r10 er10 hf => ?_)
      refine gf_X0_112 C hw k9 er10 dX0_starves_27 ?_
      refine lv_iload_n hx hb dX0_starves_30 rfl (lv_at hl 1 rfl) ?_
      revert hf
      refine k_pcl (fun r12 h11 hf => ?_)
      refine w_afr hw (w_rV (As := [.int x1]) C hw (ok_J2_get h11) (cw_X0_271 hts (Nat.le_of_ble_eq_true rfl) (Nat.le_of_ble_eq_true rfl)) rfl (by decide) (of_req h11).1 rfl hl.1 rfl (Nat.le_of_ble_eq_true rfl) ⟨Nat.zero_le _, Nat.zero_le _⟩ dX0_starves_31) (fun H locs hw => ?_)
      revert hf
      refine k_req (fun k13 hf => ?_)
      refine w_castS (ci := 18) C hw rfl (by decide) k13 q1229 dX0_starves_34 ?_
      revert hf
      refine k_pcl (fun U16 h14 hf => ?_)
      refine w_afv hw (w_rV (As := [.ref (gb G + r12)]) C hw (ok_X0_runsYear h14) (cw_X0_413 hts (Nat.le_of_ble_eq_true rfl) (Nat.le_of_ble_eq_true rfl)) rfl (by decide) (of_req h14).1 rfl hl.1 rfl (Nat.le_of_ble_eq_true rfl) ⟨Nat.zero_le _, Nat.zero_le _⟩ dX0_starves_37) (fun H locs hw => ?_)
      refine lv_aload_n hx hb dX0_starves_40 rfl (lv_at hl 0 rfl) ?_
      refine gf_X0_402 C hw k0 dX0_starves_41 ?_
      refine lv_if_eq (tgt := 49) hx hb dX0_starves_44 (by decide) (fun c17 => ?_) (fun c17 => ?_)
      · replace hf := ite_t c17 hf
        revert hf
        refine k_stp (fun z18 ez18 hf => ?_)
        refine lv_iinc (k := 2) (lv' := [(2, .int z18), (0, .ref (gb G + x0)), (1, .int x1)]) hx hb dX0_starves_49 hl rfl (inc_e (by decide) ez18) (by decide) rfl (fun ls hl => ?_)
        refine lv_goto (tgt := 16) hx hb dX0_starves_52 (by decide) ?_
        exact ih _ _ _ _ _ hf hw (lv_sub hl [1, 2, 0] rfl)
      · replace hf := ite_f c17 hf
        exact hkx16_47 _ _ _ _ _ hf hw (lv_sub hl [2] rfl)
set_option maxHeartbeats 4000000 in
theorem ok_X0_starves {l : Launch} {G : gG} {T : Tt} {V0 : Vt} {o : Nat} {a0 : Int32} {r : Int32} {V' : Vt} (hf : f_X0_starves T V0 o a0 = some (r, V')) : okM l G yX0_starves cX0_starves 3 (some .int) 430 [.ref (gb G + o), .int a0] V0 T (some (.int r)) V' T 0 0 := by
  refine ok_intro (by decide) (Nat.le_of_ble_eq_true rfl) ?_
  intro p e s m below meth c ls C hr hnm hw hl
  have hx := C.1
  have hb := C.2.1
  have hown := C.2.2.2.1
  have hts := C.2.2.2.2.1
  have hl : lv_has ls 3 [(0, .ref (gb G + o)), (1, .int a0)] := hl
  unfold f_X0_starves at hf
  revert hf
  refine k_req (fun k0 hf => ?_)
  refine lv_aload_n hx hb dX0_starves_0 rfl (lv_at hl 0 rfl) ?_
  refine lv_iload_n hx hb dX0_starves_1 rfl (lv_at hl 1 rfl) ?_
  revert hf
  refine k_pcl (fun z2 h1 hf => ?_)
  refine w_afi hw (w_rV (As := [.int a0]) C hw (ok_X0_isPlan h1) (cw_X0_417 hts (Nat.le_of_ble_eq_true rfl) (Nat.le_of_ble_eq_true rfl)) rfl (by decide) (of_req h1).1 rfl hl.1 rfl (Nat.le_of_ble_eq_true rfl) ⟨Nat.zero_le _, Nat.zero_le _⟩ dX0_starves_2) (fun H locs hw => ?_)
  refine lv_if_ne (tgt := 10) hx hb dX0_starves_5 (by decide) (fun c3 => ?_) (fun c3 => ?_)
  · replace hf := ite_f c3 hf
    refine lv_aload_n hx hb dX0_starves_10 rfl (lv_at hl 0 rfl) ?_
    revert hf
    refine k_pcl (fun U6 h4 hf => ?_)
    refine w_afv hw (w_rV (As := []) C hw (ok_X0_begins h4) (cw_X0_410 hts (Nat.le_of_ble_eq_true rfl) (Nat.le_of_ble_eq_true rfl)) rfl (by decide) (of_req h4).1 rfl hl.1 rfl (Nat.le_of_ble_eq_true rfl) ⟨Nat.zero_le _, Nat.zero_le _⟩ dX0_starves_11) (fun H locs hw => ?_)
    refine lv_iconst (v := (0 : Int32)) hx hb dX0_starves_14 (by decide) ?_
    refine lv_istore_n (lv' := [(2, .int (0 : Int32)), (0, .ref (gb G + o)), (1, .int a0)]) hx hb dX0_starves_15 rfl hl (by decide) rfl (fun ls hl => ?_)
    refine lk_X0_starves_16 C hr k0 (fun z19 U20 H locs ls hf hw hl => ?_) (fun U21 H locs ls hf hw hl => ?_) fuel _ _ _ _ _ hf hw (lv_sub hl [1, 2, 0] rfl)
    · refine lv_iload_n hx hb dX0_starves_47 rfl (lv_at hl 0 rfl) ?_
      cases hf
      exact w_iret C hr hw dX0_starves_48
    · refine lv_iconst (v := ((-1) : Int32)) hx hb dX0_starves_55 (by decide) ?_
      cases hf
      exact w_iret C hr hw dX0_starves_56
  · replace hf := ite_t c3 hf
    refine lv_iconst (v := ((-1) : Int32)) hx hb dX0_starves_8 (by decide) ?_
    cases hf
    exact w_iret C hr hw dX0_starves_9
set_option maxHeartbeats 4000000 in
theorem ok_X0_yields {l : Launch} {G : gG} {T : Tt} {V0 : Vt} {o : Nat} {a0 : Int32} {a1 : Int32} {r : Int32} {V' : Vt} (hf : f_X0_yields T V0 o a0 a1 = some (r, V')) : okM l G yX0_yields cX0_yields 3 (some .int) 431 [.ref (gb G + o), .int a0, .int a1] V0 T (some (.int r)) V' T 0 0 := by
  refine ok_intro (by decide) (Nat.le_of_ble_eq_true rfl) ?_
  intro p e s m below meth c ls C hr hnm hw hl
  have hx := C.1
  have hb := C.2.1
  have hown := C.2.2.2.1
  have hts := C.2.2.2.2.1
  have hl : lv_has ls 3 [(0, .ref (gb G + o)), (1, .int a0), (2, .int a1)] := hl
  unfold f_X0_yields at hf
  revert hf
  refine k_req (fun k0 hf => ?_)
  refine lv_aload_n hx hb dX0_yields_0 rfl (lv_at hl 0 rfl) ?_
  refine lv_iload_n hx hb dX0_yields_1 rfl (lv_at hl 1 rfl) ?_
  revert hf
  refine k_pcl (fun z2 h1 hf => ?_)
  refine w_afi hw (w_rV (As := [.int a0]) C hw (ok_X0_isPlan h1) (cw_X0_417 hts (Nat.le_of_ble_eq_true rfl) (Nat.le_of_ble_eq_true rfl)) rfl (by decide) (of_req h1).1 rfl hl.1 rfl (Nat.le_of_ble_eq_true rfl) ⟨Nat.zero_le _, Nat.zero_le _⟩ dX0_yields_2) (fun H locs hw => ?_)
  refine lv_if_eq (tgt := 18) hx hb dX0_yields_5 (by decide) (fun c3 => ?_) (fun c3 => ?_)
  · replace hf := ite_t c3 hf
    refine lv_iconst (v := ((-1) : Int32)) hx hb dX0_yields_18 (by decide) ?_
    cases hf
    exact w_iret C hr hw dX0_yields_19
  · replace hf := ite_f c3 hf
    refine lv_iload_n hx hb dX0_yields_8 rfl (lv_at hl 2 rfl) ?_
    refine lv_iconst (v := (0 : Int32)) hx hb dX0_yields_9 (by decide) ?_
    refine lv_bipush (v := (60 : Int32)) hx hb dX0_yields_10 (by decide) ?_
    revert hf
    refine k_pcl (fun z5 h4 hf => ?_)
    refine w_afi hw (w_rS (As := [.int a1, .int (0 : Int32), .int (60 : Int32)]) C hw (ok_X0_in h4) (cw_X0_108 hts (Nat.le_of_ble_eq_true rfl) (Nat.le_of_ble_eq_true rfl)) rfl hl.1 rfl (Nat.le_of_ble_eq_true rfl) ⟨Nat.zero_le _, Nat.zero_le _⟩ dX0_yields_12) (fun H locs hw => ?_)
    refine lv_if_ne (tgt := 20) hx hb dX0_yields_15 (by decide) (fun c6 => ?_) (fun c6 => ?_)
    · replace hf := ite_f c6 hf
      refine lv_aload_n hx hb dX0_yields_20 rfl (lv_at hl 0 rfl) ?_
      refine lv_aload_n hx hb dX0_yields_21 rfl (lv_at hl 0 rfl) ?_
      revert hf
      refine k_drf (fun r7 er7 hf => ?_)
      refine gf_X0_31 C hw k0 er7 dX0_yields_22 ?_
      revert hf
      refine k_req (fun k8 hf => ?_)
      revert hf
      refine k_drf (fun r9 er9 hf => ?_)
      refine gf_X0_112 C hw k8 er9 dX0_yields_25 ?_
      refine lv_iload_n hx hb dX0_yields_28 rfl (lv_at hl 1 rfl) ?_
      revert hf
      refine k_pcl (fun r11 h10 hf => ?_)
      refine w_afr hw (w_rV (As := [.int a0]) C hw (ok_J2_get h10) (cw_X0_271 hts (Nat.le_of_ble_eq_true rfl) (Nat.le_of_ble_eq_true rfl)) rfl (by decide) (of_req h10).1 rfl hl.1 rfl (Nat.le_of_ble_eq_true rfl) ⟨Nat.zero_le _, Nat.zero_le _⟩ dX0_yields_29) (fun H locs hw => ?_)
      revert hf
      refine k_req (fun k12 hf => ?_)
      refine w_castS (ci := 18) C hw rfl (by decide) k12 q1229 dX0_yields_32 ?_
      refine lv_iload_n hx hb dX0_yields_35 rfl (lv_at hl 2 rfl) ?_
      revert hf
      refine k_pcl (fun U15 h13 hf => ?_)
      refine w_afv hw (w_rV (As := [.ref (gb G + r11), .int a1]) C hw (ok_X0_runs h13) (cw_X0_420 hts (Nat.le_of_ble_eq_true rfl) (Nat.le_of_ble_eq_true rfl)) rfl (by decide) (of_req h13).1 rfl hl.1 rfl (Nat.le_of_ble_eq_true rfl) ⟨Nat.zero_le _, Nat.zero_le _⟩ dX0_yields_36) (fun H locs hw => ?_)
      refine lv_aload_n hx hb dX0_yields_39 rfl (lv_at hl 0 rfl) ?_
      refine gf_X0_395 C hw k0 dX0_yields_40 ?_
      cases hf
      exact w_iret C hr hw dX0_yields_43
    · replace hf := ite_t c6 hf
      refine lv_iconst (v := ((-1) : Int32)) hx hb dX0_yields_18 (by decide) ?_
      cases hf
      exact w_iret C hr hw dX0_yields_19
set_option maxHeartbeats 4000000 in
theorem jk_X0_best_95 {l : Launch} {G : gG} {p : Program} {e : Env} {s : State} {m : MethodId} {args : Array Value} {below : List Frame} {meth : Method} {c : Code} {T : Tt} {V0 : Vt} {r : Int32} {V' : Vt} (C : Cx G p s m args meth c cX0_best RX0 6) (hr : meth.sig.returnType = (some .int)) {x0 : Nat} {x1 : Int32} {x2 : Int32} {x3 : Int32} {x4 : Int32} {x5 : Int32} {kc31 : Int32 → Int32 → Int32 → Vt → Option (Int32 × Vt)} {kx31_101 : Int32 → Vt → Option (Int32 × Vt)} {H : Heap} {locs : List Loc} {ls : Array Slot} (k0 : T.1 x0 = 1) (hf : f_X0_best_J95 T V0 x0 x1 x2 x3 x4 x5 kc31 kx31_101 = some (r, V')) (hw : wS G V0 T H locs) (hl : lv_has ls 6 [(0, .ref (gb G + x0)), (1, .int x1), (2, .int x2), (3, .int x3), (4, .int x4), (5, .int x5)]) (hkc31 : ∀ (y3 : Int32) (y4 : Int32) (y5 : Int32) (W1 : Vt) (H : Heap) (locs : List Loc) (ls : Array Slot), kc31 y3 y4 y5 W1 = some (r, V') → wS G W1 T H locs → lv_has ls 6 [(0, .ref (gb G + x0)), (1, .int x1), (2, .int x2), (3, .int y3), (4, .int y4), (5, .int y5)] → W p l e (rmL 431 0 0) s m args below meth c H locs 0 0 (eQ G below (some (.int r)) V' T args s 0 0) (F0 m 31 ls [])) (hkx31_101 : ∀ (y3 : Int32) (W1 : Vt) (H : Heap) (locs : List Loc) (ls : Array Slot), kx31_101 y3 W1 = some (r, V') → wS G W1 T H locs → lv_has ls 6 [(3, .int y3)] → W p l e (rmL 431 0 0) s m args below meth c H locs 0 0 (eQ G below (some (.int r)) V' T args s 0 0) (F0 m 101 ls [])) : W p l e (rmL 431 0 0) s m args below meth c H locs 0 0 (eQ G below (some (.int r)) V' T args s 0 0) (F0 m 95 ls []) := by
  have hx := C.1
  have hb := C.2.1
  have hown := C.2.2.2.1
  have hts := C.2.2.2.2.1
  unfold f_X0_best_J95 at hf
  revert hf
  refine k_stp (fun z23 ez23 hf => ?_)
  refine lv_iinc (k := 5) (lv' := [(5, .int z23), (0, .ref (gb G + x0)), (1, .int x1), (2, .int x2), (3, .int x3), (4, .int x4)]) hx hb dX0_best_95 hl rfl (inc_e (by decide) ez23) (by decide) rfl (fun ls hl => ?_)
  refine lv_goto (tgt := 31) hx hb dX0_best_98 (by decide) ?_
  exact hkc31 _ _ _ _ _ _ _ hf hw (lv_sub hl [1, 2, 3, 4, 5, 0] rfl)
set_option maxHeartbeats 4000000 in
theorem lk_X0_best_31 {l : Launch} {G : gG} {p : Program} {e : Env} {s : State} {m : MethodId} {args : Array Value} {below : List Frame} {meth : Method} {c : Code} {T : Tt} {r : Int32} {V' : Vt} (C : Cx G p s m args meth c cX0_best RX0 6) (hr : meth.sig.returnType = (some .int)) {x0 : Nat} {x1 : Int32} {x2 : Int32} {kx31_101 : Int32 → Vt → Option (Int32 × Vt)} (k0 : T.1 x0 = 1) (hkx31_101 : ∀ (y3 : Int32) (W1 : Vt) (H : Heap) (locs : List Loc) (ls : Array Slot), kx31_101 y3 W1 = some (r, V') → wS G W1 T H locs → lv_has ls 6 [(3, .int y3)] → W p l e (rmL 431 0 0) s m args below meth c H locs 0 0 (eQ G below (some (.int r)) V' T args s 0 0) (F0 m 101 ls [])) : ∀ (n : Nat) (x3 : Int32) (x4 : Int32) (x5 : Int32) (V1 : Vt) (H : Heap) (locs : List Loc) (ls : Array Slot), f_X0_best_L31 T x0 x1 x2 kx31_101 n x3 x4 x5 V1 = some (r, V') → wS G V1 T H locs → lv_has ls 6 [(0, .ref (gb G + x0)), (1, .int x1), (2, .int x2), (3, .int x3), (4, .int x4), (5, .int x5)] → W p l e (rmL 431 0 0) s m args below meth c H locs 0 0 (eQ G below (some (.int r)) V' T args s 0 0) (F0 m 31 ls []) := by
  have hx := C.1
  have hb := C.2.1
  have hown := C.2.2.2.1
  have hts := C.2.2.2.2.1
  intro n
  induction n with
  | zero =>
    intro x3 x4 x5 V1 H locs ls hf
    cases hf
  | succ n ih =>
    intro x3 x4 x5 V1 H locs ls hf hw hl
    unfold f_X0_best_L31 at hf
    refine lv_iload hx hb dX0_best_31 (lv_at hl 5 rfl) ?_
    refine lv_aload_n hx hb dX0_best_33 rfl (lv_at hl 0 rfl) ?_
    revert hf
    refine k_drf (fun r7 er7 hf => ?_)
    refine gf_X0_31 C hw k0 er7 dX0_best_34 ?_
    revert hf
    refine k_req (fun k8 hf => ?_)
    revert hf
    refine k_drf (fun r9 er9 hf => ?_)
    refine gf_X0_112 C hw k8 er9 dX0_best_37 ?_
    revert hf
    refine k_pcl (fun z11 h10 hf => ?_)
    refine w_afi hw (w_rV (As := []) C hw (ok_J2_size h10) (cw_X0_116 hts (Nat.le_of_ble_eq_true rfl) (Nat.le_of_ble_eq_true rfl)) rfl (by decide) (of_req h10).1 rfl hl.1 rfl (Nat.le_of_ble_eq_true rfl) ⟨Nat.zero_le _, Nat.zero_le _⟩ dX0_best_40) (fun H locs hw => ?_)
    refine lv_icmp_ge (tgt := 101) hx hb dX0_best_43 (by decide) (fun c12 => ?_) (fun c12 => ?_)
    · replace hf := ite_t c12 hf
      exact hkx31_101 _ _ _ _ _ hf hw (lv_sub hl [3] rfl)
    · replace hf := ite_f c12 hf
      refine lv_aload_n hx hb dX0_best_46 rfl (lv_at hl 0 rfl) ?_
      refine lv_aload_n hx hb dX0_best_47 rfl (lv_at hl 0 rfl) ?_
      revert hf
      refine k_drf (fun r13 er13 hf => ?_)
      refine gf_X0_31 C hw k0 er13 dX0_best_48 ?_
      revert hf
      refine k_req (fun k14 hf => ?_)
      revert hf
      refine k_drf (fun r15 er15 hf => ?_)
      refine gf_X0_112 C hw k14 er15 dX0_best_51 ?_
      refine lv_iload hx hb dX0_best_54 (lv_at hl 5 rfl) ?_
      revert hf
      refine k_pcl (fun r17 h16 hf => ?_)
      refine w_afr hw (w_rV (As := [.int x5]) C hw (ok_J2_get h16) (cw_X0_271 hts (Nat.le_of_ble_eq_true rfl) (Nat.le_of_ble_eq_true rfl)) rfl (by decide) (of_req h16).1 rfl hl.1 rfl (Nat.le_of_ble_eq_true rfl) ⟨Nat.zero_le _, Nat.zero_le _⟩ dX0_best_56) (fun H locs hw => ?_)
      revert hf
      refine k_req (fun k18 hf => ?_)
      refine w_castS (ci := 18) C hw rfl (by decide) k18 q1229 dX0_best_59 ?_
      refine lv_iload_n hx hb dX0_best_62 rfl (lv_at hl 1 rfl) ?_
      revert hf
      refine k_pcl (fun U21 h19 hf => ?_)
      refine w_afv hw (w_rV (As := [.ref (gb G + r17), .int x1]) C hw (ok_X0_runs h19) (cw_X0_420 hts (Nat.le_of_ble_eq_true rfl) (Nat.le_of_ble_eq_true rfl)) rfl (by decide) (of_req h19).1 rfl hl.1 rfl (Nat.le_of_ble_eq_true rfl) ⟨Nat.zero_le _, Nat.zero_le _⟩ dX0_best_63) (fun H locs hw => ?_)
      refine lv_aload_n hx hb dX0_best_66 rfl (lv_at hl 0 rfl) ?_
      refine gf_X0_399 C hw k0 dX0_best_67 ?_
      refine lv_iload_n hx hb dX0_best_70 rfl (lv_at hl 2 rfl) ?_
      refine lv_icmp_lt (tgt := 95) hx hb dX0_best_71 (by decide) (fun c22 => ?_) (fun c22 => ?_)
      · replace hf := ite_t c22 hf
        exact jk_X0_best_95 C hr k0 hf hw (lv_sub hl [0, 1, 2, 3, 4, 5] rfl) ih hkx31_101
      · replace hf := ite_f c22 hf
        refine lv_aload_n hx hb dX0_best_74 rfl (lv_at hl 0 rfl) ?_
        refine gf_X0_395 C hw k0 dX0_best_75 ?_
        refine lv_iload hx hb dX0_best_78 (lv_at hl 4 rfl) ?_
        refine lv_icmp_gt (tgt := 86) hx hb dX0_best_80 (by decide) (fun c24 => ?_) (fun c24 => ?_)
        · replace hf := ite_t c24 hf
          refine lv_aload_n hx hb dX0_best_86 rfl (lv_at hl 0 rfl) ?_
          refine gf_X0_395 C hw k0 dX0_best_87 ?_
          revert hf
          refine k_stp (fun z25 ez25 hf => ?_)
          refine w_nmI ez25 ?_
          refine lv_istore (lv' := [(4, .int z25), (0, .ref (gb G + x0)), (1, .int x1), (2, .int x2), (3, .int x3), (5, .int x5)]) hx hb dX0_best_90 hl (by decide) rfl (fun ls hl => ?_)
          refine lv_iload hx hb dX0_best_92 (lv_at hl 5 rfl) ?_
          refine lv_istore_n (lv' := [(3, .int x5), (4, .int z25), (0, .ref (gb G + x0)), (1, .int x1), (2, .int x2), (5, .int x5)]) hx hb dX0_best_94 rfl hl (by decide) rfl (fun ls hl => ?_)
          exact jk_X0_best_95 C hr k0 hf hw (lv_sub hl [2, 3, 4, 0, 1, 5] rfl) ih hkx31_101
        · replace hf := ite_f c24 hf
          refine lv_goto (tgt := 95) hx hb dX0_best_83 (by decide) ?_
          exact jk_X0_best_95 C hr k0 hf hw (lv_sub hl [0, 1, 2, 3, 4, 5] rfl) ih hkx31_101
set_option maxHeartbeats 4000000 in
theorem ok_X0_best {l : Launch} {G : gG} {T : Tt} {V0 : Vt} {o : Nat} {a0 : Int32} {a1 : Int32} {r : Int32} {V' : Vt} (hf : f_X0_best T V0 o a0 a1 = some (r, V')) : okM l G yX0_best cX0_best 6 (some .int) 431 [.ref (gb G + o), .int a0, .int a1] V0 T (some (.int r)) V' T 0 0 := by
  refine ok_intro (by decide) (Nat.le_of_ble_eq_true rfl) ?_
  intro p e s m below meth c ls C hr hnm hw hl
  have hx := C.1
  have hb := C.2.1
  have hown := C.2.2.2.1
  have hts := C.2.2.2.2.1
  have hl : lv_has ls 6 [(0, .ref (gb G + o)), (1, .int a0), (2, .int a1)] := hl
  unfold f_X0_best at hf
  revert hf
  refine k_req (fun k0 hf => ?_)
  refine lv_iload_n hx hb dX0_best_0 rfl (lv_at hl 1 rfl) ?_
  refine lv_iconst (v := (0 : Int32)) hx hb dX0_best_1 (by decide) ?_
  refine lv_bipush (v := (60 : Int32)) hx hb dX0_best_2 (by decide) ?_
  revert hf
  refine k_pcl (fun z2 h1 hf => ?_)
  refine w_afi hw (w_rS (As := [.int a0, .int (0 : Int32), .int (60 : Int32)]) C hw (ok_X0_in h1) (cw_X0_108 hts (Nat.le_of_ble_eq_true rfl) (Nat.le_of_ble_eq_true rfl)) rfl hl.1 rfl (Nat.le_of_ble_eq_true rfl) ⟨Nat.zero_le _, Nat.zero_le _⟩ dX0_best_4) (fun H locs hw => ?_)
  refine lv_if_eq (tgt := 21) hx hb dX0_best_7 (by decide) (fun c3 => ?_) (fun c3 => ?_)
  · replace hf := ite_t c3 hf
    refine lv_iconst (v := ((-1) : Int32)) hx hb dX0_best_21 (by decide) ?_
    cases hf
    exact w_iret C hr hw dX0_best_22
  · replace hf := ite_f c3 hf
    refine lv_iload_n hx hb dX0_best_10 rfl (lv_at hl 2 rfl) ?_
    refine lv_iconst (v := (0 : Int32)) hx hb dX0_best_11 (by decide) ?_
    refine lv_sipush (v := (19000 : Int32)) hx hb dX0_best_12 (by decide) ?_
    revert hf
    refine k_pcl (fun z5 h4 hf => ?_)
    refine w_afi hw (w_rS (As := [.int a1, .int (0 : Int32), .int (19000 : Int32)]) C hw (ok_X0_in h4) (cw_X0_108 hts (Nat.le_of_ble_eq_true rfl) (Nat.le_of_ble_eq_true rfl)) rfl hl.1 rfl (Nat.le_of_ble_eq_true rfl) ⟨Nat.zero_le _, Nat.zero_le _⟩ dX0_best_15) (fun H locs hw => ?_)
    refine lv_if_ne (tgt := 23) hx hb dX0_best_18 (by decide) (fun c6 => ?_) (fun c6 => ?_)
    · replace hf := ite_f c6 hf
      refine lv_iconst (v := ((-1) : Int32)) hx hb dX0_best_23 (by decide) ?_
      refine lv_istore_n (lv' := [(3, .int ((-1) : Int32)), (0, .ref (gb G + o)), (1, .int a0), (2, .int a1)]) hx hb dX0_best_24 rfl hl (by decide) rfl (fun ls hl => ?_)
      refine lv_iconst (v := ((-1) : Int32)) hx hb dX0_best_25 (by decide) ?_
      refine lv_istore (lv' := [(4, .int ((-1) : Int32)), (3, .int ((-1) : Int32)), (0, .ref (gb G + o)), (1, .int a0), (2, .int a1)]) hx hb dX0_best_26 hl (by decide) rfl (fun ls hl => ?_)
      refine lv_iconst (v := (0 : Int32)) hx hb dX0_best_28 (by decide) ?_
      refine lv_istore (lv' := [(5, .int (0 : Int32)), (4, .int ((-1) : Int32)), (3, .int ((-1) : Int32)), (0, .ref (gb G + o)), (1, .int a0), (2, .int a1)]) hx hb dX0_best_29 hl (by decide) rfl (fun ls hl => ?_)
      refine lk_X0_best_31 C hr k0 (fun z26 U27 H locs ls hf hw hl => ?_) fuel _ _ _ _ _ _ _ hf hw (lv_sub hl [3, 4, 5, 2, 1, 0] rfl)
      refine lv_iload_n hx hb dX0_best_101 rfl (lv_at hl 0 rfl) ?_
      cases hf
      exact w_iret C hr hw dX0_best_102
    · replace hf := ite_t c6 hf
      refine lv_iconst (v := ((-1) : Int32)) hx hb dX0_best_21 (by decide) ?_
      cases hf
      exact w_iret C hr hw dX0_best_22
set_option maxHeartbeats 4000000 in
theorem lk_X0_lost_13 {l : Launch} {G : gG} {p : Program} {e : Env} {s : State} {m : MethodId} {args : Array Value} {below : List Frame} {meth : Method} {c : Code} {T : Tt} {V0 : Vt} {r : Int32} {V' : Vt} (C : Cx G p s m args meth c cX0_lost RX0 6) (hr : meth.sig.returnType = (some .int)) {x1 : Nat} {x2 : Int32} {x3 : Int32} {kx13_52 : Int32 → Option (Int32 × Vt)} (hkx13_52 : ∀ (y4 : Int32) (H : Heap) (locs : List Loc) (ls : Array Slot), kx13_52 y4 = some (r, V') → wS G V0 T H locs → lv_has ls 6 [(4, .int y4)] → W p l e (rmL 426 0 0) s m args below meth c H locs 0 0 (eQ G below (some (.int r)) V' T args s 0 0) (F0 m 52 ls [])) : ∀ (n : Nat) (x4 : Int32) (x5 : Int32) (H : Heap) (locs : List Loc) (ls : Array Slot), f_X0_lost_L13 T V0 x1 x2 x3 kx13_52 n x4 x5 = some (r, V') → wS G V0 T H locs → lv_has ls 6 [(1, .ref (gb G + x1)), (2, .int x2), (3, .int x3), (4, .int x4), (5, .int x5)] → W p l e (rmL 426 0 0) s m args below meth c H locs 0 0 (eQ G below (some (.int r)) V' T args s 0 0) (F0 m 13 ls []) := by
  have hx := C.1
  have hb := C.2.1
  have hown := C.2.2.2.1
  have hts := C.2.2.2.2.1
  intro n
  induction n with
  | zero =>
    intro x4 x5 H locs ls hf
    cases hf
  | succ n ih =>
    intro x4 x5 H locs ls hf hw hl
    unfold f_X0_lost_L13 at hf
    refine lv_iload hx hb dX0_lost_13 (lv_at hl 4 rfl) ?_
    refine lv_bipush (v := (20 : Int32)) hx hb dX0_lost_15 (by decide) ?_
    refine lv_icmp_ge (tgt := 52) hx hb dX0_lost_17 (by decide) (fun c4 => ?_) (fun c4 => ?_)
    · replace hf := ite_t c4 hf
      exact hkx13_52 _ _ _ _ hf hw (lv_sub hl [3] rfl)
    · replace hf := ite_f c4 hf
      refine lv_iload hx hb dX0_lost_20 (lv_at hl 3 rfl) ?_
      refine lv_aload_n hx hb dX0_lost_22 rfl (lv_at hl 0 rfl) ?_
      revert hf
      refine k_req (fun k5 hf => ?_)
      revert hf
      refine k_drf (fun r6 er6 hf => ?_)
      refine gf_X0_140 C hw k5 er6 dX0_lost_23 ?_
      refine lv_bipush (v := (20 : Int32)) hx hb dX0_lost_26 (by decide) ?_
      refine lv_iload_n hx hb dX0_lost_28 rfl (lv_at hl 1 rfl) ?_
      refine lv_imul hx hb dX0_lost_29 ?_
      refine lv_iload hx hb dX0_lost_30 (lv_at hl 4 rfl) ?_
      refine lv_iadd hx hb dX0_lost_32 ?_
      revert hf
      refine k_req (fun h7 hf => ?_)
      refine w_iald C hw h7 rfl dX0_lost_33 ?_
      refine lv_i2l hx hb dX0_lost_34 rfl ?_
      refine lv_iload_n hx hb dX0_lost_35 rfl (lv_at hl 2 rfl) ?_
      refine lv_i2l hx hb dX0_lost_36 rfl ?_
      refine lv_lmul hx hb dX0_lost_37 ?_
      refine lv_ldc2 (v := (1000 : Int64)) hx hb hown (hts _ q581) dX0_lost_38 ?_
      refine lv_ldiv hx hb dX0_lost_41 (by decide) ?_
      refine lv_l2i hx hb dX0_lost_42 rfl ?_
      refine lv_iadd hx hb dX0_lost_43 ?_
      revert hf
      refine k_stp (fun z8 ez8 hf => ?_)
      refine w_nmI ez8 ?_
      refine lv_istore (lv' := [(4, .int z8), (1, .ref (gb G + x1)), (2, .int x2), (3, .int x3), (5, .int x5)]) hx hb dX0_lost_44 hl (by decide) rfl (fun ls hl => ?_)
      revert hf
      refine k_stp (fun z9 ez9 hf => ?_)
      refine lv_iinc (k := 4) (lv' := [(5, .int z9), (4, .int z8), (1, .ref (gb G + x1)), (2, .int x2), (3, .int x3)]) hx hb dX0_lost_46 hl rfl (inc_e (by decide) ez9) (by decide) rfl (fun ls hl => ?_)
      refine lv_goto (tgt := 13) hx hb dX0_lost_49 (by decide) ?_
      exact ih _ _ _ _ _ hf hw (lv_sub hl [2, 3, 4, 1, 0] rfl)
set_option maxHeartbeats 4000000 in
theorem ok_X0_lost {l : Launch} {G : gG} {T : Tt} {V0 : Vt} {o : Nat} {a0 : Nat} {a1 : Int32} {r : Int32} {V' : Vt} (hf : f_X0_lost T V0 o a0 a1 = some (r, V')) : okM l G yX0_lost cX0_lost 6 (some .int) 426 [.ref (gb G + o), .ref (gb G + a0), .int a1] V0 T (some (.int r)) V' T 0 0 := by
  refine ok_intro (by decide) (Nat.le_of_ble_eq_true rfl) ?_
  intro p e s m below meth c ls C hr hnm hw hl
  have hx := C.1
  have hb := C.2.1
  have hown := C.2.2.2.1
  have hts := C.2.2.2.2.1
  have hl : lv_has ls 6 [(0, .ref (gb G + o)), (1, .ref (gb G + a0)), (2, .int a1)] := hl
  unfold f_X0_lost at hf
  revert hf
  refine k_req (fun k0 hf => ?_)
  refine lv_aload_n hx hb dX0_lost_0 rfl (lv_at hl 0 rfl) ?_
  refine lv_aload_n hx hb dX0_lost_1 rfl (lv_at hl 1 rfl) ?_
  refine lv_iload_n hx hb dX0_lost_2 rfl (lv_at hl 2 rfl) ?_
  revert hf
  refine k_cal (fun z2 U3 h1 hf => ?_)
  refine w_afi hw (w_rV (As := [.ref (gb G + a0), .int a1]) C hw (ok_X0_losesOf h1) (cw_X0_168 hts (Nat.le_of_ble_eq_true rfl) (Nat.le_of_ble_eq_true rfl)) rfl (by decide) (of_req h1).1 rfl hl.1 rfl (Nat.le_of_ble_eq_true rfl) ⟨Nat.zero_le _, Nat.zero_le _⟩ dX0_lost_3) (fun H locs hw => ?_)
  refine lv_istore_n (lv' := [(3, .int z2), (0, .ref (gb G + o)), (1, .ref (gb G + a0)), (2, .int a1)]) hx hb dX0_lost_6 rfl hl (by decide) rfl (fun ls hl => ?_)
  refine lv_iconst (v := (0 : Int32)) hx hb dX0_lost_7 (by decide) ?_
  refine lv_istore (lv' := [(4, .int (0 : Int32)), (3, .int z2), (0, .ref (gb G + o)), (1, .ref (gb G + a0)), (2, .int a1)]) hx hb dX0_lost_8 hl (by decide) rfl (fun ls hl => ?_)
  refine lv_iconst (v := (0 : Int32)) hx hb dX0_lost_10 (by decide) ?_
  refine lv_istore (lv' := [(5, .int (0 : Int32)), (4, .int (0 : Int32)), (3, .int z2), (0, .ref (gb G + o)), (1, .ref (gb G + a0)), (2, .int a1)]) hx hb dX0_lost_11 hl (by decide) rfl (fun ls hl => ?_)
  refine lk_X0_lost_13 C hr (fun z10 H locs ls hf hw hl => ?_) fuel _ _ _ _ _ hf hw (lv_sub hl [4, 5, 2, 1, 0] rfl)
  refine lv_iload hx hb dX0_lost_52 (lv_at hl 0 rfl) ?_
  cases hf
  exact w_iret C hr hw dX0_lost_54
set_option maxHeartbeats 4000000 in
theorem ok_X0_compare {l : Launch} {G : gG} {T : Tt} {V0 : Vt} {o : Nat} {a0 : Int32} {a1 : Int32} {r : Int32} {V' : Vt} (hf : f_X0_compare T V0 o a0 a1 = some (r, V')) : okM l G yX0_compare cX0_compare 5 (some .int) 427 [.ref (gb G + o), .int a0, .int a1] V0 T (some (.int r)) V' T 0 0 := by
  refine ok_intro (by decide) (Nat.le_of_ble_eq_true rfl) ?_
  intro p e s m below meth c ls C hr hnm hw hl
  have hx := C.1
  have hb := C.2.1
  have hown := C.2.2.2.1
  have hts := C.2.2.2.2.1
  have hl : lv_has ls 5 [(0, .ref (gb G + o)), (1, .int a0), (2, .int a1)] := hl
  unfold f_X0_compare at hf
  revert hf
  refine k_req (fun k0 hf => ?_)
  refine lv_aload_n hx hb dX0_compare_0 rfl (lv_at hl 0 rfl) ?_
  refine lv_iload_n hx hb dX0_compare_1 rfl (lv_at hl 1 rfl) ?_
  revert hf
  refine k_pcl (fun z2 h1 hf => ?_)
  refine w_afi hw (w_rV (As := [.int a0]) C hw (ok_X0_isLaw h1) (cw_X0_254 hts (Nat.le_of_ble_eq_true rfl) (Nat.le_of_ble_eq_true rfl)) rfl (by decide) (of_req h1).1 rfl hl.1 rfl (Nat.le_of_ble_eq_true rfl) ⟨Nat.zero_le _, Nat.zero_le _⟩ dX0_compare_2) (fun H locs hw => ?_)
  refine lv_if_eq (tgt := 16) hx hb dX0_compare_5 (by decide) (fun c3 => ?_) (fun c3 => ?_)
  · replace hf := ite_t c3 hf
    refine lv_iconst (v := ((-1) : Int32)) hx hb dX0_compare_16 (by decide) ?_
    cases hf
    exact w_iret C hr hw dX0_compare_17
  · replace hf := ite_f c3 hf
    refine lv_aload_n hx hb dX0_compare_8 rfl (lv_at hl 0 rfl) ?_
    refine lv_iload_n hx hb dX0_compare_9 rfl (lv_at hl 2 rfl) ?_
    revert hf
    refine k_pcl (fun z5 h4 hf => ?_)
    refine w_afi hw (w_rV (As := [.int a1]) C hw (ok_X0_isCask h4) (cw_X0_151 hts (Nat.le_of_ble_eq_true rfl) (Nat.le_of_ble_eq_true rfl)) rfl (by decide) (of_req h4).1 rfl hl.1 rfl (Nat.le_of_ble_eq_true rfl) ⟨Nat.zero_le _, Nat.zero_le _⟩ dX0_compare_10) (fun H locs hw => ?_)
    refine lv_if_ne (tgt := 18) hx hb dX0_compare_13 (by decide) (fun c6 => ?_) (fun c6 => ?_)
    · replace hf := ite_f c6 hf
      refine lv_aload_n hx hb dX0_compare_18 rfl (lv_at hl 0 rfl) ?_
      revert hf
      refine k_drf (fun r7 er7 hf => ?_)
      refine gf_X0_31 C hw k0 er7 dX0_compare_19 ?_
      revert hf
      refine k_req (fun k8 hf => ?_)
      refine gf_X0_257 C hw k8 dX0_compare_22 ?_
      revert hf
      refine k_stp (fun z9 ez9 hf => ?_)
      refine w_nmI ez9 ?_
      refine lv_istore_n (lv' := [(3, .int z9), (0, .ref (gb G + o)), (1, .int a0), (2, .int a1)]) hx hb dX0_compare_25 rfl hl (by decide) rfl (fun ls hl => ?_)
      refine lv_aload_n hx hb dX0_compare_26 rfl (lv_at hl 1 rfl) ?_
      revert hf
      refine k_drf (fun r10 er10 hf => ?_)
      refine gf_X0_31 C hw k0 er10 dX0_compare_27 ?_
      refine lv_iload_n hx hb dX0_compare_30 rfl (lv_at hl 2 rfl) ?_
      revert hf
      refine k_req (fun k11 hf => ?_)
      revert hf
      refine k_stp (fun U12 eU12 hf => ?_)
      refine pf_X0_257 C hw k11 eU12 dX0_compare_31 (fun H locs hw => ?_)
      refine lv_aload_n hx hb dX0_compare_34 rfl (lv_at hl 1 rfl) ?_
      refine lv_aload_n hx hb dX0_compare_35 rfl (lv_at hl 1 rfl) ?_
      revert hf
      refine k_pcl (fun r14 h13 hf => ?_)
      refine w_afr hw (w_rV (As := []) C hw (ok_X0_table h13) (cw_X0_137 hts (Nat.le_of_ble_eq_true rfl) (Nat.le_of_ble_eq_true rfl)) rfl (by decide) (of_req h13).1 rfl hl.1 rfl (Nat.le_of_ble_eq_true rfl) ⟨Nat.zero_le _, Nat.zero_le _⟩ dX0_compare_36) (fun H locs hw => ?_)
      refine lv_iload_n hx hb dX0_compare_39 rfl (lv_at hl 3 rfl) ?_
      revert hf
      refine k_cal (fun z16 U17 h15 hf => ?_)
      refine w_afi hw (w_rV (As := [.ref (gb G + r14), .int a1]) C hw (ok_X0_lost h15) (cw_X0_446 hts (Nat.le_of_ble_eq_true rfl) (Nat.le_of_ble_eq_true rfl)) rfl (by decide) (of_req h15).1 rfl hl.1 rfl (Nat.le_of_ble_eq_true rfl) ⟨Nat.zero_le _, Nat.zero_le _⟩ dX0_compare_40) (fun H locs hw => ?_)
      refine lv_istore (lv' := [(4, .int z16), (3, .int z9), (0, .ref (gb G + o)), (1, .int a0), (2, .int a1)]) hx hb dX0_compare_43 hl (by decide) rfl (fun ls hl => ?_)
      refine lv_aload_n hx hb dX0_compare_45 rfl (lv_at hl 2 rfl) ?_
      revert hf
      refine k_drf (fun r18 er18 hf => ?_)
      refine gf_X0_31 C hw k0 er18 dX0_compare_46 ?_
      refine lv_iload_n hx hb dX0_compare_49 rfl (lv_at hl 1 rfl) ?_
      revert hf
      refine k_req (fun k19 hf => ?_)
      revert hf
      refine k_stp (fun U20 eU20 hf => ?_)
      refine pf_X0_257 C hw k19 eU20 dX0_compare_50 (fun H locs hw => ?_)
      refine lv_iload hx hb dX0_compare_53 (lv_at hl 0 rfl) ?_
      cases hf
      exact w_iret C hr hw dX0_compare_55
    · replace hf := ite_t c6 hf
      refine lv_iconst (v := ((-1) : Int32)) hx hb dX0_compare_16 (by decide) ?_
      cases hf
      exact w_iret C hr hw dX0_compare_17
set_option maxHeartbeats 4000000 in
theorem jk_X0_harvest_127 {l : Launch} {G : gG} {p : Program} {e : Env} {s : State} {m : MethodId} {args : Array Value} {below : List Frame} {meth : Method} {c : Code} {T : Tt} {V0 : Vt} {r : Int32} {V' : Vt} (C : Cx G p s m args meth c cX0_harvest RX0 7) (hr : meth.sig.returnType = (some .int)) {x0 : Nat} {x1 : Nat} {x6 : Int32} {H : Heap} {locs : List Loc} {ls : Array Slot} (k0 : T.1 x0 = 1) (hf : f_X0_harvest_J127 T V0 x0 x1 x6 = some (r, V')) (hw : wS G V0 T H locs) (hl : lv_has ls 7 [(0, .ref (gb G + x0)), (1, .ref (gb G + x1)), (6, .int x6)]) : W p l e (rmL 428 0 0) s m args below meth c H locs 0 0 (eQ G below (some (.int r)) V' T args s 0 0) (F0 m 127 ls []) := by
  have hx := C.1
  have hb := C.2.1
  have hown := C.2.2.2.1
  have hts := C.2.2.2.2.1
  unfold f_X0_harvest_J127 at hf
  refine lv_aload_n hx hb dX0_harvest_127 rfl (lv_at hl 0 rfl) ?_
  refine lv_aload_n hx hb dX0_harvest_128 rfl (lv_at hl 1 rfl) ?_
  revert hf
  refine k_cal (fun z22 U23 h21 hf => ?_)
  refine w_afi hw (w_rV (As := [.ref (gb G + x1)]) C hw (ok_X0_ends h21) (cw_X0_344 hts (Nat.le_of_ble_eq_true rfl) (Nat.le_of_ble_eq_true rfl)) rfl (by decide) (of_req h21).1 rfl hl.1 rfl (Nat.le_of_ble_eq_true rfl) ⟨Nat.zero_le _, Nat.zero_le _⟩ dX0_harvest_129) (fun H locs hw => ?_)
  refine lv_pop hx hb dX0_harvest_132 rfl ?_
  refine lv_iload hx hb dX0_harvest_133 (lv_at hl 2 rfl) ?_
  cases hf
  exact w_iret C hr hw dX0_harvest_135
set_option maxHeartbeats 4000000 in
theorem jk_X0_harvest_97 {l : Launch} {G : gG} {p : Program} {e : Env} {s : State} {m : MethodId} {args : Array Value} {below : List Frame} {meth : Method} {c : Code} {T : Tt} {V0 : Vt} {r : Int32} {V' : Vt} (C : Cx G p s m args meth c cX0_harvest RX0 7) (hr : meth.sig.returnType = (some .int)) {x0 : Nat} {x1 : Nat} {x2 : Int32} {x4 : Int32} {x5 : Int32} {x6 : Int32} {H : Heap} {locs : List Loc} {ls : Array Slot} (k0 : T.1 x0 = 1) (hf : f_X0_harvest_J97 T V0 x0 x1 x2 x4 x5 x6 = some (r, V')) (hw : wS G V0 T H locs) (hl : lv_has ls 7 [(0, .ref (gb G + x0)), (1, .ref (gb G + x1)), (2, .int x2), (4, .int x4), (5, .int x5), (6, .int x6)]) : W p l e (rmL 428 0 0) s m args below meth c H locs 0 0 (eQ G below (some (.int r)) V' T args s 0 0) (F0 m 97 ls []) := by
  have hx := C.1
  have hb := C.2.1
  have hown := C.2.2.2.1
  have hts := C.2.2.2.2.1
  unfold f_X0_harvest_J97 at hf
  refine lv_iload hx hb dX0_harvest_97 (lv_at hl 4 rfl) ?_
  refine lv_iconst (v := (2 : Int32)) hx hb dX0_harvest_99 (by decide) ?_
  refine lv_icmp_ne (tgt := 127) hx hb dX0_harvest_100 (by decide) (fun c20 => ?_) (fun c20 => ?_)
  · replace hf := ite_f c20 hf
    exact jk_X0_harvest_127 C hr k0 hf hw (lv_sub hl [0, 1, 5] rfl)
  · replace hf := ite_t c20 hf
    refine lv_aload_n hx hb dX0_harvest_103 rfl (lv_at hl 0 rfl) ?_
    refine lv_aload_n hx hb dX0_harvest_104 rfl (lv_at hl 1 rfl) ?_
    refine lv_iload_n hx hb dX0_harvest_105 rfl (lv_at hl 2 rfl) ?_
    refine lv_iload hx hb dX0_harvest_106 (lv_at hl 3 rfl) ?_
    revert hf
    refine k_cal (fun z25 U26 h24 hf => ?_)
    refine w_afi hw (w_rV (As := [.ref (gb G + x1), .int x2, .int x4]) C hw (ok_X0_canBottle h24) (cw_X0_338 hts (Nat.le_of_ble_eq_true rfl) (Nat.le_of_ble_eq_true rfl)) rfl (by decide) (of_req h24).1 rfl hl.1 rfl (Nat.le_of_ble_eq_true rfl) ⟨Nat.zero_le _, Nat.zero_le _⟩ dX0_harvest_108) (fun H locs hw => ?_)
    refine lv_if_ne (tgt := 127) hx hb dX0_harvest_111 (by decide) (fun c27 => ?_) (fun c27 => ?_)
    · replace hf := ite_f c27 hf
      exact jk_X0_harvest_127 C hr k0 hf hw (lv_sub hl [0, 1, 5] rfl)
    · replace hf := ite_t c27 hf
      refine lv_aload_n hx hb dX0_harvest_114 rfl (lv_at hl 0 rfl) ?_
      refine lv_aload_n hx hb dX0_harvest_115 rfl (lv_at hl 1 rfl) ?_
      refine lv_iload_n hx hb dX0_harvest_116 rfl (lv_at hl 2 rfl) ?_
      refine lv_iload hx hb dX0_harvest_117 (lv_at hl 3 rfl) ?_
      revert hf
      refine k_cal (fun z29 U30 h28 hf => ?_)
      refine w_afi hw (w_rV (As := [.ref (gb G + x1), .int x2, .int x4]) C hw (ok_X0_bottles h28) (cw_X0_341 hts (Nat.le_of_ble_eq_true rfl) (Nat.le_of_ble_eq_true rfl)) rfl (by decide) (of_req h28).1 rfl hl.1 rfl (Nat.le_of_ble_eq_true rfl) ⟨Nat.zero_le _, Nat.zero_le _⟩ dX0_harvest_119) (fun H locs hw => ?_)
      refine lv_pop hx hb dX0_harvest_122 rfl ?_
      refine lv_iload hx hb dX0_harvest_123 (lv_at hl 3 rfl) ?_
      refine lv_istore (lv' := [(6, .int x4), (0, .ref (gb G + x0)), (1, .ref (gb G + x1)), (2, .int x2), (4, .int x4), (5, .int x5)]) hx hb dX0_harvest_125 hl (by decide) rfl (fun ls hl => ?_)
      exact jk_X0_harvest_127 C hr k0 hf hw (lv_sub hl [1, 2, 0] rfl)
set_option maxHeartbeats 4000000 in
theorem jk_X0_harvest_69 {l : Launch} {G : gG} {p : Program} {e : Env} {s : State} {m : MethodId} {args : Array Value} {below : List Frame} {meth : Method} {c : Code} {T : Tt} {V0 : Vt} {r : Int32} {V' : Vt} (C : Cx G p s m args meth c cX0_harvest RX0 7) (hr : meth.sig.returnType = (some .int)) {x0 : Nat} {x1 : Nat} {x2 : Int32} {x3 : Int32} {x4 : Int32} {x5 : Int32} {x6 : Int32} {H : Heap} {locs : List Loc} {ls : Array Slot} (k0 : T.1 x0 = 1) (hf : f_X0_harvest_J69 T V0 x0 x1 x2 x3 x4 x5 x6 = some (r, V')) (hw : wS G V0 T H locs) (hl : lv_has ls 7 [(0, .ref (gb G + x0)), (1, .ref (gb G + x1)), (2, .int x2), (3, .int x3), (4, .int x4), (5, .int x5), (6, .int x6)]) : W p l e (rmL 428 0 0) s m args below meth c H locs 0 0 (eQ G below (some (.int r)) V' T args s 0 0) (F0 m 69 ls []) := by
  have hx := C.1
  have hb := C.2.1
  have hown := C.2.2.2.1
  have hts := C.2.2.2.2.1
  unfold f_X0_harvest_J69 at hf
  refine lv_iload hx hb dX0_harvest_69 (lv_at hl 5 rfl) ?_
  refine lv_iconst (v := (1 : Int32)) hx hb dX0_harvest_71 (by decide) ?_
  refine lv_icmp_ne (tgt := 97) hx hb dX0_harvest_72 (by decide) (fun c19 => ?_) (fun c19 => ?_)
  · replace hf := ite_f c19 hf
    exact jk_X0_harvest_97 C hr k0 hf hw (lv_sub hl [0, 1, 2, 4, 5, 6] rfl)
  · replace hf := ite_t c19 hf
    refine lv_aload_n hx hb dX0_harvest_75 rfl (lv_at hl 0 rfl) ?_
    refine lv_aload_n hx hb dX0_harvest_76 rfl (lv_at hl 1 rfl) ?_
    refine lv_iload_n hx hb dX0_harvest_77 rfl (lv_at hl 2 rfl) ?_
    refine lv_iload_n hx hb dX0_harvest_78 rfl (lv_at hl 3 rfl) ?_
    refine lv_iload hx hb dX0_harvest_79 (lv_at hl 4 rfl) ?_
    revert hf
    refine k_cal (fun z32 U33 h31 hf => ?_)
    refine w_afi hw (w_rV (As := [.ref (gb G + x1), .int x2, .int x3, .int x4]) C hw (ok_X0_canRack h31) (cw_X0_331 hts (Nat.le_of_ble_eq_true rfl) (Nat.le_of_ble_eq_true rfl)) rfl (by decide) (of_req h31).1 rfl hl.1 rfl (Nat.le_of_ble_eq_true rfl) ⟨Nat.zero_le _, Nat.zero_le _⟩ dX0_harvest_81) (fun H locs hw => ?_)
    refine lv_if_ne (tgt := 97) hx hb dX0_harvest_84 (by decide) (fun c34 => ?_) (fun c34 => ?_)
    · replace hf := ite_f c34 hf
      exact jk_X0_harvest_97 C hr k0 hf hw (lv_sub hl [0, 1, 2, 4, 5, 6] rfl)
    · replace hf := ite_t c34 hf
      refine lv_aload_n hx hb dX0_harvest_87 rfl (lv_at hl 0 rfl) ?_
      refine lv_aload_n hx hb dX0_harvest_88 rfl (lv_at hl 1 rfl) ?_
      refine lv_iload_n hx hb dX0_harvest_89 rfl (lv_at hl 2 rfl) ?_
      refine lv_iload_n hx hb dX0_harvest_90 rfl (lv_at hl 3 rfl) ?_
      refine lv_iload hx hb dX0_harvest_91 (lv_at hl 4 rfl) ?_
      revert hf
      refine k_cal (fun z36 U37 h35 hf => ?_)
      refine w_afi hw (w_rV (As := [.ref (gb G + x1), .int x2, .int x3, .int x4]) C hw (ok_X0_racks h35) (cw_X0_335 hts (Nat.le_of_ble_eq_true rfl) (Nat.le_of_ble_eq_true rfl)) rfl (by decide) (of_req h35).1 rfl hl.1 rfl (Nat.le_of_ble_eq_true rfl) ⟨Nat.zero_le _, Nat.zero_le _⟩ dX0_harvest_93) (fun H locs hw => ?_)
      refine lv_pop hx hb dX0_harvest_96 rfl ?_
      exact jk_X0_harvest_97 C hr k0 hf hw (lv_sub hl [0, 1, 2, 4, 5, 6] rfl)
set_option maxHeartbeats 4000000 in
theorem ok_X0_harvest {l : Launch} {G : gG} {T : Tt} {V0 : Vt} {o : Nat} {a0 : Nat} {r : Int32} {V' : Vt} (hf : f_X0_harvest T V0 o a0 = some (r, V')) : okM l G yX0_harvest cX0_harvest 7 (some .int) 428 [.ref (gb G + o), .ref (gb G + a0)] V0 T (some (.int r)) V' T 0 0 := by
  refine ok_intro (by decide) (Nat.le_of_ble_eq_true rfl) ?_
  intro p e s m below meth c ls C hr hnm hw hl
  have hx := C.1
  have hb := C.2.1
  have hown := C.2.2.2.1
  have hts := C.2.2.2.2.1
  have hl : lv_has ls 7 [(0, .ref (gb G + o)), (1, .ref (gb G + a0))] := hl
  unfold f_X0_harvest at hf
  revert hf
  refine k_req (fun k0 hf => ?_)
  refine lv_aload_n hx hb dX0_harvest_0 rfl (lv_at hl 0 rfl) ?_
  refine lv_aload_n hx hb dX0_harvest_1 rfl (lv_at hl 0 rfl) ?_
  revert hf
  refine k_drf (fun r1 er1 hf => ?_)
  refine gf_X0_31 C hw k0 er1 dX0_harvest_2 ?_
  revert hf
  refine k_req (fun k2 hf => ?_)
  refine gf_X0_105 C hw k2 dX0_harvest_5 ?_
  revert hf
  refine k_cal (fun z4 U5 h3 hf => ?_)
  refine w_afi hw (w_rV (As := [.int (V0.1 r1 6)]) C hw (ok_X0_draw h3) (cw_X0_458 hts (Nat.le_of_ble_eq_true rfl) (Nat.le_of_ble_eq_true rfl)) rfl (by decide) (of_req h3).1 rfl hl.1 rfl (Nat.le_of_ble_eq_true rfl) ⟨Nat.zero_le _, Nat.zero_le _⟩ dX0_harvest_8) (fun H locs hw => ?_)
  refine lv_istore_n (lv' := [(2, .int z4), (0, .ref (gb G + o)), (1, .ref (gb G + a0))]) hx hb dX0_harvest_11 rfl hl (by decide) rfl (fun ls hl => ?_)
  refine lv_aload_n hx hb dX0_harvest_12 rfl (lv_at hl 1 rfl) ?_
  refine lv_aload_n hx hb dX0_harvest_13 rfl (lv_at hl 1 rfl) ?_
  revert hf
  refine k_drf (fun r6 er6 hf => ?_)
  refine gf_X0_31 C hw k0 er6 dX0_harvest_14 ?_
  revert hf
  refine k_req (fun k7 hf => ?_)
  refine gf_X0_105 C hw k7 dX0_harvest_17 ?_
  revert hf
  refine k_cal (fun z9 U10 h8 hf => ?_)
  refine w_afi hw (w_rV (As := [.int (U5.1 r6 6)]) C hw (ok_X0_draw h8) (cw_X0_458 hts (Nat.le_of_ble_eq_true rfl) (Nat.le_of_ble_eq_true rfl)) rfl (by decide) (of_req h8).1 rfl hl.1 rfl (Nat.le_of_ble_eq_true rfl) ⟨Nat.zero_le _, Nat.zero_le _⟩ dX0_harvest_20) (fun H locs hw => ?_)
  refine lv_istore_n (lv' := [(3, .int z9), (2, .int z4), (0, .ref (gb G + o)), (1, .ref (gb G + a0))]) hx hb dX0_harvest_23 rfl hl (by decide) rfl (fun ls hl => ?_)
  refine lv_aload_n hx hb dX0_harvest_24 rfl (lv_at hl 2 rfl) ?_
  refine lv_bipush (v := (9 : Int32)) hx hb dX0_harvest_25 (by decide) ?_
  revert hf
  refine k_cal (fun z12 U13 h11 hf => ?_)
  refine w_afi hw (w_rV (As := [.int (9 : Int32)]) C hw (ok_X0_draw h11) (cw_X0_458 hts (Nat.le_of_ble_eq_true rfl) (Nat.le_of_ble_eq_true rfl)) rfl (by decide) (of_req h11).1 rfl hl.1 rfl (Nat.le_of_ble_eq_true rfl) ⟨Nat.zero_le _, Nat.zero_le _⟩ dX0_harvest_27) (fun H locs hw => ?_)
  refine lv_iconst (v := (1 : Int32)) hx hb dX0_harvest_30 (by decide) ?_
  refine lv_iadd hx hb dX0_harvest_31 ?_
  revert hf
  refine k_stp (fun z14 ez14 hf => ?_)
  refine w_nmI ez14 ?_
  refine lv_istore (lv' := [(4, .int z14), (3, .int z9), (2, .int z4), (0, .ref (gb G + o)), (1, .ref (gb G + a0))]) hx hb dX0_harvest_32 hl (by decide) rfl (fun ls hl => ?_)
  refine lv_aload_n hx hb dX0_harvest_34 rfl (lv_at hl 3 rfl) ?_
  refine lv_iconst (v := (4 : Int32)) hx hb dX0_harvest_35 (by decide) ?_
  revert hf
  refine k_cal (fun z16 U17 h15 hf => ?_)
  refine w_afi hw (w_rV (As := [.int (4 : Int32)]) C hw (ok_X0_draw h15) (cw_X0_458 hts (Nat.le_of_ble_eq_true rfl) (Nat.le_of_ble_eq_true rfl)) rfl (by decide) (of_req h15).1 rfl hl.1 rfl (Nat.le_of_ble_eq_true rfl) ⟨Nat.zero_le _, Nat.zero_le _⟩ dX0_harvest_36) (fun H locs hw => ?_)
  refine lv_istore (lv' := [(5, .int z16), (4, .int z14), (3, .int z9), (2, .int z4), (0, .ref (gb G + o)), (1, .ref (gb G + a0))]) hx hb dX0_harvest_39 hl (by decide) rfl (fun ls hl => ?_)
  refine lv_iconst (v := (0 : Int32)) hx hb dX0_harvest_41 (by decide) ?_
  refine lv_istore (lv' := [(6, .int (0 : Int32)), (5, .int z16), (4, .int z14), (3, .int z9), (2, .int z4), (0, .ref (gb G + o)), (1, .ref (gb G + a0))]) hx hb dX0_harvest_42 hl (by decide) rfl (fun ls hl => ?_)
  refine lv_iload hx hb dX0_harvest_44 (lv_at hl 1 rfl) ?_
  refine lv_if_ne (tgt := 69) hx hb dX0_harvest_46 (by decide) (fun c18 => ?_) (fun c18 => ?_)
  · replace hf := ite_f c18 hf
    exact jk_X0_harvest_69 C hr k0 hf hw (lv_sub hl [5, 6, 4, 3, 2, 1, 0] rfl)
  · replace hf := ite_t c18 hf
    refine lv_aload_n hx hb dX0_harvest_49 rfl (lv_at hl 5 rfl) ?_
    refine lv_aload_n hx hb dX0_harvest_50 rfl (lv_at hl 6 rfl) ?_
    refine lv_iload_n hx hb dX0_harvest_51 rfl (lv_at hl 4 rfl) ?_
    refine lv_iload hx hb dX0_harvest_52 (lv_at hl 2 rfl) ?_
    revert hf
    refine k_pcl (fun z39 h38 hf => ?_)
    refine w_afi hw (w_rV (As := [.ref (gb G + a0), .int z4, .int z14]) C hw (ok_X0_canPour h38) (cw_X0_321 hts (Nat.le_of_ble_eq_true rfl) (Nat.le_of_ble_eq_true rfl)) rfl (by decide) (of_req h38).1 rfl hl.1 rfl (Nat.le_of_ble_eq_true rfl) ⟨Nat.zero_le _, Nat.zero_le _⟩ dX0_harvest_54) (fun H locs hw => ?_)
    refine lv_if_ne (tgt := 69) hx hb dX0_harvest_57 (by decide) (fun c40 => ?_) (fun c40 => ?_)
    · replace hf := ite_f c40 hf
      exact jk_X0_harvest_69 C hr k0 hf hw (lv_sub hl [5, 6, 4, 3, 2, 1, 0] rfl)
    · replace hf := ite_t c40 hf
      refine lv_aload_n hx hb dX0_harvest_60 rfl (lv_at hl 5 rfl) ?_
      refine lv_aload_n hx hb dX0_harvest_61 rfl (lv_at hl 6 rfl) ?_
      refine lv_iload_n hx hb dX0_harvest_62 rfl (lv_at hl 4 rfl) ?_
      refine lv_iload hx hb dX0_harvest_63 (lv_at hl 2 rfl) ?_
      revert hf
      refine k_cal (fun z42 U43 h41 hf => ?_)
      refine w_afi hw (w_rV (As := [.ref (gb G + a0), .int z4, .int z14]) C hw (ok_X0_pours h41) (cw_X0_328 hts (Nat.le_of_ble_eq_true rfl) (Nat.le_of_ble_eq_true rfl)) rfl (by decide) (of_req h41).1 rfl hl.1 rfl (Nat.le_of_ble_eq_true rfl) ⟨Nat.zero_le _, Nat.zero_le _⟩ dX0_harvest_65) (fun H locs hw => ?_)
      refine lv_pop hx hb dX0_harvest_68 rfl ?_
      exact jk_X0_harvest_69 C hr k0 hf hw (lv_sub hl [5, 6, 4, 3, 2, 1, 0] rfl)
set_option maxHeartbeats 4000000 in
theorem jk_X0_harvests_112 {l : Launch} {G : gG} {p : Program} {e : Env} {s : State} {m : MethodId} {args : Array Value} {below : List Frame} {meth : Method} {c : Code} {T : Tt} {V0 : Vt} {r : Int32} {V' : Vt} (C : Cx G p s m args meth c cX0_harvests RX0 5) (hr : meth.sig.returnType = (some .int)) {x0 : Nat} {x3 : Int32} {H : Heap} {locs : List Loc} {ls : Array Slot} (k0 : T.1 x0 = 1) (hf : f_X0_harvests_J112 T V0 x0 x3 = some (r, V')) (hw : wS G V0 T H locs) (hl : lv_has ls 5 [(0, .ref (gb G + x0)), (3, .int x3)]) : W p l e (rmL 429 0 0) s m args below meth c H locs 0 0 (eQ G below (some (.int r)) V' T args s 0 0) (F0 m 112 ls []) := by
  have hx := C.1
  have hb := C.2.1
  have hown := C.2.2.2.1
  have hts := C.2.2.2.2.1
  unfold f_X0_harvests_J112 at hf
  refine lv_aload_n hx hb dX0_harvests_112 rfl (lv_at hl 0 rfl) ?_
  refine lv_iload_n hx hb dX0_harvests_113 rfl (lv_at hl 1 rfl) ?_
  revert hf
  refine k_cal (fun z36 U37 h35 hf => ?_)
  refine w_afi hw (w_rV (As := [.int x3]) C hw (ok_X0_done h35) (cw_X0_101 hts (Nat.le_of_ble_eq_true rfl) (Nat.le_of_ble_eq_true rfl)) rfl (by decide) (of_req h35).1 rfl hl.1 rfl (Nat.le_of_ble_eq_true rfl) ⟨Nat.zero_le _, Nat.zero_le _⟩ dX0_harvests_114) (fun H locs hw => ?_)
  cases hf
  exact w_iret C hr hw dX0_harvests_117
set_option maxHeartbeats 4000000 in
theorem lk_X0_harvests_76 {l : Launch} {G : gG} {p : Program} {e : Env} {s : State} {m : MethodId} {args : Array Value} {below : List Frame} {meth : Method} {c : Code} {T : Tt} {r : Int32} {V' : Vt} (C : Cx G p s m args meth c cX0_harvests RX0 5) (hr : meth.sig.returnType = (some .int)) {x0 : Nat} {x2 : Int32} {kx76_112 : Int32 → Vt → Option (Int32 × Vt)} (k0 : T.1 x0 = 1) (hkx76_112 : ∀ (y3 : Int32) (W1 : Vt) (H : Heap) (locs : List Loc) (ls : Array Slot), kx76_112 y3 W1 = some (r, V') → wS G W1 T H locs → lv_has ls 5 [(0, .ref (gb G + x0)), (3, .int y3)] → W p l e (rmL 429 0 0) s m args below meth c H locs 0 0 (eQ G below (some (.int r)) V' T args s 0 0) (F0 m 112 ls [])) : ∀ (n : Nat) (x3 : Int32) (x4 : Int32) (V1 : Vt) (H : Heap) (locs : List Loc) (ls : Array Slot), f_X0_harvests_L76 T x0 x2 kx76_112 n x3 x4 V1 = some (r, V') → wS G V1 T H locs → lv_has ls 5 [(0, .ref (gb G + x0)), (2, .int x2), (3, .int x3), (4, .int x4)] → W p l e (rmL 429 0 0) s m args below meth c H locs 0 0 (eQ G below (some (.int r)) V' T args s 0 0) (F0 m 76 ls []) := by
  have hx := C.1
  have hb := C.2.1
  have hown := C.2.2.2.1
  have hts := C.2.2.2.2.1
  intro n
  induction n with
  | zero =>
    intro x3 x4 V1 H locs ls hf
    cases hf
  | succ n ih =>
    intro x3 x4 V1 H locs ls hf hw hl
    unfold f_X0_harvests_L76 at hf
    refine lv_iload hx hb dX0_harvests_76 (lv_at hl 3 rfl) ?_
    refine lv_iload_n hx hb dX0_harvests_78 rfl (lv_at hl 1 rfl) ?_
    refine lv_icmp_ge (tgt := 112) hx hb dX0_harvests_79 (by decide) (fun c23 => ?_) (fun c23 => ?_)
    · replace hf := ite_t c23 hf
      exact hkx76_112 _ _ _ _ _ hf hw (lv_sub hl [0, 2] rfl)
    · replace hf := ite_f c23 hf
      refine lv_aload_n hx hb dX0_harvests_82 rfl (lv_at hl 0 rfl) ?_
      revert hf
      refine k_drf (fun r24 er24 hf => ?_)
      refine gf_X0_89 C hw k0 er24 dX0_harvests_83 ?_
      revert hf
      refine k_req (fun k25 hf => ?_)
      refine gf_X0_186 C hw k25 dX0_harvests_86 ?_
      refine lv_sipush (v := (999 : Int32)) hx hb dX0_harvests_89 (by decide) ?_
      refine lv_icmp_ge (tgt := 112) hx hb dX0_harvests_92 (by decide) (fun c26 => ?_) (fun c26 => ?_)
      · replace hf := ite_t c26 hf
        exact hkx76_112 _ _ _ _ _ hf hw (lv_sub hl [0, 2] rfl)
      · replace hf := ite_f c26 hf
        refine lv_iload_n hx hb dX0_harvests_95 rfl (lv_at hl 2 rfl) ?_
        refine lv_aload_n hx hb dX0_harvests_96 rfl (lv_at hl 0 rfl) ?_
        refine lv_aload_n hx hb dX0_harvests_97 rfl (lv_at hl 0 rfl) ?_
        revert hf
        refine k_drf (fun r27 er27 hf => ?_)
        refine gf_X0_89 C hw k0 er27 dX0_harvests_98 ?_
        revert hf
        refine k_cal (fun z29 U30 h28 hf => ?_)
        refine w_afi hw (w_rV (As := [.ref (gb G + r27)]) C hw (ok_X0_harvest h28) (cw_X0_461 hts (Nat.le_of_ble_eq_true rfl) (Nat.le_of_ble_eq_true rfl)) rfl (by decide) (of_req h28).1 rfl hl.1 rfl (Nat.le_of_ble_eq_true rfl) ⟨Nat.zero_le _, Nat.zero_le _⟩ dX0_harvests_101) (fun H locs hw => ?_)
        refine lv_iadd hx hb dX0_harvests_104 ?_
        revert hf
        refine k_stp (fun z31 ez31 hf => ?_)
        refine w_nmI ez31 ?_
        refine lv_istore_n (lv' := [(3, .int z31), (0, .ref (gb G + x0)), (2, .int x2), (4, .int x4)]) hx hb dX0_harvests_105 rfl hl (by decide) rfl (fun ls hl => ?_)
        revert hf
        refine k_stp (fun z32 ez32 hf => ?_)
        refine lv_iinc (k := 3) (lv' := [(4, .int z32), (3, .int z31), (0, .ref (gb G + x0)), (2, .int x2)]) hx hb dX0_harvests_106 hl rfl (inc_e (by decide) ez32) (by decide) rfl (fun ls hl => ?_)
        refine lv_goto (tgt := 76) hx hb dX0_harvests_109 (by decide) ?_
        exact ih _ _ _ _ _ _ hf hw (lv_sub hl [2, 3, 1, 0] rfl)
set_option maxHeartbeats 4000000 in
theorem jk_X0_harvests_21 {l : Launch} {G : gG} {p : Program} {e : Env} {s : State} {m : MethodId} {args : Array Value} {below : List Frame} {meth : Method} {c : Code} {T : Tt} {V0 : Vt} {r : Int32} {V' : Vt} (C : Cx G p s m args meth c cX0_harvests RX0 5) (hr : meth.sig.returnType = (some .int)) {x0 : Nat} {H : Heap} {locs : List Loc} {ls : Array Slot} (k0 : T.1 x0 = 1) (hf : f_X0_harvests_J21 T V0 x0 = some (r, V')) (hw : wS G V0 T H locs) (hl : lv_has ls 5 [(0, .ref (gb G + x0))]) : W p l e (rmL 429 0 0) s m args below meth c H locs 0 0 (eQ G below (some (.int r)) V' T args s 0 0) (F0 m 21 ls []) := by
  have hx := C.1
  have hb := C.2.1
  have hown := C.2.2.2.1
  have hts := C.2.2.2.2.1
  unfold f_X0_harvests_J21 at hf
  refine lv_aload_n hx hb dX0_harvests_21 rfl (lv_at hl 0 rfl) ?_
  refine lv_iconst (v := ((-1) : Int32)) hx hb dX0_harvests_22 (by decide) ?_
  revert hf
  refine k_cal (fun z5 U6 h4 hf => ?_)
  refine w_afi hw (w_rV (As := [.int ((-1) : Int32)]) C hw (ok_X0_refuse h4) (cw_X0_122 hts (Nat.le_of_ble_eq_true rfl) (Nat.le_of_ble_eq_true rfl)) rfl (by decide) (of_req h4).1 rfl hl.1 rfl (Nat.le_of_ble_eq_true rfl) ⟨Nat.zero_le _, Nat.zero_le _⟩ dX0_harvests_23) (fun H locs hw => ?_)
  cases hf
  exact w_iret C hr hw dX0_harvests_26
set_option maxHeartbeats 4000000 in
theorem ok_X0_harvests {l : Launch} {G : gG} {T : Tt} {V0 : Vt} {o : Nat} {a0 : Int32} {a1 : Int32} {r : Int32} {V' : Vt} (hf : f_X0_harvests T V0 o a0 a1 = some (r, V')) : okM l G yX0_harvests cX0_harvests 5 (some .int) 429 [.ref (gb G + o), .int a0, .int a1] V0 T (some (.int r)) V' T 0 0 := by
  refine ok_intro (by decide) (Nat.le_of_ble_eq_true rfl) ?_
  intro p e s m below meth c ls C hr hnm hw hl
  have hx := C.1
  have hb := C.2.1
  have hown := C.2.2.2.1
  have hts := C.2.2.2.2.1
  have hl : lv_has ls 5 [(0, .ref (gb G + o)), (1, .int a0), (2, .int a1)] := hl
  unfold f_X0_harvests at hf
  revert hf
  refine k_req (fun k0 hf => ?_)
  refine lv_iload_n hx hb dX0_harvests_0 rfl (lv_at hl 1 rfl) ?_
  refine lv_iconst (v := (0 : Int32)) hx hb dX0_harvests_1 (by decide) ?_
  refine lv_ldcw (v := (1000000 : Int32)) hx hb hown (hts _ q1403) dX0_harvests_2 ?_
  revert hf
  refine k_pcl (fun z2 h1 hf => ?_)
  refine w_afi hw (w_rS (As := [.int a0, .int (0 : Int32), .int (1000000 : Int32)]) C hw (ok_X0_in h1) (cw_X0_108 hts (Nat.le_of_ble_eq_true rfl) (Nat.le_of_ble_eq_true rfl)) rfl hl.1 rfl (Nat.le_of_ble_eq_true rfl) ⟨Nat.zero_le _, Nat.zero_le _⟩ dX0_harvests_5) (fun H locs hw => ?_)
  refine lv_if_eq (tgt := 21) hx hb dX0_harvests_8 (by decide) (fun c3 => ?_) (fun c3 => ?_)
  · replace hf := ite_t c3 hf
    exact jk_X0_harvests_21 C hr k0 hf hw (lv_sub hl [0] rfl)
  · replace hf := ite_f c3 hf
    refine lv_iload_n hx hb dX0_harvests_11 rfl (lv_at hl 2 rfl) ?_
    refine lv_iconst (v := (1 : Int32)) hx hb dX0_harvests_12 (by decide) ?_
    refine lv_bipush (v := (60 : Int32)) hx hb dX0_harvests_13 (by decide) ?_
    revert hf
    refine k_pcl (fun z8 h7 hf => ?_)
    refine w_afi hw (w_rS (As := [.int a1, .int (1 : Int32), .int (60 : Int32)]) C hw (ok_X0_in h7) (cw_X0_108 hts (Nat.le_of_ble_eq_true rfl) (Nat.le_of_ble_eq_true rfl)) rfl hl.1 rfl (Nat.le_of_ble_eq_true rfl) ⟨Nat.zero_le _, Nat.zero_le _⟩ dX0_harvests_15) (fun H locs hw => ?_)
    refine lv_if_ne (tgt := 27) hx hb dX0_harvests_18 (by decide) (fun c9 => ?_) (fun c9 => ?_)
    · replace hf := ite_f c9 hf
      refine lv_aload_n hx hb dX0_harvests_27 rfl (lv_at hl 0 rfl) ?_
      revert hf
      refine k_drf (fun r10 er10 hf => ?_)
      refine gf_X0_31 C hw k0 er10 dX0_harvests_28 ?_
      revert hf
      refine k_req (fun k11 hf => ?_)
      refine gf_X0_105 C hw k11 dX0_harvests_31 ?_
      refine lv_if_ne (tgt := 44) hx hb dX0_harvests_34 (by decide) (fun c12 => ?_) (fun c12 => ?_)
      · replace hf := ite_f c12 hf
        refine lv_aload_n hx hb dX0_harvests_44 rfl (lv_at hl 0 rfl) ?_
        refine lv_iload_n hx hb dX0_harvests_45 rfl (lv_at hl 1 rfl) ?_
        revert hf
        refine k_stp (fun U13 eU13 hf => ?_)
        refine pf_X0_449 C hw k0 eU13 dX0_harvests_46 (fun H locs hw => ?_)
        refine lv_aload_n hx hb dX0_harvests_49 rfl (lv_at hl 0 rfl) ?_
        refine lv_aload_n hx hb dX0_harvests_50 rfl (lv_at hl 0 rfl) ?_
        revert hf
        refine k_drf (fun r14 er14 hf => ?_)
        refine gf_X0_31 C hw k0 er14 dX0_harvests_51 ?_
        revert hf
        refine k_req (fun k15 hf => ?_)
        refine gf_X0_105 C hw k15 dX0_harvests_54 ?_
        revert hf
        refine k_stp (fun U16 eU16 hf => ?_)
        refine pf_X0_92 C hw k0 eU16 dX0_harvests_57 (fun H locs hw => ?_)
        refine lv_aload_n hx hb dX0_harvests_60 rfl (lv_at hl 0 rfl) ?_
        revert hf
        refine k_drf (fun r17 er17 hf => ?_)
        refine gf_X0_89 C hw k0 er17 dX0_harvests_61 ?_
        refine lv_aload_n hx hb dX0_harvests_64 rfl (lv_at hl 0 rfl) ?_
        revert hf
        refine k_pcl (fun r19 h18 hf => ?_)
        refine w_afr hw (w_rV (As := []) C hw (ok_X0_table h18) (cw_X0_137 hts (Nat.le_of_ble_eq_true rfl) (Nat.le_of_ble_eq_true rfl)) rfl (by decide) (of_req h18).1 rfl hl.1 rfl (Nat.le_of_ble_eq_true rfl) ⟨Nat.zero_le _, Nat.zero_le _⟩ dX0_harvests_65) (fun H locs hw => ?_)
        revert hf
        refine k_pcl (fun U22 h20 hf => ?_)
        refine w_afv hw (w_rV (As := [.ref (gb G + r19)]) C hw (ok_X2_takes h20) (cw_X0_318 hts (Nat.le_of_ble_eq_true rfl) (Nat.le_of_ble_eq_true rfl)) rfl (by decide) (of_req h20).1 rfl hl.1 rfl (Nat.le_of_ble_eq_true rfl) ⟨Nat.zero_le _, Nat.zero_le _⟩ dX0_harvests_68) (fun H locs hw => ?_)
        refine lv_iconst (v := (0 : Int32)) hx hb dX0_harvests_71 (by decide) ?_
        refine lv_istore_n (lv' := [(3, .int (0 : Int32)), (0, .ref (gb G + o)), (1, .int a0), (2, .int a1)]) hx hb dX0_harvests_72 rfl hl (by decide) rfl (fun ls hl => ?_)
        refine lv_iconst (v := (0 : Int32)) hx hb dX0_harvests_73 (by decide) ?_
        refine lv_istore (lv' := [(4, .int (0 : Int32)), (3, .int (0 : Int32)), (0, .ref (gb G + o)), (1, .int a0), (2, .int a1)]) hx hb dX0_harvests_74 hl (by decide) rfl (fun ls hl => ?_)
        refine lk_X0_harvests_76 C hr k0 (fun z33 U34 H locs ls hf hw hl => ?_) fuel _ _ _ _ _ _ hf hw (lv_sub hl [2, 4, 1, 0] rfl)
        exact jk_X0_harvests_112 C hr k0 hf hw (lv_sub hl [0, 1] rfl)
      · replace hf := ite_t c12 hf
        refine lv_aload_n hx hb dX0_harvests_37 rfl (lv_at hl 0 rfl) ?_
        refine lv_bipush (v := ((-3) : Int32)) hx hb dX0_harvests_38 (by decide) ?_
        revert hf
        refine k_cal (fun z39 U40 h38 hf => ?_)
        refine w_afi hw (w_rV (As := [.int ((-3) : Int32)]) C hw (ok_X0_refuse h38) (cw_X0_122 hts (Nat.le_of_ble_eq_true rfl) (Nat.le_of_ble_eq_true rfl)) rfl (by decide) (of_req h38).1 rfl hl.1 rfl (Nat.le_of_ble_eq_true rfl) ⟨Nat.zero_le _, Nat.zero_le _⟩ dX0_harvests_40) (fun H locs hw => ?_)
        cases hf
        exact w_iret C hr hw dX0_harvests_43
    · replace hf := ite_t c9 hf
      exact jk_X0_harvests_21 C hr k0 hf hw (lv_sub hl [0] rfl)
set_option maxHeartbeats 4000000 in
theorem ok_X0_count {l : Launch} {G : gG} {T : Tt} {V0 : Vt} {o : Nat} {a0 : Int32} {r : Int32} (hf : f_X0_count T V0 o a0 = some r) : okM l G yX0_count cX0_count 2 (some .int) 2 [.ref (gb G + o), .int a0] V0 T (some (.int r)) V0 T 0 0 := by
  refine ok_intro (by decide) (Nat.le_of_ble_eq_true rfl) ?_
  intro p e s m below meth c ls C hr hnm hw hl
  have hx := C.1
  have hb := C.2.1
  have hown := C.2.2.2.1
  have hts := C.2.2.2.2.1
  have hl : lv_has ls 2 [(0, .ref (gb G + o)), (1, .int a0)] := hl
  unfold f_X0_count at hf
  revert hf
  refine k_req (fun k0 hf => ?_)
  refine lv_iload_n hx hb dX0_count_0 rfl (lv_at hl 1 rfl) ?_
  refine lv_bipush (v := (13 : Int32)) hx hb dX0_count_1 (by decide) ?_
  refine lv_bipush (v := (16 : Int32)) hx hb dX0_count_3 (by decide) ?_
  revert hf
  refine k_pcl (fun z2 h1 hf => ?_)
  refine w_afi hw (w_rS (As := [.int a0, .int (13 : Int32), .int (16 : Int32)]) C hw (ok_X0_in h1) (cw_X0_108 hts (Nat.le_of_ble_eq_true rfl) (Nat.le_of_ble_eq_true rfl)) rfl hl.1 rfl (Nat.le_of_ble_eq_true rfl) ⟨Nat.zero_le _, Nat.zero_le _⟩ dX0_count_5) (fun H locs hw => ?_)
  refine lv_if_eq (tgt := 20) hx hb dX0_count_8 (by decide) (fun c3 => ?_) (fun c3 => ?_)
  · replace hf := ite_t c3 hf
    refine lv_iload_n hx hb dX0_count_20 rfl (lv_at hl 1 rfl) ?_
    refine lv_bipush (v := (7 : Int32)) hx hb dX0_count_21 (by decide) ?_
    refine lv_bipush (v := (9 : Int32)) hx hb dX0_count_23 (by decide) ?_
    revert hf
    refine k_pcl (fun z5 h4 hf => ?_)
    refine w_afi hw (w_rS (As := [.int a0, .int (7 : Int32), .int (9 : Int32)]) C hw (ok_X0_in h4) (cw_X0_108 hts (Nat.le_of_ble_eq_true rfl) (Nat.le_of_ble_eq_true rfl)) rfl hl.1 rfl (Nat.le_of_ble_eq_true rfl) ⟨Nat.zero_le _, Nat.zero_le _⟩ dX0_count_25) (fun H locs hw => ?_)
    refine lv_if_eq (tgt := 41) hx hb dX0_count_28 (by decide) (fun c6 => ?_) (fun c6 => ?_)
    · replace hf := ite_t c6 hf
      refine lv_iload_n hx hb dX0_count_41 rfl (lv_at hl 1 rfl) ?_
      by_cases c7 : a0 = (0 : Int32)
      · replace hf := ite_t c7 hf
        refine lv_tableIn (tgt := 108) (off := 66) hx hb dX0_count_42 (by rw [c7]; decide) (by rw [c7]; decide) (by rw [c7]; decide) (by decide) ?_
        refine lv_aload_n hx hb dX0_count_108 rfl (lv_at hl 0 rfl) ?_
        revert hf
        refine k_drf (fun r8 er8 hf => ?_)
        refine gf_X0_31 C hw k0 er8 dX0_count_109 ?_
        revert hf
        refine k_req (fun k9 hf => ?_)
        refine gf_X0_105 C hw k9 dX0_count_112 ?_
        cases hf
        exact w_iret C hr hw dX0_count_115
      · replace hf := ite_f c7 hf
        by_cases c10 : a0 = (1 : Int32)
        · replace hf := ite_t c10 hf
          refine lv_tableIn (tgt := 116) (off := 74) hx hb dX0_count_42 (by rw [c10]; decide) (by rw [c10]; decide) (by rw [c10]; decide) (by decide) ?_
          refine lv_aload_n hx hb dX0_count_116 rfl (lv_at hl 0 rfl) ?_
          revert hf
          refine k_pcl (fun r12 h11 hf => ?_)
          refine w_afr hw (w_rV (As := []) C hw (ok_X0_table h11) (cw_X0_137 hts (Nat.le_of_ble_eq_true rfl) (Nat.le_of_ble_eq_true rfl)) rfl (by decide) (of_req h11).1 rfl hl.1 rfl (Nat.le_of_ble_eq_true rfl) ⟨Nat.zero_le _, Nat.zero_le _⟩ dX0_count_117) (fun H locs hw => ?_)
          revert hf
          refine k_req (fun k13 hf => ?_)
          refine gf_X0_306 C hw k13 dX0_count_120 ?_
          cases hf
          exact w_iret C hr hw dX0_count_123
        · replace hf := ite_f c10 hf
          by_cases c14 : a0 = (2 : Int32)
          · replace hf := ite_t c14 hf
            refine lv_tableIn (tgt := 124) (off := 82) hx hb dX0_count_42 (by rw [c14]; decide) (by rw [c14]; decide) (by rw [c14]; decide) (by decide) ?_
            refine lv_aload_n hx hb dX0_count_124 rfl (lv_at hl 0 rfl) ?_
            revert hf
            refine k_drf (fun r15 er15 hf => ?_)
            refine gf_X0_31 C hw k0 er15 dX0_count_125 ?_
            revert hf
            refine k_req (fun k16 hf => ?_)
            refine gf_X0_424 C hw k16 dX0_count_128 ?_
            cases hf
            exact w_iret C hr hw dX0_count_131
          · replace hf := ite_f c14 hf
            by_cases c17 : a0 = (3 : Int32)
            · replace hf := ite_t c17 hf
              refine lv_tableIn (tgt := 132) (off := 90) hx hb dX0_count_42 (by rw [c17]; decide) (by rw [c17]; decide) (by rw [c17]; decide) (by decide) ?_
              refine lv_aload_n hx hb dX0_count_132 rfl (lv_at hl 0 rfl) ?_
              revert hf
              refine k_drf (fun r18 er18 hf => ?_)
              refine gf_X0_31 C hw k0 er18 dX0_count_133 ?_
              revert hf
              refine k_req (fun k19 hf => ?_)
              revert hf
              refine k_drf (fun r20 er20 hf => ?_)
              refine gf_X0_221 C hw k19 er20 dX0_count_136 ?_
              revert hf
              refine k_pcl (fun z22 h21 hf => ?_)
              refine w_afi hw (w_rV (As := []) C hw (ok_J2_size h21) (cw_X0_116 hts (Nat.le_of_ble_eq_true rfl) (Nat.le_of_ble_eq_true rfl)) rfl (by decide) (of_req h21).1 rfl hl.1 rfl (Nat.le_of_ble_eq_true rfl) ⟨Nat.zero_le _, Nat.zero_le _⟩ dX0_count_139) (fun H locs hw => ?_)
              cases hf
              exact w_iret C hr hw dX0_count_142
            · replace hf := ite_f c17 hf
              by_cases c23 : a0 = (4 : Int32)
              · replace hf := ite_t c23 hf
                refine lv_tableIn (tgt := 143) (off := 101) hx hb dX0_count_42 (by rw [c23]; decide) (by rw [c23]; decide) (by rw [c23]; decide) (by decide) ?_
                refine lv_aload_n hx hb dX0_count_143 rfl (lv_at hl 0 rfl) ?_
                revert hf
                refine k_drf (fun r24 er24 hf => ?_)
                refine gf_X0_31 C hw k0 er24 dX0_count_144 ?_
                revert hf
                refine k_req (fun k25 hf => ?_)
                revert hf
                refine k_drf (fun r26 er26 hf => ?_)
                refine gf_X0_112 C hw k25 er26 dX0_count_147 ?_
                revert hf
                refine k_pcl (fun z28 h27 hf => ?_)
                refine w_afi hw (w_rV (As := []) C hw (ok_J2_size h27) (cw_X0_116 hts (Nat.le_of_ble_eq_true rfl) (Nat.le_of_ble_eq_true rfl)) rfl (by decide) (of_req h27).1 rfl hl.1 rfl (Nat.le_of_ble_eq_true rfl) ⟨Nat.zero_le _, Nat.zero_le _⟩ dX0_count_150) (fun H locs hw => ?_)
                cases hf
                exact w_iret C hr hw dX0_count_153
              · replace hf := ite_f c23 hf
                by_cases c29 : a0 = (5 : Int32)
                · replace hf := ite_t c29 hf
                  refine lv_tableIn (tgt := 154) (off := 112) hx hb dX0_count_42 (by rw [c29]; decide) (by rw [c29]; decide) (by rw [c29]; decide) (by decide) ?_
                  refine lv_aload_n hx hb dX0_count_154 rfl (lv_at hl 0 rfl) ?_
                  refine gf_X0_98 C hw k0 dX0_count_155 ?_
                  cases hf
                  exact w_iret C hr hw dX0_count_158
                · replace hf := ite_f c29 hf
                  by_cases c30 : a0 = (6 : Int32)
                  · replace hf := ite_t c30 hf
                    refine lv_tableIn (tgt := 159) (off := 117) hx hb dX0_count_42 (by rw [c30]; decide) (by rw [c30]; decide) (by rw [c30]; decide) (by decide) ?_
                    refine lv_aload_n hx hb dX0_count_159 rfl (lv_at hl 0 rfl) ?_
                    refine gf_X0_201 C hw k0 dX0_count_160 ?_
                    cases hf
                    exact w_iret C hr hw dX0_count_163
                  · replace hf := ite_f c30 hf
                    by_cases c31 : a0 = (7 : Int32)
                    · replace hf := ite_t c31 hf
                      refine lv_tableIn (tgt := 187) (off := 145) hx hb dX0_count_42 (by rw [c31]; decide) (by rw [c31]; decide) (by rw [c31]; decide) (by decide) ?_
                      refine lv_iconst (v := ((-1) : Int32)) hx hb dX0_count_187 (by decide) ?_
                      cases hf
                      exact w_iret C hr hw dX0_count_188
                    · replace hf := ite_f c31 hf
                      by_cases c32 : a0 = (8 : Int32)
                      · replace hf := ite_t c32 hf
                        refine lv_tableIn (tgt := 187) (off := 145) hx hb dX0_count_42 (by rw [c32]; decide) (by rw [c32]; decide) (by rw [c32]; decide) (by decide) ?_
                        refine lv_iconst (v := ((-1) : Int32)) hx hb dX0_count_187 (by decide) ?_
                        cases hf
                        exact w_iret C hr hw dX0_count_188
                      · replace hf := ite_f c32 hf
                        by_cases c33 : a0 = (9 : Int32)
                        · replace hf := ite_t c33 hf
                          refine lv_tableIn (tgt := 187) (off := 145) hx hb dX0_count_42 (by rw [c33]; decide) (by rw [c33]; decide) (by rw [c33]; decide) (by decide) ?_
                          refine lv_iconst (v := ((-1) : Int32)) hx hb dX0_count_187 (by decide) ?_
                          cases hf
                          exact w_iret C hr hw dX0_count_188
                        · replace hf := ite_f c33 hf
                          by_cases c34 : a0 = (10 : Int32)
                          · replace hf := ite_t c34 hf
                            refine lv_tableIn (tgt := 164) (off := 122) hx hb dX0_count_42 (by rw [c34]; decide) (by rw [c34]; decide) (by rw [c34]; decide) (by decide) ?_
                            refine lv_aload_n hx hb dX0_count_164 rfl (lv_at hl 0 rfl) ?_
                            revert hf
                            refine k_drf (fun r35 er35 hf => ?_)
                            refine gf_X0_7 C hw k0 er35 dX0_count_165 ?_
                            refine lv_iconst (v := (5 : Int32)) hx hb dX0_count_168 (by decide) ?_
                            revert hf
                            refine k_req (fun h36 hf => ?_)
                            refine w_iald C hw h36 rfl dX0_count_169 ?_
                            cases hf
                            exact w_iret C hr hw dX0_count_170
                          · replace hf := ite_f c34 hf
                            by_cases c37 : a0 = (11 : Int32)
                            · replace hf := ite_t c37 hf
                              refine lv_tableIn (tgt := 171) (off := 129) hx hb dX0_count_42 (by rw [c37]; decide) (by rw [c37]; decide) (by rw [c37]; decide) (by decide) ?_
                              refine lv_aload_n hx hb dX0_count_171 rfl (lv_at hl 0 rfl) ?_
                              revert hf
                              refine k_drf (fun r38 er38 hf => ?_)
                              refine gf_X0_7 C hw k0 er38 dX0_count_172 ?_
                              refine lv_bipush (v := (6 : Int32)) hx hb dX0_count_175 (by decide) ?_
                              revert hf
                              refine k_req (fun h39 hf => ?_)
                              refine w_iald C hw h39 rfl dX0_count_177 ?_
                              cases hf
                              exact w_iret C hr hw dX0_count_178
                            · replace hf := ite_f c37 hf
                              by_cases c40 : a0 = (12 : Int32)
                              · replace hf := ite_t c40 hf
                                refine lv_tableIn (tgt := 179) (off := 137) hx hb dX0_count_42 (by rw [c40]; decide) (by rw [c40]; decide) (by rw [c40]; decide) (by decide) ?_
                                refine lv_aload_n hx hb dX0_count_179 rfl (lv_at hl 0 rfl) ?_
                                revert hf
                                refine k_drf (fun r41 er41 hf => ?_)
                                refine gf_X0_31 C hw k0 er41 dX0_count_180 ?_
                                revert hf
                                refine k_req (fun k42 hf => ?_)
                                refine gf_X0_257 C hw k42 dX0_count_183 ?_
                                cases hf
                                exact w_iret C hr hw dX0_count_186
                              · replace hf := ite_f c40 hf
                                have gc7 := lv_neT (a := 0) c7 (by decide)
                                have gc10 := lv_neT (a := 1) c10 (by decide)
                                have gc14 := lv_neT (a := 2) c14 (by decide)
                                have gc17 := lv_neT (a := 3) c17 (by decide)
                                have gc23 := lv_neT (a := 4) c23 (by decide)
                                have gc29 := lv_neT (a := 5) c29 (by decide)
                                have gc30 := lv_neT (a := 6) c30 (by decide)
                                have gc31 := lv_neT (a := 7) c31 (by decide)
                                have gc32 := lv_neT (a := 8) c32 (by decide)
                                have gc33 := lv_neT (a := 9) c33 (by decide)
                                have gc34 := lv_neT (a := 10) c34 (by decide)
                                have gc37 := lv_neT (a := 11) c37 (by decide)
                                have gc40 := lv_neT (a := 12) c40 (by decide)
                                refine lv_tableOut (tgt := 187) hx hb dX0_count_42 (by show Int32.toInt a0 < 0 ∨ 12 < Int32.toInt a0; omega) (by decide) ?_
                                refine lv_iconst (v := ((-1) : Int32)) hx hb dX0_count_187 (by decide) ?_
                                cases hf
                                exact w_iret C hr hw dX0_count_188
    · replace hf := ite_f c6 hf
      refine lv_aload_n hx hb dX0_count_31 rfl (lv_at hl 0 rfl) ?_
      revert hf
      refine k_drf (fun r43 er43 hf => ?_)
      refine gf_X0_7 C hw k0 er43 dX0_count_32 ?_
      refine lv_iload_n hx hb dX0_count_35 rfl (lv_at hl 1 rfl) ?_
      refine lv_bipush (v := (6 : Int32)) hx hb dX0_count_36 (by decide) ?_
      refine lv_isub hx hb dX0_count_38 ?_
      revert hf
      refine k_req (fun h44 hf => ?_)
      refine w_iald C hw h44 rfl dX0_count_39 ?_
      cases hf
      exact w_iret C hr hw dX0_count_40
  · replace hf := ite_f c3 hf
    refine lv_aload_n hx hb dX0_count_11 rfl (lv_at hl 0 rfl) ?_
    refine lv_iload_n hx hb dX0_count_12 rfl (lv_at hl 1 rfl) ?_
    refine lv_bipush (v := (13 : Int32)) hx hb dX0_count_13 (by decide) ?_
    refine lv_isub hx hb dX0_count_15 ?_
    revert hf
    refine k_pcl (fun z46 h45 hf => ?_)
    refine w_afi hw (w_rV (As := [.int (a0 - (13 : Int32))]) C hw (ok_X0_termNow h45) (cw_X0_198 hts (Nat.le_of_ble_eq_true rfl) (Nat.le_of_ble_eq_true rfl)) rfl (by decide) (of_req h45).1 rfl hl.1 rfl (Nat.le_of_ble_eq_true rfl) ⟨Nat.zero_le _, Nat.zero_le _⟩ dX0_count_16) (fun H locs hw => ?_)
    cases hf
    exact w_iret C hr hw dX0_count_19
