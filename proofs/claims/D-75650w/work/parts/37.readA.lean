set_option maxRecDepth 100000
def f_X6_init (T : Tt) (V0 : Vt) (o : Nat) (a0 : Nat) (a1 : Int32) : Option (Vt) :=
  req (isRd T o) (stp (uR V0 o 0 (some a0)) (fun U1 => stp (uI U1 o 1 a1) (fun U2 => some U2)))
def f_X6_isIn (T : Tt) (V0 : Vt) (o : Nat) (a0 : Int32) (a1 : Int32) (a2 : Int32) : Option (Int32) :=
  req (isRd T o) (if (V0.1 o 1) ≤ a0 then (some (0 : Int32)) else (drf (V0.2.2 o 0) (fun r2 => req (aIn T r2 2 a0) (if (V0.1 r2 (ixN a0)) < a1 then (some (0 : Int32)) else (drf (V0.2.2 o 0) (fun r5 => req (aIn T r5 2 a0) (if a2 < (V0.1 r5 (ixN a0)) then (some (0 : Int32)) else (some (1 : Int32)))))))))
def f_X6_next_L102 (T : Tt) (x0 : Nat) (kx102_151 : Vt → Option (Vt)) : Nat → Vt → Option (Vt)
  | 0, _ => none
  | n + 1, V1 => pcl (f_X6_isIn T V1 x0 (V1.1 x0 4) (48 : Int32) (57 : Int32)) (fun z17 => if z17 = 0 then (kx102_151 V1) else (stp (uI V1 x0 4 ((V1.1 x0 4) + (1 : Int32))) (fun U19 => (f_X6_next_L102 T x0 kx102_151 n) U19)))
def f_X6_next_L59 (T : Tt) (x0 : Nat) (kx59_151 : Vt → Option (Vt)) : Nat → Vt → Option (Vt)
  | 0, _ => none
  | n + 1, V1 => pcl (f_X6_isIn T V1 x0 (V1.1 x0 4) (97 : Int32) (122 : Int32)) (fun z22 => if z22 = 0 then (kx59_151 V1) else (stp (uI V1 x0 4 ((V1.1 x0 4) + (1 : Int32))) (fun U24 => (f_X6_next_L59 T x0 kx59_151 n) U24)))
def f_X6_next_L8 (T : Tt) (x0 : Nat) (kx8_36 : Vt → Option (Vt)) : Nat → Vt → Option (Vt)
  | 0, _ => none
  | n + 1, V1 => pcl (f_X6_isIn T V1 x0 (V1.1 x0 3) (32 : Int32) (32 : Int32)) (fun z3 => if z3 = 0 then (kx8_36 V1) else (stp (uI V1 x0 3 ((V1.1 x0 3) + (1 : Int32))) (fun U5 => (f_X6_next_L8 T x0 kx8_36 n) U5)))
def f_X6_next (T : Tt) (V0 : Vt) (o : Nat) : Option (Vt) :=
  req (isRd T o) (stp (uI V0 o 3 (V0.1 o 4)) (fun U1 => f_X6_next_L8 T o (fun U6 => stp (uI U6 o 4 (U6.1 o 3)) (fun U7 => pcl (f_X6_isIn T U7 o (U7.1 o 3) (97 : Int32) (122 : Int32)) (fun z9 => if z9 = 0 then (pcl (f_X6_isIn T U7 o (U7.1 o 3) (48 : Int32) (57 : Int32)) (fun z12 => if z12 = 0 then (if (U7.1 o 1) ≤ (U7.1 o 3) then (some U7) else (stp (uI U7 o 4 ((U7.1 o 4) + (1 : Int32))) (fun U15 => some U15))) else (f_X6_next_L102 T o (fun U20 => some U20) fuel U7))) else (f_X6_next_L59 T o (fun U25 => some U25) fuel U7)))) fuel U1))
def f_X6_is_L20 (T : Tt) (V0 : Vt) (x0 : Nat) (x1 : Nat) (kx20_47 : Option (Int32)) (kx20_55 : Option (Int32)) : Nat → Int32 → Option (Int32)
  | 0, _ => none
  | n + 1, x2 => pcl (f_J8_length T V0 x1) (fun z5 => if z5 ≤ x2 then (kx20_55) else (drf (V0.2.2 x0 0) (fun r7 => req (aIn T r7 2 ((V0.1 x0 3) + x2)) (pcl (f_J8_charAt T V0 x1 x2) (fun z10 => if (V0.1 r7 (ixN ((V0.1 x0 3) + x2))) = z10 then (stp (x2 + (1 : Int32)) (fun z12 => (f_X6_is_L20 T V0 x0 x1 kx20_47 kx20_55 n) z12)) else (kx20_47))))))
def f_X6_is (T : Tt) (V0 : Vt) (o : Nat) (a0 : Nat) : Option (Int32) :=
  req (isRd T o) (pcl (f_J8_length T V0 a0) (fun z2 => if ((V0.1 o 4) - (V0.1 o 3)) = z2 then (f_X6_is_L20 T V0 o a0 (some (0 : Int32)) (some (1 : Int32)) fuel (0 : Int32)) else (some (0 : Int32))))
def f_X6_takes (T : Tt) (V0 : Vt) (o : Nat) (a0 : Nat) : Option (Int32 × Vt) :=
  req (isRd T o) (pcl (f_X6_is T V0 o a0) (fun z2 => if z2 = 0 then (req (isB z2) (some (z2, V0))) else (pcl (f_X6_next T V0 o) (fun U7 => req (isB z2) (some (z2, U7))))))
def f_X6_need (T : Tt) (V0 : Vt) (o : Nat) (a0 : Nat) : Option (((Unit ⊕ Nat) × Vt × Tt) × Nat × Nat) :=
  req (isRd T o) (cal (f_X6_takes T V0 o a0) (fun z2 U3 => if z2 = 0 then (inc 1 7 (stp T.2.2 (fun q5 => stp (zV U3 q5) (fun U6 => stp (aT T 8 0) (fun T7 => req (isRd T7 o) (pcl (f_X8_init T7 U6 q5 (U6.1 o 3)) (fun U11 => req (T7.1 q5 = 8) (some ((.inr q5, U11, T7), 0, 0))))))))) else (some (((.inl ()), U3, T), 0, 0))))
def f_X6_number_J81 (T : Tt) (V0 : Vt) (x0 : Nat) : Option (((Int32 ⊕ Nat) × Vt × Tt) × Nat × Nat) :=
  inc 1 7 (stp T.2.2 (fun q14 => stp (zV V0 q14) (fun U15 => stp (aT T 8 0) (fun T16 => req (isRd T16 x0) (pcl (f_X8_init T16 U15 q14 (U15.1 x0 3)) (fun U20 => req (T16.1 q14 = 8) (some ((.inr q14, U20, T16), 0, 0))))))))
def f_X6_number_J71 (T : Tt) (V0 : Vt) (x0 : Nat) (x1 : Int32) (x2 : Int32) (x3 : Int32) : Option (((Int32 ⊕ Nat) × Vt × Tt) × Nat × Nat) :=
  if x3 < x1 then (f_X6_number_J81 T V0 x0) else (if x3 ≤ x2 then (pcl (f_X6_next T V0 x0) (fun U25 => some (((.inl x3), U25, T), 0, 0))) else (f_X6_number_J81 T V0 x0))
def f_X6_number_L35 (T : Tt) (V0 : Vt) (x0 : Nat) (x1 : Int32) (x2 : Int32) (kx35_71 : Int32 → Option (((Int32 ⊕ Nat) × Vt × Tt) × Nat × Nat)) : Nat → Int32 → Int32 → Option (((Int32 ⊕ Nat) × Vt × Tt) × Nat × Nat)
  | 0, _, _ => none
  | nf + 1, x3, x4 => req (isRd T x0) (if (V0.1 x0 4) ≤ x4 then (kx35_71 x3) else (if x2 < x3 then (kx35_71 x3) else (drf (V0.2.2 x0 0) (fun r8 => req (aIn T r8 2 x4) (stp ((((10 : Int32) * x3) + (V0.1 r8 (ixN x4))) - (48 : Int32)) (fun z10 => stp (x4 + (1 : Int32)) (fun z11 => (f_X6_number_L35 T V0 x0 x1 x2 kx35_71 nf) z10 z11)))))))
def f_X6_number (T : Tt) (V0 : Vt) (o : Nat) (a0 : Int32) (a1 : Int32) : Option (((Int32 ⊕ Nat) × Vt × Tt) × Nat × Nat) :=
  req (isRd T o) (pcl (f_X6_isIn T V0 o (V0.1 o 3) (48 : Int32) (57 : Int32)) (fun z2 => if z2 = 0 then (inc 1 7 (stp T.2.2 (fun q26 => stp (zV V0 q26) (fun U27 => stp (aT T 8 0) (fun T28 => req (isRd T28 o) (pcl (f_X8_init T28 U27 q26 (U27.1 o 3)) (fun U32 => req (T28.1 q26 = 8) (some ((.inr q26, U32, T28), 0, 0))))))))) else (stp (V0.1 o 3) (fun z4 => f_X6_number_L35 T V0 o a0 a1 (fun z12 => f_X6_number_J71 T V0 o a0 a1 z12) fuel (0 : Int32) z4))))
def f_X6_begins_J13 (T : Tt) (V0 : Vt) (x0 : Nat) : Option (((Unit ⊕ Nat) × Vt × Tt) × Nat × Nat) :=
  inc 1 7 (stp T.2.2 (fun q2 => stp (zV V0 q2) (fun U3 => stp (aT T 8 0) (fun T4 => req (isRd T4 x0) (pcl (f_X8_init T4 U3 q2 (U3.1 x0 3)) (fun U8 => req (T4.1 q2 = 8) (some ((.inr q2, U8, T4), 0, 0))))))))
def f_X6_begins (T : Tt) (V0 : Vt) (o : Nat) (a0 : Int32) : Option (((Unit ⊕ Nat) × Vt × Tt) × Nat × Nat) :=
  req (isRd T o) (if (V0.1 o 2) = (12 : Int32) then (f_X6_begins_J13 T V0 o) else (if a0 = 0 then (f_X6_begins_J13 T V0 o) else (stp (uI V0 o 2 ((V0.1 o 2) + (1 : Int32))) (fun U11 => some (((.inl ()), U11, T), 0, 0)))))
def f_X6_opens (T : Tt) (V0 : Vt) (o : Nat) : Option (((Unit ⊕ Nat) × Vt × Tt) × Nat × Nat) :=
  req (isRd T o) (if (V0.1 o 6) = (8 : Int32) then (inc 1 7 (stp T.2.2 (fun q6 => stp (zV V0 q6) (fun U7 => stp (aT T 8 0) (fun T8 => req (isRd T8 o) (pcl (f_X8_init T8 U7 q6 (U7.1 o 3)) (fun U12 => req (T8.1 q6 = 8) (some ((.inr q6, U12, T8), 0, 0))))))))) else (stp (uI V0 o 6 ((V0.1 o 6) + (1 : Int32))) (fun U2 => pcl (f_X6_next T U2 o) (fun U5 => some (((.inl ()), U5, T), 0, 0)))))
def f_X6_leaf (T : Tt) (V0 : Vt) (o : Nat) : Option (((Unit ⊕ Nat) × Vt × Tt) × Nat × Nat) :=
  req (isRd T o) (if (V0.1 o 5) = (50 : Int32) then (inc 1 7 (stp T.2.2 (fun q3 => stp (zV V0 q3) (fun U4 => stp (aT T 8 0) (fun T5 => req (isRd T5 o) (pcl (f_X8_init T5 U4 q3 (U4.1 o 3)) (fun U9 => req (T5.1 q3 = 8) (some ((.inr q3, U9, T5), 0, 0))))))))) else (stp (uI V0 o 5 ((V0.1 o 5) + (1 : Int32))) (fun U2 => some (((.inl ()), U2, T), 0, 0))))
def f_X6_isValue (T : Tt) (V0 : Vt) (o : Nat) (a0 : Nat) : Option (((Int32 ⊕ Nat) × Vt × Tt) × Nat × Nat) :=
  req (isRd T o) (pcl (f_X6_is T V0 o a0) (fun z2 => if z2 = 0 then (some (((.inl (0 : Int32)), V0, T), 0, 0)) else (dxl (f_X6_leaf T V0 o) (fun z5 U6 T7 => pcl (f_X6_next T7 U6 o) (fun U10 => some (((.inl (1 : Int32)), U10, T7), 0, 0))))))
set_option maxHeartbeats 4000000 in
theorem ok_X6_init {l : Launch} {G : gG} {T : Tt} {V0 : Vt} {o : Nat} {a0 : Nat} {a1 : Int32} {V' : Vt} (hf : f_X6_init T V0 o a0 a1 = some V') : okM l G yX6_init cX6_init 3 none 1 [.ref (gb G + o), .ref (gb G + a0), .int a1] V0 T none V' T 0 0 := by
  refine ok_intro (by decide) (Nat.le_of_ble_eq_true rfl) ?_
  intro p e s m below meth c ls C hr hnm hw hl
  have hx := C.1
  have hb := C.2.1
  have hown := C.2.2.2.1
  have hts := C.2.2.2.2.1
  have hl : lv_has ls 3 [(0, .ref (gb G + o)), (1, .ref (gb G + a0)), (2, .int a1)] := hl
  unfold f_X6_init at hf
  revert hf
  refine k_req (fun k0 hf => ?_)
  refine lv_aload_n hx hb dX6_init_0 rfl (lv_at hl 0 rfl) ?_
  refine W.objInit hx hb hown (hts _ q743) (hts _ q174) (hts _ q175) rfl (by rw [C.2.2.1]; exact hl.1) rfl dX6_init_1 (Nat.le_of_ble_eq_true rfl) (Nat.le_of_ble_eq_true rfl) ?_
  refine W.eq (g2 := F0 m 4 ls []) rfl ?_
  refine lv_aload_n hx hb dX6_init_4 rfl (lv_at hl 0 rfl) ?_
  refine lv_aload_n hx hb dX6_init_5 rfl (lv_at hl 1 rfl) ?_
  revert hf
  refine k_stp (fun U1 eU1 hf => ?_)
  refine pf_X6_9 C hw k0 hnm eU1 dX6_init_6 (fun H locs hw => ?_)
  refine lv_aload_n hx hb dX6_init_9 rfl (lv_at hl 0 rfl) ?_
  refine lv_iload_n hx hb dX6_init_10 rfl (lv_at hl 2 rfl) ?_
  revert hf
  refine k_stp (fun U2 eU2 hf => ?_)
  refine pf_X6_15 C hw k0 hnm eU2 dX6_init_11 (fun H locs hw => ?_)
  cases hf
  exact w_vret C hr hw dX6_init_14
set_option maxHeartbeats 4000000 in
theorem ok_X6_isIn {l : Launch} {G : gG} {T : Tt} {V0 : Vt} {o : Nat} {a0 : Int32} {a1 : Int32} {a2 : Int32} {r : Int32} (hf : f_X6_isIn T V0 o a0 a1 a2 = some r) : okM l G yX6_isIn cX6_isIn 4 (some .boolean) 0 [.ref (gb G + o), .int a0, .int a1, .int a2] V0 T (some (.int r)) V0 T 0 0 := by
  refine ok_intro (by decide) (Nat.le_of_ble_eq_true rfl) ?_
  intro p e s m below meth c ls C hr hnm hw hl
  have hx := C.1
  have hb := C.2.1
  have hown := C.2.2.2.1
  have hts := C.2.2.2.2.1
  have hl : lv_has ls 4 [(0, .ref (gb G + o)), (1, .int a0), (2, .int a1), (3, .int a2)] := hl
  unfold f_X6_isIn at hf
  revert hf
  refine k_req (fun k0 hf => ?_)
  refine lv_iload_n hx hb dX6_isIn_0 rfl (lv_at hl 1 rfl) ?_
  refine lv_aload_n hx hb dX6_isIn_1 rfl (lv_at hl 0 rfl) ?_
  refine gf_X6_15 C hw k0 dX6_isIn_2 ?_
  refine lv_icmp_ge (tgt := 32) hx hb dX6_isIn_5 (by decide) (fun c1 => ?_) (fun c1 => ?_)
  · replace hf := ite_t c1 hf
    refine lv_iconst (v := (0 : Int32)) hx hb dX6_isIn_32 (by decide) ?_
    cases hf
    exact w_zret C hr hw (by decide) dX6_isIn_33
  · replace hf := ite_f c1 hf
    refine lv_aload_n hx hb dX6_isIn_8 rfl (lv_at hl 0 rfl) ?_
    revert hf
    refine k_drf (fun r2 er2 hf => ?_)
    refine gf_X6_9 C hw k0 er2 dX6_isIn_9 ?_
    refine lv_iload_n hx hb dX6_isIn_12 rfl (lv_at hl 1 rfl) ?_
    revert hf
    refine k_req (fun h3 hf => ?_)
    refine w_bald C hw h3 rfl dX6_isIn_13 ?_
    refine lv_iload_n hx hb dX6_isIn_14 rfl (lv_at hl 2 rfl) ?_
    refine lv_icmp_lt (tgt := 32) hx hb dX6_isIn_15 (by decide) (fun c4 => ?_) (fun c4 => ?_)
    · replace hf := ite_t c4 hf
      refine lv_iconst (v := (0 : Int32)) hx hb dX6_isIn_32 (by decide) ?_
      cases hf
      exact w_zret C hr hw (by decide) dX6_isIn_33
    · replace hf := ite_f c4 hf
      refine lv_aload_n hx hb dX6_isIn_18 rfl (lv_at hl 0 rfl) ?_
      revert hf
      refine k_drf (fun r5 er5 hf => ?_)
      refine gf_X6_9 C hw k0 er5 dX6_isIn_19 ?_
      refine lv_iload_n hx hb dX6_isIn_22 rfl (lv_at hl 1 rfl) ?_
      revert hf
      refine k_req (fun h6 hf => ?_)
      refine w_bald C hw h6 rfl dX6_isIn_23 ?_
      refine lv_iload_n hx hb dX6_isIn_24 rfl (lv_at hl 3 rfl) ?_
      refine lv_icmp_gt (tgt := 32) hx hb dX6_isIn_25 (by decide) (fun c7 => ?_) (fun c7 => ?_)
      · replace hf := ite_t c7 hf
        refine lv_iconst (v := (0 : Int32)) hx hb dX6_isIn_32 (by decide) ?_
        cases hf
        exact w_zret C hr hw (by decide) dX6_isIn_33
      · replace hf := ite_f c7 hf
        refine lv_iconst (v := (1 : Int32)) hx hb dX6_isIn_28 (by decide) ?_
        refine lv_goto (tgt := 33) hx hb dX6_isIn_29 (by decide) ?_
        cases hf
        exact w_zret C hr hw (by decide) dX6_isIn_33
set_option maxHeartbeats 4000000 in
theorem lk_X6_next_102 {l : Launch} {G : gG} {p : Program} {e : Env} {s : State} {m : MethodId} {args : Array Value} {below : List Frame} {meth : Method} {c : Code} {T : Tt} {V' : Vt} (C : Cx G p s m args meth c cX6_next RX6 1) (hr : meth.sig.returnType = none) {x0 : Nat} {kx102_151 : Vt → Option (Vt)} (k0 : isRd T x0) (hkx102_151 : ∀ (W1 : Vt) (H : Heap) (locs : List Loc) (ls : Array Slot), kx102_151 W1 = some V' → wS G W1 T H locs → lv_has ls 1 [] → W p l e (rmL 1 0 0) s m args below meth c H locs 0 0 (eQ G below none V' T args s 0 0) (F0 m 151 ls [])) : ∀ (n : Nat) (V1 : Vt) (H : Heap) (locs : List Loc) (ls : Array Slot), f_X6_next_L102 T x0 kx102_151 n V1 = some V' → wS G V1 T H locs → lv_has ls 1 [(0, .ref (gb G + x0))] → W p l e (rmL 1 0 0) s m args below meth c H locs 0 0 (eQ G below none V' T args s 0 0) (F0 m 102 ls []) := by
  have hx := C.1
  have hb := C.2.1
  have hown := C.2.2.2.1
  have hts := C.2.2.2.2.1
  intro n
  induction n with
  | zero =>
    intro V1 H locs ls hf
    cases hf
  | succ n ih =>
    intro V1 H locs ls hf hw hl
    unfold f_X6_next_L102 at hf
    refine lv_aload_n hx hb dX6_next_102 rfl (lv_at hl 0 rfl) ?_
    refine lv_aload_n hx hb dX6_next_103 rfl (lv_at hl 0 rfl) ?_
    refine gf_X6_19 C hw k0 dX6_next_104 ?_
    refine lv_bipush (v := (48 : Int32)) hx hb dX6_next_107 (by decide) ?_
    refine lv_bipush (v := (57 : Int32)) hx hb dX6_next_109 (by decide) ?_
    revert hf
    refine k_pcl (fun z17 h16 hf => ?_)
    refine w_afi hw (wu_X6_25 (As := [.int (V1.1 x0 4), .int (48 : Int32), .int (57 : Int32)]) C hw (Nat.le_of_ble_eq_true rfl) (Nat.le_of_ble_eq_true rfl) (ok_X6_isIn h16) (of_req h16).1 hl.1 rfl (Nat.le_of_ble_eq_true rfl) ⟨Nat.zero_le _, Nat.zero_le _⟩ dX6_next_111) (fun H locs hw => ?_)
    refine lv_if_eq (tgt := 151) hx hb dX6_next_114 (by decide) (fun c18 => ?_) (fun c18 => ?_)
    · replace hf := ite_t c18 hf
      exact hkx102_151 _ _ _ _ hf hw (lv_sub hl [] rfl)
    · replace hf := ite_f c18 hf
      refine lv_aload_n hx hb dX6_next_117 rfl (lv_at hl 0 rfl) ?_
      refine lv_dup hx hb dX6_next_118 rfl ?_
      refine gf_X6_19 C hw k0 dX6_next_119 ?_
      refine lv_iconst (v := (1 : Int32)) hx hb dX6_next_122 (by decide) ?_
      refine lv_iadd hx hb dX6_next_123 ?_
      revert hf
      refine k_stp (fun U19 eU19 hf => ?_)
      refine pf_X6_19 C hw k0 eU19 dX6_next_124 (fun H locs hw => ?_)
      refine lv_goto (tgt := 102) hx hb dX6_next_127 (by decide) ?_
      exact ih _ _ _ _ hf hw (lv_sub hl [0] rfl)
set_option maxHeartbeats 4000000 in
theorem lk_X6_next_59 {l : Launch} {G : gG} {p : Program} {e : Env} {s : State} {m : MethodId} {args : Array Value} {below : List Frame} {meth : Method} {c : Code} {T : Tt} {V' : Vt} (C : Cx G p s m args meth c cX6_next RX6 1) (hr : meth.sig.returnType = none) {x0 : Nat} {kx59_151 : Vt → Option (Vt)} (k0 : isRd T x0) (hkx59_151 : ∀ (W1 : Vt) (H : Heap) (locs : List Loc) (ls : Array Slot), kx59_151 W1 = some V' → wS G W1 T H locs → lv_has ls 1 [] → W p l e (rmL 1 0 0) s m args below meth c H locs 0 0 (eQ G below none V' T args s 0 0) (F0 m 151 ls [])) : ∀ (n : Nat) (V1 : Vt) (H : Heap) (locs : List Loc) (ls : Array Slot), f_X6_next_L59 T x0 kx59_151 n V1 = some V' → wS G V1 T H locs → lv_has ls 1 [(0, .ref (gb G + x0))] → W p l e (rmL 1 0 0) s m args below meth c H locs 0 0 (eQ G below none V' T args s 0 0) (F0 m 59 ls []) := by
  have hx := C.1
  have hb := C.2.1
  have hown := C.2.2.2.1
  have hts := C.2.2.2.2.1
  intro n
  induction n with
  | zero =>
    intro V1 H locs ls hf
    cases hf
  | succ n ih =>
    intro V1 H locs ls hf hw hl
    unfold f_X6_next_L59 at hf
    refine lv_aload_n hx hb dX6_next_59 rfl (lv_at hl 0 rfl) ?_
    refine lv_aload_n hx hb dX6_next_60 rfl (lv_at hl 0 rfl) ?_
    refine gf_X6_19 C hw k0 dX6_next_61 ?_
    refine lv_bipush (v := (97 : Int32)) hx hb dX6_next_64 (by decide) ?_
    refine lv_bipush (v := (122 : Int32)) hx hb dX6_next_66 (by decide) ?_
    revert hf
    refine k_pcl (fun z22 h21 hf => ?_)
    refine w_afi hw (wu_X6_25 (As := [.int (V1.1 x0 4), .int (97 : Int32), .int (122 : Int32)]) C hw (Nat.le_of_ble_eq_true rfl) (Nat.le_of_ble_eq_true rfl) (ok_X6_isIn h21) (of_req h21).1 hl.1 rfl (Nat.le_of_ble_eq_true rfl) ⟨Nat.zero_le _, Nat.zero_le _⟩ dX6_next_68) (fun H locs hw => ?_)
    refine lv_if_eq (tgt := 151) hx hb dX6_next_71 (by decide) (fun c23 => ?_) (fun c23 => ?_)
    · replace hf := ite_t c23 hf
      exact hkx59_151 _ _ _ _ hf hw (lv_sub hl [] rfl)
    · replace hf := ite_f c23 hf
      refine lv_aload_n hx hb dX6_next_74 rfl (lv_at hl 0 rfl) ?_
      refine lv_dup hx hb dX6_next_75 rfl ?_
      refine gf_X6_19 C hw k0 dX6_next_76 ?_
      refine lv_iconst (v := (1 : Int32)) hx hb dX6_next_79 (by decide) ?_
      refine lv_iadd hx hb dX6_next_80 ?_
      revert hf
      refine k_stp (fun U24 eU24 hf => ?_)
      refine pf_X6_19 C hw k0 eU24 dX6_next_81 (fun H locs hw => ?_)
      refine lv_goto (tgt := 59) hx hb dX6_next_84 (by decide) ?_
      exact ih _ _ _ _ hf hw (lv_sub hl [0] rfl)
set_option maxHeartbeats 4000000 in
theorem lk_X6_next_8 {l : Launch} {G : gG} {p : Program} {e : Env} {s : State} {m : MethodId} {args : Array Value} {below : List Frame} {meth : Method} {c : Code} {T : Tt} {V' : Vt} (C : Cx G p s m args meth c cX6_next RX6 1) (hr : meth.sig.returnType = none) {x0 : Nat} {kx8_36 : Vt → Option (Vt)} (k0 : isRd T x0) (hkx8_36 : ∀ (W1 : Vt) (H : Heap) (locs : List Loc) (ls : Array Slot), kx8_36 W1 = some V' → wS G W1 T H locs → lv_has ls 1 [(0, .ref (gb G + x0))] → W p l e (rmL 1 0 0) s m args below meth c H locs 0 0 (eQ G below none V' T args s 0 0) (F0 m 36 ls [])) : ∀ (n : Nat) (V1 : Vt) (H : Heap) (locs : List Loc) (ls : Array Slot), f_X6_next_L8 T x0 kx8_36 n V1 = some V' → wS G V1 T H locs → lv_has ls 1 [(0, .ref (gb G + x0))] → W p l e (rmL 1 0 0) s m args below meth c H locs 0 0 (eQ G below none V' T args s 0 0) (F0 m 8 ls []) := by
  have hx := C.1
  have hb := C.2.1
  have hown := C.2.2.2.1
  have hts := C.2.2.2.2.1
  intro n
  induction n with
  | zero =>
    intro V1 H locs ls hf
    cases hf
  | succ n ih =>
    intro V1 H locs ls hf hw hl
    unfold f_X6_next_L8 at hf
    refine lv_aload_n hx hb dX6_next_8 rfl (lv_at hl 0 rfl) ?_
    refine lv_aload_n hx hb dX6_next_9 rfl (lv_at hl 0 rfl) ?_
    refine gf_X6_22 C hw k0 dX6_next_10 ?_
    refine lv_bipush (v := (32 : Int32)) hx hb dX6_next_13 (by decide) ?_
    refine lv_bipush (v := (32 : Int32)) hx hb dX6_next_15 (by decide) ?_
    revert hf
    refine k_pcl (fun z3 h2 hf => ?_)
    refine w_afi hw (wu_X6_25 (As := [.int (V1.1 x0 3), .int (32 : Int32), .int (32 : Int32)]) C hw (Nat.le_of_ble_eq_true rfl) (Nat.le_of_ble_eq_true rfl) (ok_X6_isIn h2) (of_req h2).1 hl.1 rfl (Nat.le_of_ble_eq_true rfl) ⟨Nat.zero_le _, Nat.zero_le _⟩ dX6_next_17) (fun H locs hw => ?_)
    refine lv_if_eq (tgt := 36) hx hb dX6_next_20 (by decide) (fun c4 => ?_) (fun c4 => ?_)
    · replace hf := ite_t c4 hf
      exact hkx8_36 _ _ _ _ hf hw (lv_sub hl [0] rfl)
    · replace hf := ite_f c4 hf
      refine lv_aload_n hx hb dX6_next_23 rfl (lv_at hl 0 rfl) ?_
      refine lv_dup hx hb dX6_next_24 rfl ?_
      refine gf_X6_22 C hw k0 dX6_next_25 ?_
      refine lv_iconst (v := (1 : Int32)) hx hb dX6_next_28 (by decide) ?_
      refine lv_iadd hx hb dX6_next_29 ?_
      revert hf
      refine k_stp (fun U5 eU5 hf => ?_)
      refine pf_X6_22 C hw k0 eU5 dX6_next_30 (fun H locs hw => ?_)
      refine lv_goto (tgt := 8) hx hb dX6_next_33 (by decide) ?_
      exact ih _ _ _ _ hf hw (lv_sub hl [0] rfl)
set_option maxHeartbeats 4000000 in
theorem ok_X6_next {l : Launch} {G : gG} {T : Tt} {V0 : Vt} {o : Nat} {V' : Vt} (hf : f_X6_next T V0 o = some V') : okM l G yX6_next cX6_next 1 none 1 [.ref (gb G + o)] V0 T none V' T 0 0 := by
  refine ok_intro (by decide) (Nat.le_of_ble_eq_true rfl) ?_
  intro p e s m below meth c ls C hr hnm hw hl
  have hx := C.1
  have hb := C.2.1
  have hown := C.2.2.2.1
  have hts := C.2.2.2.2.1
  have hl : lv_has ls 1 [(0, .ref (gb G + o))] := hl
  unfold f_X6_next at hf
  revert hf
  refine k_req (fun k0 hf => ?_)
  refine lv_aload_n hx hb dX6_next_0 rfl (lv_at hl 0 rfl) ?_
  refine lv_aload_n hx hb dX6_next_1 rfl (lv_at hl 0 rfl) ?_
  refine gf_X6_19 C hw k0 dX6_next_2 ?_
  revert hf
  refine k_stp (fun U1 eU1 hf => ?_)
  refine pf_X6_22 C hw k0 eU1 dX6_next_5 (fun H locs hw => ?_)
  refine lk_X6_next_8 C hr k0 (fun U6 H locs ls hf hw hl => ?_) fuel _ _ _ _ hf hw (lv_sub hl [0] rfl)
  refine lv_aload_n hx hb dX6_next_36 rfl (lv_at hl 0 rfl) ?_
  refine lv_aload_n hx hb dX6_next_37 rfl (lv_at hl 0 rfl) ?_
  refine gf_X6_22 C hw k0 dX6_next_38 ?_
  revert hf
  refine k_stp (fun U7 eU7 hf => ?_)
  refine pf_X6_19 C hw k0 eU7 dX6_next_41 (fun H locs hw => ?_)
  refine lv_aload_n hx hb dX6_next_44 rfl (lv_at hl 0 rfl) ?_
  refine lv_aload_n hx hb dX6_next_45 rfl (lv_at hl 0 rfl) ?_
  refine gf_X6_22 C hw k0 dX6_next_46 ?_
  refine lv_bipush (v := (97 : Int32)) hx hb dX6_next_49 (by decide) ?_
  refine lv_bipush (v := (122 : Int32)) hx hb dX6_next_51 (by decide) ?_
  revert hf
  refine k_pcl (fun z9 h8 hf => ?_)
  refine w_afi hw (wu_X6_25 (As := [.int (U7.1 o 3), .int (97 : Int32), .int (122 : Int32)]) C hw (Nat.le_of_ble_eq_true rfl) (Nat.le_of_ble_eq_true rfl) (ok_X6_isIn h8) (of_req h8).1 hl.1 rfl (Nat.le_of_ble_eq_true rfl) ⟨Nat.zero_le _, Nat.zero_le _⟩ dX6_next_53) (fun H locs hw => ?_)
  refine lv_if_eq (tgt := 87) hx hb dX6_next_56 (by decide) (fun c10 => ?_) (fun c10 => ?_)
  · replace hf := ite_t c10 hf
    refine lv_aload_n hx hb dX6_next_87 rfl (lv_at hl 0 rfl) ?_
    refine lv_aload_n hx hb dX6_next_88 rfl (lv_at hl 0 rfl) ?_
    refine gf_X6_22 C hw k0 dX6_next_89 ?_
    refine lv_bipush (v := (48 : Int32)) hx hb dX6_next_92 (by decide) ?_
    refine lv_bipush (v := (57 : Int32)) hx hb dX6_next_94 (by decide) ?_
    revert hf
    refine k_pcl (fun z12 h11 hf => ?_)
    refine w_afi hw (wu_X6_25 (As := [.int (U7.1 o 3), .int (48 : Int32), .int (57 : Int32)]) C hw (Nat.le_of_ble_eq_true rfl) (Nat.le_of_ble_eq_true rfl) (ok_X6_isIn h11) (of_req h11).1 hl.1 rfl (Nat.le_of_ble_eq_true rfl) ⟨Nat.zero_le _, Nat.zero_le _⟩ dX6_next_96) (fun H locs hw => ?_)
    refine lv_if_eq (tgt := 130) hx hb dX6_next_99 (by decide) (fun c13 => ?_) (fun c13 => ?_)
    · replace hf := ite_t c13 hf
      refine lv_aload_n hx hb dX6_next_130 rfl (lv_at hl 0 rfl) ?_
      refine gf_X6_22 C hw k0 dX6_next_131 ?_
      refine lv_aload_n hx hb dX6_next_134 rfl (lv_at hl 0 rfl) ?_
      refine gf_X6_15 C hw k0 dX6_next_135 ?_
      refine lv_icmp_ge (tgt := 151) hx hb dX6_next_138 (by decide) (fun c14 => ?_) (fun c14 => ?_)
      · replace hf := ite_t c14 hf
        cases hf
        exact w_vret C hr hw dX6_next_151
      · replace hf := ite_f c14 hf
        refine lv_aload_n hx hb dX6_next_141 rfl (lv_at hl 0 rfl) ?_
        refine lv_dup hx hb dX6_next_142 rfl ?_
        refine gf_X6_19 C hw k0 dX6_next_143 ?_
        refine lv_iconst (v := (1 : Int32)) hx hb dX6_next_146 (by decide) ?_
        refine lv_iadd hx hb dX6_next_147 ?_
        revert hf
        refine k_stp (fun U15 eU15 hf => ?_)
        refine pf_X6_19 C hw k0 eU15 dX6_next_148 (fun H locs hw => ?_)
        cases hf
        exact w_vret C hr hw dX6_next_151
    · replace hf := ite_f c13 hf
      refine lk_X6_next_102 C hr k0 (fun U20 H locs ls hf hw hl => ?_) fuel _ _ _ _ hf hw (lv_sub hl [0] rfl)
      cases hf
      exact w_vret C hr hw dX6_next_151
  · replace hf := ite_f c10 hf
    refine lk_X6_next_59 C hr k0 (fun U25 H locs ls hf hw hl => ?_) fuel _ _ _ _ hf hw (lv_sub hl [0] rfl)
    cases hf
    exact w_vret C hr hw dX6_next_151
set_option maxHeartbeats 4000000 in
theorem lk_X6_is_20 {l : Launch} {G : gG} {p : Program} {e : Env} {s : State} {m : MethodId} {args : Array Value} {below : List Frame} {meth : Method} {c : Code} {T : Tt} {V0 : Vt} {r : Int32} (C : Cx G p s m args meth c cX6_is RX6 3) (hr : meth.sig.returnType = (some .boolean)) {x0 : Nat} {x1 : Nat} {kx20_47 : Option (Int32)} {kx20_55 : Option (Int32)} (k0 : isRd T x0) (hkx20_47 : ∀ (H : Heap) (locs : List Loc) (ls : Array Slot), kx20_47 = some r → wS G V0 T H locs → lv_has ls 3 [] → W p l e (rmL 5 0 0) s m args below meth c H locs 0 0 (eQ G below (some (.int r)) V0 T args s 0 0) (F0 m 47 ls [])) (hkx20_55 : ∀ (H : Heap) (locs : List Loc) (ls : Array Slot), kx20_55 = some r → wS G V0 T H locs → lv_has ls 3 [] → W p l e (rmL 5 0 0) s m args below meth c H locs 0 0 (eQ G below (some (.int r)) V0 T args s 0 0) (F0 m 55 ls [])) : ∀ (n : Nat) (x2 : Int32) (H : Heap) (locs : List Loc) (ls : Array Slot), f_X6_is_L20 T V0 x0 x1 kx20_47 kx20_55 n x2 = some r → wS G V0 T H locs → lv_has ls 3 [(0, .ref (gb G + x0)), (1, .ref (adK G x1)), (2, .int x2)] → W p l e (rmL 5 0 0) s m args below meth c H locs 0 0 (eQ G below (some (.int r)) V0 T args s 0 0) (F0 m 20 ls []) := by
  have hx := C.1
  have hb := C.2.1
  have hown := C.2.2.2.1
  have hts := C.2.2.2.2.1
  intro n
  induction n with
  | zero =>
    intro x2 H locs ls hf
    cases hf
  | succ n ih =>
    intro x2 H locs ls hf hw hl
    unfold f_X6_is_L20 at hf
    refine lv_iload_n hx hb dX6_is_20 rfl (lv_at hl 2 rfl) ?_
    refine lv_aload_n hx hb dX6_is_21 rfl (lv_at hl 1 rfl) ?_
    revert hf
    refine k_pcl (fun z5 h4 hf => ?_)
    refine w_afi hw (w_rStr (As := []) C hw (ok_J8_length h4) (cw_X6_29 hts (Nat.le_of_ble_eq_true rfl) (Nat.le_of_ble_eq_true rfl)) (of_req h4).1 rfl hl.1 rfl (Nat.le_of_ble_eq_true rfl) ⟨Nat.zero_le _, Nat.zero_le _⟩ dX6_is_22) (fun H locs hw => ?_)
    refine lv_icmp_ge (tgt := 55) hx hb dX6_is_25 (by decide) (fun c6 => ?_) (fun c6 => ?_)
    · replace hf := ite_t c6 hf
      exact hkx20_55  _ _ _ hf hw (lv_sub hl [] rfl)
    · replace hf := ite_f c6 hf
      refine lv_aload_n hx hb dX6_is_28 rfl (lv_at hl 0 rfl) ?_
      revert hf
      refine k_drf (fun r7 er7 hf => ?_)
      refine gf_X6_9 C hw k0 er7 dX6_is_29 ?_
      refine lv_aload_n hx hb dX6_is_32 rfl (lv_at hl 0 rfl) ?_
      refine gf_X6_22 C hw k0 dX6_is_33 ?_
      refine lv_iload_n hx hb dX6_is_36 rfl (lv_at hl 2 rfl) ?_
      refine lv_iadd hx hb dX6_is_37 ?_
      revert hf
      refine k_req (fun h8 hf => ?_)
      refine w_bald C hw h8 rfl dX6_is_38 ?_
      refine lv_aload_n hx hb dX6_is_39 rfl (lv_at hl 1 rfl) ?_
      refine lv_iload_n hx hb dX6_is_40 rfl (lv_at hl 2 rfl) ?_
      revert hf
      refine k_pcl (fun z10 h9 hf => ?_)
      refine w_afi hw (w_rStr (As := [.int x2]) C hw (ok_J8_charAt h9) (cw_X6_35 hts (Nat.le_of_ble_eq_true rfl) (Nat.le_of_ble_eq_true rfl)) (of_req h9).1 rfl hl.1 rfl (Nat.le_of_ble_eq_true rfl) ⟨Nat.zero_le _, Nat.zero_le _⟩ dX6_is_41) (fun H locs hw => ?_)
      refine lv_icmp_eq (tgt := 49) hx hb dX6_is_44 (by decide) (fun c11 => ?_) (fun c11 => ?_)
      · replace hf := ite_t c11 hf
        revert hf
        refine k_stp (fun z12 ez12 hf => ?_)
        refine lv_iinc (k := 2) (lv' := [(2, .int z12), (0, .ref (gb G + x0)), (1, .ref (adK G x1))]) hx hb dX6_is_49 hl rfl (inc_e (by decide) ez12) (by decide) rfl (fun ls hl => ?_)
        refine lv_goto (tgt := 20) hx hb dX6_is_52 (by decide) ?_
        exact ih _ _ _ _ hf hw (lv_sub hl [1, 2, 0] rfl)
      · replace hf := ite_f c11 hf
        exact hkx20_47  _ _ _ hf hw (lv_sub hl [] rfl)
set_option maxHeartbeats 4000000 in
theorem ok_X6_is {l : Launch} {G : gG} {T : Tt} {V0 : Vt} {o : Nat} {a0 : Nat} {r : Int32} (hf : f_X6_is T V0 o a0 = some r) : okM l G yX6_is cX6_is 3 (some .boolean) 5 [.ref (gb G + o), .ref (adK G a0)] V0 T (some (.int r)) V0 T 0 0 := by
  refine ok_intro (by decide) (Nat.le_of_ble_eq_true rfl) ?_
  intro p e s m below meth c ls C hr hnm hw hl
  have hx := C.1
  have hb := C.2.1
  have hown := C.2.2.2.1
  have hts := C.2.2.2.2.1
  have hl : lv_has ls 3 [(0, .ref (gb G + o)), (1, .ref (adK G a0))] := hl
  unfold f_X6_is at hf
  revert hf
  refine k_req (fun k0 hf => ?_)
  refine lv_aload_n hx hb dX6_is_0 rfl (lv_at hl 0 rfl) ?_
  refine gf_X6_19 C hw k0 dX6_is_1 ?_
  refine lv_aload_n hx hb dX6_is_4 rfl (lv_at hl 0 rfl) ?_
  refine gf_X6_22 C hw k0 dX6_is_5 ?_
  refine lv_isub hx hb dX6_is_8 ?_
  refine lv_aload_n hx hb dX6_is_9 rfl (lv_at hl 1 rfl) ?_
  revert hf
  refine k_pcl (fun z2 h1 hf => ?_)
  refine w_afi hw (w_rStr (As := []) C hw (ok_J8_length h1) (cw_X6_29 hts (Nat.le_of_ble_eq_true rfl) (Nat.le_of_ble_eq_true rfl)) (of_req h1).1 rfl hl.1 rfl (Nat.le_of_ble_eq_true rfl) ⟨Nat.zero_le _, Nat.zero_le _⟩ dX6_is_10) (fun H locs hw => ?_)
  refine lv_icmp_eq (tgt := 18) hx hb dX6_is_13 (by decide) (fun c3 => ?_) (fun c3 => ?_)
  · replace hf := ite_t c3 hf
    refine lv_iconst (v := (0 : Int32)) hx hb dX6_is_18 (by decide) ?_
    refine lv_istore_n (lv' := [(2, .int (0 : Int32)), (0, .ref (gb G + o)), (1, .ref (adK G a0))]) hx hb dX6_is_19 rfl hl (by decide) rfl (fun ls hl => ?_)
    refine lk_X6_is_20 C hr k0 (fun H locs ls hf hw hl => ?_) (fun H locs ls hf hw hl => ?_) fuel _ _ _ _ hf hw (lv_sub hl [1, 2, 0] rfl)
    · refine lv_iconst (v := (0 : Int32)) hx hb dX6_is_47 (by decide) ?_
      cases hf
      exact w_zret C hr hw (by decide) dX6_is_48
    · refine lv_iconst (v := (1 : Int32)) hx hb dX6_is_55 (by decide) ?_
      cases hf
      exact w_zret C hr hw (by decide) dX6_is_56
  · replace hf := ite_f c3 hf
    refine lv_iconst (v := (0 : Int32)) hx hb dX6_is_16 (by decide) ?_
    cases hf
    exact w_zret C hr hw (by decide) dX6_is_17
set_option maxHeartbeats 4000000 in
theorem ok_X6_takes {l : Launch} {G : gG} {T : Tt} {V0 : Vt} {o : Nat} {a0 : Nat} {r : Int32} {V' : Vt} (hf : f_X6_takes T V0 o a0 = some (r, V')) : okM l G yX6_takes cX6_takes 3 (some .boolean) 6 [.ref (gb G + o), .ref (adK G a0)] V0 T (some (.int r)) V' T 0 0 := by
  refine ok_intro (by decide) (Nat.le_of_ble_eq_true rfl) ?_
  intro p e s m below meth c ls C hr hnm hw hl
  have hx := C.1
  have hb := C.2.1
  have hown := C.2.2.2.1
  have hts := C.2.2.2.2.1
  have hl : lv_has ls 3 [(0, .ref (gb G + o)), (1, .ref (adK G a0))] := hl
  unfold f_X6_takes at hf
  revert hf
  refine k_req (fun k0 hf => ?_)
  refine lv_aload_n hx hb dX6_takes_0 rfl (lv_at hl 0 rfl) ?_
  refine lv_aload_n hx hb dX6_takes_1 rfl (lv_at hl 1 rfl) ?_
  revert hf
  refine k_pcl (fun z2 h1 hf => ?_)
  refine w_afi hw (wu_X6_39 (As := [.ref (adK G a0)]) C hw (Nat.le_of_ble_eq_true rfl) (Nat.le_of_ble_eq_true rfl) (ok_X6_is h1) (of_req h1).1 hl.1 rfl (Nat.le_of_ble_eq_true rfl) ⟨Nat.zero_le _, Nat.zero_le _⟩ dX6_takes_2) (fun H locs hw => ?_)
  refine lv_istore_n (lv' := [(2, .int z2), (0, .ref (gb G + o)), (1, .ref (adK G a0))]) hx hb dX6_takes_5 rfl hl (by decide) rfl (fun ls hl => ?_)
  refine lv_iload_n hx hb dX6_takes_6 rfl (lv_at hl 0 rfl) ?_
  refine lv_if_eq (tgt := 14) hx hb dX6_takes_7 (by decide) (fun c3 => ?_) (fun c3 => ?_)
  · replace hf := ite_t c3 hf
    refine lv_iload_n hx hb dX6_takes_14 rfl (lv_at hl 0 rfl) ?_
    revert hf
    refine k_req (fun h4 hf => ?_)
    cases hf
    exact w_zret C hr hw h4 dX6_takes_15
  · replace hf := ite_f c3 hf
    refine lv_aload_n hx hb dX6_takes_10 rfl (lv_at hl 1 rfl) ?_
    revert hf
    refine k_pcl (fun U7 h5 hf => ?_)
    refine w_afv hw (wu_X6_43 (As := []) C hw (Nat.le_of_ble_eq_true rfl) (Nat.le_of_ble_eq_true rfl) (ok_X6_next h5) (of_req h5).1 hl.1 rfl (Nat.le_of_ble_eq_true rfl) ⟨Nat.zero_le _, Nat.zero_le _⟩ dX6_takes_11) (fun H locs hw => ?_)
    refine lv_iload_n hx hb dX6_takes_14 rfl (lv_at hl 0 rfl) ?_
    revert hf
    refine k_req (fun h8 hf => ?_)
    cases hf
    exact w_zret C hr hw h8 dX6_takes_15
set_option maxHeartbeats 4000000 in
theorem ok_X6_need {l : Launch} {G : gG} {T : Tt} {V0 : Vt} {o : Nat} {a0 : Nat} {r : (Unit ⊕ Nat)} {V' : Vt} {T' : Tt} {n k : Nat} (hf : f_X6_need T V0 o a0 = some ((r, V', T'), n, k)) : okX l G RX8 yX6_need cX6_need 2 none 7 [.ref (gb G + o), .ref (adK G a0)] V0 T (xV r) V' T' n k := by
  refine okX_intro (by decide) (Nat.le_of_ble_eq_true rfl) ?_
  intro p e s m below meth c ls C hr hno hw hl
  have hx := C.1
  have hb := C.2.1
  have hown := C.2.2.2.1
  have hts := C.2.2.2.2.1
  have hl : lv_has ls 2 [(0, .ref (gb G + o)), (1, .ref (adK G a0))] := hl
  unfold f_X6_need at hf
  revert hf
  refine k_req (fun k0 hf => ?_)
  obtain ⟨mc, emc⟩ : ∃ mc, mc = n := ⟨_, rfl⟩
  obtain ⟨ms, ems⟩ : ∃ ms, ms = k := ⟨_, rfl⟩
  have hn : 0 + n = mc := by omega
  have hk : 0 + k = ms := by omega
  rw [← emc, ← ems]
  clear emc ems
  refine lv_aload_n hx hb dX6_need_0 rfl (lv_at hl 0 rfl) ?_
  refine lv_aload_n hx hb dX6_need_1 rfl (lv_at hl 1 rfl) ?_
  revert hf
  refine k_cal (fun z2 U3 h1 hf => ?_)
  refine w_afi hw (wu_X6_46 (As := [.ref (adK G a0)]) C hw (Nat.le_of_ble_eq_true rfl) (Nat.le_of_ble_eq_true rfl) (ok_X6_takes h1) (of_req h1).1 hl.1 rfl (Nat.le_of_ble_eq_true rfl) ⟨by show _ + 0 ≤ mc; omega, by show _ + 0 ≤ ms; omega⟩ dX6_need_2) (fun H locs hw => ?_)
  refine lv_if_ne (tgt := 20) hx hb dX6_need_5 (by decide) (fun c4 => ?_) (fun c4 => ?_)
  · replace hf := ite_f c4 hf
    cases hf
    cases hn
    cases hk
    exact x_ret (w_vret C hr hw dX6_need_20)
  · replace hf := ite_t c4 hf
    revert hf
    refine k_inc (fun n1 k1 hf en ek => ?_)
    revert hf
    refine k_stp (fun q5 eq5 hf => ?_)
    revert hf
    refine k_stp (fun U6 eU6 hf => ?_)
    revert hf
    refine k_stp (fun T7 eT7 hf => ?_)
    refine nw_X8 C hw q862 (by show _ ≤ mc; omega) (by show _ ≤ ms; omega) eq5 eU6 eT7 dX6_need_8 (fun H hw => ?_)
    replace hn := add_r hn en
    replace hk := add_r hk ek
    clear en ek
    generalize n1 = n at hf hn
    generalize k1 = k at hf hk
    refine lv_dup hx hb dX6_need_11 rfl ?_
    refine lv_aload_n hx hb dX6_need_12 rfl (lv_at hl 0 rfl) ?_
    revert hf
    refine k_req (fun k8 hf => ?_)
    refine gf_X6_22 C hw k8 dX6_need_13 ?_
    revert hf
    refine k_pcl (fun U11 h9 hf => ?_)
    refine w_afv hw (w_rI (As := [.int (U6.1 o 3)]) C hw (ok_X8_init h9) (cw_X6_51 hts (Nat.le_of_ble_eq_true rfl) (Nat.le_of_ble_eq_true rfl)) rfl hl.1 rfl (Nat.le_of_ble_eq_true rfl) ⟨by show _ + 0 ≤ mc; omega, by show _ + 0 ≤ ms; omega⟩ dX6_need_16) (fun H locs hw => ?_)
    revert hf
    refine k_req (fun k12 hf => ?_)
    cases hf
    cases hn
    cases hk
    exact x_throw (ci := 7) C hno hw rfl (by decide) k12 dX6_need_19
set_option maxHeartbeats 4000000 in
theorem jk_X6_number_81 {l : Launch} {G : gG} {p : Program} {e : Env} {s : State} {m : MethodId} {args : Array Value} {below : List Frame} {meth : Method} {c : Code} {T : Tt} {V0 : Vt} {r : (Int32 ⊕ Nat)} {V' : Vt} {T' : Tt} {mc ms : Nat} (C : Cx G p s m args meth c cX6_number RX6 5) (hr : meth.sig.returnType = (some .int)) (hno : ∀ z ∈ c.exceptionTable.toList, False) {x0 : Nat} {H : Heap} {locs : List Loc} {ls : Array Slot} {cells slots n k : Nat} (hf : f_X6_number_J81 T V0 x0 = some ((r, V', T'), n, k)) (hn : cells + n = mc) (hk : slots + k = ms) (hw : wS G V0 T H locs) (hl : lv_has ls 5 [(0, .ref (gb G + x0))]) : W p l e (rmL 5 mc ms) s m args below meth c H locs cells slots (xQ G RX8 below (xI r) V' T' args s mc ms) (F0 m 81 ls []) := by
  have hx := C.1
  have hb := C.2.1
  have hown := C.2.2.2.1
  have hts := C.2.2.2.2.1
  unfold f_X6_number_J81 at hf
  revert hf
  refine k_inc (fun n1 k1 hf en ek => ?_)
  revert hf
  refine k_stp (fun q14 eq14 hf => ?_)
  revert hf
  refine k_stp (fun U15 eU15 hf => ?_)
  revert hf
  refine k_stp (fun T16 eT16 hf => ?_)
  refine nw_X8 C hw q862 (by show _ ≤ mc; omega) (by show _ ≤ ms; omega) eq14 eU15 eT16 dX6_number_81 (fun H hw => ?_)
  replace hn := add_r hn en
  replace hk := add_r hk ek
  clear en ek
  generalize n1 = n at hf hn
  generalize k1 = k at hf hk
  refine lv_dup hx hb dX6_number_84 rfl ?_
  refine lv_aload_n hx hb dX6_number_85 rfl (lv_at hl 0 rfl) ?_
  revert hf
  refine k_req (fun k17 hf => ?_)
  refine gf_X6_22 C hw k17 dX6_number_86 ?_
  revert hf
  refine k_pcl (fun U20 h18 hf => ?_)
  refine w_afv hw (w_rI (As := [.int (U15.1 x0 3)]) C hw (ok_X8_init h18) (cw_X6_51 hts (Nat.le_of_ble_eq_true rfl) (Nat.le_of_ble_eq_true rfl)) rfl hl.1 rfl (Nat.le_of_ble_eq_true rfl) ⟨by show _ + 0 ≤ mc; omega, by show _ + 0 ≤ ms; omega⟩ dX6_number_89) (fun H locs hw => ?_)
  revert hf
  refine k_req (fun k21 hf => ?_)
  cases hf
  cases hn
  cases hk
  exact x_throw (ci := 7) C hno hw rfl (by decide) k21 dX6_number_92
set_option maxHeartbeats 4000000 in
theorem jk_X6_number_71 {l : Launch} {G : gG} {p : Program} {e : Env} {s : State} {m : MethodId} {args : Array Value} {below : List Frame} {meth : Method} {c : Code} {T : Tt} {V0 : Vt} {r : (Int32 ⊕ Nat)} {V' : Vt} {T' : Tt} {mc ms : Nat} (C : Cx G p s m args meth c cX6_number RX6 5) (hr : meth.sig.returnType = (some .int)) (hno : ∀ z ∈ c.exceptionTable.toList, False) {x0 : Nat} {x1 : Int32} {x2 : Int32} {x3 : Int32} {H : Heap} {locs : List Loc} {ls : Array Slot} {cells slots n k : Nat} (hf : f_X6_number_J71 T V0 x0 x1 x2 x3 = some ((r, V', T'), n, k)) (hn : cells + n = mc) (hk : slots + k = ms) (hw : wS G V0 T H locs) (hl : lv_has ls 5 [(0, .ref (gb G + x0)), (1, .int x1), (2, .int x2), (3, .int x3)]) : W p l e (rmL 5 mc ms) s m args below meth c H locs cells slots (xQ G RX8 below (xI r) V' T' args s mc ms) (F0 m 71 ls []) := by
  have hx := C.1
  have hb := C.2.1
  have hown := C.2.2.2.1
  have hts := C.2.2.2.2.1
  unfold f_X6_number_J71 at hf
  refine lv_iload_n hx hb dX6_number_71 rfl (lv_at hl 3 rfl) ?_
  refine lv_iload_n hx hb dX6_number_72 rfl (lv_at hl 1 rfl) ?_
  refine lv_icmp_lt (tgt := 81) hx hb dX6_number_73 (by decide) (fun c13 => ?_) (fun c13 => ?_)
  · replace hf := ite_t c13 hf
    exact jk_X6_number_81 C hr hno hf hn hk hw (lv_sub hl [0] rfl)
  · replace hf := ite_f c13 hf
    refine lv_iload_n hx hb dX6_number_76 rfl (lv_at hl 3 rfl) ?_
    refine lv_iload_n hx hb dX6_number_77 rfl (lv_at hl 2 rfl) ?_
    refine lv_icmp_le (tgt := 93) hx hb dX6_number_78 (by decide) (fun c22 => ?_) (fun c22 => ?_)
    · replace hf := ite_t c22 hf
      refine lv_aload_n hx hb dX6_number_93 rfl (lv_at hl 0 rfl) ?_
      revert hf
      refine k_pcl (fun U25 h23 hf => ?_)
      refine w_afv hw (wu_X6_43 (As := []) C hw (Nat.le_of_ble_eq_true rfl) (Nat.le_of_ble_eq_true rfl) (ok_X6_next h23) (of_req h23).1 hl.1 rfl (Nat.le_of_ble_eq_true rfl) ⟨by show _ + 0 ≤ mc; omega, by show _ + 0 ≤ ms; omega⟩ dX6_number_94) (fun H locs hw => ?_)
      refine lv_iload_n hx hb dX6_number_97 rfl (lv_at hl 3 rfl) ?_
      cases hf
      cases hn
      cases hk
      exact x_ret (w_iret C hr hw dX6_number_98)
    · replace hf := ite_f c22 hf
      exact jk_X6_number_81 C hr hno hf hn hk hw (lv_sub hl [0] rfl)
set_option maxHeartbeats 4000000 in
theorem lk_X6_number_35 {l : Launch} {G : gG} {p : Program} {e : Env} {s : State} {m : MethodId} {args : Array Value} {below : List Frame} {meth : Method} {c : Code} {T : Tt} {V0 : Vt} {r : (Int32 ⊕ Nat)} {V' : Vt} {T' : Tt} {mc ms : Nat} (C : Cx G p s m args meth c cX6_number RX6 5) (hr : meth.sig.returnType = (some .int)) (hno : ∀ z ∈ c.exceptionTable.toList, False) {x0 : Nat} {x1 : Int32} {x2 : Int32} {kx35_71 : Int32 → Option (((Int32 ⊕ Nat) × Vt × Tt) × Nat × Nat)} (hkx35_71 : ∀ (y3 : Int32) (H : Heap) (locs : List Loc) (ls : Array Slot) (cells slots n k : Nat), kx35_71 y3 = some ((r, V', T'), n, k) → cells + n = mc → slots + k = ms → wS G V0 T H locs → lv_has ls 5 [(0, .ref (gb G + x0)), (1, .int x1), (2, .int x2), (3, .int y3)] → W p l e (rmL 5 mc ms) s m args below meth c H locs cells slots (xQ G RX8 below (xI r) V' T' args s mc ms) (F0 m 71 ls [])) : ∀ (nf : Nat) (x3 : Int32) (x4 : Int32) (H : Heap) (locs : List Loc) (ls : Array Slot) (cells slots n k : Nat), f_X6_number_L35 T V0 x0 x1 x2 kx35_71 nf x3 x4 = some ((r, V', T'), n, k) → cells + n = mc → slots + k = ms → wS G V0 T H locs → lv_has ls 5 [(0, .ref (gb G + x0)), (1, .int x1), (2, .int x2), (3, .int x3), (4, .int x4)] → W p l e (rmL 5 mc ms) s m args below meth c H locs cells slots (xQ G RX8 below (xI r) V' T' args s mc ms) (F0 m 35 ls []) := by
  have hx := C.1
  have hb := C.2.1
  have hown := C.2.2.2.1
  have hts := C.2.2.2.2.1
  intro nf
  induction nf with
  | zero =>
    intro x3 x4 H locs ls cells slots n k hf
    cases hf
  | succ nf ih =>
    intro x3 x4 H locs ls cells slots n k hf hn hk hw hl
    unfold f_X6_number_L35 at hf
    refine lv_iload hx hb dX6_number_35 (lv_at hl 4 rfl) ?_
    refine lv_aload_n hx hb dX6_number_37 rfl (lv_at hl 0 rfl) ?_
    revert hf
    refine k_req (fun k5 hf => ?_)
    refine gf_X6_19 C hw k5 dX6_number_38 ?_
    refine lv_icmp_ge (tgt := 71) hx hb dX6_number_41 (by decide) (fun c6 => ?_) (fun c6 => ?_)
    · replace hf := ite_t c6 hf
      exact hkx35_71 _ _ _ _ _ _ _ _ hf hn hk hw (lv_sub hl [0, 1, 2, 3] rfl)
    · replace hf := ite_f c6 hf
      refine lv_iload_n hx hb dX6_number_44 rfl (lv_at hl 3 rfl) ?_
      refine lv_iload_n hx hb dX6_number_45 rfl (lv_at hl 2 rfl) ?_
      refine lv_icmp_gt (tgt := 71) hx hb dX6_number_46 (by decide) (fun c7 => ?_) (fun c7 => ?_)
      · replace hf := ite_t c7 hf
        exact hkx35_71 _ _ _ _ _ _ _ _ hf hn hk hw (lv_sub hl [0, 1, 2, 3] rfl)
      · replace hf := ite_f c7 hf
        refine lv_bipush (v := (10 : Int32)) hx hb dX6_number_49 (by decide) ?_
        refine lv_iload_n hx hb dX6_number_51 rfl (lv_at hl 3 rfl) ?_
        refine lv_imul hx hb dX6_number_52 ?_
        refine lv_aload_n hx hb dX6_number_53 rfl (lv_at hl 0 rfl) ?_
        revert hf
        refine k_drf (fun r8 er8 hf => ?_)
        refine gf_X6_9 C hw k5 er8 dX6_number_54 ?_
        refine lv_iload hx hb dX6_number_57 (lv_at hl 4 rfl) ?_
        revert hf
        refine k_req (fun h9 hf => ?_)
        refine w_bald C hw h9 rfl dX6_number_59 ?_
        refine lv_iadd hx hb dX6_number_60 ?_
        refine lv_bipush (v := (48 : Int32)) hx hb dX6_number_61 (by decide) ?_
        refine lv_isub hx hb dX6_number_63 ?_
        revert hf
        refine k_stp (fun z10 ez10 hf => ?_)
        refine w_nmI ez10 ?_
        refine lv_istore_n (lv' := [(3, .int z10), (0, .ref (gb G + x0)), (1, .int x1), (2, .int x2), (4, .int x4)]) hx hb dX6_number_64 rfl hl (by decide) rfl (fun ls hl => ?_)
        revert hf
        refine k_stp (fun z11 ez11 hf => ?_)
        refine lv_iinc (k := 4) (lv' := [(4, .int z11), (3, .int z10), (0, .ref (gb G + x0)), (1, .int x1), (2, .int x2)]) hx hb dX6_number_65 hl rfl (inc_e (by decide) ez11) (by decide) rfl (fun ls hl => ?_)
        refine lv_goto (tgt := 35) hx hb dX6_number_68 (by decide) ?_
        exact ih _ _ _ _ _ _ _ _ _ hf hn hk hw (lv_sub hl [2, 3, 4, 1, 0] rfl)
set_option maxHeartbeats 4000000 in
theorem ok_X6_number {l : Launch} {G : gG} {T : Tt} {V0 : Vt} {o : Nat} {a0 : Int32} {a1 : Int32} {r : (Int32 ⊕ Nat)} {V' : Vt} {T' : Tt} {n k : Nat} (hf : f_X6_number T V0 o a0 a1 = some ((r, V', T'), n, k)) : okX l G RX8 yX6_number cX6_number 5 (some .int) 5 [.ref (gb G + o), .int a0, .int a1] V0 T (xI r) V' T' n k := by
  refine okX_intro (by decide) (Nat.le_of_ble_eq_true rfl) ?_
  intro p e s m below meth c ls C hr hno hw hl
  have hx := C.1
  have hb := C.2.1
  have hown := C.2.2.2.1
  have hts := C.2.2.2.2.1
  have hl : lv_has ls 5 [(0, .ref (gb G + o)), (1, .int a0), (2, .int a1)] := hl
  unfold f_X6_number at hf
  revert hf
  refine k_req (fun k0 hf => ?_)
  obtain ⟨mc, emc⟩ : ∃ mc, mc = n := ⟨_, rfl⟩
  obtain ⟨ms, ems⟩ : ∃ ms, ms = k := ⟨_, rfl⟩
  have hn : 0 + n = mc := by omega
  have hk : 0 + k = ms := by omega
  rw [← emc, ← ems]
  clear emc ems
  refine lv_aload_n hx hb dX6_number_0 rfl (lv_at hl 0 rfl) ?_
  refine lv_aload_n hx hb dX6_number_1 rfl (lv_at hl 0 rfl) ?_
  refine gf_X6_22 C hw k0 dX6_number_2 ?_
  refine lv_bipush (v := (48 : Int32)) hx hb dX6_number_5 (by decide) ?_
  refine lv_bipush (v := (57 : Int32)) hx hb dX6_number_7 (by decide) ?_
  revert hf
  refine k_pcl (fun z2 h1 hf => ?_)
  refine w_afi hw (wu_X6_25 (As := [.int (V0.1 o 3), .int (48 : Int32), .int (57 : Int32)]) C hw (Nat.le_of_ble_eq_true rfl) (Nat.le_of_ble_eq_true rfl) (ok_X6_isIn h1) (of_req h1).1 hl.1 rfl (Nat.le_of_ble_eq_true rfl) ⟨by show _ + 0 ≤ mc; omega, by show _ + 0 ≤ ms; omega⟩ dX6_number_9) (fun H locs hw => ?_)
  refine lv_if_ne (tgt := 27) hx hb dX6_number_12 (by decide) (fun c3 => ?_) (fun c3 => ?_)
  · replace hf := ite_f c3 hf
    refine lv_iconst (v := (0 : Int32)) hx hb dX6_number_27 (by decide) ?_
    refine lv_istore_n (lv' := [(3, .int (0 : Int32)), (0, .ref (gb G + o)), (1, .int a0), (2, .int a1)]) hx hb dX6_number_28 rfl hl (by decide) rfl (fun ls hl => ?_)
    refine lv_aload_n hx hb dX6_number_29 rfl (lv_at hl 1 rfl) ?_
    refine gf_X6_22 C hw k0 dX6_number_30 ?_
    revert hf
    refine k_stp (fun z4 ez4 hf => ?_)
    refine w_nmI ez4 ?_
    refine lv_istore (lv' := [(4, .int z4), (3, .int (0 : Int32)), (0, .ref (gb G + o)), (1, .int a0), (2, .int a1)]) hx hb dX6_number_33 hl (by decide) rfl (fun ls hl => ?_)
    refine lk_X6_number_35 C hr hno (fun z12 H locs ls cells slots n k hf hn hk hw hl => ?_) fuel _ _ _ _ _ _ _ _ _ hf hn hk hw (lv_sub hl [2, 3, 4, 1, 0] rfl)
    exact jk_X6_number_71 C hr hno hf hn hk hw (lv_sub hl [0, 1, 2, 3] rfl)
  · replace hf := ite_t c3 hf
    revert hf
    refine k_inc (fun n1 k1 hf en ek => ?_)
    revert hf
    refine k_stp (fun q26 eq26 hf => ?_)
    revert hf
    refine k_stp (fun U27 eU27 hf => ?_)
    revert hf
    refine k_stp (fun T28 eT28 hf => ?_)
    refine nw_X8 C hw q862 (by show _ ≤ mc; omega) (by show _ ≤ ms; omega) eq26 eU27 eT28 dX6_number_15 (fun H hw => ?_)
    replace hn := add_r hn en
    replace hk := add_r hk ek
    clear en ek
    generalize n1 = n at hf hn
    generalize k1 = k at hf hk
    refine lv_dup hx hb dX6_number_18 rfl ?_
    refine lv_aload_n hx hb dX6_number_19 rfl (lv_at hl 0 rfl) ?_
    revert hf
    refine k_req (fun k29 hf => ?_)
    refine gf_X6_22 C hw k29 dX6_number_20 ?_
    revert hf
    refine k_pcl (fun U32 h30 hf => ?_)
    refine w_afv hw (w_rI (As := [.int (U27.1 o 3)]) C hw (ok_X8_init h30) (cw_X6_51 hts (Nat.le_of_ble_eq_true rfl) (Nat.le_of_ble_eq_true rfl)) rfl hl.1 rfl (Nat.le_of_ble_eq_true rfl) ⟨by show _ + 0 ≤ mc; omega, by show _ + 0 ≤ ms; omega⟩ dX6_number_23) (fun H locs hw => ?_)
    revert hf
    refine k_req (fun k33 hf => ?_)
    cases hf
    cases hn
    cases hk
    exact x_throw (ci := 7) C hno hw rfl (by decide) k33 dX6_number_26
set_option maxHeartbeats 4000000 in
theorem jk_X6_begins_13 {l : Launch} {G : gG} {p : Program} {e : Env} {s : State} {m : MethodId} {args : Array Value} {below : List Frame} {meth : Method} {c : Code} {T : Tt} {V0 : Vt} {r : (Unit ⊕ Nat)} {V' : Vt} {T' : Tt} {mc ms : Nat} (C : Cx G p s m args meth c cX6_begins RX6 2) (hr : meth.sig.returnType = none) (hno : ∀ z ∈ c.exceptionTable.toList, False) {x0 : Nat} {H : Heap} {locs : List Loc} {ls : Array Slot} {cells slots n k : Nat} (hf : f_X6_begins_J13 T V0 x0 = some ((r, V', T'), n, k)) (hn : cells + n = mc) (hk : slots + k = ms) (hw : wS G V0 T H locs) (hl : lv_has ls 2 [(0, .ref (gb G + x0))]) : W p l e (rmL 5 mc ms) s m args below meth c H locs cells slots (xQ G RX8 below (xV r) V' T' args s mc ms) (F0 m 13 ls []) := by
  have hx := C.1
  have hb := C.2.1
  have hown := C.2.2.2.1
  have hts := C.2.2.2.2.1
  unfold f_X6_begins_J13 at hf
  revert hf
  refine k_inc (fun n1 k1 hf en ek => ?_)
  revert hf
  refine k_stp (fun q2 eq2 hf => ?_)
  revert hf
  refine k_stp (fun U3 eU3 hf => ?_)
  revert hf
  refine k_stp (fun T4 eT4 hf => ?_)
  refine nw_X8 C hw q862 (by show _ ≤ mc; omega) (by show _ ≤ ms; omega) eq2 eU3 eT4 dX6_begins_13 (fun H hw => ?_)
  replace hn := add_r hn en
  replace hk := add_r hk ek
  clear en ek
  generalize n1 = n at hf hn
  generalize k1 = k at hf hk
  refine lv_dup hx hb dX6_begins_16 rfl ?_
  refine lv_aload_n hx hb dX6_begins_17 rfl (lv_at hl 0 rfl) ?_
  revert hf
  refine k_req (fun k5 hf => ?_)
  refine gf_X6_22 C hw k5 dX6_begins_18 ?_
  revert hf
  refine k_pcl (fun U8 h6 hf => ?_)
  refine w_afv hw (w_rI (As := [.int (U3.1 x0 3)]) C hw (ok_X8_init h6) (cw_X6_51 hts (Nat.le_of_ble_eq_true rfl) (Nat.le_of_ble_eq_true rfl)) rfl hl.1 rfl (Nat.le_of_ble_eq_true rfl) ⟨by show _ + 0 ≤ mc; omega, by show _ + 0 ≤ ms; omega⟩ dX6_begins_21) (fun H locs hw => ?_)
  revert hf
  refine k_req (fun k9 hf => ?_)
  cases hf
  cases hn
  cases hk
  exact x_throw (ci := 7) C hno hw rfl (by decide) k9 dX6_begins_24
set_option maxHeartbeats 4000000 in
theorem ok_X6_begins {l : Launch} {G : gG} {T : Tt} {V0 : Vt} {o : Nat} {a0 : Int32} {r : (Unit ⊕ Nat)} {V' : Vt} {T' : Tt} {n k : Nat} (hf : f_X6_begins T V0 o a0 = some ((r, V', T'), n, k)) : okX l G RX8 yX6_begins cX6_begins 2 none 5 [.ref (gb G + o), .int a0] V0 T (xV r) V' T' n k := by
  refine okX_intro (by decide) (Nat.le_of_ble_eq_true rfl) ?_
  intro p e s m below meth c ls C hr hno hw hl
  have hx := C.1
  have hb := C.2.1
  have hown := C.2.2.2.1
  have hts := C.2.2.2.2.1
  have hl : lv_has ls 2 [(0, .ref (gb G + o)), (1, .int a0)] := hl
  unfold f_X6_begins at hf
  revert hf
  refine k_req (fun k0 hf => ?_)
  obtain ⟨mc, emc⟩ : ∃ mc, mc = n := ⟨_, rfl⟩
  obtain ⟨ms, ems⟩ : ∃ ms, ms = k := ⟨_, rfl⟩
  have hn : 0 + n = mc := by omega
  have hk : 0 + k = ms := by omega
  rw [← emc, ← ems]
  clear emc ems
  refine lv_aload_n hx hb dX6_begins_0 rfl (lv_at hl 0 rfl) ?_
  refine gf_X6_59 C hw k0 dX6_begins_1 ?_
  refine lv_bipush (v := (12 : Int32)) hx hb dX6_begins_4 (by decide) ?_
  refine lv_icmp_eq (tgt := 13) hx hb dX6_begins_6 (by decide) (fun c1 => ?_) (fun c1 => ?_)
  · replace hf := ite_t c1 hf
    exact jk_X6_begins_13 C hr hno hf hn hk hw (lv_sub hl [0] rfl)
  · replace hf := ite_f c1 hf
    refine lv_iload_n hx hb dX6_begins_9 rfl (lv_at hl 1 rfl) ?_
    refine lv_if_ne (tgt := 25) hx hb dX6_begins_10 (by decide) (fun c10 => ?_) (fun c10 => ?_)
    · replace hf := ite_f c10 hf
      refine lv_aload_n hx hb dX6_begins_25 rfl (lv_at hl 0 rfl) ?_
      refine lv_dup hx hb dX6_begins_26 rfl ?_
      refine gf_X6_59 C hw k0 dX6_begins_27 ?_
      refine lv_iconst (v := (1 : Int32)) hx hb dX6_begins_30 (by decide) ?_
      refine lv_iadd hx hb dX6_begins_31 ?_
      revert hf
      refine k_stp (fun U11 eU11 hf => ?_)
      refine pf_X6_59 C hw k0 eU11 dX6_begins_32 (fun H locs hw => ?_)
      cases hf
      cases hn
      cases hk
      exact x_ret (w_vret C hr hw dX6_begins_35)
    · replace hf := ite_t c10 hf
      exact jk_X6_begins_13 C hr hno hf hn hk hw (lv_sub hl [0] rfl)
set_option maxHeartbeats 4000000 in
theorem ok_X6_opens {l : Launch} {G : gG} {T : Tt} {V0 : Vt} {o : Nat} {r : (Unit ⊕ Nat)} {V' : Vt} {T' : Tt} {n k : Nat} (hf : f_X6_opens T V0 o = some ((r, V', T'), n, k)) : okX l G RX8 yX6_opens cX6_opens 1 none 5 [.ref (gb G + o)] V0 T (xV r) V' T' n k := by
  refine okX_intro (by decide) (Nat.le_of_ble_eq_true rfl) ?_
  intro p e s m below meth c ls C hr hno hw hl
  have hx := C.1
  have hb := C.2.1
  have hown := C.2.2.2.1
  have hts := C.2.2.2.2.1
  have hl : lv_has ls 1 [(0, .ref (gb G + o))] := hl
  unfold f_X6_opens at hf
  revert hf
  refine k_req (fun k0 hf => ?_)
  obtain ⟨mc, emc⟩ : ∃ mc, mc = n := ⟨_, rfl⟩
  obtain ⟨ms, ems⟩ : ∃ ms, ms = k := ⟨_, rfl⟩
  have hn : 0 + n = mc := by omega
  have hk : 0 + k = ms := by omega
  rw [← emc, ← ems]
  clear emc ems
  refine lv_aload_n hx hb dX6_opens_0 rfl (lv_at hl 0 rfl) ?_
  refine gf_X6_88 C hw k0 dX6_opens_1 ?_
  refine lv_bipush (v := (8 : Int32)) hx hb dX6_opens_4 (by decide) ?_
  refine lv_icmp_ne (tgt := 21) hx hb dX6_opens_6 (by decide) (fun c1 => ?_) (fun c1 => ?_)
  · replace hf := ite_f c1 hf
    refine lv_aload_n hx hb dX6_opens_21 rfl (lv_at hl 0 rfl) ?_
    refine lv_dup hx hb dX6_opens_22 rfl ?_
    refine gf_X6_88 C hw k0 dX6_opens_23 ?_
    refine lv_iconst (v := (1 : Int32)) hx hb dX6_opens_26 (by decide) ?_
    refine lv_iadd hx hb dX6_opens_27 ?_
    revert hf
    refine k_stp (fun U2 eU2 hf => ?_)
    refine pf_X6_88 C hw k0 eU2 dX6_opens_28 (fun H locs hw => ?_)
    refine lv_aload_n hx hb dX6_opens_31 rfl (lv_at hl 0 rfl) ?_
    revert hf
    refine k_pcl (fun U5 h3 hf => ?_)
    refine w_afv hw (wu_X6_43 (As := []) C hw (Nat.le_of_ble_eq_true rfl) (Nat.le_of_ble_eq_true rfl) (ok_X6_next h3) (of_req h3).1 hl.1 rfl (Nat.le_of_ble_eq_true rfl) ⟨by show _ + 0 ≤ mc; omega, by show _ + 0 ≤ ms; omega⟩ dX6_opens_32) (fun H locs hw => ?_)
    cases hf
    cases hn
    cases hk
    exact x_ret (w_vret C hr hw dX6_opens_35)
  · replace hf := ite_t c1 hf
    revert hf
    refine k_inc (fun n1 k1 hf en ek => ?_)
    revert hf
    refine k_stp (fun q6 eq6 hf => ?_)
    revert hf
    refine k_stp (fun U7 eU7 hf => ?_)
    revert hf
    refine k_stp (fun T8 eT8 hf => ?_)
    refine nw_X8 C hw q862 (by show _ ≤ mc; omega) (by show _ ≤ ms; omega) eq6 eU7 eT8 dX6_opens_9 (fun H hw => ?_)
    replace hn := add_r hn en
    replace hk := add_r hk ek
    clear en ek
    generalize n1 = n at hf hn
    generalize k1 = k at hf hk
    refine lv_dup hx hb dX6_opens_12 rfl ?_
    refine lv_aload_n hx hb dX6_opens_13 rfl (lv_at hl 0 rfl) ?_
    revert hf
    refine k_req (fun k9 hf => ?_)
    refine gf_X6_22 C hw k9 dX6_opens_14 ?_
    revert hf
    refine k_pcl (fun U12 h10 hf => ?_)
    refine w_afv hw (w_rI (As := [.int (U7.1 o 3)]) C hw (ok_X8_init h10) (cw_X6_51 hts (Nat.le_of_ble_eq_true rfl) (Nat.le_of_ble_eq_true rfl)) rfl hl.1 rfl (Nat.le_of_ble_eq_true rfl) ⟨by show _ + 0 ≤ mc; omega, by show _ + 0 ≤ ms; omega⟩ dX6_opens_17) (fun H locs hw => ?_)
    revert hf
    refine k_req (fun k13 hf => ?_)
    cases hf
    cases hn
    cases hk
    exact x_throw (ci := 7) C hno hw rfl (by decide) k13 dX6_opens_20
set_option maxHeartbeats 4000000 in
theorem ok_X6_leaf {l : Launch} {G : gG} {T : Tt} {V0 : Vt} {o : Nat} {r : (Unit ⊕ Nat)} {V' : Vt} {T' : Tt} {n k : Nat} (hf : f_X6_leaf T V0 o = some ((r, V', T'), n, k)) : okX l G RX8 yX6_leaf cX6_leaf 1 none 5 [.ref (gb G + o)] V0 T (xV r) V' T' n k := by
  refine okX_intro (by decide) (Nat.le_of_ble_eq_true rfl) ?_
  intro p e s m below meth c ls C hr hno hw hl
  have hx := C.1
  have hb := C.2.1
  have hown := C.2.2.2.1
  have hts := C.2.2.2.2.1
  have hl : lv_has ls 1 [(0, .ref (gb G + o))] := hl
  unfold f_X6_leaf at hf
  revert hf
  refine k_req (fun k0 hf => ?_)
  obtain ⟨mc, emc⟩ : ∃ mc, mc = n := ⟨_, rfl⟩
  obtain ⟨ms, ems⟩ : ∃ ms, ms = k := ⟨_, rfl⟩
  have hn : 0 + n = mc := by omega
  have hk : 0 + k = ms := by omega
  rw [← emc, ← ems]
  clear emc ems
  refine lv_aload_n hx hb dX6_leaf_0 rfl (lv_at hl 0 rfl) ?_
  refine gf_X6_149 C hw k0 dX6_leaf_1 ?_
  refine lv_bipush (v := (50 : Int32)) hx hb dX6_leaf_4 (by decide) ?_
  refine lv_icmp_ne (tgt := 21) hx hb dX6_leaf_6 (by decide) (fun c1 => ?_) (fun c1 => ?_)
  · replace hf := ite_f c1 hf
    refine lv_aload_n hx hb dX6_leaf_21 rfl (lv_at hl 0 rfl) ?_
    refine lv_dup hx hb dX6_leaf_22 rfl ?_
    refine gf_X6_149 C hw k0 dX6_leaf_23 ?_
    refine lv_iconst (v := (1 : Int32)) hx hb dX6_leaf_26 (by decide) ?_
    refine lv_iadd hx hb dX6_leaf_27 ?_
    revert hf
    refine k_stp (fun U2 eU2 hf => ?_)
    refine pf_X6_149 C hw k0 eU2 dX6_leaf_28 (fun H locs hw => ?_)
    cases hf
    cases hn
    cases hk
    exact x_ret (w_vret C hr hw dX6_leaf_31)
  · replace hf := ite_t c1 hf
    revert hf
    refine k_inc (fun n1 k1 hf en ek => ?_)
    revert hf
    refine k_stp (fun q3 eq3 hf => ?_)
    revert hf
    refine k_stp (fun U4 eU4 hf => ?_)
    revert hf
    refine k_stp (fun T5 eT5 hf => ?_)
    refine nw_X8 C hw q862 (by show _ ≤ mc; omega) (by show _ ≤ ms; omega) eq3 eU4 eT5 dX6_leaf_9 (fun H hw => ?_)
    replace hn := add_r hn en
    replace hk := add_r hk ek
    clear en ek
    generalize n1 = n at hf hn
    generalize k1 = k at hf hk
    refine lv_dup hx hb dX6_leaf_12 rfl ?_
    refine lv_aload_n hx hb dX6_leaf_13 rfl (lv_at hl 0 rfl) ?_
    revert hf
    refine k_req (fun k6 hf => ?_)
    refine gf_X6_22 C hw k6 dX6_leaf_14 ?_
    revert hf
    refine k_pcl (fun U9 h7 hf => ?_)
    refine w_afv hw (w_rI (As := [.int (U4.1 o 3)]) C hw (ok_X8_init h7) (cw_X6_51 hts (Nat.le_of_ble_eq_true rfl) (Nat.le_of_ble_eq_true rfl)) rfl hl.1 rfl (Nat.le_of_ble_eq_true rfl) ⟨by show _ + 0 ≤ mc; omega, by show _ + 0 ≤ ms; omega⟩ dX6_leaf_17) (fun H locs hw => ?_)
    revert hf
    refine k_req (fun k10 hf => ?_)
    cases hf
    cases hn
    cases hk
    exact x_throw (ci := 7) C hno hw rfl (by decide) k10 dX6_leaf_20
set_option maxHeartbeats 4000000 in
theorem ok_X6_isValue {l : Launch} {G : gG} {T : Tt} {V0 : Vt} {o : Nat} {a0 : Nat} {r : (Int32 ⊕ Nat)} {V' : Vt} {T' : Tt} {n k : Nat} (hf : f_X6_isValue T V0 o a0 = some ((r, V', T'), n, k)) : okX l G RX8 yX6_isValue cX6_isValue 2 (some .boolean) 6 [.ref (gb G + o), .ref (adK G a0)] V0 T (xI r) V' T' n k := by
  refine okX_intro (by decide) (Nat.le_of_ble_eq_true rfl) ?_
  intro p e s m below meth c ls C hr hno hw hl
  have hx := C.1
  have hb := C.2.1
  have hown := C.2.2.2.1
  have hts := C.2.2.2.2.1
  have hl : lv_has ls 2 [(0, .ref (gb G + o)), (1, .ref (adK G a0))] := hl
  unfold f_X6_isValue at hf
  revert hf
  refine k_req (fun k0 hf => ?_)
  obtain ⟨mc, emc⟩ : ∃ mc, mc = n := ⟨_, rfl⟩
  obtain ⟨ms, ems⟩ : ∃ ms, ms = k := ⟨_, rfl⟩
  have hn : 0 + n = mc := by omega
  have hk : 0 + k = ms := by omega
  rw [← emc, ← ems]
  clear emc ems
  refine lv_aload_n hx hb dX6_isValue_0 rfl (lv_at hl 0 rfl) ?_
  refine lv_aload_n hx hb dX6_isValue_1 rfl (lv_at hl 1 rfl) ?_
  revert hf
  refine k_pcl (fun z2 h1 hf => ?_)
  refine w_afi hw (wu_X6_39 (As := [.ref (adK G a0)]) C hw (Nat.le_of_ble_eq_true rfl) (Nat.le_of_ble_eq_true rfl) (ok_X6_is h1) (of_req h1).1 hl.1 rfl (Nat.le_of_ble_eq_true rfl) ⟨by show _ + 0 ≤ mc; omega, by show _ + 0 ≤ ms; omega⟩ dX6_isValue_2) (fun H locs hw => ?_)
  refine lv_if_ne (tgt := 10) hx hb dX6_isValue_5 (by decide) (fun c3 => ?_) (fun c3 => ?_)
  · replace hf := ite_f c3 hf
    refine lv_aload_n hx hb dX6_isValue_10 rfl (lv_at hl 0 rfl) ?_
    rcases of_dxl hf with ⟨z5, U6, T7, na, ka, n1, k1, h4, hf, en, ek⟩ | ⟨z5, U6, T7, h4, hf⟩
    · refine x_in hw (xu_X6_156 (As := []) C hw (Nat.le_of_ble_eq_true rfl) (Nat.le_of_ble_eq_true rfl) (ok_X6_leaf h4) (of_req h4).1 hl.1 rfl (Nat.le_of_ble_eq_true rfl) ⟨by show _ ≤ mc; omega, by show _ ≤ ms; omega⟩ dX6_isValue_11) (fun H locs hw => ?_)
      refine W.eq (g2 := F0 m 14 ls []) rfl ?_
      replace hn := add_r hn en
      replace hk := add_r hk ek
      clear en ek
      generalize n1 = n at hf hn
      generalize k1 = k at hf hk
      refine lv_aload_n hx hb dX6_isValue_14 rfl (lv_at hl 0 rfl) ?_
      revert hf
      refine k_pcl (fun U10 h8 hf => ?_)
      refine w_afv hw (wu_X6_43 (As := []) C hw (Nat.le_of_ble_eq_true rfl) (Nat.le_of_ble_eq_true rfl) (ok_X6_next h8) (of_req h8).1 hl.1 rfl (Nat.le_of_ble_eq_true rfl) ⟨by show _ + 0 ≤ mc; omega, by show _ + 0 ≤ ms; omega⟩ dX6_isValue_15) (fun H locs hw => ?_)
      refine lv_iconst (v := (1 : Int32)) hx hb dX6_isValue_18 (by decide) ?_
      cases hf
      cases hn
      cases hk
      exact x_ret (w_zret C hr hw (by decide) dX6_isValue_19)
    · cases hf
      refine x_out hw (xu_X6_156 (As := []) C hw (Nat.le_of_ble_eq_true rfl) (Nat.le_of_ble_eq_true rfl) (ok_X6_leaf h4) (of_req h4).1 hl.1 rfl (Nat.le_of_ble_eq_true rfl) ⟨by show _ ≤ mc; omega, by show _ ≤ ms; omega⟩ dX6_isValue_11) (fun H locs ce hw g1 g2 g3 => ?_)
      exact x_upE C hno hw g1 g2 g3 hn hk
  · replace hf := ite_t c3 hf
    refine lv_iconst (v := (0 : Int32)) hx hb dX6_isValue_8 (by decide) ?_
    cases hf
    cases hn
    cases hk
    exact x_ret (w_zret C hr hw (by decide) dX6_isValue_9)
def f_X7_init (T : Tt) (V0 : Vt) (o : Nat) (a0 : Nat) (a1 : Int32) : Option ((Vt × Tt) × Nat × Nat) :=
  req (T.1 o = 7) (pcl (f_X6_init T V0 o a0 a1) (fun U3 => inc 1 3 (stp T.2.2 (fun q4 => stp (zV U3 q4) (fun U5 => stp (aT T 20 0) (fun T6 => dcv (f_J2_init T6 U5 q4 (2 : Int32)) (fun U9 T10 => req (T10.1 o = 7) (stp (uR U9 o 7 (some q4)) (fun U12 => some ((U12, T10), 0, 0))))))))))
def f_X7_value (T : Tt) (V0 : Vt) (o : Nat) : Option (((Int32 ⊕ Nat) × Vt × Tt) × Nat × Nat) :=
  req (T.1 o = 7) (dxl (f_X6_isValue T V0 o 4) (fun z2 U3 T4 => if z2 = 0 then (req (T4.1 o = 7) (dxl (f_X6_isValue T4 U3 o 5) (fun z8 U9 T10 => if z8 = 0 then (req (T10.1 o = 7) (dxl (f_X6_isValue T10 U9 o 6) (fun z14 U15 T16 => if z14 = 0 then (req (T16.1 o = 7) (dxl (f_X6_isValue T16 U15 o 7) (fun z20 U21 T22 => if z20 = 0 then (req (T22.1 o = 7) (dxl (f_X6_isValue T22 U21 o 8) (fun z26 U27 T28 => if z26 = 0 then (req (T28.1 o = 7) (dxl (f_X6_isValue T28 U27 o 9) (fun z32 U33 T34 => if z32 = 0 then (req (T34.1 o = 7) (dxl (f_X6_isValue T34 U33 o 10) (fun z38 U39 T40 => if z38 = 0 then (some (((.inl ((-1) : Int32)), U39, T40), 0, 0)) else (some (((.inl (6 : Int32)), U39, T40), 0, 0))))) else (some (((.inl (5 : Int32)), U33, T34), 0, 0))))) else (some (((.inl (4 : Int32)), U27, T28), 0, 0))))) else (some (((.inl (3 : Int32)), U21, T22), 0, 0))))) else (some (((.inl (2 : Int32)), U15, T16), 0, 0))))) else (some (((.inl (1 : Int32)), U9, T10), 0, 0))))) else (some (((.inl (0 : Int32)), U3, T4), 0, 0))))
def f_X20_init (T : Tt) (V0 : Vt) (o : Nat) (a0 : Nat) (a1 : Int32) : Option ((Vt × Tt) × Nat × Nat) :=
  req (T.1 o = 18) (pcl (f_X6_init T V0 o a0 a1) (fun U3 => inc 1 3 (stp T.2.2 (fun q4 => stp (zV U3 q4) (fun U5 => stp (aT T 20 0) (fun T6 => dcv (f_J2_init T6 U5 q4 (2 : Int32)) (fun U9 T10 => req (T10.1 o = 18) (stp (uR U9 o 7 (some q4)) (fun U12 => some ((U12, T10), 0, 0))))))))))
def f_X20_value (T : Tt) (V0 : Vt) (o : Nat) : Option (((Int32 ⊕ Nat) × Vt × Tt) × Nat × Nat) :=
  req (T.1 o = 18) (dxl (f_X6_isValue T V0 o 19) (fun z2 U3 T4 => if z2 = 0 then (req (T4.1 o = 18) (dxl (f_X6_isValue T4 U3 o 20) (fun z8 U9 T10 => if z8 = 0 then (req (T10.1 o = 18) (dxl (f_X6_isValue T10 U9 o 21) (fun z14 U15 T16 => if z14 = 0 then (req (T16.1 o = 18) (dxl (f_X6_isValue T16 U15 o 22) (fun z20 U21 T22 => if z20 = 0 then (req (T22.1 o = 18) (dxl (f_X6_isValue T22 U21 o 23) (fun z26 U27 T28 => if z26 = 0 then (req (T28.1 o = 18) (dxl (f_X6_isValue T28 U27 o 24) (fun z32 U33 T34 => if z32 = 0 then (req (T34.1 o = 18) (dxl (f_X6_isValue T34 U33 o 25) (fun z38 U39 T40 => if z38 = 0 then (some (((.inl ((-1) : Int32)), U39, T40), 0, 0)) else (req (T40.1 o = 18) (dxl (f_X6_number T40 U39 o (0 : Int32) (7 : Int32)) (fun z44 U45 T46 => some (((.inl ((20 : Int32) + z44)), U45, T46), 0, 0))))))) else (req (T34.1 o = 18) (dxl (f_X6_number T34 U33 o (0 : Int32) (7 : Int32)) (fun z49 U50 T51 => some (((.inl ((12 : Int32) + z49)), U50, T51), 0, 0))))))) else (req (T28.1 o = 18) (dxl (f_X6_number T28 U27 o (0 : Int32) (7 : Int32)) (fun z54 U55 T56 => some (((.inl ((4 : Int32) + z54)), U55, T56), 0, 0))))))) else (some (((.inl (3 : Int32)), U21, T22), 0, 0))))) else (some (((.inl (2 : Int32)), U15, T16), 0, 0))))) else (some (((.inl (1 : Int32)), U9, T10), 0, 0))))) else (some (((.inl (0 : Int32)), U3, T4), 0, 0))))
set_option maxHeartbeats 4000000 in
theorem ok_X7_init {l : Launch} {G : gG} {T : Tt} {V0 : Vt} {o : Nat} {a0 : Nat} {a1 : Int32} {V' : Vt} {T' : Tt} {n k : Nat} (hf : f_X7_init T V0 o a0 a1 = some ((V', T'), n, k)) : okM l G yX7_init cX7_init 3 none 4 [.ref (gb G + o), .ref (gb G + a0), .int a1] V0 T none V' T' n k := by
  refine ok_intro (by decide) (Nat.le_of_ble_eq_true rfl) ?_
  intro p e s m below meth c ls C hr hnm hw hl
  have hx := C.1
  have hb := C.2.1
  have hown := C.2.2.2.1
  have hts := C.2.2.2.2.1
  have hl : lv_has ls 3 [(0, .ref (gb G + o)), (1, .ref (gb G + a0)), (2, .int a1)] := hl
  unfold f_X7_init at hf
  revert hf
  refine k_req (fun k0 hf => ?_)
  obtain ⟨mc, emc⟩ : ∃ mc, mc = n := ⟨_, rfl⟩
  obtain ⟨ms, ems⟩ : ∃ ms, ms = k := ⟨_, rfl⟩
  have hn : 0 + n = mc := by omega
  have hk : 0 + k = ms := by omega
  rw [← emc, ← ems]
  clear emc ems
  refine lv_aload_n hx hb dX7_init_0 rfl (lv_at hl 0 rfl) ?_
  refine lv_aload_n hx hb dX7_init_1 rfl (lv_at hl 1 rfl) ?_
  refine lv_iload_n hx hb dX7_init_2 rfl (lv_at hl 2 rfl) ?_
  revert hf
  refine k_pcl (fun U3 h1 hf => ?_)
  refine w_afv hw (w_rI (As := [.ref (gb G + a0), .int a1]) C hw (ok_X6_init h1) (cw_X7_3 hts (Nat.le_of_ble_eq_true rfl) (Nat.le_of_ble_eq_true rfl)) rfl hl.1 rfl (Nat.le_of_ble_eq_true rfl) ⟨by show _ + 0 ≤ mc; omega, by show _ + 0 ≤ ms; omega⟩ dX7_init_3) (fun H locs hw => ?_)
  refine lv_aload_n hx hb dX7_init_6 rfl (lv_at hl 0 rfl) ?_
  revert hf
  refine k_inc (fun n1 k1 hf en ek => ?_)
  revert hf
  refine k_stp (fun q4 eq4 hf => ?_)
  revert hf
  refine k_stp (fun U5 eU5 hf => ?_)
  revert hf
  refine k_stp (fun T6 eT6 hf => ?_)
  refine nw_J2 C hw q744 (by show _ ≤ mc; omega) (by show _ ≤ ms; omega) eq4 eU5 eT6 dX7_init_7 (fun H hw => ?_)
  replace hn := add_r hn en
  replace hk := add_r hk ek
  clear en ek
  generalize n1 = n at hf hn
  generalize k1 = k at hf hk
  refine lv_dup hx hb dX7_init_10 rfl ?_
  refine lv_iconst (v := (2 : Int32)) hx hb dX7_init_11 (by decide) ?_
  revert hf
  refine k_dcv (fun U9 T10 na ka n1 k1 h7 hf en ek => ?_)
  refine w_afv hw (w_rI (As := [.int (2 : Int32)]) C hw (ok_J2_init h7) (cw_X7_11 hts (Nat.le_of_ble_eq_true rfl) (Nat.le_of_ble_eq_true rfl)) rfl hl.1 rfl (Nat.le_of_ble_eq_true rfl) ⟨by show _ ≤ mc; omega, by show _ ≤ ms; omega⟩ dX7_init_12) (fun H locs hw => ?_)
  replace hn := add_r hn en
  replace hk := add_r hk ek
  clear en ek
  generalize n1 = n at hf hn
  generalize k1 = k at hf hk
  revert hf
  refine k_req (fun k11 hf => ?_)
  revert hf
  refine k_stp (fun U12 eU12 hf => ?_)
  refine pf_X7_14 C hw k11 hnm eU12 dX7_init_15 (fun H locs hw => ?_)
  cases hf
  cases hn
  cases hk
  exact w_vret C hr hw dX7_init_18
set_option maxHeartbeats 4000000 in
theorem ok_X7_value {l : Launch} {G : gG} {T : Tt} {V0 : Vt} {o : Nat} {r : (Int32 ⊕ Nat)} {V' : Vt} {T' : Tt} {n k : Nat} (hf : f_X7_value T V0 o = some ((r, V', T'), n, k)) : okX l G RX8 yX7_value cX7_value 1 (some .int) 7 [.ref (gb G + o)] V0 T (xI r) V' T' n k := by
  refine okX_intro (by decide) (Nat.le_of_ble_eq_true rfl) ?_
  intro p e s m below meth c ls C hr hno hw hl
  have hx := C.1
  have hb := C.2.1
  have hown := C.2.2.2.1
  have hts := C.2.2.2.2.1
  have hl : lv_has ls 1 [(0, .ref (gb G + o))] := hl
  unfold f_X7_value at hf
  revert hf
  refine k_req (fun k0 hf => ?_)
  obtain ⟨mc, emc⟩ : ∃ mc, mc = n := ⟨_, rfl⟩
  obtain ⟨ms, ems⟩ : ∃ ms, ms = k := ⟨_, rfl⟩
  have hn : 0 + n = mc := by omega
  have hk : 0 + k = ms := by omega
  rw [← emc, ← ems]
  clear emc ems
  refine lv_aload_n hx hb dX7_value_0 rfl (lv_at hl 0 rfl) ?_
  refine w_ldcS (k := 4) C rfl dX7_value_1 ?_
  rcases of_dxl hf with ⟨z2, U3, T4, na, ka, n1, k1, h1, hf, en, ek⟩ | ⟨z2, U3, T4, h1, hf⟩
  · refine x_in hw (xu_X7_67 (As := [.ref (adK G 4)]) C hw (Nat.le_of_ble_eq_true rfl) (Nat.le_of_ble_eq_true rfl) (ok_X6_isValue h1) k0 hl.1 rfl (Nat.le_of_ble_eq_true rfl) ⟨by show _ ≤ mc; omega, by show _ ≤ ms; omega⟩ dX7_value_3) (fun H locs hw => ?_)
    refine W.eq (g2 := F0 m 6 ls [.int z2]) rfl ?_
    replace hn := add_r hn en
    replace hk := add_r hk ek
    clear en ek
    generalize n1 = n at hf hn
    generalize k1 = k at hf hk
    refine lv_if_eq (tgt := 11) hx hb dX7_value_6 (by decide) (fun c5 => ?_) (fun c5 => ?_)
    · replace hf := ite_t c5 hf
      refine lv_aload_n hx hb dX7_value_11 rfl (lv_at hl 0 rfl) ?_
      refine w_ldcS (k := 5) C rfl dX7_value_12 ?_
      revert hf
      refine k_req (fun k6 hf => ?_)
      rcases of_dxl hf with ⟨z8, U9, T10, na, ka, n1, k1, h7, hf, en, ek⟩ | ⟨z8, U9, T10, h7, hf⟩
      · refine x_in hw (xu_X7_67 (As := [.ref (adK G 5)]) C hw (Nat.le_of_ble_eq_true rfl) (Nat.le_of_ble_eq_true rfl) (ok_X6_isValue h7) k6 hl.1 rfl (Nat.le_of_ble_eq_true rfl) ⟨by show _ ≤ mc; omega, by show _ ≤ ms; omega⟩ dX7_value_14) (fun H locs hw => ?_)
        refine W.eq (g2 := F0 m 17 ls [.int z8]) rfl ?_
        replace hn := add_r hn en
        replace hk := add_r hk ek
        clear en ek
        generalize n1 = n at hf hn
        generalize k1 = k at hf hk
        refine lv_if_eq (tgt := 22) hx hb dX7_value_17 (by decide) (fun c11 => ?_) (fun c11 => ?_)
        · replace hf := ite_t c11 hf
          refine lv_aload_n hx hb dX7_value_22 rfl (lv_at hl 0 rfl) ?_
          refine w_ldcS (k := 6) C rfl dX7_value_23 ?_
          revert hf
          refine k_req (fun k12 hf => ?_)
          rcases of_dxl hf with ⟨z14, U15, T16, na, ka, n1, k1, h13, hf, en, ek⟩ | ⟨z14, U15, T16, h13, hf⟩
          · refine x_in hw (xu_X7_67 (As := [.ref (adK G 6)]) C hw (Nat.le_of_ble_eq_true rfl) (Nat.le_of_ble_eq_true rfl) (ok_X6_isValue h13) k12 hl.1 rfl (Nat.le_of_ble_eq_true rfl) ⟨by show _ ≤ mc; omega, by show _ ≤ ms; omega⟩ dX7_value_25) (fun H locs hw => ?_)
            refine W.eq (g2 := F0 m 28 ls [.int z14]) rfl ?_
            replace hn := add_r hn en
            replace hk := add_r hk ek
            clear en ek
            generalize n1 = n at hf hn
            generalize k1 = k at hf hk
            refine lv_if_eq (tgt := 33) hx hb dX7_value_28 (by decide) (fun c17 => ?_) (fun c17 => ?_)
            · replace hf := ite_t c17 hf
              refine lv_aload_n hx hb dX7_value_33 rfl (lv_at hl 0 rfl) ?_
              refine w_ldcS (k := 7) C rfl dX7_value_34 ?_
              revert hf
              refine k_req (fun k18 hf => ?_)
              rcases of_dxl hf with ⟨z20, U21, T22, na, ka, n1, k1, h19, hf, en, ek⟩ | ⟨z20, U21, T22, h19, hf⟩
              · refine x_in hw (xu_X7_67 (As := [.ref (adK G 7)]) C hw (Nat.le_of_ble_eq_true rfl) (Nat.le_of_ble_eq_true rfl) (ok_X6_isValue h19) k18 hl.1 rfl (Nat.le_of_ble_eq_true rfl) ⟨by show _ ≤ mc; omega, by show _ ≤ ms; omega⟩ dX7_value_36) (fun H locs hw => ?_)
                refine W.eq (g2 := F0 m 39 ls [.int z20]) rfl ?_
                replace hn := add_r hn en
                replace hk := add_r hk ek
                clear en ek
                generalize n1 = n at hf hn
                generalize k1 = k at hf hk
                refine lv_if_eq (tgt := 44) hx hb dX7_value_39 (by decide) (fun c23 => ?_) (fun c23 => ?_)
                · replace hf := ite_t c23 hf
                  refine lv_aload_n hx hb dX7_value_44 rfl (lv_at hl 0 rfl) ?_
                  refine w_ldcS (k := 8) C rfl dX7_value_45 ?_
                  revert hf
                  refine k_req (fun k24 hf => ?_)
                  rcases of_dxl hf with ⟨z26, U27, T28, na, ka, n1, k1, h25, hf, en, ek⟩ | ⟨z26, U27, T28, h25, hf⟩
                  · refine x_in hw (xu_X7_67 (As := [.ref (adK G 8)]) C hw (Nat.le_of_ble_eq_true rfl) (Nat.le_of_ble_eq_true rfl) (ok_X6_isValue h25) k24 hl.1 rfl (Nat.le_of_ble_eq_true rfl) ⟨by show _ ≤ mc; omega, by show _ ≤ ms; omega⟩ dX7_value_47) (fun H locs hw => ?_)
                    refine W.eq (g2 := F0 m 50 ls [.int z26]) rfl ?_
                    replace hn := add_r hn en
                    replace hk := add_r hk ek
                    clear en ek
                    generalize n1 = n at hf hn
                    generalize k1 = k at hf hk
                    refine lv_if_eq (tgt := 55) hx hb dX7_value_50 (by decide) (fun c29 => ?_) (fun c29 => ?_)
                    · replace hf := ite_t c29 hf
                      refine lv_aload_n hx hb dX7_value_55 rfl (lv_at hl 0 rfl) ?_
                      refine w_ldcS (k := 9) C rfl dX7_value_56 ?_
                      revert hf
                      refine k_req (fun k30 hf => ?_)
                      rcases of_dxl hf with ⟨z32, U33, T34, na, ka, n1, k1, h31, hf, en, ek⟩ | ⟨z32, U33, T34, h31, hf⟩
                      · refine x_in hw (xu_X7_67 (As := [.ref (adK G 9)]) C hw (Nat.le_of_ble_eq_true rfl) (Nat.le_of_ble_eq_true rfl) (ok_X6_isValue h31) k30 hl.1 rfl (Nat.le_of_ble_eq_true rfl) ⟨by show _ ≤ mc; omega, by show _ ≤ ms; omega⟩ dX7_value_58) (fun H locs hw => ?_)
                        refine W.eq (g2 := F0 m 61 ls [.int z32]) rfl ?_
                        replace hn := add_r hn en
                        replace hk := add_r hk ek
                        clear en ek
                        generalize n1 = n at hf hn
                        generalize k1 = k at hf hk
                        refine lv_if_eq (tgt := 66) hx hb dX7_value_61 (by decide) (fun c35 => ?_) (fun c35 => ?_)
                        · replace hf := ite_t c35 hf
                          refine lv_aload_n hx hb dX7_value_66 rfl (lv_at hl 0 rfl) ?_
                          refine w_ldcS (k := 10) C rfl dX7_value_67 ?_
                          revert hf
                          refine k_req (fun k36 hf => ?_)
                          rcases of_dxl hf with ⟨z38, U39, T40, na, ka, n1, k1, h37, hf, en, ek⟩ | ⟨z38, U39, T40, h37, hf⟩
                          · refine x_in hw (xu_X7_67 (As := [.ref (adK G 10)]) C hw (Nat.le_of_ble_eq_true rfl) (Nat.le_of_ble_eq_true rfl) (ok_X6_isValue h37) k36 hl.1 rfl (Nat.le_of_ble_eq_true rfl) ⟨by show _ ≤ mc; omega, by show _ ≤ ms; omega⟩ dX7_value_69) (fun H locs hw => ?_)
                            refine W.eq (g2 := F0 m 72 ls [.int z38]) rfl ?_
                            replace hn := add_r hn en
                            replace hk := add_r hk ek
                            clear en ek
                            generalize n1 = n at hf hn
                            generalize k1 = k at hf hk
                            refine lv_if_eq (tgt := 80) hx hb dX7_value_72 (by decide) (fun c41 => ?_) (fun c41 => ?_)
                            · replace hf := ite_t c41 hf
                              refine lv_iconst (v := ((-1) : Int32)) hx hb dX7_value_80 (by decide) ?_
                              cases hf
                              cases hn
                              cases hk
                              exact x_ret (w_iret C hr hw dX7_value_81)
                            · replace hf := ite_f c41 hf
                              refine lv_bipush (v := (6 : Int32)) hx hb dX7_value_75 (by decide) ?_
                              refine lv_goto (tgt := 81) hx hb dX7_value_77 (by decide) ?_
                              cases hf
                              cases hn
                              cases hk
                              exact x_ret (w_iret C hr hw dX7_value_81)
                          · cases hf
                            refine x_out hw (xu_X7_67 (As := [.ref (adK G 10)]) C hw (Nat.le_of_ble_eq_true rfl) (Nat.le_of_ble_eq_true rfl) (ok_X6_isValue h37) k36 hl.1 rfl (Nat.le_of_ble_eq_true rfl) ⟨by show _ ≤ mc; omega, by show _ ≤ ms; omega⟩ dX7_value_69) (fun H locs ce hw g1 g2 g3 => ?_)
                            exact x_upE C hno hw g1 g2 g3 hn hk
                        · replace hf := ite_f c35 hf
                          refine lv_iconst (v := (5 : Int32)) hx hb dX7_value_64 (by decide) ?_
                          cases hf
                          cases hn
                          cases hk
                          exact x_ret (w_iret C hr hw dX7_value_65)
                      · cases hf
                        refine x_out hw (xu_X7_67 (As := [.ref (adK G 9)]) C hw (Nat.le_of_ble_eq_true rfl) (Nat.le_of_ble_eq_true rfl) (ok_X6_isValue h31) k30 hl.1 rfl (Nat.le_of_ble_eq_true rfl) ⟨by show _ ≤ mc; omega, by show _ ≤ ms; omega⟩ dX7_value_58) (fun H locs ce hw g1 g2 g3 => ?_)
                        exact x_upE C hno hw g1 g2 g3 hn hk
                    · replace hf := ite_f c29 hf
                      refine lv_iconst (v := (4 : Int32)) hx hb dX7_value_53 (by decide) ?_
                      cases hf
                      cases hn
                      cases hk
                      exact x_ret (w_iret C hr hw dX7_value_54)
                  · cases hf
                    refine x_out hw (xu_X7_67 (As := [.ref (adK G 8)]) C hw (Nat.le_of_ble_eq_true rfl) (Nat.le_of_ble_eq_true rfl) (ok_X6_isValue h25) k24 hl.1 rfl (Nat.le_of_ble_eq_true rfl) ⟨by show _ ≤ mc; omega, by show _ ≤ ms; omega⟩ dX7_value_47) (fun H locs ce hw g1 g2 g3 => ?_)
                    exact x_upE C hno hw g1 g2 g3 hn hk
                · replace hf := ite_f c23 hf
                  refine lv_iconst (v := (3 : Int32)) hx hb dX7_value_42 (by decide) ?_
                  cases hf
                  cases hn
                  cases hk
                  exact x_ret (w_iret C hr hw dX7_value_43)
              · cases hf
                refine x_out hw (xu_X7_67 (As := [.ref (adK G 7)]) C hw (Nat.le_of_ble_eq_true rfl) (Nat.le_of_ble_eq_true rfl) (ok_X6_isValue h19) k18 hl.1 rfl (Nat.le_of_ble_eq_true rfl) ⟨by show _ ≤ mc; omega, by show _ ≤ ms; omega⟩ dX7_value_36) (fun H locs ce hw g1 g2 g3 => ?_)
                exact x_upE C hno hw g1 g2 g3 hn hk
            · replace hf := ite_f c17 hf
              refine lv_iconst (v := (2 : Int32)) hx hb dX7_value_31 (by decide) ?_
              cases hf
              cases hn
              cases hk
              exact x_ret (w_iret C hr hw dX7_value_32)
          · cases hf
            refine x_out hw (xu_X7_67 (As := [.ref (adK G 6)]) C hw (Nat.le_of_ble_eq_true rfl) (Nat.le_of_ble_eq_true rfl) (ok_X6_isValue h13) k12 hl.1 rfl (Nat.le_of_ble_eq_true rfl) ⟨by show _ ≤ mc; omega, by show _ ≤ ms; omega⟩ dX7_value_25) (fun H locs ce hw g1 g2 g3 => ?_)
            exact x_upE C hno hw g1 g2 g3 hn hk
        · replace hf := ite_f c11 hf
          refine lv_iconst (v := (1 : Int32)) hx hb dX7_value_20 (by decide) ?_
          cases hf
          cases hn
          cases hk
          exact x_ret (w_iret C hr hw dX7_value_21)
      · cases hf
        refine x_out hw (xu_X7_67 (As := [.ref (adK G 5)]) C hw (Nat.le_of_ble_eq_true rfl) (Nat.le_of_ble_eq_true rfl) (ok_X6_isValue h7) k6 hl.1 rfl (Nat.le_of_ble_eq_true rfl) ⟨by show _ ≤ mc; omega, by show _ ≤ ms; omega⟩ dX7_value_14) (fun H locs ce hw g1 g2 g3 => ?_)
        exact x_upE C hno hw g1 g2 g3 hn hk
    · replace hf := ite_f c5 hf
      refine lv_iconst (v := (0 : Int32)) hx hb dX7_value_9 (by decide) ?_
      cases hf
      cases hn
      cases hk
      exact x_ret (w_iret C hr hw dX7_value_10)
  · cases hf
    refine x_out hw (xu_X7_67 (As := [.ref (adK G 4)]) C hw (Nat.le_of_ble_eq_true rfl) (Nat.le_of_ble_eq_true rfl) (ok_X6_isValue h1) k0 hl.1 rfl (Nat.le_of_ble_eq_true rfl) ⟨by show _ ≤ mc; omega, by show _ ≤ ms; omega⟩ dX7_value_3) (fun H locs ce hw g1 g2 g3 => ?_)
    exact x_upE C hno hw g1 g2 g3 hn hk
set_option maxHeartbeats 4000000 in
theorem ok_X20_init {l : Launch} {G : gG} {T : Tt} {V0 : Vt} {o : Nat} {a0 : Nat} {a1 : Int32} {V' : Vt} {T' : Tt} {n k : Nat} (hf : f_X20_init T V0 o a0 a1 = some ((V', T'), n, k)) : okM l G yX20_init cX20_init 3 none 4 [.ref (gb G + o), .ref (gb G + a0), .int a1] V0 T none V' T' n k := by
  refine ok_intro (by decide) (Nat.le_of_ble_eq_true rfl) ?_
  intro p e s m below meth c ls C hr hnm hw hl
  have hx := C.1
  have hb := C.2.1
  have hown := C.2.2.2.1
  have hts := C.2.2.2.2.1
  have hl : lv_has ls 3 [(0, .ref (gb G + o)), (1, .ref (gb G + a0)), (2, .int a1)] := hl
  unfold f_X20_init at hf
  revert hf
  refine k_req (fun k0 hf => ?_)
  obtain ⟨mc, emc⟩ : ∃ mc, mc = n := ⟨_, rfl⟩
  obtain ⟨ms, ems⟩ : ∃ ms, ms = k := ⟨_, rfl⟩
  have hn : 0 + n = mc := by omega
  have hk : 0 + k = ms := by omega
  rw [← emc, ← ems]
  clear emc ems
  refine lv_aload_n hx hb dX20_init_0 rfl (lv_at hl 0 rfl) ?_
  refine lv_aload_n hx hb dX20_init_1 rfl (lv_at hl 1 rfl) ?_
  refine lv_iload_n hx hb dX20_init_2 rfl (lv_at hl 2 rfl) ?_
  revert hf
  refine k_pcl (fun U3 h1 hf => ?_)
  refine w_afv hw (w_rI (As := [.ref (gb G + a0), .int a1]) C hw (ok_X6_init h1) (cw_X20_3 hts (Nat.le_of_ble_eq_true rfl) (Nat.le_of_ble_eq_true rfl)) rfl hl.1 rfl (Nat.le_of_ble_eq_true rfl) ⟨by show _ + 0 ≤ mc; omega, by show _ + 0 ≤ ms; omega⟩ dX20_init_3) (fun H locs hw => ?_)
  refine lv_aload_n hx hb dX20_init_6 rfl (lv_at hl 0 rfl) ?_
  revert hf
  refine k_inc (fun n1 k1 hf en ek => ?_)
  revert hf
  refine k_stp (fun q4 eq4 hf => ?_)
  revert hf
  refine k_stp (fun U5 eU5 hf => ?_)
  revert hf
  refine k_stp (fun T6 eT6 hf => ?_)
  refine nw_J2 C hw q1215 (by show _ ≤ mc; omega) (by show _ ≤ ms; omega) eq4 eU5 eT6 dX20_init_7 (fun H hw => ?_)
  replace hn := add_r hn en
  replace hk := add_r hk ek
  clear en ek
  generalize n1 = n at hf hn
  generalize k1 = k at hf hk
  refine lv_dup hx hb dX20_init_10 rfl ?_
  refine lv_iconst (v := (2 : Int32)) hx hb dX20_init_11 (by decide) ?_
  revert hf
  refine k_dcv (fun U9 T10 na ka n1 k1 h7 hf en ek => ?_)
  refine w_afv hw (w_rI (As := [.int (2 : Int32)]) C hw (ok_J2_init h7) (cw_X20_11 hts (Nat.le_of_ble_eq_true rfl) (Nat.le_of_ble_eq_true rfl)) rfl hl.1 rfl (Nat.le_of_ble_eq_true rfl) ⟨by show _ ≤ mc; omega, by show _ ≤ ms; omega⟩ dX20_init_12) (fun H locs hw => ?_)
  replace hn := add_r hn en
  replace hk := add_r hk ek
  clear en ek
  generalize n1 = n at hf hn
  generalize k1 = k at hf hk
  revert hf
  refine k_req (fun k11 hf => ?_)
  revert hf
  refine k_stp (fun U12 eU12 hf => ?_)
  refine pf_X20_14 C hw k11 hnm eU12 dX20_init_15 (fun H locs hw => ?_)
  cases hf
  cases hn
  cases hk
  exact w_vret C hr hw dX20_init_18
set_option maxHeartbeats 4000000 in
theorem ok_X20_value {l : Launch} {G : gG} {T : Tt} {V0 : Vt} {o : Nat} {r : (Int32 ⊕ Nat)} {V' : Vt} {T' : Tt} {n k : Nat} (hf : f_X20_value T V0 o = some ((r, V', T'), n, k)) : okX l G RX8 yX20_value cX20_value 1 (some .int) 7 [.ref (gb G + o)] V0 T (xI r) V' T' n k := by
  refine okX_intro (by decide) (Nat.le_of_ble_eq_true rfl) ?_
  intro p e s m below meth c ls C hr hno hw hl
  have hx := C.1
  have hb := C.2.1
  have hown := C.2.2.2.1
  have hts := C.2.2.2.2.1
  have hl : lv_has ls 1 [(0, .ref (gb G + o))] := hl
  unfold f_X20_value at hf
  revert hf
  refine k_req (fun k0 hf => ?_)
  obtain ⟨mc, emc⟩ : ∃ mc, mc = n := ⟨_, rfl⟩
  obtain ⟨ms, ems⟩ : ∃ ms, ms = k := ⟨_, rfl⟩
  have hn : 0 + n = mc := by omega
  have hk : 0 + k = ms := by omega
  rw [← emc, ← ems]
  clear emc ems
  refine lv_aload_n hx hb dX20_value_0 rfl (lv_at hl 0 rfl) ?_
  refine w_ldcS (k := 19) C rfl dX20_value_1 ?_
  rcases of_dxl hf with ⟨z2, U3, T4, na, ka, n1, k1, h1, hf, en, ek⟩ | ⟨z2, U3, T4, h1, hf⟩
  · refine x_in hw (xu_X20_87 (As := [.ref (adK G 19)]) C hw (Nat.le_of_ble_eq_true rfl) (Nat.le_of_ble_eq_true rfl) (ok_X6_isValue h1) k0 hl.1 rfl (Nat.le_of_ble_eq_true rfl) ⟨by show _ ≤ mc; omega, by show _ ≤ ms; omega⟩ dX20_value_3) (fun H locs hw => ?_)
    refine W.eq (g2 := F0 m 6 ls [.int z2]) rfl ?_
    replace hn := add_r hn en
    replace hk := add_r hk ek
    clear en ek
    generalize n1 = n at hf hn
    generalize k1 = k at hf hk
    refine lv_if_eq (tgt := 11) hx hb dX20_value_6 (by decide) (fun c5 => ?_) (fun c5 => ?_)
    · replace hf := ite_t c5 hf
      refine lv_aload_n hx hb dX20_value_11 rfl (lv_at hl 0 rfl) ?_
      refine w_ldcS (k := 20) C rfl dX20_value_12 ?_
      revert hf
      refine k_req (fun k6 hf => ?_)
      rcases of_dxl hf with ⟨z8, U9, T10, na, ka, n1, k1, h7, hf, en, ek⟩ | ⟨z8, U9, T10, h7, hf⟩
      · refine x_in hw (xu_X20_87 (As := [.ref (adK G 20)]) C hw (Nat.le_of_ble_eq_true rfl) (Nat.le_of_ble_eq_true rfl) (ok_X6_isValue h7) k6 hl.1 rfl (Nat.le_of_ble_eq_true rfl) ⟨by show _ ≤ mc; omega, by show _ ≤ ms; omega⟩ dX20_value_14) (fun H locs hw => ?_)
        refine W.eq (g2 := F0 m 17 ls [.int z8]) rfl ?_
        replace hn := add_r hn en
        replace hk := add_r hk ek
        clear en ek
        generalize n1 = n at hf hn
        generalize k1 = k at hf hk
        refine lv_if_eq (tgt := 22) hx hb dX20_value_17 (by decide) (fun c11 => ?_) (fun c11 => ?_)
        · replace hf := ite_t c11 hf
          refine lv_aload_n hx hb dX20_value_22 rfl (lv_at hl 0 rfl) ?_
          refine w_ldcS (k := 21) C rfl dX20_value_23 ?_
          revert hf
          refine k_req (fun k12 hf => ?_)
          rcases of_dxl hf with ⟨z14, U15, T16, na, ka, n1, k1, h13, hf, en, ek⟩ | ⟨z14, U15, T16, h13, hf⟩
          · refine x_in hw (xu_X20_87 (As := [.ref (adK G 21)]) C hw (Nat.le_of_ble_eq_true rfl) (Nat.le_of_ble_eq_true rfl) (ok_X6_isValue h13) k12 hl.1 rfl (Nat.le_of_ble_eq_true rfl) ⟨by show _ ≤ mc; omega, by show _ ≤ ms; omega⟩ dX20_value_25) (fun H locs hw => ?_)
            refine W.eq (g2 := F0 m 28 ls [.int z14]) rfl ?_
            replace hn := add_r hn en
            replace hk := add_r hk ek
            clear en ek
            generalize n1 = n at hf hn
            generalize k1 = k at hf hk
            refine lv_if_eq (tgt := 33) hx hb dX20_value_28 (by decide) (fun c17 => ?_) (fun c17 => ?_)
            · replace hf := ite_t c17 hf
              refine lv_aload_n hx hb dX20_value_33 rfl (lv_at hl 0 rfl) ?_
              refine w_ldcS (k := 22) C rfl dX20_value_34 ?_
              revert hf
              refine k_req (fun k18 hf => ?_)
              rcases of_dxl hf with ⟨z20, U21, T22, na, ka, n1, k1, h19, hf, en, ek⟩ | ⟨z20, U21, T22, h19, hf⟩
              · refine x_in hw (xu_X20_87 (As := [.ref (adK G 22)]) C hw (Nat.le_of_ble_eq_true rfl) (Nat.le_of_ble_eq_true rfl) (ok_X6_isValue h19) k18 hl.1 rfl (Nat.le_of_ble_eq_true rfl) ⟨by show _ ≤ mc; omega, by show _ ≤ ms; omega⟩ dX20_value_36) (fun H locs hw => ?_)
                refine W.eq (g2 := F0 m 39 ls [.int z20]) rfl ?_
                replace hn := add_r hn en
                replace hk := add_r hk ek
                clear en ek
                generalize n1 = n at hf hn
                generalize k1 = k at hf hk
                refine lv_if_eq (tgt := 44) hx hb dX20_value_39 (by decide) (fun c23 => ?_) (fun c23 => ?_)
                · replace hf := ite_t c23 hf
                  refine lv_aload_n hx hb dX20_value_44 rfl (lv_at hl 0 rfl) ?_
                  refine w_ldcS (k := 23) C rfl dX20_value_45 ?_
                  revert hf
                  refine k_req (fun k24 hf => ?_)
                  rcases of_dxl hf with ⟨z26, U27, T28, na, ka, n1, k1, h25, hf, en, ek⟩ | ⟨z26, U27, T28, h25, hf⟩
                  · refine x_in hw (xu_X20_87 (As := [.ref (adK G 23)]) C hw (Nat.le_of_ble_eq_true rfl) (Nat.le_of_ble_eq_true rfl) (ok_X6_isValue h25) k24 hl.1 rfl (Nat.le_of_ble_eq_true rfl) ⟨by show _ ≤ mc; omega, by show _ ≤ ms; omega⟩ dX20_value_47) (fun H locs hw => ?_)
                    refine W.eq (g2 := F0 m 50 ls [.int z26]) rfl ?_
                    replace hn := add_r hn en
                    replace hk := add_r hk ek
                    clear en ek
                    generalize n1 = n at hf hn
                    generalize k1 = k at hf hk
                    refine lv_if_eq (tgt := 63) hx hb dX20_value_50 (by decide) (fun c29 => ?_) (fun c29 => ?_)
                    · replace hf := ite_t c29 hf
                      refine lv_aload_n hx hb dX20_value_63 rfl (lv_at hl 0 rfl) ?_
                      refine w_ldcS (k := 24) C rfl dX20_value_64 ?_
                      revert hf
                      refine k_req (fun k30 hf => ?_)
                      rcases of_dxl hf with ⟨z32, U33, T34, na, ka, n1, k1, h31, hf, en, ek⟩ | ⟨z32, U33, T34, h31, hf⟩
                      · refine x_in hw (xu_X20_87 (As := [.ref (adK G 24)]) C hw (Nat.le_of_ble_eq_true rfl) (Nat.le_of_ble_eq_true rfl) (ok_X6_isValue h31) k30 hl.1 rfl (Nat.le_of_ble_eq_true rfl) ⟨by show _ ≤ mc; omega, by show _ ≤ ms; omega⟩ dX20_value_66) (fun H locs hw => ?_)
                        refine W.eq (g2 := F0 m 69 ls [.int z32]) rfl ?_
                        replace hn := add_r hn en
                        replace hk := add_r hk ek
                        clear en ek
                        generalize n1 = n at hf hn
                        generalize k1 = k at hf hk
                        refine lv_if_eq (tgt := 83) hx hb dX20_value_69 (by decide) (fun c35 => ?_) (fun c35 => ?_)
                        · replace hf := ite_t c35 hf
                          refine lv_aload_n hx hb dX20_value_83 rfl (lv_at hl 0 rfl) ?_
                          refine w_ldcS (k := 25) C rfl dX20_value_84 ?_
                          revert hf
                          refine k_req (fun k36 hf => ?_)
                          rcases of_dxl hf with ⟨z38, U39, T40, na, ka, n1, k1, h37, hf, en, ek⟩ | ⟨z38, U39, T40, h37, hf⟩
                          · refine x_in hw (xu_X20_87 (As := [.ref (adK G 25)]) C hw (Nat.le_of_ble_eq_true rfl) (Nat.le_of_ble_eq_true rfl) (ok_X6_isValue h37) k36 hl.1 rfl (Nat.le_of_ble_eq_true rfl) ⟨by show _ ≤ mc; omega, by show _ ≤ ms; omega⟩ dX20_value_86) (fun H locs hw => ?_)
                            refine W.eq (g2 := F0 m 89 ls [.int z38]) rfl ?_
                            replace hn := add_r hn en
                            replace hk := add_r hk ek
                            clear en ek
                            generalize n1 = n at hf hn
                            generalize k1 = k at hf hk
                            refine lv_if_eq (tgt := 105) hx hb dX20_value_89 (by decide) (fun c41 => ?_) (fun c41 => ?_)
                            · replace hf := ite_t c41 hf
                              refine lv_iconst (v := ((-1) : Int32)) hx hb dX20_value_105 (by decide) ?_
                              cases hf
                              cases hn
                              cases hk
                              exact x_ret (w_iret C hr hw dX20_value_106)
                            · replace hf := ite_f c41 hf
                              refine lv_bipush (v := (20 : Int32)) hx hb dX20_value_92 (by decide) ?_
                              refine lv_aload_n hx hb dX20_value_94 rfl (lv_at hl 0 rfl) ?_
                              refine lv_iconst (v := (0 : Int32)) hx hb dX20_value_95 (by decide) ?_
                              refine lv_bipush (v := (7 : Int32)) hx hb dX20_value_96 (by decide) ?_
                              revert hf
                              refine k_req (fun k42 hf => ?_)
                              rcases of_dxl hf with ⟨z44, U45, T46, na, ka, n1, k1, h43, hf, en, ek⟩ | ⟨z44, U45, T46, h43, hf⟩
                              · refine x_in hw (xu_X20_64 (As := [.int (0 : Int32), .int (7 : Int32)]) C hw (Nat.le_of_ble_eq_true rfl) (Nat.le_of_ble_eq_true rfl) (ok_X6_number h43) k42 hl.1 rfl (Nat.le_of_ble_eq_true rfl) ⟨by show _ ≤ mc; omega, by show _ ≤ ms; omega⟩ dX20_value_98) (fun H locs hw => ?_)
                                refine W.eq (g2 := F0 m 101 ls [.int z44, .int (20 : Int32)]) rfl ?_
                                replace hn := add_r hn en
                                replace hk := add_r hk ek
                                clear en ek
                                generalize n1 = n at hf hn
                                generalize k1 = k at hf hk
                                refine lv_iadd hx hb dX20_value_101 ?_
                                refine lv_goto (tgt := 106) hx hb dX20_value_102 (by decide) ?_
                                cases hf
                                cases hn
                                cases hk
                                exact x_ret (w_iret C hr hw dX20_value_106)
                              · cases hf
                                refine x_out hw (xu_X20_64 (As := [.int (0 : Int32), .int (7 : Int32)]) C hw (Nat.le_of_ble_eq_true rfl) (Nat.le_of_ble_eq_true rfl) (ok_X6_number h43) k42 hl.1 rfl (Nat.le_of_ble_eq_true rfl) ⟨by show _ ≤ mc; omega, by show _ ≤ ms; omega⟩ dX20_value_98) (fun H locs ce hw g1 g2 g3 => ?_)
                                exact x_upE C hno hw g1 g2 g3 hn hk
                          · cases hf
                            refine x_out hw (xu_X20_87 (As := [.ref (adK G 25)]) C hw (Nat.le_of_ble_eq_true rfl) (Nat.le_of_ble_eq_true rfl) (ok_X6_isValue h37) k36 hl.1 rfl (Nat.le_of_ble_eq_true rfl) ⟨by show _ ≤ mc; omega, by show _ ≤ ms; omega⟩ dX20_value_86) (fun H locs ce hw g1 g2 g3 => ?_)
                            exact x_upE C hno hw g1 g2 g3 hn hk
                        · replace hf := ite_f c35 hf
                          refine lv_bipush (v := (12 : Int32)) hx hb dX20_value_72 (by decide) ?_
                          refine lv_aload_n hx hb dX20_value_74 rfl (lv_at hl 0 rfl) ?_
                          refine lv_iconst (v := (0 : Int32)) hx hb dX20_value_75 (by decide) ?_
                          refine lv_bipush (v := (7 : Int32)) hx hb dX20_value_76 (by decide) ?_
                          revert hf
                          refine k_req (fun k47 hf => ?_)
                          rcases of_dxl hf with ⟨z49, U50, T51, na, ka, n1, k1, h48, hf, en, ek⟩ | ⟨z49, U50, T51, h48, hf⟩
                          · refine x_in hw (xu_X20_64 (As := [.int (0 : Int32), .int (7 : Int32)]) C hw (Nat.le_of_ble_eq_true rfl) (Nat.le_of_ble_eq_true rfl) (ok_X6_number h48) k47 hl.1 rfl (Nat.le_of_ble_eq_true rfl) ⟨by show _ ≤ mc; omega, by show _ ≤ ms; omega⟩ dX20_value_78) (fun H locs hw => ?_)
                            refine W.eq (g2 := F0 m 81 ls [.int z49, .int (12 : Int32)]) rfl ?_
                            replace hn := add_r hn en
                            replace hk := add_r hk ek
                            clear en ek
                            generalize n1 = n at hf hn
                            generalize k1 = k at hf hk
                            refine lv_iadd hx hb dX20_value_81 ?_
                            cases hf
                            cases hn
                            cases hk
                            exact x_ret (w_iret C hr hw dX20_value_82)
                          · cases hf
                            refine x_out hw (xu_X20_64 (As := [.int (0 : Int32), .int (7 : Int32)]) C hw (Nat.le_of_ble_eq_true rfl) (Nat.le_of_ble_eq_true rfl) (ok_X6_number h48) k47 hl.1 rfl (Nat.le_of_ble_eq_true rfl) ⟨by show _ ≤ mc; omega, by show _ ≤ ms; omega⟩ dX20_value_78) (fun H locs ce hw g1 g2 g3 => ?_)
                            exact x_upE C hno hw g1 g2 g3 hn hk
                      · cases hf
                        refine x_out hw (xu_X20_87 (As := [.ref (adK G 24)]) C hw (Nat.le_of_ble_eq_true rfl) (Nat.le_of_ble_eq_true rfl) (ok_X6_isValue h31) k30 hl.1 rfl (Nat.le_of_ble_eq_true rfl) ⟨by show _ ≤ mc; omega, by show _ ≤ ms; omega⟩ dX20_value_66) (fun H locs ce hw g1 g2 g3 => ?_)
                        exact x_upE C hno hw g1 g2 g3 hn hk
                    · replace hf := ite_f c29 hf
                      refine lv_iconst (v := (4 : Int32)) hx hb dX20_value_53 (by decide) ?_
                      refine lv_aload_n hx hb dX20_value_54 rfl (lv_at hl 0 rfl) ?_
                      refine lv_iconst (v := (0 : Int32)) hx hb dX20_value_55 (by decide) ?_
                      refine lv_bipush (v := (7 : Int32)) hx hb dX20_value_56 (by decide) ?_
                      revert hf
                      refine k_req (fun k52 hf => ?_)
                      rcases of_dxl hf with ⟨z54, U55, T56, na, ka, n1, k1, h53, hf, en, ek⟩ | ⟨z54, U55, T56, h53, hf⟩
                      · refine x_in hw (xu_X20_64 (As := [.int (0 : Int32), .int (7 : Int32)]) C hw (Nat.le_of_ble_eq_true rfl) (Nat.le_of_ble_eq_true rfl) (ok_X6_number h53) k52 hl.1 rfl (Nat.le_of_ble_eq_true rfl) ⟨by show _ ≤ mc; omega, by show _ ≤ ms; omega⟩ dX20_value_58) (fun H locs hw => ?_)
                        refine W.eq (g2 := F0 m 61 ls [.int z54, .int (4 : Int32)]) rfl ?_
                        replace hn := add_r hn en
                        replace hk := add_r hk ek
                        clear en ek
                        generalize n1 = n at hf hn
                        generalize k1 = k at hf hk
                        refine lv_iadd hx hb dX20_value_61 ?_
                        cases hf
                        cases hn
                        cases hk
                        exact x_ret (w_iret C hr hw dX20_value_62)
                      · cases hf
                        refine x_out hw (xu_X20_64 (As := [.int (0 : Int32), .int (7 : Int32)]) C hw (Nat.le_of_ble_eq_true rfl) (Nat.le_of_ble_eq_true rfl) (ok_X6_number h53) k52 hl.1 rfl (Nat.le_of_ble_eq_true rfl) ⟨by show _ ≤ mc; omega, by show _ ≤ ms; omega⟩ dX20_value_58) (fun H locs ce hw g1 g2 g3 => ?_)
                        exact x_upE C hno hw g1 g2 g3 hn hk
                  · cases hf
                    refine x_out hw (xu_X20_87 (As := [.ref (adK G 23)]) C hw (Nat.le_of_ble_eq_true rfl) (Nat.le_of_ble_eq_true rfl) (ok_X6_isValue h25) k24 hl.1 rfl (Nat.le_of_ble_eq_true rfl) ⟨by show _ ≤ mc; omega, by show _ ≤ ms; omega⟩ dX20_value_47) (fun H locs ce hw g1 g2 g3 => ?_)
                    exact x_upE C hno hw g1 g2 g3 hn hk
                · replace hf := ite_f c23 hf
                  refine lv_iconst (v := (3 : Int32)) hx hb dX20_value_42 (by decide) ?_
                  cases hf
                  cases hn
                  cases hk
                  exact x_ret (w_iret C hr hw dX20_value_43)
              · cases hf
                refine x_out hw (xu_X20_87 (As := [.ref (adK G 22)]) C hw (Nat.le_of_ble_eq_true rfl) (Nat.le_of_ble_eq_true rfl) (ok_X6_isValue h19) k18 hl.1 rfl (Nat.le_of_ble_eq_true rfl) ⟨by show _ ≤ mc; omega, by show _ ≤ ms; omega⟩ dX20_value_36) (fun H locs ce hw g1 g2 g3 => ?_)
                exact x_upE C hno hw g1 g2 g3 hn hk
            · replace hf := ite_f c17 hf
              refine lv_iconst (v := (2 : Int32)) hx hb dX20_value_31 (by decide) ?_
              cases hf
              cases hn
              cases hk
              exact x_ret (w_iret C hr hw dX20_value_32)
          · cases hf
            refine x_out hw (xu_X20_87 (As := [.ref (adK G 21)]) C hw (Nat.le_of_ble_eq_true rfl) (Nat.le_of_ble_eq_true rfl) (ok_X6_isValue h13) k12 hl.1 rfl (Nat.le_of_ble_eq_true rfl) ⟨by show _ ≤ mc; omega, by show _ ≤ ms; omega⟩ dX20_value_25) (fun H locs ce hw g1 g2 g3 => ?_)
            exact x_upE C hno hw g1 g2 g3 hn hk
        · replace hf := ite_f c11 hf
          refine lv_iconst (v := (1 : Int32)) hx hb dX20_value_20 (by decide) ?_
          cases hf
          cases hn
          cases hk
          exact x_ret (w_iret C hr hw dX20_value_21)
      · cases hf
        refine x_out hw (xu_X20_87 (As := [.ref (adK G 20)]) C hw (Nat.le_of_ble_eq_true rfl) (Nat.le_of_ble_eq_true rfl) (ok_X6_isValue h7) k6 hl.1 rfl (Nat.le_of_ble_eq_true rfl) ⟨by show _ ≤ mc; omega, by show _ ≤ ms; omega⟩ dX20_value_14) (fun H locs ce hw g1 g2 g3 => ?_)
        exact x_upE C hno hw g1 g2 g3 hn hk
    · replace hf := ite_f c5 hf
      refine lv_iconst (v := (0 : Int32)) hx hb dX20_value_9 (by decide) ?_
      cases hf
      cases hn
      cases hk
      exact x_ret (w_iret C hr hw dX20_value_10)
  · cases hf
    refine x_out hw (xu_X20_87 (As := [.ref (adK G 19)]) C hw (Nat.le_of_ble_eq_true rfl) (Nat.le_of_ble_eq_true rfl) (ok_X6_isValue h1) k0 hl.1 rfl (Nat.le_of_ble_eq_true rfl) ⟨by show _ ≤ mc; omega, by show _ ≤ ms; omega⟩ dX20_value_3) (fun H locs ce hw g1 g2 g3 => ?_)
    exact x_upE C hno hw g1 g2 g3 hn hk
def f_value (T : Tt) (V : Vt) (a : Nat) : Option (((Int32 ⊕ Nat) × Vt × Tt) × Nat × Nat) := if T.1 a = 7 then f_X7_value T V a else if T.1 a = 18 then f_X20_value T V a else none
theorem ok_value {l : Launch} {G : gG} {T : Tt} {V : Vt} {a : Nat} {r : Int32 ⊕ Nat} {V' : Vt} {T' : Tt} {n k : Nat} (h : f_value T V a = some ((r, V', T'), n, k)) : vValue l G 12 T V a r V' T' n k := by
  unfold f_value at h
  by_cases c1 : T.1 a = 7
  · exact ⟨7, by omega, Or.inl ⟨c1, ok_X7_value (ite_t c1 h)⟩⟩
  · have h := ite_f c1 h
    by_cases c2 : T.1 a = 18
    · exact ⟨7, by omega, Or.inr ⟨c2, ok_X20_value (ite_t c2 h)⟩⟩
    · cases ite_f c2 h
