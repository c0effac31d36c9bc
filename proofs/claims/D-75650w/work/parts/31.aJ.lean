set_option maxRecDepth 100000
def f_J0_init (T : Tt) (V0 : Vt) (o : Nat) : Option (Unit) :=
  req (T.1 o = 20) (some ())
def f_J1_init (T : Tt) (V0 : Vt) (o : Nat) : Option (Vt) :=
  req (T.1 o = 20) (pcl (f_J0_init T V0 o) (fun z2 => stp (uI V0 o 0 (0 : Int32)) (fun U3 => some U3)))
def f_J11_newLength (T : Tt) (V0 : Vt) (a0 : Int32) (a1 : Int32) (a2 : Int32) : Option (Int32) :=
  stp (a0 + (if a1 < a2 then a2 else a1)) (fun z1 => if z1 ≤ (0 : Int32) then (none) else (if (2147483639 : Int32) < z1 then (none) else (some z1)))
def f_J2_init (T : Tt) (V0 : Vt) (o : Nat) (a0 : Int32) : Option ((Vt × Tt) × Nat × Nat) :=
  req (T.1 o = 20) (pcl (f_J1_init T V0 o) (fun U3 => if a0 ≤ 0 then (none) else (req (¬ a0 < 0 ∧ ixN a0 ≤ 100000) (inc 1 (ixN a0) (stp T.2.2 (fun q6 => stp (zV U3 q6) (fun U7 => stp (aT T 104 (ixN a0)) (fun T8 => req (T8.1 o = 20) (stp (uR U7 o 1 (some q6)) (fun U10 => some ((U10, T8), 0, 0)))))))))))
def f_J2_clear_L27 (T : Tt) (x1 : Nat) (x2 : Int32) (kx27_42 : Vt → Option (Vt)) : Nat → Int32 → Vt → Option (Vt)
  | 0, _, _ => none
  | n + 1, x3, V1 => if x2 ≤ x3 then (kx27_42 V1) else (req (aIn T x1 4 x3) (stp (uR V1 x1 (ixN x3) none) (fun U7 => stp (x3 + (1 : Int32)) (fun z8 => (f_J2_clear_L27 T x1 x2 kx27_42 n) z8 U7))))
def f_J2_clear (T : Tt) (V0 : Vt) (o : Nat) : Option (Vt) :=
  req (T.1 o = 20) (stp (uI V0 o 0 ((V0.1 o 0) + (1 : Int32))) (fun U1 => drf (U1.2.2 o 1) (fun r2 => stp (U1.1 o 2) (fun z3 => stp (uI U1 o 2 (0 : Int32)) (fun U4 => f_J2_clear_L27 T r2 z3 (fun U9 => some U9) fuel (0 : Int32) U4)))))
def f_J2_toArray (T : Tt) (V0 : Vt) (o : Nat) : Option ((Nat × Vt × Tt) × Nat × Nat) :=
  req (T.1 o = 20) (drf (V0.2.2 o 1) (fun r1 => dcl (f_J12_copyOf T V0 r1 (V0.1 o 2)) (fun r3 U4 T5 => some ((r3, U4, T5), 0, 0))))
def f_J2_grow (T : Tt) (V0 : Vt) (o : Nat) (a0 : Int32) : Option ((Nat × Vt × Tt) × Nat × Nat) :=
  req (T.1 o = 20) (drf (V0.2.2 o 1) (fun r1 => req (T.1 r1 = 104) (stp (nI (T.2.1 r1)) (fun z3 => if 0 < z3 then (pcl (f_J11_newLength T V0 z3 (a0 - z3) (z3 >>> ((1 : Int32) &&& 31))) (fun z6 => drf (V0.2.2 o 1) (fun r7 => dcl (f_J12_copyOf T V0 r7 z6) (fun r9 U10 T11 => req (T11.1 o = 20) (stp (uR U10 o 1 (some r9)) (fun U13 => some ((r9, U13, T11), 0, 0))))))) else (none)))))
def f_J2_addAll_J56 (T : Tt) (V0 : Vt) (x0 : Nat) (x2 : Nat) (x3 : Int32) (x4 : Nat) (x5 : Int32) : Option ((Int32 × Vt × Tt) × Nat × Nat) :=
  req (cpIn T 4 x2 x4 (0 : Int32) x5 x3) (req (okEl V0 T x2 (ixN (0 : Int32)) (ixN x3) = true) (stp (cpR V0 x2 (ixN (0 : Int32)) x4 (ixN x5) (ixN x3)) (fun U16 => req (T.1 x0 = 20) (stp (uI U16 x0 2 (x5 + x3)) (fun U18 => some (((1 : Int32), U18, T), 0, 0))))))
def f_J2_addAll (T : Tt) (V0 : Vt) (o : Nat) (a0 : Nat) : Option ((Int32 × Vt × Tt) × Nat × Nat) :=
  req (T.1 o = 20) (dcl (f_J2_toArray T V0 a0) (fun r2 U3 T4 => req (T4.1 o = 20) (stp (uI U3 o 0 ((U3.1 o 0) + (1 : Int32))) (fun U6 => req (T4.1 r2 = 104) (stp (nI (T4.2.1 r2)) (fun z8 => if z8 = 0 then (some (((0 : Int32), U6, T4), 0, 0)) else (drf (U6.2.2 o 1) (fun r10 => req (T4.1 r10 = 104) (stp (U6.1 o 2) (fun z12 => if z8 ≤ ((nI (T4.2.1 r10)) - (U6.1 o 2)) then (f_J2_addAll_J56 T4 U6 o r2 z8 r10 z12) else (dcl (f_J2_grow T4 U6 o (z12 + z8)) (fun r20 U21 T22 => f_J2_addAll_J56 T22 U21 o r2 z8 r20 z12))))))))))))
def f_J6_checkIndex (T : Tt) (V0 : Vt) (a0 : Int32) (a1 : Int32) : Option (Int32) :=
  if a0 < 0 then (none) else (if a0 < a1 then (some a0) else (none))
def f_J5_checkIndex (T : Tt) (V0 : Vt) (a0 : Int32) (a1 : Int32) : Option (Int32) :=
  pcl (f_J6_checkIndex T V0 a0 a1) (fun z2 => some z2)
def f_J2_elementData (T : Tt) (V0 : Vt) (o : Nat) (a0 : Int32) : Option (Nat) :=
  req (T.1 o = 20) (drf (V0.2.2 o 1) (fun r1 => req (aIn T r1 4 a0) (drf (V0.2.2 r1 (ixN a0)) (fun r3 => some r3))))
def f_J2_get (T : Tt) (V0 : Vt) (o : Nat) (a0 : Int32) : Option (Nat) :=
  req (T.1 o = 20) (pcl (f_J5_checkIndex T V0 a0 (V0.1 o 2)) (fun z2 => pcl (f_J2_elementData T V0 o a0) (fun r4 => some r4)))
def f_J2_size (T : Tt) (V0 : Vt) (o : Nat) : Option (Int32) :=
  req (T.1 o = 20) (some (V0.1 o 2))
def f_J2_grow_2 (T : Tt) (V0 : Vt) (o : Nat) : Option ((Nat × Vt × Tt) × Nat × Nat) :=
  req (T.1 o = 20) (dcl (f_J2_grow T V0 o ((V0.1 o 2) + (1 : Int32))) (fun r2 U3 T4 => some ((r2, U3, T4), 0, 0)))
def f_J2_add_2_J11 (T : Tt) (V0 : Vt) (x0 : Nat) (x1 : Nat) (x2 : Nat) (x3 : Int32) : Option ((Vt × Tt) × Nat × Nat) :=
  req (aIn T x2 4 x3) (req (stK4 T x1) (stp (uR V0 x2 (ixN x3) (some x1)) (fun U5 => req (T.1 x0 = 20) (stp (uI U5 x0 2 (x3 + (1 : Int32))) (fun U7 => some ((U7, T), 0, 0))))))
def f_J2_add_2 (T : Tt) (V0 : Vt) (o : Nat) (a0 : Nat) (a1 : Nat) (a2 : Int32) : Option ((Vt × Tt) × Nat × Nat) :=
  req (T.1 o = 20) (req (T.1 a1 = 104) (if a2 = (nI (T.2.1 a1)) then (dcl (f_J2_grow_2 T V0 o) (fun r9 U10 T11 => f_J2_add_2_J11 T11 U10 o a0 r9 a2)) else (f_J2_add_2_J11 T V0 o a0 a1 a2)))
def f_J2_add (T : Tt) (V0 : Vt) (o : Nat) (a0 : Nat) : Option ((Int32 × Vt × Tt) × Nat × Nat) :=
  req (T.1 o = 20) (stp (uI V0 o 0 ((V0.1 o 0) + (1 : Int32))) (fun U1 => drf (U1.2.2 o 1) (fun r2 => dcv (f_J2_add_2 T U1 o a0 r2 (U1.1 o 2)) (fun U5 T6 => some (((1 : Int32), U5, T6), 0, 0)))))
set_option maxHeartbeats 4000000 in
theorem ok_J0_init {l : Launch} {G : gG} {T : Tt} {V0 : Vt} {o : Nat} {r : Unit} (hf : f_J0_init T V0 o = some r) : okM l G yJ0_init cJ0_init 1 none 1 [.ref (gb G + o)] V0 T none V0 T 0 0 := by
  refine ok_intro (by decide) (Nat.le_of_ble_eq_true rfl) ?_
  intro p e s m below meth c ls C hr hnm hw hl
  have hx := C.1
  have hb := C.2.1
  have hown := C.2.2.2.1
  have hts := C.2.2.2.2.1
  have hl : lv_has ls 1 [(0, .ref (gb G + o))] := hl
  unfold f_J0_init at hf
  revert hf
  refine k_req (fun k0 hf => ?_)
  refine lv_aload_n hx hb dJ0_init_0 rfl (lv_at hl 0 rfl) ?_
  refine W.objInit hx hb hown (hts _ q213) (hts _ q174) (hts _ q175) rfl (by rw [C.2.2.1]; exact hl.1) rfl dJ0_init_1 (Nat.le_of_ble_eq_true rfl) (Nat.le_of_ble_eq_true rfl) ?_
  refine W.eq (g2 := F0 m 4 ls []) rfl ?_
  cases hf
  exact w_vret C hr hw dJ0_init_4
set_option maxHeartbeats 4000000 in
theorem ok_J1_init {l : Launch} {G : gG} {T : Tt} {V0 : Vt} {o : Nat} {V' : Vt} (hf : f_J1_init T V0 o = some V') : okM l G yJ1_init cJ1_init 1 none 2 [.ref (gb G + o)] V0 T none V' T 0 0 := by
  refine ok_intro (by decide) (Nat.le_of_ble_eq_true rfl) ?_
  intro p e s m below meth c ls C hr hnm hw hl
  have hx := C.1
  have hb := C.2.1
  have hown := C.2.2.2.1
  have hts := C.2.2.2.2.1
  have hl : lv_has ls 1 [(0, .ref (gb G + o))] := hl
  unfold f_J1_init at hf
  revert hf
  refine k_req (fun k0 hf => ?_)
  refine lv_aload_n hx hb dJ1_init_0 rfl (lv_at hl 0 rfl) ?_
  revert hf
  refine k_pcl (fun z2 h1 hf => ?_)
  refine w_afv hw (w_rI (As := []) C hw (ok_J0_init h1) (cw_J1_1 hts (Nat.le_of_ble_eq_true rfl) (Nat.le_of_ble_eq_true rfl)) rfl hl.1 rfl (Nat.le_of_ble_eq_true rfl) ⟨Nat.zero_le _, Nat.zero_le _⟩ dJ1_init_1) (fun H locs hw => ?_)
  refine lv_aload_n hx hb dJ1_init_4 rfl (lv_at hl 0 rfl) ?_
  refine lv_iconst (v := (0 : Int32)) hx hb dJ1_init_5 (by decide) ?_
  revert hf
  refine k_stp (fun U3 eU3 hf => ?_)
  refine pf_J1_7 C hw k0 eU3 dJ1_init_6 (fun H locs hw => ?_)
  cases hf
  exact w_vret C hr hw dJ1_init_9
set_option maxHeartbeats 4000000 in
theorem ok_J11_newLength {l : Launch} {G : gG} {T : Tt} {V0 : Vt} {a0 : Int32} {a1 : Int32} {a2 : Int32} {r : Int32} (hf : f_J11_newLength T V0 a0 a1 a2 = some r) : okM l G yJ11_newLength cJ11_newLength 4 (some .int) 1 [.int a0, .int a1, .int a2] V0 T (some (.int r)) V0 T 0 0 := by
  refine ok_intro (by decide) (Nat.le_of_ble_eq_true rfl) ?_
  intro p e s m below meth c ls C hr hnm hw hl
  have hx := C.1
  have hb := C.2.1
  have hown := C.2.2.2.1
  have hts := C.2.2.2.2.1
  have hl : lv_has ls 4 [(0, .int a0), (1, .int a1), (2, .int a2)] := hl
  unfold f_J11_newLength at hf
  refine lv_iload_n hx hb dJ11_newLength_0 rfl (lv_at hl 0 rfl) ?_
  refine lv_iload_n hx hb dJ11_newLength_1 rfl (lv_at hl 1 rfl) ?_
  refine lv_iload_n hx hb dJ11_newLength_2 rfl (lv_at hl 2 rfl) ?_
  refine va_mmax hx hb (C.2.2.1.trans hl.1.symm) hown (hts _ q526) (hts _ q527) (hts _ q145) (hts _ q528) (Nat.le_of_ble_eq_true rfl) (Nat.le_of_ble_eq_true rfl) (Nat.zero_le _) (Nat.zero_le _) dJ11_newLength_3 ?_
  refine lv_iadd hx hb dJ11_newLength_6 ?_
  revert hf
  refine k_stp (fun z1 ez1 hf => ?_)
  refine w_nmI ez1 ?_
  refine lv_istore_n (lv' := [(3, .int z1), (0, .int a0), (1, .int a1), (2, .int a2)]) hx hb dJ11_newLength_7 rfl hl (by decide) rfl (fun ls hl => ?_)
  refine lv_iconst (v := (0 : Int32)) hx hb dJ11_newLength_8 (by decide) ?_
  refine lv_iload_n hx hb dJ11_newLength_9 rfl (lv_at hl 0 rfl) ?_
  refine lv_icmp_ge (tgt := 21) hx hb dJ11_newLength_10 (by decide) (fun c2 => ?_) (fun c2 => ?_)
  · replace hf := ite_t c2 hf
    cases hf
  · replace hf := ite_f c2 hf
    refine lv_iload_n hx hb dJ11_newLength_13 rfl (lv_at hl 0 rfl) ?_
    refine lv_ldc (v := (2147483639 : Int32)) hx hb hown (hts _ q529) dJ11_newLength_14 ?_
    refine lv_icmp_gt (tgt := 21) hx hb dJ11_newLength_16 (by decide) (fun c3 => ?_) (fun c3 => ?_)
    · replace hf := ite_t c3 hf
      cases hf
    · replace hf := ite_f c3 hf
      refine lv_iload_n hx hb dJ11_newLength_19 rfl (lv_at hl 0 rfl) ?_
      cases hf
      exact w_iret C hr hw dJ11_newLength_20
set_option maxHeartbeats 4000000 in
theorem ok_J2_init {l : Launch} {G : gG} {T : Tt} {V0 : Vt} {o : Nat} {a0 : Int32} {V' : Vt} {T' : Tt} {n k : Nat} (hf : f_J2_init T V0 o a0 = some ((V', T'), n, k)) : okM l G yJ2_init cJ2_init 2 none 3 [.ref (gb G + o), .int a0] V0 T none V' T' n k := by
  refine ok_intro (by decide) (Nat.le_of_ble_eq_true rfl) ?_
  intro p e s m below meth c ls C hr hnm hw hl
  have hx := C.1
  have hb := C.2.1
  have hown := C.2.2.2.1
  have hts := C.2.2.2.2.1
  have hl : lv_has ls 2 [(0, .ref (gb G + o)), (1, .int a0)] := hl
  unfold f_J2_init at hf
  revert hf
  refine k_req (fun k0 hf => ?_)
  obtain ⟨mc, emc⟩ : ∃ mc, mc = n := ⟨_, rfl⟩
  obtain ⟨ms, ems⟩ : ∃ ms, ms = k := ⟨_, rfl⟩
  have hn : 0 + n = mc := by omega
  have hk : 0 + k = ms := by omega
  rw [← emc, ← ems]
  clear emc ems
  refine lv_aload_n hx hb dJ2_init_0 rfl (lv_at hl 0 rfl) ?_
  revert hf
  refine k_pcl (fun U3 h1 hf => ?_)
  refine w_afv hw (w_rI (As := []) C hw (ok_J1_init h1) (cw_J2_1 hts (Nat.le_of_ble_eq_true rfl) (Nat.le_of_ble_eq_true rfl)) rfl hl.1 rfl (Nat.le_of_ble_eq_true rfl) ⟨by show _ + 0 ≤ mc; omega, by show _ + 0 ≤ ms; omega⟩ dJ2_init_1) (fun H locs hw => ?_)
  refine lv_iload_n hx hb dJ2_init_4 rfl (lv_at hl 1 rfl) ?_
  refine lv_if_le (tgt := 19) hx hb dJ2_init_5 (by decide) (fun c4 => ?_) (fun c4 => ?_)
  · replace hf := ite_t c4 hf
    cases hf
  · replace hf := ite_f c4 hf
    refine lv_aload_n hx hb dJ2_init_8 rfl (lv_at hl 0 rfl) ?_
    refine lv_iload_n hx hb dJ2_init_9 rfl (lv_at hl 1 rfl) ?_
    revert hf
    refine k_req (fun h5 hf => ?_)
    revert hf
    refine k_inc (fun n1 k1 hf en ek => ?_)
    revert hf
    refine k_stp (fun q6 eq6 hf => ?_)
    revert hf
    refine k_stp (fun U7 eU7 hf => ?_)
    revert hf
    refine k_stp (fun T8 eT8 hf => ?_)
    refine w_anew (t := 4) C hw (by decide) (by decide) rfl q214 q215 h5.1 h5.2 (by show _ ≤ mc; omega) (by show _ ≤ ms; omega) eq6 eU7 eT8 dJ2_init_10 (fun H hw => ?_)
    replace hn := add_r hn en
    replace hk := add_r hk ek
    clear en ek
    generalize n1 = n at hf hn
    generalize k1 = k at hf hk
    revert hf
    refine k_req (fun k9 hf => ?_)
    revert hf
    refine k_stp (fun U10 eU10 hf => ?_)
    refine pf_J2_9 C hw k9 eU10 dJ2_init_13 (fun H locs hw => ?_)
    refine lv_goto (tgt := 60) hx hb dJ2_init_16 (by decide) ?_
    cases hf
    cases hn
    cases hk
    exact w_vret C hr hw dJ2_init_60
set_option maxHeartbeats 4000000 in
theorem lk_J2_clear_27 {l : Launch} {G : gG} {p : Program} {e : Env} {s : State} {m : MethodId} {args : Array Value} {below : List Frame} {meth : Method} {c : Code} {T : Tt} {V' : Vt} (C : Cx G p s m args meth c cJ2_clear RJ2 4) (hr : meth.sig.returnType = none) {x1 : Nat} {x2 : Int32} {kx27_42 : Vt → Option (Vt)} (hkx27_42 : ∀ (W1 : Vt) (H : Heap) (locs : List Loc) (ls : Array Slot), kx27_42 W1 = some V' → wS G W1 T H locs → lv_has ls 4 [] → W p l e (rmL 0 0 0) s m args below meth c H locs 0 0 (eQ G below none V' T args s 0 0) (F0 m 42 ls [])) : ∀ (n : Nat) (x3 : Int32) (V1 : Vt) (H : Heap) (locs : List Loc) (ls : Array Slot), f_J2_clear_L27 T x1 x2 kx27_42 n x3 V1 = some V' → wS G V1 T H locs → lv_has ls 4 [(1, .ref (gb G + x1)), (2, .int x2), (3, .int x3)] → W p l e (rmL 0 0 0) s m args below meth c H locs 0 0 (eQ G below none V' T args s 0 0) (F0 m 27 ls []) := by
  have hx := C.1
  have hb := C.2.1
  have hown := C.2.2.2.1
  have hts := C.2.2.2.2.1
  intro n
  induction n with
  | zero =>
    intro x3 V1 H locs ls hf
    cases hf
  | succ n ih =>
    intro x3 V1 H locs ls hf hw hl
    unfold f_J2_clear_L27 at hf
    refine lv_iload_n hx hb dJ2_clear_27 rfl (lv_at hl 2 rfl) ?_
    refine lv_iload_n hx hb dJ2_clear_28 rfl (lv_at hl 1 rfl) ?_
    refine lv_icmp_ge (tgt := 42) hx hb dJ2_clear_29 (by decide) (fun c5 => ?_) (fun c5 => ?_)
    · replace hf := ite_t c5 hf
      exact hkx27_42 _ _ _ _ hf hw (lv_sub hl [] rfl)
    · replace hf := ite_f c5 hf
      refine lv_aload_n hx hb dJ2_clear_32 rfl (lv_at hl 0 rfl) ?_
      refine lv_iload_n hx hb dJ2_clear_33 rfl (lv_at hl 2 rfl) ?_
      refine lv_null hx hb dJ2_clear_34 ?_
      revert hf
      refine k_req (fun h6 hf => ?_)
      revert hf
      refine k_stp (fun U7 eU7 hf => ?_)
      refine w_aastN C hw (by decide) (by decide) h6 eU7 dJ2_clear_35 (fun H locs hw => ?_)
      revert hf
      refine k_stp (fun z8 ez8 hf => ?_)
      refine lv_iinc (k := 2) (lv' := [(3, .int z8), (1, .ref (gb G + x1)), (2, .int x2)]) hx hb dJ2_clear_36 hl rfl (inc_e (by decide) ez8) (by decide) rfl (fun ls hl => ?_)
      refine lv_goto (tgt := 27) hx hb dJ2_clear_39 (by decide) ?_
      exact ih _ _ _ _ _ hf hw (lv_sub hl [1, 2, 0] rfl)
set_option maxHeartbeats 4000000 in
theorem ok_J2_clear {l : Launch} {G : gG} {T : Tt} {V0 : Vt} {o : Nat} {V' : Vt} (hf : f_J2_clear T V0 o = some V') : okM l G yJ2_clear cJ2_clear 4 none 0 [.ref (gb G + o)] V0 T none V' T 0 0 := by
  refine ok_intro (by decide) (Nat.le_of_ble_eq_true rfl) ?_
  intro p e s m below meth c ls C hr hnm hw hl
  have hx := C.1
  have hb := C.2.1
  have hown := C.2.2.2.1
  have hts := C.2.2.2.2.1
  have hl : lv_has ls 4 [(0, .ref (gb G + o))] := hl
  unfold f_J2_clear at hf
  revert hf
  refine k_req (fun k0 hf => ?_)
  refine lv_aload_n hx hb dJ2_clear_0 rfl (lv_at hl 0 rfl) ?_
  refine lv_dup hx hb dJ2_clear_1 rfl ?_
  refine gf_J2_63 C hw k0 dJ2_clear_2 ?_
  refine lv_iconst (v := (1 : Int32)) hx hb dJ2_clear_5 (by decide) ?_
  refine lv_iadd hx hb dJ2_clear_6 ?_
  revert hf
  refine k_stp (fun U1 eU1 hf => ?_)
  refine pf_J2_63 C hw k0 eU1 dJ2_clear_7 (fun H locs hw => ?_)
  refine lv_aload_n hx hb dJ2_clear_10 rfl (lv_at hl 0 rfl) ?_
  revert hf
  refine k_drf (fun r2 er2 hf => ?_)
  refine gf_J2_9 C hw k0 er2 dJ2_clear_11 ?_
  refine lv_astore_n (lv' := [(1, .ref (gb G + r2)), (0, .ref (gb G + o))]) hx hb dJ2_clear_14 rfl hl (by decide) rfl (fun ls hl => ?_)
  refine lv_aload_n hx hb dJ2_clear_15 rfl (lv_at hl 1 rfl) ?_
  refine gf_J2_48 C hw k0 dJ2_clear_16 ?_
  revert hf
  refine k_stp (fun z3 ez3 hf => ?_)
  refine w_nmI ez3 ?_
  refine lv_istore_n (lv' := [(2, .int z3), (1, .ref (gb G + r2)), (0, .ref (gb G + o))]) hx hb dJ2_clear_19 rfl hl (by decide) rfl (fun ls hl => ?_)
  refine lv_aload_n hx hb dJ2_clear_20 rfl (lv_at hl 2 rfl) ?_
  refine lv_iconst (v := (0 : Int32)) hx hb dJ2_clear_21 (by decide) ?_
  refine lv_dup_x1 hx hb dJ2_clear_22 rfl rfl ?_
  revert hf
  refine k_stp (fun U4 eU4 hf => ?_)
  refine pf_J2_48 C hw k0 eU4 dJ2_clear_23 (fun H locs hw => ?_)
  refine lv_istore_n (lv' := [(3, .int (0 : Int32)), (2, .int z3), (1, .ref (gb G + r2)), (0, .ref (gb G + o))]) hx hb dJ2_clear_26 rfl hl (by decide) rfl (fun ls hl => ?_)
  refine lk_J2_clear_27 C hr (fun U9 H locs ls hf hw hl => ?_) fuel _ _ _ _ _ hf hw (lv_sub hl [2, 1, 0] rfl)
  cases hf
  exact w_vret C hr hw dJ2_clear_42
set_option maxHeartbeats 4000000 in
theorem ok_J2_toArray {l : Launch} {G : gG} {T : Tt} {V0 : Vt} {o : Nat} {r : Nat} {V' : Vt} {T' : Tt} {n k : Nat} (hf : f_J2_toArray T V0 o = some ((r, V', T'), n, k)) : okM l G yJ2_toArray cJ2_toArray 1 (some (.array (.object "java/lang/Object"))) 4 [.ref (gb G + o)] V0 T (some (.ref (gb G + r))) V' T' n k := by
  refine ok_intro (by decide) (Nat.le_of_ble_eq_true rfl) ?_
  intro p e s m below meth c ls C hr hnm hw hl
  have hx := C.1
  have hb := C.2.1
  have hown := C.2.2.2.1
  have hts := C.2.2.2.2.1
  have hl : lv_has ls 1 [(0, .ref (gb G + o))] := hl
  unfold f_J2_toArray at hf
  revert hf
  refine k_req (fun k0 hf => ?_)
  obtain ⟨mc, emc⟩ : ∃ mc, mc = n := ⟨_, rfl⟩
  obtain ⟨ms, ems⟩ : ∃ ms, ms = k := ⟨_, rfl⟩
  have hn : 0 + n = mc := by omega
  have hk : 0 + k = ms := by omega
  rw [← emc, ← ems]
  clear emc ems
  refine lv_aload_n hx hb dJ2_toArray_0 rfl (lv_at hl 0 rfl) ?_
  revert hf
  refine k_drf (fun r1 er1 hf => ?_)
  refine gf_J2_9 C hw k0 er1 dJ2_toArray_1 ?_
  refine lv_aload_n hx hb dJ2_toArray_4 rfl (lv_at hl 0 rfl) ?_
  refine gf_J2_48 C hw k0 dJ2_toArray_5 ?_
  revert hf
  refine k_dcl (fun r3 U4 T5 na ka n1 k1 h2 hf en ek => ?_)
  refine w_afr hw (w_rS (As := [.ref (gb G + r1), .int (V0.1 o 2)]) C hw (ok_J12_copyOf h2) (cw_J2_66 hts (Nat.le_of_ble_eq_true rfl) (Nat.le_of_ble_eq_true rfl)) rfl hl.1 rfl (Nat.le_of_ble_eq_true rfl) ⟨by show _ ≤ mc; omega, by show _ ≤ ms; omega⟩ dJ2_toArray_8) (fun H locs hw => ?_)
  replace hn := add_r hn en
  replace hk := add_r hk ek
  clear en ek
  generalize n1 = n at hf hn
  generalize k1 = k at hf hk
  cases hf
  cases hn
  cases hk
  exact w_aret C hr (Or.inr ⟨_, rfl⟩) (Or.inr ⟨_, rfl⟩) hw dJ2_toArray_11
set_option maxHeartbeats 4000000 in
theorem ok_J2_grow {l : Launch} {G : gG} {T : Tt} {V0 : Vt} {o : Nat} {a0 : Int32} {r : Nat} {V' : Vt} {T' : Tt} {n k : Nat} (hf : f_J2_grow T V0 o a0 = some ((r, V', T'), n, k)) : okM l G yJ2_grow cJ2_grow 4 (some (.array (.object "java/lang/Object"))) 4 [.ref (gb G + o), .int a0] V0 T (some (.ref (gb G + r))) V' T' n k := by
  refine ok_intro (by decide) (Nat.le_of_ble_eq_true rfl) ?_
  intro p e s m below meth c ls C hr hnm hw hl
  have hx := C.1
  have hb := C.2.1
  have hown := C.2.2.2.1
  have hts := C.2.2.2.2.1
  have hl : lv_has ls 4 [(0, .ref (gb G + o)), (1, .int a0)] := hl
  unfold f_J2_grow at hf
  revert hf
  refine k_req (fun k0 hf => ?_)
  obtain ⟨mc, emc⟩ : ∃ mc, mc = n := ⟨_, rfl⟩
  obtain ⟨ms, ems⟩ : ∃ ms, ms = k := ⟨_, rfl⟩
  have hn : 0 + n = mc := by omega
  have hk : 0 + k = ms := by omega
  rw [← emc, ← ems]
  clear emc ems
  refine lv_aload_n hx hb dJ2_grow_0 rfl (lv_at hl 0 rfl) ?_
  revert hf
  refine k_drf (fun r1 er1 hf => ?_)
  refine gf_J2_9 C hw k0 er1 dJ2_grow_1 ?_
  revert hf
  refine k_req (fun h2 hf => ?_)
  refine w_alen (t := 4) C hw (by decide) h2 dJ2_grow_4 ?_
  revert hf
  refine k_stp (fun z3 ez3 hf => ?_)
  refine w_nmI ez3 ?_
  refine lv_istore_n (lv' := [(2, .int z3), (0, .ref (gb G + o)), (1, .int a0)]) hx hb dJ2_grow_5 rfl hl (by decide) rfl (fun ls hl => ?_)
  refine lv_iload_n hx hb dJ2_grow_6 rfl (lv_at hl 0 rfl) ?_
  refine lv_if_gt (tgt := 20) hx hb dJ2_grow_7 (by decide) (fun c4 => ?_) (fun c4 => ?_)
  · replace hf := ite_t c4 hf
    refine lv_iload_n hx hb dJ2_grow_20 rfl (lv_at hl 0 rfl) ?_
    refine lv_iload_n hx hb dJ2_grow_21 rfl (lv_at hl 2 rfl) ?_
    refine lv_iload_n hx hb dJ2_grow_22 rfl (lv_at hl 0 rfl) ?_
    refine lv_isub hx hb dJ2_grow_23 ?_
    refine lv_iload_n hx hb dJ2_grow_24 rfl (lv_at hl 0 rfl) ?_
    refine lv_iconst (v := (1 : Int32)) hx hb dJ2_grow_25 (by decide) ?_
    refine lv_ishr hx hb dJ2_grow_26 ?_
    revert hf
    refine k_pcl (fun z6 h5 hf => ?_)
    refine w_afi hw (w_rS (As := [.int z3, .int (a0 - z3), .int (z3 >>> ((1 : Int32) &&& 31))]) C hw (ok_J11_newLength h5) (cw_J2_73 hts (Nat.le_of_ble_eq_true rfl) (Nat.le_of_ble_eq_true rfl)) rfl hl.1 rfl (Nat.le_of_ble_eq_true rfl) ⟨by show _ + 0 ≤ mc; omega, by show _ + 0 ≤ ms; omega⟩ dJ2_grow_27) (fun H locs hw => ?_)
    refine lv_istore_n (lv' := [(3, .int z6), (2, .int z3), (0, .ref (gb G + o)), (1, .int a0)]) hx hb dJ2_grow_30 rfl hl (by decide) rfl (fun ls hl => ?_)
    refine lv_aload_n hx hb dJ2_grow_31 rfl (lv_at hl 2 rfl) ?_
    refine lv_aload_n hx hb dJ2_grow_32 rfl (lv_at hl 2 rfl) ?_
    revert hf
    refine k_drf (fun r7 er7 hf => ?_)
    refine gf_J2_9 C hw k0 er7 dJ2_grow_33 ?_
    refine lv_iload_n hx hb dJ2_grow_36 rfl (lv_at hl 0 rfl) ?_
    revert hf
    refine k_dcl (fun r9 U10 T11 na ka n1 k1 h8 hf en ek => ?_)
    refine w_afr hw (w_rS (As := [.ref (gb G + r7), .int z6]) C hw (ok_J12_copyOf h8) (cw_J2_66 hts (Nat.le_of_ble_eq_true rfl) (Nat.le_of_ble_eq_true rfl)) rfl hl.1 rfl (Nat.le_of_ble_eq_true rfl) ⟨by show _ ≤ mc; omega, by show _ ≤ ms; omega⟩ dJ2_grow_37) (fun H locs hw => ?_)
    replace hn := add_r hn en
    replace hk := add_r hk ek
    clear en ek
    generalize n1 = n at hf hn
    generalize k1 = k at hf hk
    refine lv_dup_x1 hx hb dJ2_grow_40 rfl rfl ?_
    revert hf
    refine k_req (fun k12 hf => ?_)
    revert hf
    refine k_stp (fun U13 eU13 hf => ?_)
    refine pf_J2_9 C hw k12 eU13 dJ2_grow_41 (fun H locs hw => ?_)
    cases hf
    cases hn
    cases hk
    exact w_aret C hr (Or.inr ⟨_, rfl⟩) (Or.inr ⟨_, rfl⟩) hw dJ2_grow_44
  · replace hf := ite_f c4 hf
    cases hf
set_option maxHeartbeats 4000000 in
theorem jk_J2_addAll_56 {l : Launch} {G : gG} {p : Program} {e : Env} {s : State} {m : MethodId} {args : Array Value} {below : List Frame} {meth : Method} {c : Code} {T : Tt} {V0 : Vt} {r : Int32} {V' : Vt} {T' : Tt} {mc ms : Nat} (C : Cx G p s m args meth c cJ2_addAll RJ2 6) (hr : meth.sig.returnType = (some .boolean)) {x0 : Nat} {x2 : Nat} {x3 : Int32} {x4 : Nat} {x5 : Int32} {H : Heap} {locs : List Loc} {ls : Array Slot} {cells slots n k : Nat} (hf : f_J2_addAll_J56 T V0 x0 x2 x3 x4 x5 = some ((r, V', T'), n, k)) (hn : cells + n = mc) (hk : slots + k = ms) (hw : wS G V0 T H locs) (hl : lv_has ls 6 [(0, .ref (gb G + x0)), (2, .ref (gb G + x2)), (3, .int x3), (4, .ref (gb G + x4)), (5, .int x5)]) : W p l e (rmL 5 mc ms) s m args below meth c H locs cells slots (eQ G below (some (.int r)) V' T' args s mc ms) (F0 m 56 ls []) := by
  have hx := C.1
  have hb := C.2.1
  have hown := C.2.2.2.1
  have hts := C.2.2.2.2.1
  unfold f_J2_addAll_J56 at hf
  refine lv_aload_n hx hb dJ2_addAll_56 rfl (lv_at hl 1 rfl) ?_
  refine lv_iconst (v := (0 : Int32)) hx hb dJ2_addAll_57 (by decide) ?_
  refine lv_aload hx hb dJ2_addAll_58 (lv_at hl 3 rfl) ?_
  refine lv_iload hx hb dJ2_addAll_60 (lv_at hl 4 rfl) ?_
  refine lv_iload_n hx hb dJ2_addAll_62 rfl (lv_at hl 2 rfl) ?_
  revert hf
  refine k_req (fun h14 hf => ?_)
  revert hf
  refine k_req (fun h15 hf => ?_)
  revert hf
  refine k_stp (fun U16 eU16 hf => ?_)
  refine w_copyR C hl.1 hw q534 h14 h15 (Nat.le_of_ble_eq_true rfl) (Nat.le_of_ble_eq_true rfl) eU16 dJ2_addAll_63 (fun H locs hw => ?_)
  refine lv_aload_n hx hb dJ2_addAll_66 rfl (lv_at hl 0 rfl) ?_
  refine lv_iload hx hb dJ2_addAll_67 (lv_at hl 4 rfl) ?_
  refine lv_iload_n hx hb dJ2_addAll_69 rfl (lv_at hl 2 rfl) ?_
  refine lv_iadd hx hb dJ2_addAll_70 ?_
  revert hf
  refine k_req (fun k17 hf => ?_)
  revert hf
  refine k_stp (fun U18 eU18 hf => ?_)
  refine pf_J2_48 C hw k17 eU18 dJ2_addAll_71 (fun H locs hw => ?_)
  refine lv_iconst (v := (1 : Int32)) hx hb dJ2_addAll_74 (by decide) ?_
  cases hf
  cases hn
  cases hk
  exact w_zret C hr hw (by decide) dJ2_addAll_75
set_option maxHeartbeats 4000000 in
theorem ok_J2_addAll {l : Launch} {G : gG} {T : Tt} {V0 : Vt} {o : Nat} {a0 : Nat} {r : Int32} {V' : Vt} {T' : Tt} {n k : Nat} (hf : f_J2_addAll T V0 o a0 = some ((r, V', T'), n, k)) : okM l G yJ2_addAll cJ2_addAll 6 (some .boolean) 5 [.ref (gb G + o), .ref (gb G + a0)] V0 T (some (.int r)) V' T' n k := by
  refine ok_intro (by decide) (Nat.le_of_ble_eq_true rfl) ?_
  intro p e s m below meth c ls C hr hnm hw hl
  have hx := C.1
  have hb := C.2.1
  have hown := C.2.2.2.1
  have hts := C.2.2.2.2.1
  have hl : lv_has ls 6 [(0, .ref (gb G + o)), (1, .ref (gb G + a0))] := hl
  unfold f_J2_addAll at hf
  revert hf
  refine k_req (fun k0 hf => ?_)
  obtain ⟨mc, emc⟩ : ∃ mc, mc = n := ⟨_, rfl⟩
  obtain ⟨ms, ems⟩ : ∃ ms, ms = k := ⟨_, rfl⟩
  have hn : 0 + n = mc := by omega
  have hk : 0 + k = ms := by omega
  rw [← emc, ← ems]
  clear emc ems
  refine lv_aload_n hx hb dJ2_addAll_0 rfl (lv_at hl 1 rfl) ?_
  revert hf
  refine k_dcl (fun r2 U3 T4 na ka n1 k1 h1 hf en ek => ?_)
  refine w_afr5 hw (w_rF (As := []) C hw (ok_J2_toArray h1) (cw_J2_42 C (Nat.le_of_ble_eq_true rfl) (Nat.le_of_ble_eq_true rfl)) rfl (by decide) (of_req h1).1 rfl hl.1 rfl (Nat.le_of_ble_eq_true rfl) ⟨by show _ ≤ mc; omega, by show _ ≤ ms; omega⟩ dJ2_addAll_1) (fun H locs hw => ?_)
  replace hn := add_r hn en
  replace hk := add_r hk ek
  clear en ek
  generalize n1 = n at hf hn
  generalize k1 = k at hf hk
  refine lv_astore_n (lv' := [(2, .ref (gb G + r2)), (0, .ref (gb G + o)), (1, .ref (gb G + a0))]) hx hb dJ2_addAll_6 rfl hl (by decide) rfl (fun ls hl => ?_)
  refine lv_aload_n hx hb dJ2_addAll_7 rfl (lv_at hl 1 rfl) ?_
  refine lv_dup hx hb dJ2_addAll_8 rfl ?_
  revert hf
  refine k_req (fun k5 hf => ?_)
  refine gf_J2_63 C hw k5 dJ2_addAll_9 ?_
  refine lv_iconst (v := (1 : Int32)) hx hb dJ2_addAll_12 (by decide) ?_
  refine lv_iadd hx hb dJ2_addAll_13 ?_
  revert hf
  refine k_stp (fun U6 eU6 hf => ?_)
  refine pf_J2_63 C hw k5 eU6 dJ2_addAll_14 (fun H locs hw => ?_)
  refine lv_aload_n hx hb dJ2_addAll_17 rfl (lv_at hl 0 rfl) ?_
  revert hf
  refine k_req (fun h7 hf => ?_)
  refine w_alen (t := 4) C hw (by decide) h7 dJ2_addAll_18 ?_
  revert hf
  refine k_stp (fun z8 ez8 hf => ?_)
  refine w_nmI ez8 ?_
  refine lv_istore_n (lv' := [(3, .int z8), (2, .ref (gb G + r2)), (0, .ref (gb G + o)), (1, .ref (gb G + a0))]) hx hb dJ2_addAll_19 rfl hl (by decide) rfl (fun ls hl => ?_)
  refine lv_iload_n hx hb dJ2_addAll_20 rfl (lv_at hl 0 rfl) ?_
  refine lv_if_ne (tgt := 26) hx hb dJ2_addAll_21 (by decide) (fun c9 => ?_) (fun c9 => ?_)
  · replace hf := ite_f c9 hf
    refine lv_iload_n hx hb dJ2_addAll_26 rfl (lv_at hl 0 rfl) ?_
    refine lv_aload_n hx hb dJ2_addAll_27 rfl (lv_at hl 2 rfl) ?_
    revert hf
    refine k_drf (fun r10 er10 hf => ?_)
    refine gf_J2_9 C hw k5 er10 dJ2_addAll_28 ?_
    refine lv_dup hx hb dJ2_addAll_31 rfl ?_
    refine lv_astore (lv' := [(4, .ref (gb G + r10)), (3, .int z8), (2, .ref (gb G + r2)), (0, .ref (gb G + o)), (1, .ref (gb G + a0))]) hx hb dJ2_addAll_32 hl (by decide) rfl (fun ls hl => ?_)
    revert hf
    refine k_req (fun h11 hf => ?_)
    refine w_alen (t := 4) C hw (by decide) h11 dJ2_addAll_34 ?_
    refine lv_aload_n hx hb dJ2_addAll_35 rfl (lv_at hl 3 rfl) ?_
    refine gf_J2_48 C hw k5 dJ2_addAll_36 ?_
    refine lv_dup hx hb dJ2_addAll_39 rfl ?_
    revert hf
    refine k_stp (fun z12 ez12 hf => ?_)
    refine w_nmI ez12 ?_
    refine lv_istore (lv' := [(5, .int z12), (4, .ref (gb G + r10)), (3, .int z8), (2, .ref (gb G + r2)), (0, .ref (gb G + o)), (1, .ref (gb G + a0))]) hx hb dJ2_addAll_40 hl (by decide) rfl (fun ls hl => ?_)
    refine lv_isub hx hb dJ2_addAll_42 ?_
    refine lv_icmp_le (tgt := 56) hx hb dJ2_addAll_43 (by decide) (fun c13 => ?_) (fun c13 => ?_)
    · replace hf := ite_t c13 hf
      exact jk_J2_addAll_56 C hr hf hn hk hw (lv_sub hl [4, 3, 2, 1, 0] rfl)
    · replace hf := ite_f c13 hf
      refine lv_aload_n hx hb dJ2_addAll_46 rfl (lv_at hl 4 rfl) ?_
      refine lv_iload hx hb dJ2_addAll_47 (lv_at hl 0 rfl) ?_
      refine lv_iload_n hx hb dJ2_addAll_49 rfl (lv_at hl 2 rfl) ?_
      refine lv_iadd hx hb dJ2_addAll_50 ?_
      revert hf
      refine k_dcl (fun r20 U21 T22 na ka n1 k1 h19 hf en ek => ?_)
      refine w_afr hw (w_rV (As := [.int (z12 + z8)]) C hw (ok_J2_grow h19) (cw_J2_69 hts (Nat.le_of_ble_eq_true rfl) (Nat.le_of_ble_eq_true rfl)) rfl (by decide) (of_req h19).1 rfl hl.1 rfl (Nat.le_of_ble_eq_true rfl) ⟨by show _ ≤ mc; omega, by show _ ≤ ms; omega⟩ dJ2_addAll_51) (fun H locs hw => ?_)
      replace hn := add_r hn en
      replace hk := add_r hk ek
      clear en ek
      generalize n1 = n at hf hn
      generalize k1 = k at hf hk
      refine lv_astore (lv' := [(4, .ref (gb G + r20)), (5, .int z12), (3, .int z8), (2, .ref (gb G + r2)), (0, .ref (gb G + o)), (1, .ref (gb G + a0))]) hx hb dJ2_addAll_54 hl (by decide) rfl (fun ls hl => ?_)
      exact jk_J2_addAll_56 C hr hf hn hk hw (lv_sub hl [4, 3, 2, 0, 1] rfl)
  · replace hf := ite_t c9 hf
    refine lv_iconst (v := (0 : Int32)) hx hb dJ2_addAll_24 (by decide) ?_
    cases hf
    cases hn
    cases hk
    exact w_zret C hr hw (by decide) dJ2_addAll_25
set_option maxHeartbeats 4000000 in
theorem ok_J6_checkIndex {l : Launch} {G : gG} {T : Tt} {V0 : Vt} {a0 : Int32} {a1 : Int32} {r : Int32} (hf : f_J6_checkIndex T V0 a0 a1 = some r) : okM l G yJ6_checkIndex cJ6_checkIndex 3 (some .int) 0 [.int a0, .int a1, .null] V0 T (some (.int r)) V0 T 0 0 := by
  refine ok_intro (by decide) (Nat.le_of_ble_eq_true rfl) ?_
  intro p e s m below meth c ls C hr hnm hw hl
  have hx := C.1
  have hb := C.2.1
  have hown := C.2.2.2.1
  have hts := C.2.2.2.2.1
  have hl : lv_has ls 3 [(0, .int a0), (1, .int a1), (2, .null)] := hl
  unfold f_J6_checkIndex at hf
  refine lv_iload_n hx hb dJ6_checkIndex_0 rfl (lv_at hl 0 rfl) ?_
  refine lv_if_lt (tgt := 9) hx hb dJ6_checkIndex_1 (by decide) (fun c1 => ?_) (fun c1 => ?_)
  · replace hf := ite_t c1 hf
    cases hf
  · replace hf := ite_f c1 hf
    refine lv_iload_n hx hb dJ6_checkIndex_4 rfl (lv_at hl 0 rfl) ?_
    refine lv_iload_n hx hb dJ6_checkIndex_5 rfl (lv_at hl 1 rfl) ?_
    refine lv_icmp_lt (tgt := 16) hx hb dJ6_checkIndex_6 (by decide) (fun c2 => ?_) (fun c2 => ?_)
    · replace hf := ite_t c2 hf
      refine lv_iload_n hx hb dJ6_checkIndex_16 rfl (lv_at hl 0 rfl) ?_
      cases hf
      exact w_iret C hr hw dJ6_checkIndex_17
    · replace hf := ite_f c2 hf
      cases hf
set_option maxHeartbeats 4000000 in
theorem ok_J5_checkIndex {l : Launch} {G : gG} {T : Tt} {V0 : Vt} {a0 : Int32} {a1 : Int32} {r : Int32} (hf : f_J5_checkIndex T V0 a0 a1 = some r) : okM l G yJ5_checkIndex cJ5_checkIndex 2 (some .int) 1 [.int a0, .int a1] V0 T (some (.int r)) V0 T 0 0 := by
  refine ok_intro (by decide) (Nat.le_of_ble_eq_true rfl) ?_
  intro p e s m below meth c ls C hr hnm hw hl
  have hx := C.1
  have hb := C.2.1
  have hown := C.2.2.2.1
  have hts := C.2.2.2.2.1
  have hl : lv_has ls 2 [(0, .int a0), (1, .int a1)] := hl
  unfold f_J5_checkIndex at hf
  refine lv_iload_n hx hb dJ5_checkIndex_0 rfl (lv_at hl 0 rfl) ?_
  refine lv_iload_n hx hb dJ5_checkIndex_1 rfl (lv_at hl 1 rfl) ?_
  refine lv_null hx hb dJ5_checkIndex_2 ?_
  revert hf
  refine k_pcl (fun z2 h1 hf => ?_)
  refine w_afi hw (w_rS (As := [.int a0, .int a1, .null]) C hw (ok_J6_checkIndex h1) (cw_J5_105 hts (Nat.le_of_ble_eq_true rfl) (Nat.le_of_ble_eq_true rfl)) rfl hl.1 rfl (Nat.le_of_ble_eq_true rfl) ⟨Nat.zero_le _, Nat.zero_le _⟩ dJ5_checkIndex_3) (fun H locs hw => ?_)
  cases hf
  exact w_iret C hr hw dJ5_checkIndex_6
set_option maxHeartbeats 4000000 in
theorem ok_J2_elementData {l : Launch} {G : gG} {T : Tt} {V0 : Vt} {o : Nat} {a0 : Int32} {r : Nat} (hf : f_J2_elementData T V0 o a0 = some r) : okM l G yJ2_elementData cJ2_elementData 2 (some (.object "java/lang/Object")) 0 [.ref (gb G + o), .int a0] V0 T (some (.ref (gb G + r))) V0 T 0 0 := by
  refine ok_intro (by decide) (Nat.le_of_ble_eq_true rfl) ?_
  intro p e s m below meth c ls C hr hnm hw hl
  have hx := C.1
  have hb := C.2.1
  have hown := C.2.2.2.1
  have hts := C.2.2.2.2.1
  have hl : lv_has ls 2 [(0, .ref (gb G + o)), (1, .int a0)] := hl
  unfold f_J2_elementData at hf
  revert hf
  refine k_req (fun k0 hf => ?_)
  refine lv_aload_n hx hb dJ2_elementData_0 rfl (lv_at hl 0 rfl) ?_
  revert hf
  refine k_drf (fun r1 er1 hf => ?_)
  refine gf_J2_9 C hw k0 er1 dJ2_elementData_1 ?_
  refine lv_iload_n hx hb dJ2_elementData_4 rfl (lv_at hl 1 rfl) ?_
  revert hf
  refine k_req (fun h2 hf => ?_)
  revert hf
  refine k_drf (fun r3 er3 hf => ?_)
  refine w_aald (v := .ref (gb G + r3)) C hw (by decide) (by decide) h2 (by rw [er3]; rfl) dJ2_elementData_5 ?_
  cases hf
  exact w_aret C hr (Or.inl ⟨_, rfl⟩) (Or.inr ⟨_, rfl⟩) hw dJ2_elementData_6
set_option maxHeartbeats 4000000 in
theorem ok_J2_get {l : Launch} {G : gG} {T : Tt} {V0 : Vt} {o : Nat} {a0 : Int32} {r : Nat} (hf : f_J2_get T V0 o a0 = some r) : okM l G yJ2_get cJ2_get 2 (some (.object "java/lang/Object")) 2 [.ref (gb G + o), .int a0] V0 T (some (.ref (gb G + r))) V0 T 0 0 := by
  refine ok_intro (by decide) (Nat.le_of_ble_eq_true rfl) ?_
  intro p e s m below meth c ls C hr hnm hw hl
  have hx := C.1
  have hb := C.2.1
  have hown := C.2.2.2.1
  have hts := C.2.2.2.2.1
  have hl : lv_has ls 2 [(0, .ref (gb G + o)), (1, .int a0)] := hl
  unfold f_J2_get at hf
  revert hf
  refine k_req (fun k0 hf => ?_)
  refine lv_iload_n hx hb dJ2_get_0 rfl (lv_at hl 1 rfl) ?_
  refine lv_aload_n hx hb dJ2_get_1 rfl (lv_at hl 0 rfl) ?_
  refine gf_J2_48 C hw k0 dJ2_get_2 ?_
  revert hf
  refine k_pcl (fun z2 h1 hf => ?_)
  refine w_afi hw (w_rS (As := [.int a0, .int (V0.1 o 2)]) C hw (ok_J5_checkIndex h1) (cw_J2_118 hts (Nat.le_of_ble_eq_true rfl) (Nat.le_of_ble_eq_true rfl)) rfl hl.1 rfl (Nat.le_of_ble_eq_true rfl) ⟨Nat.zero_le _, Nat.zero_le _⟩ dJ2_get_5) (fun H locs hw => ?_)
  refine lv_pop hx hb dJ2_get_8 rfl ?_
  refine lv_aload_n hx hb dJ2_get_9 rfl (lv_at hl 0 rfl) ?_
  refine lv_iload_n hx hb dJ2_get_10 rfl (lv_at hl 1 rfl) ?_
  revert hf
  refine k_pcl (fun r4 h3 hf => ?_)
  refine w_afr hw (w_rV (As := [.int a0]) C hw (ok_J2_elementData h3) (cw_J2_123 hts (Nat.le_of_ble_eq_true rfl) (Nat.le_of_ble_eq_true rfl)) rfl (by decide) (of_req h3).1 rfl hl.1 rfl (Nat.le_of_ble_eq_true rfl) ⟨Nat.zero_le _, Nat.zero_le _⟩ dJ2_get_11) (fun H locs hw => ?_)
  cases hf
  exact w_aret C hr (Or.inl ⟨_, rfl⟩) (Or.inr ⟨_, rfl⟩) hw dJ2_get_14
set_option maxHeartbeats 4000000 in
theorem ok_J2_size {l : Launch} {G : gG} {T : Tt} {V0 : Vt} {o : Nat} {r : Int32} (hf : f_J2_size T V0 o = some r) : okM l G yJ2_size cJ2_size 1 (some .int) 0 [.ref (gb G + o)] V0 T (some (.int r)) V0 T 0 0 := by
  refine ok_intro (by decide) (Nat.le_of_ble_eq_true rfl) ?_
  intro p e s m below meth c ls C hr hnm hw hl
  have hx := C.1
  have hb := C.2.1
  have hown := C.2.2.2.1
  have hts := C.2.2.2.2.1
  have hl : lv_has ls 1 [(0, .ref (gb G + o))] := hl
  unfold f_J2_size at hf
  revert hf
  refine k_req (fun k0 hf => ?_)
  refine lv_aload_n hx hb dJ2_size_0 rfl (lv_at hl 0 rfl) ?_
  refine gf_J2_48 C hw k0 dJ2_size_1 ?_
  cases hf
  exact w_iret C hr hw dJ2_size_4
set_option maxHeartbeats 4000000 in
theorem ok_J2_grow_2 {l : Launch} {G : gG} {T : Tt} {V0 : Vt} {o : Nat} {r : Nat} {V' : Vt} {T' : Tt} {n k : Nat} (hf : f_J2_grow_2 T V0 o = some ((r, V', T'), n, k)) : okM l G yJ2_grow_2 cJ2_grow_2 1 (some (.array (.object "java/lang/Object"))) 5 [.ref (gb G + o)] V0 T (some (.ref (gb G + r))) V' T' n k := by
  refine ok_intro (by decide) (Nat.le_of_ble_eq_true rfl) ?_
  intro p e s m below meth c ls C hr hnm hw hl
  have hx := C.1
  have hb := C.2.1
  have hown := C.2.2.2.1
  have hts := C.2.2.2.2.1
  have hl : lv_has ls 1 [(0, .ref (gb G + o))] := hl
  unfold f_J2_grow_2 at hf
  revert hf
  refine k_req (fun k0 hf => ?_)
  obtain ⟨mc, emc⟩ : ∃ mc, mc = n := ⟨_, rfl⟩
  obtain ⟨ms, ems⟩ : ∃ ms, ms = k := ⟨_, rfl⟩
  have hn : 0 + n = mc := by omega
  have hk : 0 + k = ms := by omega
  rw [← emc, ← ems]
  clear emc ems
  refine lv_aload_n hx hb dJ2_grow_2_0 rfl (lv_at hl 0 rfl) ?_
  refine lv_aload_n hx hb dJ2_grow_2_1 rfl (lv_at hl 0 rfl) ?_
  refine gf_J2_48 C hw k0 dJ2_grow_2_2 ?_
  refine lv_iconst (v := (1 : Int32)) hx hb dJ2_grow_2_5 (by decide) ?_
  refine lv_iadd hx hb dJ2_grow_2_6 ?_
  revert hf
  refine k_dcl (fun r2 U3 T4 na ka n1 k1 h1 hf en ek => ?_)
  refine w_afr hw (w_rV (As := [.int ((V0.1 o 2) + (1 : Int32))]) C hw (ok_J2_grow h1) (cw_J2_69 hts (Nat.le_of_ble_eq_true rfl) (Nat.le_of_ble_eq_true rfl)) rfl (by decide) (of_req h1).1 rfl hl.1 rfl (Nat.le_of_ble_eq_true rfl) ⟨by show _ ≤ mc; omega, by show _ ≤ ms; omega⟩ dJ2_grow_2_7) (fun H locs hw => ?_)
  replace hn := add_r hn en
  replace hk := add_r hk ek
  clear en ek
  generalize n1 = n at hf hn
  generalize k1 = k at hf hk
  cases hf
  cases hn
  cases hk
  exact w_aret C hr (Or.inr ⟨_, rfl⟩) (Or.inr ⟨_, rfl⟩) hw dJ2_grow_2_10
set_option maxHeartbeats 4000000 in
theorem jk_J2_add_2_11 {l : Launch} {G : gG} {p : Program} {e : Env} {s : State} {m : MethodId} {args : Array Value} {below : List Frame} {meth : Method} {c : Code} {T : Tt} {V0 : Vt} {V' : Vt} {T' : Tt} {mc ms : Nat} (C : Cx G p s m args meth c cJ2_add_2 RJ2 4) (hr : meth.sig.returnType = none) {x0 : Nat} {x1 : Nat} {x2 : Nat} {x3 : Int32} {H : Heap} {locs : List Loc} {ls : Array Slot} {cells slots n k : Nat} (hf : f_J2_add_2_J11 T V0 x0 x1 x2 x3 = some ((V', T'), n, k)) (hn : cells + n = mc) (hk : slots + k = ms) (hw : wS G V0 T H locs) (hl : lv_has ls 4 [(0, .ref (gb G + x0)), (1, .ref (gb G + x1)), (2, .ref (gb G + x2)), (3, .int x3)]) : W p l e (rmL 6 mc ms) s m args below meth c H locs cells slots (eQ G below none V' T' args s mc ms) (F0 m 11 ls []) := by
  have hx := C.1
  have hb := C.2.1
  have hown := C.2.2.2.1
  have hts := C.2.2.2.2.1
  unfold f_J2_add_2_J11 at hf
  refine lv_aload_n hx hb dJ2_add_2_11 rfl (lv_at hl 2 rfl) ?_
  refine lv_iload_n hx hb dJ2_add_2_12 rfl (lv_at hl 3 rfl) ?_
  refine lv_aload_n hx hb dJ2_add_2_13 rfl (lv_at hl 1 rfl) ?_
  revert hf
  refine k_req (fun h3 hf => ?_)
  revert hf
  refine k_req (fun h4 hf => ?_)
  revert hf
  refine k_stp (fun U5 eU5 hf => ?_)
  refine w_aast4 C hw h3 h4 eU5 dJ2_add_2_14 (fun H locs hw => ?_)
  refine lv_aload_n hx hb dJ2_add_2_15 rfl (lv_at hl 0 rfl) ?_
  refine lv_iload_n hx hb dJ2_add_2_16 rfl (lv_at hl 3 rfl) ?_
  refine lv_iconst (v := (1 : Int32)) hx hb dJ2_add_2_17 (by decide) ?_
  refine lv_iadd hx hb dJ2_add_2_18 ?_
  revert hf
  refine k_req (fun k6 hf => ?_)
  revert hf
  refine k_stp (fun U7 eU7 hf => ?_)
  refine pf_J2_48 C hw k6 eU7 dJ2_add_2_19 (fun H locs hw => ?_)
  cases hf
  cases hn
  cases hk
  exact w_vret C hr hw dJ2_add_2_22
set_option maxHeartbeats 4000000 in
theorem ok_J2_add_2 {l : Launch} {G : gG} {T : Tt} {V0 : Vt} {o : Nat} {a0 : Nat} {a1 : Nat} {a2 : Int32} {V' : Vt} {T' : Tt} {n k : Nat} (hf : f_J2_add_2 T V0 o a0 a1 a2 = some ((V', T'), n, k)) : okM l G yJ2_add_2 cJ2_add_2 4 none 6 [.ref (gb G + o), .ref (gb G + a0), .ref (gb G + a1), .int a2] V0 T none V' T' n k := by
  refine ok_intro (by decide) (Nat.le_of_ble_eq_true rfl) ?_
  intro p e s m below meth c ls C hr hnm hw hl
  have hx := C.1
  have hb := C.2.1
  have hown := C.2.2.2.1
  have hts := C.2.2.2.2.1
  have hl : lv_has ls 4 [(0, .ref (gb G + o)), (1, .ref (gb G + a0)), (2, .ref (gb G + a1)), (3, .int a2)] := hl
  unfold f_J2_add_2 at hf
  revert hf
  refine k_req (fun k0 hf => ?_)
  obtain ⟨mc, emc⟩ : ∃ mc, mc = n := ⟨_, rfl⟩
  obtain ⟨ms, ems⟩ : ∃ ms, ms = k := ⟨_, rfl⟩
  have hn : 0 + n = mc := by omega
  have hk : 0 + k = ms := by omega
  rw [← emc, ← ems]
  clear emc ems
  refine lv_iload_n hx hb dJ2_add_2_0 rfl (lv_at hl 3 rfl) ?_
  refine lv_aload_n hx hb dJ2_add_2_1 rfl (lv_at hl 2 rfl) ?_
  revert hf
  refine k_req (fun h1 hf => ?_)
  refine w_alen (t := 4) C hw (by decide) h1 dJ2_add_2_2 ?_
  refine lv_icmp_ne (tgt := 11) hx hb dJ2_add_2_3 (by decide) (fun c2 => ?_) (fun c2 => ?_)
  · replace hf := ite_f c2 hf
    exact jk_J2_add_2_11 C hr hf hn hk hw (lv_sub hl [0, 1, 2, 3] rfl)
  · replace hf := ite_t c2 hf
    refine lv_aload_n hx hb dJ2_add_2_6 rfl (lv_at hl 0 rfl) ?_
    revert hf
    refine k_dcl (fun r9 U10 T11 na ka n1 k1 h8 hf en ek => ?_)
    refine w_afr hw (w_rV (As := []) C hw (ok_J2_grow_2 h8) (cw_J2_129 hts (Nat.le_of_ble_eq_true rfl) (Nat.le_of_ble_eq_true rfl)) rfl (by decide) (of_req h8).1 rfl hl.1 rfl (Nat.le_of_ble_eq_true rfl) ⟨by show _ ≤ mc; omega, by show _ ≤ ms; omega⟩ dJ2_add_2_7) (fun H locs hw => ?_)
    replace hn := add_r hn en
    replace hk := add_r hk ek
    clear en ek
    generalize n1 = n at hf hn
    generalize k1 = k at hf hk
    refine lv_astore_n (lv' := [(2, .ref (gb G + r9)), (0, .ref (gb G + o)), (1, .ref (gb G + a0)), (3, .int a2)]) hx hb dJ2_add_2_10 rfl hl (by decide) rfl (fun ls hl => ?_)
    exact jk_J2_add_2_11 C hr hf hn hk hw (lv_sub hl [1, 2, 0, 3] rfl)
set_option maxHeartbeats 4000000 in
theorem ok_J2_add {l : Launch} {G : gG} {T : Tt} {V0 : Vt} {o : Nat} {a0 : Nat} {r : Int32} {V' : Vt} {T' : Tt} {n k : Nat} (hf : f_J2_add T V0 o a0 = some ((r, V', T'), n, k)) : okM l G yJ2_add cJ2_add 2 (some .boolean) 7 [.ref (gb G + o), .ref (gb G + a0)] V0 T (some (.int r)) V' T' n k := by
  refine ok_intro (by decide) (Nat.le_of_ble_eq_true rfl) ?_
  intro p e s m below meth c ls C hr hnm hw hl
  have hx := C.1
  have hb := C.2.1
  have hown := C.2.2.2.1
  have hts := C.2.2.2.2.1
  have hl : lv_has ls 2 [(0, .ref (gb G + o)), (1, .ref (gb G + a0))] := hl
  unfold f_J2_add at hf
  revert hf
  refine k_req (fun k0 hf => ?_)
  obtain ⟨mc, emc⟩ : ∃ mc, mc = n := ⟨_, rfl⟩
  obtain ⟨ms, ems⟩ : ∃ ms, ms = k := ⟨_, rfl⟩
  have hn : 0 + n = mc := by omega
  have hk : 0 + k = ms := by omega
  rw [← emc, ← ems]
  clear emc ems
  refine lv_aload_n hx hb dJ2_add_0 rfl (lv_at hl 0 rfl) ?_
  refine lv_dup hx hb dJ2_add_1 rfl ?_
  refine gf_J2_63 C hw k0 dJ2_add_2 ?_
  refine lv_iconst (v := (1 : Int32)) hx hb dJ2_add_5 (by decide) ?_
  refine lv_iadd hx hb dJ2_add_6 ?_
  revert hf
  refine k_stp (fun U1 eU1 hf => ?_)
  refine pf_J2_63 C hw k0 eU1 dJ2_add_7 (fun H locs hw => ?_)
  refine lv_aload_n hx hb dJ2_add_10 rfl (lv_at hl 0 rfl) ?_
  refine lv_aload_n hx hb dJ2_add_11 rfl (lv_at hl 1 rfl) ?_
  refine lv_aload_n hx hb dJ2_add_12 rfl (lv_at hl 0 rfl) ?_
  revert hf
  refine k_drf (fun r2 er2 hf => ?_)
  refine gf_J2_9 C hw k0 er2 dJ2_add_13 ?_
  refine lv_aload_n hx hb dJ2_add_16 rfl (lv_at hl 0 rfl) ?_
  refine gf_J2_48 C hw k0 dJ2_add_17 ?_
  revert hf
  refine k_dcv (fun U5 T6 na ka n1 k1 h3 hf en ek => ?_)
  refine w_afv hw (w_rV (As := [.ref (gb G + a0), .ref (gb G + r2), .int (U1.1 o 2)]) C hw (ok_J2_add_2 h3) (cw_J2_131 hts (Nat.le_of_ble_eq_true rfl) (Nat.le_of_ble_eq_true rfl)) rfl (by decide) (of_req h3).1 rfl hl.1 rfl (Nat.le_of_ble_eq_true rfl) ⟨by show _ ≤ mc; omega, by show _ ≤ ms; omega⟩ dJ2_add_20) (fun H locs hw => ?_)
  replace hn := add_r hn en
  replace hk := add_r hk ek
  clear en ek
  generalize n1 = n at hf hn
  generalize k1 = k at hf hk
  refine lv_iconst (v := (1 : Int32)) hx hb dJ2_add_23 (by decide) ?_
  cases hf
  cases hn
  cases hk
  exact w_zret C hr hw (by decide) dJ2_add_24
