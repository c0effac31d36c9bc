set_option maxRecDepth 100000
def f_X2_init (T : Tt) (V0 : Vt) (o : Nat) : Option ((Vt × Tt) × Nat × Nat) :=
  req (T.1 o = 3) (req (¬ (160 : Int32) < 0 ∧ ixN (160 : Int32) ≤ 100000) (inc 1 (ixN (160 : Int32)) (stp T.2.2 (fun q2 => stp (zV V0 q2) (fun U3 => stp (aT T 100 (ixN (160 : Int32))) (fun T4 => req (T4.1 o = 3) (stp (uR U3 o 0 (some q2)) (fun U6 => some ((U6, T4), 0, 0)))))))))
def f_X1_init (T : Tt) (V0 : Vt) (o : Nat) : Option ((Vt × Tt) × Nat × Nat) :=
  req (T.1 o = 2) (inc 1 3 (stp T.2.2 (fun q1 => stp (zV V0 q1) (fun U2 => stp (aT T 3 0) (fun T3 => dcv (f_X2_init T3 U2 q1) (fun U6 T7 => req (T7.1 o = 2) (stp (uR U6 o 0 (some q1)) (fun U9 => req (¬ (8 : Int32) < 0 ∧ ixN (8 : Int32) ≤ 100000) (inc 1 (ixN (8 : Int32)) (stp T7.2.2 (fun q11 => stp (zV U9 q11) (fun U12 => stp (aT T7 100 (ixN (8 : Int32))) (fun T13 => req (T13.1 o = 2) (stp (uR U12 o 1 (some q11)) (fun U15 => req (¬ (8 : Int32) < 0 ∧ ixN (8 : Int32) ≤ 100000) (inc 1 (ixN (8 : Int32)) (stp T13.2.2 (fun q17 => stp (zV U15 q17) (fun U18 => stp (aT T13 100 (ixN (8 : Int32))) (fun T19 => req (T19.1 o = 2) (stp (uR U18 o 2 (some q17)) (fun U21 => req (¬ (12 : Int32) < 0 ∧ ixN (12 : Int32) ≤ 100000) (inc 1 (ixN (12 : Int32)) (stp T19.2.2 (fun q23 => stp (zV U21 q23) (fun U24 => stp (aT T19 100 (ixN (12 : Int32))) (fun T25 => req (T25.1 o = 2) (stp (uR U24 o 3 (some q23)) (fun U27 => inc 1 3 (stp T25.2.2 (fun q28 => stp (zV U27 q28) (fun U29 => stp (aT T25 20 0) (fun T30 => dcv (f_J2_init T30 U29 q28 (2 : Int32)) (fun U33 T34 => req (T34.1 o = 2) (stp (uR U33 o 4 (some q28)) (fun U36 => inc 1 3 (stp T34.2.2 (fun q37 => stp (zV U36 q37) (fun U38 => stp (aT T34 20 0) (fun T39 => dcv (f_J2_init T39 U38 q37 (2 : Int32)) (fun U42 T43 => req (T43.1 o = 2) (stp (uR U42 o 5 (some q37)) (fun U45 => stp (uI U45 o 8 (1 : Int32)) (fun U46 => stp (uI U46 o 10 (85 : Int32)) (fun U47 => stp (uI U47 o 11 ((-1) : Int32)) (fun U48 => some ((U48, T43), 0, 0)))))))))))))))))))))))))))))))))))))))))))))))
def f_X2_takes (T : Tt) (V0 : Vt) (o : Nat) (a0 : Nat) : Option (Vt) :=
  req (T.1 o = 3) (req (T.1 a0 = 3) (drf (V0.2.2 a0 0) (fun r2 => drf (V0.2.2 o 0) (fun r3 => drf (V0.2.2 o 0) (fun r4 => req (T.1 r4 = 100) (req (cpIn T 0 r2 r3 (0 : Int32) (0 : Int32) (nI (T.2.1 r4))) (stp (cpI V0 r2 (ixN (0 : Int32)) r3 (ixN (0 : Int32)) (ixN (nI (T.2.1 r4)))) (fun U7 => stp (uI U7 o 1 (U7.1 a0 1)) (fun U8 => stp (uI U8 o 2 (U8.1 a0 2)) (fun U9 => some U9))))))))))
def f_X1_takes (T : Tt) (V0 : Vt) (o : Nat) (a0 : Nat) : Option ((Vt × Tt) × Nat × Nat) :=
  req (T.1 o = 2) (drf (V0.2.2 o 0) (fun r1 => req (T.1 a0 = 2) (drf (V0.2.2 a0 0) (fun r3 => pcl (f_X2_takes T V0 r1 r3) (fun U6 => drf (U6.2.2 a0 1) (fun r7 => drf (U6.2.2 o 1) (fun r8 => req (cpIn T 0 r7 r8 (0 : Int32) (0 : Int32) (8 : Int32)) (stp (cpI U6 r7 (ixN (0 : Int32)) r8 (ixN (0 : Int32)) (ixN (8 : Int32))) (fun U10 => drf (U10.2.2 a0 2) (fun r11 => drf (U10.2.2 o 2) (fun r12 => req (cpIn T 0 r11 r12 (0 : Int32) (0 : Int32) (8 : Int32)) (stp (cpI U10 r11 (ixN (0 : Int32)) r12 (ixN (0 : Int32)) (ixN (8 : Int32))) (fun U14 => drf (U14.2.2 a0 3) (fun r15 => drf (U14.2.2 o 3) (fun r16 => drf (U14.2.2 o 3) (fun r17 => req (T.1 r17 = 100) (req (cpIn T 0 r15 r16 (0 : Int32) (0 : Int32) (nI (T.2.1 r17))) (stp (cpI U14 r15 (ixN (0 : Int32)) r16 (ixN (0 : Int32)) (ixN (nI (T.2.1 r17)))) (fun U20 => drf (U20.2.2 o 4) (fun r21 => pcl (f_J2_clear T U20 r21) (fun U24 => drf (U24.2.2 o 4) (fun r25 => drf (U24.2.2 a0 4) (fun r26 => dcl (f_J2_addAll T U24 r25 r26) (fun z28 U29 T30 => req (T30.1 o = 2) (drf (U29.2.2 o 5) (fun r32 => pcl (f_J2_clear T30 U29 r32) (fun U35 => drf (U35.2.2 o 5) (fun r36 => req (T30.1 a0 = 2) (drf (U35.2.2 a0 5) (fun r38 => dcl (f_J2_addAll T30 U35 r36 r38) (fun z40 U41 T42 => req (T42.1 a0 = 2) (req (T42.1 o = 2) (stp (uI U41 o 6 (U41.1 a0 6)) (fun U45 => stp (uI U45 o 7 (U45.1 a0 7)) (fun U46 => stp (uI U46 o 8 (U46.1 a0 8)) (fun U47 => stp (uI U47 o 9 (U47.1 a0 9)) (fun U48 => stp (uI U48 o 10 (U48.1 a0 10)) (fun U49 => stp (uI U49 o 11 (U49.1 a0 11)) (fun U50 => some ((U50, T42), 0, 0))))))))))))))))))))))))))))))))))))))))
def f_X2_all_L4 (T : Tt) (V0 : Vt) (x0 : Nat) (x1 : Int32) (kx4_30 : Int32 → Option (Int32)) : Nat → Int32 → Int32 → Option (Int32)
  | 0, _, _ => none
  | n + 1, x2, x3 => if (20 : Int32) ≤ x3 then (kx4_30 x2) else (drf (V0.2.2 x0 0) (fun r2 => req (aIn T r2 0 (((20 : Int32) * x1) + x3)) (stp (x2 + (V0.1 r2 (ixN (((20 : Int32) * x1) + x3)))) (fun z4 => stp (x3 + (1 : Int32)) (fun z5 => (f_X2_all_L4 T V0 x0 x1 kx4_30 n) z4 z5)))))
def f_X2_all (T : Tt) (V0 : Vt) (o : Nat) (a0 : Int32) : Option (Int32) :=
  req (T.1 o = 3) (f_X2_all_L4 T V0 o a0 (fun z6 => some z6) fuel (0 : Int32) (0 : Int32))
def f_X0_meanOf_L8 (T : Tt) (V0 : Vt) (x0 : Nat) (x1 : Int32) (kx8_51 : Int64 → Int64 → Option (Int32)) : Nat → Int64 → Int64 → Int32 → Option (Int32)
  | 0, _, _, _ => none
  | n + 1, x2, x4, x6 => if (20 : Int32) ≤ x6 then (kx8_51 x2 x4) else (req (aIn T x0 0 (x1 + x6)) (stp (x2 + (((1000 : Int64) * (Int32.toInt64 x6)) * (Int32.toInt64 (V0.1 x0 (ixN (x1 + x6)))))) (fun z3 => req (aIn T x0 0 (x1 + x6)) (stp (x4 + (Int32.toInt64 (V0.1 x0 (ixN (x1 + x6))))) (fun z5 => stp (x6 + (1 : Int32)) (fun z6 => (f_X0_meanOf_L8 T V0 x0 x1 kx8_51 n) z3 z5 z6))))))
def f_X0_meanOf (T : Tt) (V0 : Vt) (a0 : Nat) (a1 : Int32) : Option (Int32) :=
  f_X0_meanOf_L8 T V0 a0 a1 (fun z7 z8 => if (lg_cmp z8 (0 : Int64)) = 0 then (some ((-1) : Int32)) else (req (¬ z8 = 0) (some (Int64.toInt32 (z7 / z8))))) fuel (0 : Int64) (0 : Int64) (0 : Int32)
def f_X2_mean (T : Tt) (V0 : Vt) (o : Nat) (a0 : Int32) : Option (Int32) :=
  req (T.1 o = 3) (drf (V0.2.2 o 0) (fun r1 => pcl (f_X0_meanOf T V0 r1 ((20 : Int32) * a0)) (fun z3 => some z3)))
def f_X2_older_L5 (T : Tt) (V0 : Vt) (x0 : Nat) (x1 : Int32) (kx5_33 : Int32 → Option (Int32)) : Nat → Int32 → Int32 → Option (Int32)
  | 0, _, _ => none
  | n + 1, x3, x4 => if (20 : Int32) ≤ x4 then (kx5_33 x3) else (drf (V0.2.2 x0 0) (fun r2 => req (aIn T r2 0 (((20 : Int32) * x1) + x4)) (stp (x3 + (V0.1 r2 (ixN (((20 : Int32) * x1) + x4)))) (fun z4 => stp (x4 + (1 : Int32)) (fun z5 => (f_X2_older_L5 T V0 x0 x1 kx5_33 n) z4 z5)))))
def f_X2_older (T : Tt) (V0 : Vt) (o : Nat) (a0 : Int32) (a1 : Int32) : Option (Int32) :=
  req (T.1 o = 3) (f_X2_older_L5 T V0 o a0 (fun z6 => some z6) fuel (0 : Int32) a1)
def f_X2_label_L19 (T : Tt) (V0 : Vt) (x0 : Nat) (x1 : Int32) (x2 : Int32) (x3 : Int64) (kx19_45 : Int32 → Option (Int32)) : Nat → Int32 → Option (Int32)
  | 0, _ => none
  | n + 1, x5 => pcl (f_X2_older T V0 x0 x1 x5) (fun z6 => if 0 ≤ (lg_cmp ((100 : Int64) * (Int32.toInt64 z6)) (x3 * (Int32.toInt64 x2))) then (kx19_45 x5) else (stp (x5 + ((-1) : Int32)) (fun z8 => (f_X2_label_L19 T V0 x0 x1 x2 x3 kx19_45 n) z8)))
def f_X2_label (T : Tt) (V0 : Vt) (o : Nat) (a0 : Int32) (a1 : Int32) : Option (Int32) :=
  req (T.1 o = 3) (pcl (f_X2_all T V0 o a0) (fun z2 => stp (Int32.toInt64 z2) (fun z3 => if (lg_cmp z3 (0 : Int64)) = 0 then (some ((-1) : Int32)) else (f_X2_label_L19 T V0 o a0 a1 z3 (fun z9 => some z9) fuel (19 : Int32)))))
def f_X2_full (T : Tt) (V0 : Vt) (o : Nat) (a0 : Int32) : Option (Int32) :=
  req (T.1 o = 3) (pcl (f_X2_all T V0 o a0) (fun z2 => some (z2 / (1000 : Int32))))
def f_X2_years (T : Tt) (V0 : Vt) (o : Nat) (a0 : Int32) : Option (Int32) :=
  req (T.1 o = 3) (pcl (f_X2_mean T V0 o a0) (fun z2 => if z2 = ((-1) : Int32) then (some ((-1) : Int32)) else (pcl (f_X2_mean T V0 o a0) (fun z5 => some (z5 / (1000 : Int32))))))
def f_X2_draws_J146 (T : Tt) (V0 : Vt) (x0 : Nat) (x1 : Int32) (x3 : Nat) (x6 : Int32) (x7 : Int32) (kc91 : Int32 → Int32 → Vt → Option (Vt)) (kx91_152 : Vt → Option (Vt)) : Option (Vt) :=
  stp (x7 + ((-1) : Int32)) (fun z34 => kc91 x6 z34 V0)
def f_X2_draws_L91 (T : Tt) (x0 : Nat) (x1 : Int32) (x3 : Nat) (kx91_152 : Vt → Option (Vt)) : Nat → Int32 → Int32 → Vt → Option (Vt)
  | 0, _, _, _ => none
  | n + 1, x6, x7, V1 => if x7 < 0 then (kx91_152 V1) else (if x6 ≤ 0 then (kx91_152 V1) else (drf (V1.2.2 x0 0) (fun r23 => req (aIn T r23 0 (((20 : Int32) * x1) + x7)) (if (V1.1 r23 (ixN (((20 : Int32) * x1) + x7))) = 0 then (f_X2_draws_J146 T V1 x0 x1 x3 x6 x7 (f_X2_draws_L91 T x0 x1 x3 kx91_152 n) kx91_152) else (req (aIn T x3 0 x7) (req (aIn T x3 0 x7) (stp (uI V1 x3 (ixN x7) ((V1.1 x3 (ixN x7)) + (1 : Int32))) (fun U28 => drf (U28.2.2 x0 0) (fun r29 => req (aIn T r29 0 (((20 : Int32) * x1) + x7)) (req (aIn T r29 0 (((20 : Int32) * x1) + x7)) (stp (uI U28 r29 (ixN (((20 : Int32) * x1) + x7)) ((U28.1 r29 (ixN (((20 : Int32) * x1) + x7))) - (1 : Int32))) (fun U32 => stp (x6 + ((-1) : Int32)) (fun z33 => f_X2_draws_J146 T U32 x0 x1 x3 z33 x7 (f_X2_draws_L91 T x0 x1 x3 kx91_152 n) kx91_152)))))))))))))
def f_X2_draws_L18 (T : Tt) (x0 : Nat) (x1 : Int32) (x2 : Int32) (x3 : Nat) (x4 : Int64) (kx18_87 : Int32 → Vt → Option (Vt)) : Nat → Int32 → Int32 → Vt → Option (Vt)
  | 0, _, _, _ => none
  | n + 1, x6, x7, V1 => if (20 : Int32) ≤ x7 then (kx18_87 x6 V1) else (drf (V1.2.2 x0 0) (fun r6 => req (aIn T r6 0 (((20 : Int32) * x1) + x7)) (req (¬ x4 = 0) (req (aIn T x3 0 x7) (stp (uI V1 x3 (ixN x7) (Int64.toInt32 ((((Int32.toInt64 (V1.1 r6 (ixN (((20 : Int32) * x1) + x7)))) * (Int32.toInt64 x2)) * (1000 : Int64)) / x4))) (fun U10 => req (aIn T x3 0 x7) (stp (x6 - (U10.1 x3 (ixN x7))) (fun z12 => drf (U10.2.2 x0 0) (fun r13 => req (aIn T r13 0 (((20 : Int32) * x1) + x7)) (req (aIn T x3 0 x7) (req (aIn T r13 0 (((20 : Int32) * x1) + x7)) (stp (uI U10 r13 (ixN (((20 : Int32) * x1) + x7)) ((U10.1 r13 (ixN (((20 : Int32) * x1) + x7))) - (U10.1 x3 (ixN x7)))) (fun U17 => stp (x7 + (1 : Int32)) (fun z18 => (f_X2_draws_L18 T x0 x1 x2 x3 x4 kx18_87 n) z12 z18 U17))))))))))))))
def f_X2_draws (T : Tt) (V0 : Vt) (o : Nat) (a0 : Int32) (a1 : Int32) (a2 : Nat) : Option (Vt) :=
  req (T.1 o = 3) (pcl (f_X2_all T V0 o a0) (fun z2 => stp (Int32.toInt64 z2) (fun z3 => stp (a1 * (1000 : Int32)) (fun z4 => f_X2_draws_L18 T o a0 a1 a2 z3 (fun z19 U20 => f_X2_draws_L91 T o a0 a2 (fun U35 => some U35) fuel z19 (19 : Int32) U20) fuel z4 (0 : Int32) V0))))
def f_X2_comes_L2 (T : Tt) (x0 : Nat) (x1 : Int32) (x2 : Nat) (kx2_31 : Vt → Option (Vt)) : Nat → Int32 → Vt → Option (Vt)
  | 0, _, _ => none
  | n + 1, x3, V1 => if (20 : Int32) ≤ x3 then (kx2_31 V1) else (drf (V1.2.2 x0 0) (fun r2 => req (aIn T r2 0 (((20 : Int32) * x1) + x3)) (req (aIn T x2 0 x3) (req (aIn T r2 0 (((20 : Int32) * x1) + x3)) (stp (uI V1 r2 (ixN (((20 : Int32) * x1) + x3)) ((V1.1 r2 (ixN (((20 : Int32) * x1) + x3))) + (V1.1 x2 (ixN x3)))) (fun U6 => stp (x3 + (1 : Int32)) (fun z7 => (f_X2_comes_L2 T x0 x1 x2 kx2_31 n) z7 U6)))))))
def f_X2_comes (T : Tt) (V0 : Vt) (o : Nat) (a0 : Int32) (a1 : Nat) : Option (Vt) :=
  req (T.1 o = 3) (f_X2_comes_L2 T o a0 a1 (fun U8 => some U8) fuel (0 : Int32) V0)
def f_X2_ages_L33 (T : Tt) (x0 : Nat) (x2 : Int32) (kx33_61 : Vt → Option (Vt)) : Nat → Int32 → Vt → Option (Vt)
  | 0, _, _ => none
  | n + 1, x3, V1 => if x3 ≤ 0 then (kx33_61 V1) else (drf (V1.2.2 x0 0) (fun r9 => drf (V1.2.2 x0 0) (fun r10 => req (aIn T r10 0 ((x2 + x3) - (1 : Int32))) (req (aIn T r9 0 (x2 + x3)) (stp (uI V1 r9 (ixN (x2 + x3)) (V1.1 r10 (ixN ((x2 + x3) - (1 : Int32))))) (fun U13 => stp (x3 + ((-1) : Int32)) (fun z14 => (f_X2_ages_L33 T x0 x2 kx33_61 n) z14 U13)))))))
def f_X2_ages (T : Tt) (V0 : Vt) (o : Nat) (a0 : Int32) : Option (Vt) :=
  req (T.1 o = 3) (stp ((20 : Int32) * a0) (fun z1 => drf (V0.2.2 o 0) (fun r2 => req (aIn T r2 0 ((z1 + (20 : Int32)) - (1 : Int32))) (drf (V0.2.2 o 0) (fun r4 => req (aIn T r4 0 ((z1 + (20 : Int32)) - (2 : Int32))) (req (aIn T r2 0 ((z1 + (20 : Int32)) - (1 : Int32))) (stp (uI V0 r2 (ixN ((z1 + (20 : Int32)) - (1 : Int32))) ((V0.1 r2 (ixN ((z1 + (20 : Int32)) - (1 : Int32)))) + (V0.1 r4 (ixN ((z1 + (20 : Int32)) - (2 : Int32)))))) (fun U7 => f_X2_ages_L33 T o z1 (fun U15 => drf (U15.2.2 o 0) (fun r16 => req (aIn T r16 0 z1) (stp (uI U15 r16 (ixN z1) (0 : Int32)) (fun U18 => some U18)))) fuel (18 : Int32) U7))))))))
set_option maxHeartbeats 4000000 in
theorem ok_X2_init {l : Launch} {G : gG} {T : Tt} {V0 : Vt} {o : Nat} {V' : Vt} {T' : Tt} {n k : Nat} (hf : f_X2_init T V0 o = some ((V', T'), n, k)) : okM l G yX2_init cX2_init 1 none 1 [.ref (gb G + o)] V0 T none V' T' n k := by
  refine ok_intro (by decide) (Nat.le_of_ble_eq_true rfl) ?_
  intro p e s m below meth c ls C hr hnm hw hl
  have hx := C.1
  have hb := C.2.1
  have hown := C.2.2.2.1
  have hts := C.2.2.2.2.1
  have hl : lv_has ls 1 [(0, .ref (gb G + o))] := hl
  unfold f_X2_init at hf
  revert hf
  refine k_req (fun k0 hf => ?_)
  obtain ⟨mc, emc⟩ : ∃ mc, mc = n := ⟨_, rfl⟩
  obtain ⟨ms, ems⟩ : ∃ ms, ms = k := ⟨_, rfl⟩
  have hn : 0 + n = mc := by omega
  have hk : 0 + k = ms := by omega
  rw [← emc, ← ems]
  clear emc ems
  refine lv_aload_n hx hb dX2_init_0 rfl (lv_at hl 0 rfl) ?_
  refine W.objInit hx hb hown (hts _ q187) (hts _ q174) (hts _ q175) rfl (by rw [C.2.2.1]; exact hl.1) rfl dX2_init_1 (Nat.le_of_ble_eq_true rfl) (Nat.le_of_ble_eq_true rfl) ?_
  refine W.eq (g2 := F0 m 4 ls []) rfl ?_
  refine lv_aload_n hx hb dX2_init_4 rfl (lv_at hl 0 rfl) ?_
  refine lv_sipush (v := (160 : Int32)) hx hb dX2_init_5 (by decide) ?_
  revert hf
  refine k_req (fun h1 hf => ?_)
  revert hf
  refine k_inc (fun n1 k1 hf en ek => ?_)
  revert hf
  refine k_stp (fun q2 eq2 hf => ?_)
  revert hf
  refine k_stp (fun U3 eU3 hf => ?_)
  revert hf
  refine k_stp (fun T4 eT4 hf => ?_)
  refine w_newa (t := 0) (atype := .int) C hw (by decide) rfl q201 h1.1 h1.2 (by show _ ≤ mc; omega) (by show _ ≤ ms; omega) eq2 eU3 eT4 dX2_init_8 (fun H hw => ?_)
  replace hn := add_r hn en
  replace hk := add_r hk ek
  clear en ek
  generalize n1 = n at hf hn
  generalize k1 = k at hf hk
  revert hf
  refine k_req (fun k5 hf => ?_)
  revert hf
  refine k_stp (fun U6 eU6 hf => ?_)
  refine pf_X2_9 C hw k5 hnm eU6 dX2_init_10 (fun H locs hw => ?_)
  cases hf
  cases hn
  cases hk
  exact w_vret C hr hw dX2_init_13
set_option maxHeartbeats 4000000 in
theorem ok_X1_init {l : Launch} {G : gG} {T : Tt} {V0 : Vt} {o : Nat} {V' : Vt} {T' : Tt} {n k : Nat} (hf : f_X1_init T V0 o = some ((V', T'), n, k)) : okM l G yX1_init cX1_init 1 none 4 [.ref (gb G + o)] V0 T none V' T' n k := by
  refine ok_intro (by decide) (Nat.le_of_ble_eq_true rfl) ?_
  intro p e s m below meth c ls C hr hnm hw hl
  have hx := C.1
  have hb := C.2.1
  have hown := C.2.2.2.1
  have hts := C.2.2.2.2.1
  have hl : lv_has ls 1 [(0, .ref (gb G + o))] := hl
  unfold f_X1_init at hf
  revert hf
  refine k_req (fun k0 hf => ?_)
  obtain ⟨mc, emc⟩ : ∃ mc, mc = n := ⟨_, rfl⟩
  obtain ⟨ms, ems⟩ : ∃ ms, ms = k := ⟨_, rfl⟩
  have hn : 0 + n = mc := by omega
  have hk : 0 + k = ms := by omega
  rw [← emc, ← ems]
  clear emc ems
  refine lv_aload_n hx hb dX1_init_0 rfl (lv_at hl 0 rfl) ?_
  refine W.objInit hx hb hown (hts _ q181) (hts _ q174) (hts _ q175) rfl (by rw [C.2.2.1]; exact hl.1) rfl dX1_init_1 (Nat.le_of_ble_eq_true rfl) (Nat.le_of_ble_eq_true rfl) ?_
  refine W.eq (g2 := F0 m 4 ls []) rfl ?_
  refine lv_aload_n hx hb dX1_init_4 rfl (lv_at hl 0 rfl) ?_
  revert hf
  refine k_inc (fun n1 k1 hf en ek => ?_)
  revert hf
  refine k_stp (fun q1 eq1 hf => ?_)
  revert hf
  refine k_stp (fun U2 eU2 hf => ?_)
  revert hf
  refine k_stp (fun T3 eT3 hf => ?_)
  refine nw_X2 C hw q182 (by show _ ≤ mc; omega) (by show _ ≤ ms; omega) eq1 eU2 eT3 dX1_init_5 (fun H hw => ?_)
  replace hn := add_r hn en
  replace hk := add_r hk ek
  clear en ek
  generalize n1 = n at hf hn
  generalize k1 = k at hf hk
  refine lv_dup hx hb dX1_init_8 rfl ?_
  revert hf
  refine k_dcv (fun U6 T7 na ka n1 k1 h4 hf en ek => ?_)
  refine w_afv hw (w_rIN (As := []) C hw (ok_X2_init h4) (cw_X1_11 C (Nat.le_of_ble_eq_true rfl) (Nat.le_of_ble_eq_true rfl)) rfl hl.1 rfl (Nat.le_of_ble_eq_true rfl) ⟨by show _ ≤ mc; omega, by show _ ≤ ms; omega⟩ dX1_init_9) (fun H locs hw => ?_)
  replace hn := add_r hn en
  replace hk := add_r hk ek
  clear en ek
  generalize n1 = n at hf hn
  generalize k1 = k at hf hk
  revert hf
  refine k_req (fun k8 hf => ?_)
  revert hf
  refine k_stp (fun U9 eU9 hf => ?_)
  refine pf_X1_12 C hw k8 hnm eU9 dX1_init_12 (fun H locs hw => ?_)
  refine lv_aload_n hx hb dX1_init_15 rfl (lv_at hl 0 rfl) ?_
  refine lv_bipush (v := (8 : Int32)) hx hb dX1_init_16 (by decide) ?_
  revert hf
  refine k_req (fun h10 hf => ?_)
  revert hf
  refine k_inc (fun n1 k1 hf en ek => ?_)
  revert hf
  refine k_stp (fun q11 eq11 hf => ?_)
  revert hf
  refine k_stp (fun U12 eU12 hf => ?_)
  revert hf
  refine k_stp (fun T13 eT13 hf => ?_)
  refine w_newa (t := 0) (atype := .int) C hw (by decide) rfl q201 h10.1 h10.2 (by show _ ≤ mc; omega) (by show _ ≤ ms; omega) eq11 eU12 eT13 dX1_init_18 (fun H hw => ?_)
  replace hn := add_r hn en
  replace hk := add_r hk ek
  clear en ek
  generalize n1 = n at hf hn
  generalize k1 = k at hf hk
  revert hf
  refine k_req (fun k14 hf => ?_)
  revert hf
  refine k_stp (fun U15 eU15 hf => ?_)
  refine pf_X1_18 C hw k14 hnm eU15 dX1_init_20 (fun H locs hw => ?_)
  refine lv_aload_n hx hb dX1_init_23 rfl (lv_at hl 0 rfl) ?_
  refine lv_bipush (v := (8 : Int32)) hx hb dX1_init_24 (by decide) ?_
  revert hf
  refine k_req (fun h16 hf => ?_)
  revert hf
  refine k_inc (fun n1 k1 hf en ek => ?_)
  revert hf
  refine k_stp (fun q17 eq17 hf => ?_)
  revert hf
  refine k_stp (fun U18 eU18 hf => ?_)
  revert hf
  refine k_stp (fun T19 eT19 hf => ?_)
  refine w_newa (t := 0) (atype := .int) C hw (by decide) rfl q201 h16.1 h16.2 (by show _ ≤ mc; omega) (by show _ ≤ ms; omega) eq17 eU18 eT19 dX1_init_26 (fun H hw => ?_)
  replace hn := add_r hn en
  replace hk := add_r hk ek
  clear en ek
  generalize n1 = n at hf hn
  generalize k1 = k at hf hk
  revert hf
  refine k_req (fun k20 hf => ?_)
  revert hf
  refine k_stp (fun U21 eU21 hf => ?_)
  refine pf_X1_22 C hw k20 hnm eU21 dX1_init_28 (fun H locs hw => ?_)
  refine lv_aload_n hx hb dX1_init_31 rfl (lv_at hl 0 rfl) ?_
  refine lv_bipush (v := (12 : Int32)) hx hb dX1_init_32 (by decide) ?_
  revert hf
  refine k_req (fun h22 hf => ?_)
  revert hf
  refine k_inc (fun n1 k1 hf en ek => ?_)
  revert hf
  refine k_stp (fun q23 eq23 hf => ?_)
  revert hf
  refine k_stp (fun U24 eU24 hf => ?_)
  revert hf
  refine k_stp (fun T25 eT25 hf => ?_)
  refine w_newa (t := 0) (atype := .int) C hw (by decide) rfl q201 h22.1 h22.2 (by show _ ≤ mc; omega) (by show _ ≤ ms; omega) eq23 eU24 eT25 dX1_init_34 (fun H hw => ?_)
  replace hn := add_r hn en
  replace hk := add_r hk ek
  clear en ek
  generalize n1 = n at hf hn
  generalize k1 = k at hf hk
  revert hf
  refine k_req (fun k26 hf => ?_)
  revert hf
  refine k_stp (fun U27 eU27 hf => ?_)
  refine pf_X1_25 C hw k26 hnm eU27 dX1_init_36 (fun H locs hw => ?_)
  refine lv_aload_n hx hb dX1_init_39 rfl (lv_at hl 0 rfl) ?_
  revert hf
  refine k_inc (fun n1 k1 hf en ek => ?_)
  revert hf
  refine k_stp (fun q28 eq28 hf => ?_)
  revert hf
  refine k_stp (fun U29 eU29 hf => ?_)
  revert hf
  refine k_stp (fun T30 eT30 hf => ?_)
  refine nw_J2 C hw q202 (by show _ ≤ mc; omega) (by show _ ≤ ms; omega) eq28 eU29 eT30 dX1_init_40 (fun H hw => ?_)
  replace hn := add_r hn en
  replace hk := add_r hk ek
  clear en ek
  generalize n1 = n at hf hn
  generalize k1 = k at hf hk
  refine lv_dup hx hb dX1_init_43 rfl ?_
  refine lv_iconst (v := (2 : Int32)) hx hb dX1_init_44 (by decide) ?_
  revert hf
  refine k_dcv (fun U33 T34 na ka n1 k1 h31 hf en ek => ?_)
  refine w_afv hw (w_rI (As := [.int (2 : Int32)]) C hw (ok_J2_init h31) (cw_X1_30 hts (Nat.le_of_ble_eq_true rfl) (Nat.le_of_ble_eq_true rfl)) rfl hl.1 rfl (Nat.le_of_ble_eq_true rfl) ⟨by show _ ≤ mc; omega, by show _ ≤ ms; omega⟩ dX1_init_45) (fun H locs hw => ?_)
  replace hn := add_r hn en
  replace hk := add_r hk ek
  clear en ek
  generalize n1 = n at hf hn
  generalize k1 = k at hf hk
  revert hf
  refine k_req (fun k35 hf => ?_)
  revert hf
  refine k_stp (fun U36 eU36 hf => ?_)
  refine pf_X1_33 C hw k35 hnm eU36 dX1_init_48 (fun H locs hw => ?_)
  refine lv_aload_n hx hb dX1_init_51 rfl (lv_at hl 0 rfl) ?_
  revert hf
  refine k_inc (fun n1 k1 hf en ek => ?_)
  revert hf
  refine k_stp (fun q37 eq37 hf => ?_)
  revert hf
  refine k_stp (fun U38 eU38 hf => ?_)
  revert hf
  refine k_stp (fun T39 eT39 hf => ?_)
  refine nw_J2 C hw q202 (by show _ ≤ mc; omega) (by show _ ≤ ms; omega) eq37 eU38 eT39 dX1_init_52 (fun H hw => ?_)
  replace hn := add_r hn en
  replace hk := add_r hk ek
  clear en ek
  generalize n1 = n at hf hn
  generalize k1 = k at hf hk
  refine lv_dup hx hb dX1_init_55 rfl ?_
  refine lv_iconst (v := (2 : Int32)) hx hb dX1_init_56 (by decide) ?_
  revert hf
  refine k_dcv (fun U42 T43 na ka n1 k1 h40 hf en ek => ?_)
  refine w_afv hw (w_rI (As := [.int (2 : Int32)]) C hw (ok_J2_init h40) (cw_X1_30 hts (Nat.le_of_ble_eq_true rfl) (Nat.le_of_ble_eq_true rfl)) rfl hl.1 rfl (Nat.le_of_ble_eq_true rfl) ⟨by show _ ≤ mc; omega, by show _ ≤ ms; omega⟩ dX1_init_57) (fun H locs hw => ?_)
  replace hn := add_r hn en
  replace hk := add_r hk ek
  clear en ek
  generalize n1 = n at hf hn
  generalize k1 = k at hf hk
  revert hf
  refine k_req (fun k44 hf => ?_)
  revert hf
  refine k_stp (fun U45 eU45 hf => ?_)
  refine pf_X1_37 C hw k44 hnm eU45 dX1_init_60 (fun H locs hw => ?_)
  refine lv_aload_n hx hb dX1_init_63 rfl (lv_at hl 0 rfl) ?_
  refine lv_iconst (v := (1 : Int32)) hx hb dX1_init_64 (by decide) ?_
  revert hf
  refine k_stp (fun U46 eU46 hf => ?_)
  refine pf_X1_40 C hw k44 eU46 dX1_init_65 (fun H locs hw => ?_)
  refine lv_aload_n hx hb dX1_init_68 rfl (lv_at hl 0 rfl) ?_
  refine lv_bipush (v := (85 : Int32)) hx hb dX1_init_69 (by decide) ?_
  revert hf
  refine k_stp (fun U47 eU47 hf => ?_)
  refine pf_X1_44 C hw k44 eU47 dX1_init_71 (fun H locs hw => ?_)
  refine lv_aload_n hx hb dX1_init_74 rfl (lv_at hl 0 rfl) ?_
  refine lv_iconst (v := ((-1) : Int32)) hx hb dX1_init_75 (by decide) ?_
  revert hf
  refine k_stp (fun U48 eU48 hf => ?_)
  refine pf_X1_47 C hw k44 eU48 dX1_init_76 (fun H locs hw => ?_)
  cases hf
  cases hn
  cases hk
  exact w_vret C hr hw dX1_init_79
set_option maxHeartbeats 4000000 in
theorem ok_X2_takes {l : Launch} {G : gG} {T : Tt} {V0 : Vt} {o : Nat} {a0 : Nat} {V' : Vt} (hf : f_X2_takes T V0 o a0 = some V') : okM l G yX2_takes cX2_takes 2 none 2 [.ref (gb G + o), .ref (gb G + a0)] V0 T none V' T 0 0 := by
  refine ok_intro (by decide) (Nat.le_of_ble_eq_true rfl) ?_
  intro p e s m below meth c ls C hr hnm hw hl
  have hx := C.1
  have hb := C.2.1
  have hown := C.2.2.2.1
  have hts := C.2.2.2.2.1
  have hl : lv_has ls 2 [(0, .ref (gb G + o)), (1, .ref (gb G + a0))] := hl
  unfold f_X2_takes at hf
  revert hf
  refine k_req (fun k0 hf => ?_)
  refine lv_aload_n hx hb dX2_takes_0 rfl (lv_at hl 1 rfl) ?_
  revert hf
  refine k_req (fun k1 hf => ?_)
  revert hf
  refine k_drf (fun r2 er2 hf => ?_)
  refine gf_X2_9 C hw k1 er2 dX2_takes_1 ?_
  refine lv_iconst (v := (0 : Int32)) hx hb dX2_takes_4 (by decide) ?_
  refine lv_aload_n hx hb dX2_takes_5 rfl (lv_at hl 0 rfl) ?_
  revert hf
  refine k_drf (fun r3 er3 hf => ?_)
  refine gf_X2_9 C hw k0 er3 dX2_takes_6 ?_
  refine lv_iconst (v := (0 : Int32)) hx hb dX2_takes_9 (by decide) ?_
  refine lv_aload_n hx hb dX2_takes_10 rfl (lv_at hl 0 rfl) ?_
  revert hf
  refine k_drf (fun r4 er4 hf => ?_)
  refine gf_X2_9 C hw k0 er4 dX2_takes_11 ?_
  revert hf
  refine k_req (fun h5 hf => ?_)
  refine w_alen (t := 0) C hw (by decide) h5 dX2_takes_14 ?_
  revert hf
  refine k_req (fun h6 hf => ?_)
  revert hf
  refine k_stp (fun U7 eU7 hf => ?_)
  refine w_copyI C hl.1 hw q459 h6 (Nat.le_of_ble_eq_true rfl) (Nat.le_of_ble_eq_true rfl) eU7 dX2_takes_15 (fun H locs hw => ?_)
  refine lv_aload_n hx hb dX2_takes_18 rfl (lv_at hl 0 rfl) ?_
  refine lv_aload_n hx hb dX2_takes_19 rfl (lv_at hl 1 rfl) ?_
  refine gf_X2_21 C hw k1 dX2_takes_20 ?_
  revert hf
  refine k_stp (fun U8 eU8 hf => ?_)
  refine pf_X2_21 C hw k0 eU8 dX2_takes_23 (fun H locs hw => ?_)
  refine lv_aload_n hx hb dX2_takes_26 rfl (lv_at hl 0 rfl) ?_
  refine lv_aload_n hx hb dX2_takes_27 rfl (lv_at hl 1 rfl) ?_
  refine gf_X2_25 C hw k1 dX2_takes_28 ?_
  revert hf
  refine k_stp (fun U9 eU9 hf => ?_)
  refine pf_X2_25 C hw k0 eU9 dX2_takes_31 (fun H locs hw => ?_)
  cases hf
  exact w_vret C hr hw dX2_takes_34
set_option maxHeartbeats 4000000 in
theorem ok_X1_takes {l : Launch} {G : gG} {T : Tt} {V0 : Vt} {o : Nat} {a0 : Nat} {V' : Vt} {T' : Tt} {n k : Nat} (hf : f_X1_takes T V0 o a0 = some ((V', T'), n, k)) : okM l G yX1_takes cX1_takes 2 none 6 [.ref (gb G + o), .ref (gb G + a0)] V0 T none V' T' n k := by
  refine ok_intro (by decide) (Nat.le_of_ble_eq_true rfl) ?_
  intro p e s m below meth c ls C hr hnm hw hl
  have hx := C.1
  have hb := C.2.1
  have hown := C.2.2.2.1
  have hts := C.2.2.2.2.1
  have hl : lv_has ls 2 [(0, .ref (gb G + o)), (1, .ref (gb G + a0))] := hl
  unfold f_X1_takes at hf
  revert hf
  refine k_req (fun k0 hf => ?_)
  obtain ⟨mc, emc⟩ : ∃ mc, mc = n := ⟨_, rfl⟩
  obtain ⟨ms, ems⟩ : ∃ ms, ms = k := ⟨_, rfl⟩
  have hn : 0 + n = mc := by omega
  have hk : 0 + k = ms := by omega
  rw [← emc, ← ems]
  clear emc ems
  refine lv_aload_n hx hb dX1_takes_0 rfl (lv_at hl 0 rfl) ?_
  revert hf
  refine k_drf (fun r1 er1 hf => ?_)
  refine gf_X1_12 C hw k0 er1 dX1_takes_1 ?_
  refine lv_aload_n hx hb dX1_takes_4 rfl (lv_at hl 1 rfl) ?_
  revert hf
  refine k_req (fun k2 hf => ?_)
  revert hf
  refine k_drf (fun r3 er3 hf => ?_)
  refine gf_X1_12 C hw k2 er3 dX1_takes_5 ?_
  revert hf
  refine k_pcl (fun U6 h4 hf => ?_)
  refine w_afv hw (w_rV (As := [.ref (gb G + r3)]) C hw (ok_X2_takes h4) (cw_X1_50 hts (Nat.le_of_ble_eq_true rfl) (Nat.le_of_ble_eq_true rfl)) rfl (by decide) (of_req h4).1 rfl hl.1 rfl (Nat.le_of_ble_eq_true rfl) ⟨by show _ + 0 ≤ mc; omega, by show _ + 0 ≤ ms; omega⟩ dX1_takes_8) (fun H locs hw => ?_)
  refine lv_aload_n hx hb dX1_takes_11 rfl (lv_at hl 1 rfl) ?_
  revert hf
  refine k_drf (fun r7 er7 hf => ?_)
  refine gf_X1_18 C hw k2 er7 dX1_takes_12 ?_
  refine lv_iconst (v := (0 : Int32)) hx hb dX1_takes_15 (by decide) ?_
  refine lv_aload_n hx hb dX1_takes_16 rfl (lv_at hl 0 rfl) ?_
  revert hf
  refine k_drf (fun r8 er8 hf => ?_)
  refine gf_X1_18 C hw k0 er8 dX1_takes_17 ?_
  refine lv_iconst (v := (0 : Int32)) hx hb dX1_takes_20 (by decide) ?_
  refine lv_bipush (v := (8 : Int32)) hx hb dX1_takes_21 (by decide) ?_
  revert hf
  refine k_req (fun h9 hf => ?_)
  revert hf
  refine k_stp (fun U10 eU10 hf => ?_)
  refine w_copyI C hl.1 hw q462 h9 (Nat.le_of_ble_eq_true rfl) (Nat.le_of_ble_eq_true rfl) eU10 dX1_takes_23 (fun H locs hw => ?_)
  refine lv_aload_n hx hb dX1_takes_26 rfl (lv_at hl 1 rfl) ?_
  revert hf
  refine k_drf (fun r11 er11 hf => ?_)
  refine gf_X1_22 C hw k2 er11 dX1_takes_27 ?_
  refine lv_iconst (v := (0 : Int32)) hx hb dX1_takes_30 (by decide) ?_
  refine lv_aload_n hx hb dX1_takes_31 rfl (lv_at hl 0 rfl) ?_
  revert hf
  refine k_drf (fun r12 er12 hf => ?_)
  refine gf_X1_22 C hw k0 er12 dX1_takes_32 ?_
  refine lv_iconst (v := (0 : Int32)) hx hb dX1_takes_35 (by decide) ?_
  refine lv_bipush (v := (8 : Int32)) hx hb dX1_takes_36 (by decide) ?_
  revert hf
  refine k_req (fun h13 hf => ?_)
  revert hf
  refine k_stp (fun U14 eU14 hf => ?_)
  refine w_copyI C hl.1 hw q462 h13 (Nat.le_of_ble_eq_true rfl) (Nat.le_of_ble_eq_true rfl) eU14 dX1_takes_38 (fun H locs hw => ?_)
  refine lv_aload_n hx hb dX1_takes_41 rfl (lv_at hl 1 rfl) ?_
  revert hf
  refine k_drf (fun r15 er15 hf => ?_)
  refine gf_X1_25 C hw k2 er15 dX1_takes_42 ?_
  refine lv_iconst (v := (0 : Int32)) hx hb dX1_takes_45 (by decide) ?_
  refine lv_aload_n hx hb dX1_takes_46 rfl (lv_at hl 0 rfl) ?_
  revert hf
  refine k_drf (fun r16 er16 hf => ?_)
  refine gf_X1_25 C hw k0 er16 dX1_takes_47 ?_
  refine lv_iconst (v := (0 : Int32)) hx hb dX1_takes_50 (by decide) ?_
  refine lv_aload_n hx hb dX1_takes_51 rfl (lv_at hl 0 rfl) ?_
  revert hf
  refine k_drf (fun r17 er17 hf => ?_)
  refine gf_X1_25 C hw k0 er17 dX1_takes_52 ?_
  revert hf
  refine k_req (fun h18 hf => ?_)
  refine w_alen (t := 0) C hw (by decide) h18 dX1_takes_55 ?_
  revert hf
  refine k_req (fun h19 hf => ?_)
  revert hf
  refine k_stp (fun U20 eU20 hf => ?_)
  refine w_copyI C hl.1 hw q462 h19 (Nat.le_of_ble_eq_true rfl) (Nat.le_of_ble_eq_true rfl) eU20 dX1_takes_56 (fun H locs hw => ?_)
  refine lv_aload_n hx hb dX1_takes_59 rfl (lv_at hl 0 rfl) ?_
  revert hf
  refine k_drf (fun r21 er21 hf => ?_)
  refine gf_X1_33 C hw k0 er21 dX1_takes_60 ?_
  revert hf
  refine k_pcl (fun U24 h22 hf => ?_)
  refine w_afv hw (w_rV (As := []) C hw (ok_J2_clear h22) (cw_X1_60 hts (Nat.le_of_ble_eq_true rfl) (Nat.le_of_ble_eq_true rfl)) rfl (by decide) (of_req h22).1 rfl hl.1 rfl (Nat.le_of_ble_eq_true rfl) ⟨by show _ + 0 ≤ mc; omega, by show _ + 0 ≤ ms; omega⟩ dX1_takes_63) (fun H locs hw => ?_)
  refine lv_aload_n hx hb dX1_takes_66 rfl (lv_at hl 0 rfl) ?_
  revert hf
  refine k_drf (fun r25 er25 hf => ?_)
  refine gf_X1_33 C hw k0 er25 dX1_takes_67 ?_
  refine lv_aload_n hx hb dX1_takes_70 rfl (lv_at hl 1 rfl) ?_
  revert hf
  refine k_drf (fun r26 er26 hf => ?_)
  refine gf_X1_33 C hw k2 er26 dX1_takes_71 ?_
  revert hf
  refine k_dcl (fun z28 U29 T30 na ka n1 k1 h27 hf en ek => ?_)
  refine w_afi hw (w_rV (As := [.ref (gb G + r26)]) C hw (ok_J2_addAll h27) (cw_X1_63 hts (Nat.le_of_ble_eq_true rfl) (Nat.le_of_ble_eq_true rfl)) rfl (by decide) (of_req h27).1 rfl hl.1 rfl (Nat.le_of_ble_eq_true rfl) ⟨by show _ ≤ mc; omega, by show _ ≤ ms; omega⟩ dX1_takes_74) (fun H locs hw => ?_)
  replace hn := add_r hn en
  replace hk := add_r hk ek
  clear en ek
  generalize n1 = n at hf hn
  generalize k1 = k at hf hk
  refine lv_pop hx hb dX1_takes_77 rfl ?_
  refine lv_aload_n hx hb dX1_takes_78 rfl (lv_at hl 0 rfl) ?_
  revert hf
  refine k_req (fun k31 hf => ?_)
  revert hf
  refine k_drf (fun r32 er32 hf => ?_)
  refine gf_X1_37 C hw k31 er32 dX1_takes_79 ?_
  revert hf
  refine k_pcl (fun U35 h33 hf => ?_)
  refine w_afv hw (w_rV (As := []) C hw (ok_J2_clear h33) (cw_X1_60 hts (Nat.le_of_ble_eq_true rfl) (Nat.le_of_ble_eq_true rfl)) rfl (by decide) (of_req h33).1 rfl hl.1 rfl (Nat.le_of_ble_eq_true rfl) ⟨by show _ + 0 ≤ mc; omega, by show _ + 0 ≤ ms; omega⟩ dX1_takes_82) (fun H locs hw => ?_)
  refine lv_aload_n hx hb dX1_takes_85 rfl (lv_at hl 0 rfl) ?_
  revert hf
  refine k_drf (fun r36 er36 hf => ?_)
  refine gf_X1_37 C hw k31 er36 dX1_takes_86 ?_
  refine lv_aload_n hx hb dX1_takes_89 rfl (lv_at hl 1 rfl) ?_
  revert hf
  refine k_req (fun k37 hf => ?_)
  revert hf
  refine k_drf (fun r38 er38 hf => ?_)
  refine gf_X1_37 C hw k37 er38 dX1_takes_90 ?_
  revert hf
  refine k_dcl (fun z40 U41 T42 na ka n1 k1 h39 hf en ek => ?_)
  refine w_afi hw (w_rV (As := [.ref (gb G + r38)]) C hw (ok_J2_addAll h39) (cw_X1_63 hts (Nat.le_of_ble_eq_true rfl) (Nat.le_of_ble_eq_true rfl)) rfl (by decide) (of_req h39).1 rfl hl.1 rfl (Nat.le_of_ble_eq_true rfl) ⟨by show _ ≤ mc; omega, by show _ ≤ ms; omega⟩ dX1_takes_93) (fun H locs hw => ?_)
  replace hn := add_r hn en
  replace hk := add_r hk ek
  clear en ek
  generalize n1 = n at hf hn
  generalize k1 = k at hf hk
  refine lv_pop hx hb dX1_takes_96 rfl ?_
  refine lv_aload_n hx hb dX1_takes_97 rfl (lv_at hl 0 rfl) ?_
  refine lv_aload_n hx hb dX1_takes_98 rfl (lv_at hl 1 rfl) ?_
  revert hf
  refine k_req (fun k43 hf => ?_)
  refine gf_X1_67 C hw k43 dX1_takes_99 ?_
  revert hf
  refine k_req (fun k44 hf => ?_)
  revert hf
  refine k_stp (fun U45 eU45 hf => ?_)
  refine pf_X1_67 C hw k44 eU45 dX1_takes_102 (fun H locs hw => ?_)
  refine lv_aload_n hx hb dX1_takes_105 rfl (lv_at hl 0 rfl) ?_
  refine lv_aload_n hx hb dX1_takes_106 rfl (lv_at hl 1 rfl) ?_
  refine gf_X1_70 C hw k43 dX1_takes_107 ?_
  revert hf
  refine k_stp (fun U46 eU46 hf => ?_)
  refine pf_X1_70 C hw k44 eU46 dX1_takes_110 (fun H locs hw => ?_)
  refine lv_aload_n hx hb dX1_takes_113 rfl (lv_at hl 0 rfl) ?_
  refine lv_aload_n hx hb dX1_takes_114 rfl (lv_at hl 1 rfl) ?_
  refine gf_X1_40 C hw k43 dX1_takes_115 ?_
  revert hf
  refine k_stp (fun U47 eU47 hf => ?_)
  refine pf_X1_40 C hw k44 eU47 dX1_takes_118 (fun H locs hw => ?_)
  refine lv_aload_n hx hb dX1_takes_121 rfl (lv_at hl 0 rfl) ?_
  refine lv_aload_n hx hb dX1_takes_122 rfl (lv_at hl 1 rfl) ?_
  refine gf_X1_73 C hw k43 dX1_takes_123 ?_
  revert hf
  refine k_stp (fun U48 eU48 hf => ?_)
  refine pf_X1_73 C hw k44 eU48 dX1_takes_126 (fun H locs hw => ?_)
  refine lv_aload_n hx hb dX1_takes_129 rfl (lv_at hl 0 rfl) ?_
  refine lv_aload_n hx hb dX1_takes_130 rfl (lv_at hl 1 rfl) ?_
  refine gf_X1_44 C hw k43 dX1_takes_131 ?_
  revert hf
  refine k_stp (fun U49 eU49 hf => ?_)
  refine pf_X1_44 C hw k44 eU49 dX1_takes_134 (fun H locs hw => ?_)
  refine lv_aload_n hx hb dX1_takes_137 rfl (lv_at hl 0 rfl) ?_
  refine lv_aload_n hx hb dX1_takes_138 rfl (lv_at hl 1 rfl) ?_
  refine gf_X1_47 C hw k43 dX1_takes_139 ?_
  revert hf
  refine k_stp (fun U50 eU50 hf => ?_)
  refine pf_X1_47 C hw k44 eU50 dX1_takes_142 (fun H locs hw => ?_)
  cases hf
  cases hn
  cases hk
  exact w_vret C hr hw dX1_takes_145
set_option maxHeartbeats 4000000 in
theorem lk_X2_all_4 {l : Launch} {G : gG} {p : Program} {e : Env} {s : State} {m : MethodId} {args : Array Value} {below : List Frame} {meth : Method} {c : Code} {T : Tt} {V0 : Vt} {r : Int32} (C : Cx G p s m args meth c cX2_all RX2 4) (hr : meth.sig.returnType = (some .int)) {x0 : Nat} {x1 : Int32} {kx4_30 : Int32 → Option (Int32)} (k0 : T.1 x0 = 3) (hkx4_30 : ∀ (y2 : Int32) (H : Heap) (locs : List Loc) (ls : Array Slot), kx4_30 y2 = some r → wS G V0 T H locs → lv_has ls 4 [(2, .int y2)] → W p l e (rmL 0 0 0) s m args below meth c H locs 0 0 (eQ G below (some (.int r)) V0 T args s 0 0) (F0 m 30 ls [])) : ∀ (n : Nat) (x2 : Int32) (x3 : Int32) (H : Heap) (locs : List Loc) (ls : Array Slot), f_X2_all_L4 T V0 x0 x1 kx4_30 n x2 x3 = some r → wS G V0 T H locs → lv_has ls 4 [(0, .ref (gb G + x0)), (1, .int x1), (2, .int x2), (3, .int x3)] → W p l e (rmL 0 0 0) s m args below meth c H locs 0 0 (eQ G below (some (.int r)) V0 T args s 0 0) (F0 m 4 ls []) := by
  have hx := C.1
  have hb := C.2.1
  have hown := C.2.2.2.1
  have hts := C.2.2.2.2.1
  intro n
  induction n with
  | zero =>
    intro x2 x3 H locs ls hf
    cases hf
  | succ n ih =>
    intro x2 x3 H locs ls hf hw hl
    unfold f_X2_all_L4 at hf
    refine lv_iload_n hx hb dX2_all_4 rfl (lv_at hl 3 rfl) ?_
    refine lv_bipush (v := (20 : Int32)) hx hb dX2_all_5 (by decide) ?_
    refine lv_icmp_ge (tgt := 30) hx hb dX2_all_7 (by decide) (fun c1 => ?_) (fun c1 => ?_)
    · replace hf := ite_t c1 hf
      exact hkx4_30 _ _ _ _ hf hw (lv_sub hl [2] rfl)
    · replace hf := ite_f c1 hf
      refine lv_iload_n hx hb dX2_all_10 rfl (lv_at hl 2 rfl) ?_
      refine lv_aload_n hx hb dX2_all_11 rfl (lv_at hl 0 rfl) ?_
      revert hf
      refine k_drf (fun r2 er2 hf => ?_)
      refine gf_X2_9 C hw k0 er2 dX2_all_12 ?_
      refine lv_bipush (v := (20 : Int32)) hx hb dX2_all_15 (by decide) ?_
      refine lv_iload_n hx hb dX2_all_17 rfl (lv_at hl 1 rfl) ?_
      refine lv_imul hx hb dX2_all_18 ?_
      refine lv_iload_n hx hb dX2_all_19 rfl (lv_at hl 3 rfl) ?_
      refine lv_iadd hx hb dX2_all_20 ?_
      revert hf
      refine k_req (fun h3 hf => ?_)
      refine w_iald C hw h3 rfl dX2_all_21 ?_
      refine lv_iadd hx hb dX2_all_22 ?_
      revert hf
      refine k_stp (fun z4 ez4 hf => ?_)
      refine w_nmI ez4 ?_
      refine lv_istore_n (lv' := [(2, .int z4), (0, .ref (gb G + x0)), (1, .int x1), (3, .int x3)]) hx hb dX2_all_23 rfl hl (by decide) rfl (fun ls hl => ?_)
      revert hf
      refine k_stp (fun z5 ez5 hf => ?_)
      refine lv_iinc (k := 3) (lv' := [(3, .int z5), (2, .int z4), (0, .ref (gb G + x0)), (1, .int x1)]) hx hb dX2_all_24 hl rfl (inc_e (by decide) ez5) (by decide) rfl (fun ls hl => ?_)
      refine lv_goto (tgt := 4) hx hb dX2_all_27 (by decide) ?_
      exact ih _ _ _ _ _ hf hw (lv_sub hl [2, 3, 1, 0] rfl)
set_option maxHeartbeats 4000000 in
theorem ok_X2_all {l : Launch} {G : gG} {T : Tt} {V0 : Vt} {o : Nat} {a0 : Int32} {r : Int32} (hf : f_X2_all T V0 o a0 = some r) : okM l G yX2_all cX2_all 4 (some .int) 0 [.ref (gb G + o), .int a0] V0 T (some (.int r)) V0 T 0 0 := by
  refine ok_intro (by decide) (Nat.le_of_ble_eq_true rfl) ?_
  intro p e s m below meth c ls C hr hnm hw hl
  have hx := C.1
  have hb := C.2.1
  have hown := C.2.2.2.1
  have hts := C.2.2.2.2.1
  have hl : lv_has ls 4 [(0, .ref (gb G + o)), (1, .int a0)] := hl
  unfold f_X2_all at hf
  revert hf
  refine k_req (fun k0 hf => ?_)
  refine lv_iconst (v := (0 : Int32)) hx hb dX2_all_0 (by decide) ?_
  refine lv_istore_n (lv' := [(2, .int (0 : Int32)), (0, .ref (gb G + o)), (1, .int a0)]) hx hb dX2_all_1 rfl hl (by decide) rfl (fun ls hl => ?_)
  refine lv_iconst (v := (0 : Int32)) hx hb dX2_all_2 (by decide) ?_
  refine lv_istore_n (lv' := [(3, .int (0 : Int32)), (2, .int (0 : Int32)), (0, .ref (gb G + o)), (1, .int a0)]) hx hb dX2_all_3 rfl hl (by decide) rfl (fun ls hl => ?_)
  refine lk_X2_all_4 C hr k0 (fun z6 H locs ls hf hw hl => ?_) fuel _ _ _ _ _ hf hw (lv_sub hl [2, 3, 1, 0] rfl)
  refine lv_iload_n hx hb dX2_all_30 rfl (lv_at hl 0 rfl) ?_
  cases hf
  exact w_iret C hr hw dX2_all_31
set_option maxHeartbeats 4000000 in
theorem lk_X0_meanOf_8 {l : Launch} {G : gG} {p : Program} {e : Env} {s : State} {m : MethodId} {args : Array Value} {below : List Frame} {meth : Method} {c : Code} {T : Tt} {V0 : Vt} {r : Int32} (C : Cx G p s m args meth c cX0_meanOf RX0 7) (hr : meth.sig.returnType = (some .int)) {x0 : Nat} {x1 : Int32} {kx8_51 : Int64 → Int64 → Option (Int32)} (hkx8_51 : ∀ (y2 : Int64) (y4 : Int64) (H : Heap) (locs : List Loc) (ls : Array Slot), kx8_51 y2 y4 = some r → wS G V0 T H locs → lv_has ls 7 [(2, .long y2), (4, .long y4)] → W p l e (rmL 0 0 0) s m args below meth c H locs 0 0 (eQ G below (some (.int r)) V0 T args s 0 0) (F0 m 51 ls [])) : ∀ (n : Nat) (x2 : Int64) (x4 : Int64) (x6 : Int32) (H : Heap) (locs : List Loc) (ls : Array Slot), f_X0_meanOf_L8 T V0 x0 x1 kx8_51 n x2 x4 x6 = some r → wS G V0 T H locs → lv_has ls 7 [(0, .ref (gb G + x0)), (1, .int x1), (2, .long x2), (4, .long x4), (6, .int x6)] → W p l e (rmL 0 0 0) s m args below meth c H locs 0 0 (eQ G below (some (.int r)) V0 T args s 0 0) (F0 m 8 ls []) := by
  have hx := C.1
  have hb := C.2.1
  have hown := C.2.2.2.1
  have hts := C.2.2.2.2.1
  intro n
  induction n with
  | zero =>
    intro x2 x4 x6 H locs ls hf
    cases hf
  | succ n ih =>
    intro x2 x4 x6 H locs ls hf hw hl
    unfold f_X0_meanOf_L8 at hf
    refine lv_iload hx hb dX0_meanOf_8 (lv_at hl 4 rfl) ?_
    refine lv_bipush (v := (20 : Int32)) hx hb dX0_meanOf_10 (by decide) ?_
    refine lv_icmp_ge (tgt := 51) hx hb dX0_meanOf_12 (by decide) (fun c1 => ?_) (fun c1 => ?_)
    · replace hf := ite_t c1 hf
      exact hkx8_51 _ _ _ _ _ hf hw (lv_sub hl [2, 3] rfl)
    · replace hf := ite_f c1 hf
      refine lv_lload_n hx hb dX0_meanOf_15 rfl (lv_at hl 2 rfl) ?_
      refine lv_ldc2 (v := (1000 : Int64)) hx hb hown (hts _ q581) dX0_meanOf_16 ?_
      refine lv_iload hx hb dX0_meanOf_19 (lv_at hl 4 rfl) ?_
      refine lv_i2l hx hb dX0_meanOf_21 rfl ?_
      refine lv_lmul hx hb dX0_meanOf_22 ?_
      refine lv_aload_n hx hb dX0_meanOf_23 rfl (lv_at hl 0 rfl) ?_
      refine lv_iload_n hx hb dX0_meanOf_24 rfl (lv_at hl 1 rfl) ?_
      refine lv_iload hx hb dX0_meanOf_25 (lv_at hl 4 rfl) ?_
      refine lv_iadd hx hb dX0_meanOf_27 ?_
      revert hf
      refine k_req (fun h2 hf => ?_)
      refine w_iald C hw h2 rfl dX0_meanOf_28 ?_
      refine lv_i2l hx hb dX0_meanOf_29 rfl ?_
      refine lv_lmul hx hb dX0_meanOf_30 ?_
      refine lv_ladd hx hb dX0_meanOf_31 ?_
      revert hf
      refine k_stp (fun z3 ez3 hf => ?_)
      refine w_nmL ez3 ?_
      refine lv_lstore_n (lv' := [(2, .long z3), (0, .ref (gb G + x0)), (1, .int x1), (4, .long x4), (6, .int x6)]) hx hb dX0_meanOf_32 rfl hl (by decide) rfl (fun ls hl => ?_)
      refine lv_lload hx hb dX0_meanOf_33 (lv_at hl 3 rfl) ?_
      refine lv_aload_n hx hb dX0_meanOf_35 rfl (lv_at hl 1 rfl) ?_
      refine lv_iload_n hx hb dX0_meanOf_36 rfl (lv_at hl 2 rfl) ?_
      refine lv_iload hx hb dX0_meanOf_37 (lv_at hl 4 rfl) ?_
      refine lv_iadd hx hb dX0_meanOf_39 ?_
      revert hf
      refine k_req (fun h4 hf => ?_)
      refine w_iald C hw h4 rfl dX0_meanOf_40 ?_
      refine lv_i2l hx hb dX0_meanOf_41 rfl ?_
      refine lv_ladd hx hb dX0_meanOf_42 ?_
      revert hf
      refine k_stp (fun z5 ez5 hf => ?_)
      refine w_nmL ez5 ?_
      refine lv_lstore (lv' := [(4, .long z5), (2, .long z3), (0, .ref (gb G + x0)), (1, .int x1), (6, .int x6)]) hx hb dX0_meanOf_43 hl (by decide) rfl (fun ls hl => ?_)
      revert hf
      refine k_stp (fun z6 ez6 hf => ?_)
      refine lv_iinc (k := 4) (lv' := [(6, .int z6), (4, .long z5), (2, .long z3), (0, .ref (gb G + x0)), (1, .int x1)]) hx hb dX0_meanOf_45 hl rfl (inc_e (by decide) ez6) (by decide) rfl (fun ls hl => ?_)
      refine lv_goto (tgt := 8) hx hb dX0_meanOf_48 (by decide) ?_
      exact ih _ _ _ _ _ _ hf hw (lv_sub hl [3, 4, 2, 1, 0] rfl)
set_option maxHeartbeats 4000000 in
theorem ok_X0_meanOf {l : Launch} {G : gG} {T : Tt} {V0 : Vt} {a0 : Nat} {a1 : Int32} {r : Int32} (hf : f_X0_meanOf T V0 a0 a1 = some r) : okM l G yX0_meanOf cX0_meanOf 7 (some .int) 0 [.ref (gb G + a0), .int a1] V0 T (some (.int r)) V0 T 0 0 := by
  refine ok_intro (by decide) (Nat.le_of_ble_eq_true rfl) ?_
  intro p e s m below meth c ls C hr hnm hw hl
  have hx := C.1
  have hb := C.2.1
  have hown := C.2.2.2.1
  have hts := C.2.2.2.2.1
  have hl : lv_has ls 7 [(0, .ref (gb G + a0)), (1, .int a1)] := hl
  unfold f_X0_meanOf at hf
  refine lv_lconst (v := (0 : Int64)) hx hb dX0_meanOf_0 (by decide) ?_
  refine lv_lstore_n (lv' := [(2, .long (0 : Int64)), (0, .ref (gb G + a0)), (1, .int a1)]) hx hb dX0_meanOf_1 rfl hl (by decide) rfl (fun ls hl => ?_)
  refine lv_lconst (v := (0 : Int64)) hx hb dX0_meanOf_2 (by decide) ?_
  refine lv_lstore (lv' := [(4, .long (0 : Int64)), (2, .long (0 : Int64)), (0, .ref (gb G + a0)), (1, .int a1)]) hx hb dX0_meanOf_3 hl (by decide) rfl (fun ls hl => ?_)
  refine lv_iconst (v := (0 : Int32)) hx hb dX0_meanOf_5 (by decide) ?_
  refine lv_istore (lv' := [(6, .int (0 : Int32)), (4, .long (0 : Int64)), (2, .long (0 : Int64)), (0, .ref (gb G + a0)), (1, .int a1)]) hx hb dX0_meanOf_6 hl (by decide) rfl (fun ls hl => ?_)
  refine lk_X0_meanOf_8 C hr (fun z7 z8 H locs ls hf hw hl => ?_) fuel _ _ _ _ _ _ hf hw (lv_sub hl [3, 4, 2, 1, 0] rfl)
  refine lv_lload hx hb dX0_meanOf_51 (lv_at hl 1 rfl) ?_
  refine lv_lconst (v := (0 : Int64)) hx hb dX0_meanOf_53 (by decide) ?_
  refine W.lcmp hx hb dX0_meanOf_54 ?_
  refine lv_if_ne (tgt := 62) hx hb dX0_meanOf_55 (by decide) (fun c9 => ?_) (fun c9 => ?_)
  · replace hf := ite_f c9 hf
    refine lv_lload_n hx hb dX0_meanOf_62 rfl (lv_at hl 0 rfl) ?_
    refine lv_lload hx hb dX0_meanOf_63 (lv_at hl 1 rfl) ?_
    revert hf
    refine k_req (fun h10 hf => ?_)
    refine lv_ldiv hx hb dX0_meanOf_65 h10 ?_
    refine lv_l2i hx hb dX0_meanOf_66 rfl ?_
    cases hf
    exact w_iret C hr hw dX0_meanOf_67
  · replace hf := ite_t c9 hf
    refine lv_iconst (v := ((-1) : Int32)) hx hb dX0_meanOf_58 (by decide) ?_
    refine lv_goto (tgt := 67) hx hb dX0_meanOf_59 (by decide) ?_
    cases hf
    exact w_iret C hr hw dX0_meanOf_67
set_option maxHeartbeats 4000000 in
theorem ok_X2_mean {l : Launch} {G : gG} {T : Tt} {V0 : Vt} {o : Nat} {a0 : Int32} {r : Int32} (hf : f_X2_mean T V0 o a0 = some r) : okM l G yX2_mean cX2_mean 2 (some .int) 1 [.ref (gb G + o), .int a0] V0 T (some (.int r)) V0 T 0 0 := by
  refine ok_intro (by decide) (Nat.le_of_ble_eq_true rfl) ?_
  intro p e s m below meth c ls C hr hnm hw hl
  have hx := C.1
  have hb := C.2.1
  have hown := C.2.2.2.1
  have hts := C.2.2.2.2.1
  have hl : lv_has ls 2 [(0, .ref (gb G + o)), (1, .int a0)] := hl
  unfold f_X2_mean at hf
  revert hf
  refine k_req (fun k0 hf => ?_)
  refine lv_aload_n hx hb dX2_mean_0 rfl (lv_at hl 0 rfl) ?_
  revert hf
  refine k_drf (fun r1 er1 hf => ?_)
  refine gf_X2_9 C hw k0 er1 dX2_mean_1 ?_
  refine lv_bipush (v := (20 : Int32)) hx hb dX2_mean_4 (by decide) ?_
  refine lv_iload_n hx hb dX2_mean_6 rfl (lv_at hl 1 rfl) ?_
  refine lv_imul hx hb dX2_mean_7 ?_
  revert hf
  refine k_pcl (fun z3 h2 hf => ?_)
  refine w_afi hw (w_rSN (As := [.ref (gb G + r1), .int ((20 : Int32) * a0)]) C hw (ok_X0_meanOf h2) (cw_X2_32 C (Nat.le_of_ble_eq_true rfl) (Nat.le_of_ble_eq_true rfl)) rfl hl.1 rfl (Nat.le_of_ble_eq_true rfl) ⟨Nat.zero_le _, Nat.zero_le _⟩ dX2_mean_8) (fun H locs hw => ?_)
  cases hf
  exact w_iret C hr hw dX2_mean_11
set_option maxHeartbeats 4000000 in
theorem lk_X2_older_5 {l : Launch} {G : gG} {p : Program} {e : Env} {s : State} {m : MethodId} {args : Array Value} {below : List Frame} {meth : Method} {c : Code} {T : Tt} {V0 : Vt} {r : Int32} (C : Cx G p s m args meth c cX2_older RX2 5) (hr : meth.sig.returnType = (some .int)) {x0 : Nat} {x1 : Int32} {kx5_33 : Int32 → Option (Int32)} (k0 : T.1 x0 = 3) (hkx5_33 : ∀ (y3 : Int32) (H : Heap) (locs : List Loc) (ls : Array Slot), kx5_33 y3 = some r → wS G V0 T H locs → lv_has ls 5 [(3, .int y3)] → W p l e (rmL 0 0 0) s m args below meth c H locs 0 0 (eQ G below (some (.int r)) V0 T args s 0 0) (F0 m 33 ls [])) : ∀ (n : Nat) (x3 : Int32) (x4 : Int32) (H : Heap) (locs : List Loc) (ls : Array Slot), f_X2_older_L5 T V0 x0 x1 kx5_33 n x3 x4 = some r → wS G V0 T H locs → lv_has ls 5 [(0, .ref (gb G + x0)), (1, .int x1), (3, .int x3), (4, .int x4)] → W p l e (rmL 0 0 0) s m args below meth c H locs 0 0 (eQ G below (some (.int r)) V0 T args s 0 0) (F0 m 5 ls []) := by
  have hx := C.1
  have hb := C.2.1
  have hown := C.2.2.2.1
  have hts := C.2.2.2.2.1
  intro n
  induction n with
  | zero =>
    intro x3 x4 H locs ls hf
    cases hf
  | succ n ih =>
    intro x3 x4 H locs ls hf hw hl
    unfold f_X2_older_L5 at hf
    refine lv_iload hx hb dX2_older_5 (lv_at hl 3 rfl) ?_
    refine lv_bipush (v := (20 : Int32)) hx hb dX2_older_7 (by decide) ?_
    refine lv_icmp_ge (tgt := 33) hx hb dX2_older_9 (by decide) (fun c1 => ?_) (fun c1 => ?_)
    · replace hf := ite_t c1 hf
      exact hkx5_33 _ _ _ _ hf hw (lv_sub hl [2] rfl)
    · replace hf := ite_f c1 hf
      refine lv_iload_n hx hb dX2_older_12 rfl (lv_at hl 2 rfl) ?_
      refine lv_aload_n hx hb dX2_older_13 rfl (lv_at hl 0 rfl) ?_
      revert hf
      refine k_drf (fun r2 er2 hf => ?_)
      refine gf_X2_9 C hw k0 er2 dX2_older_14 ?_
      refine lv_bipush (v := (20 : Int32)) hx hb dX2_older_17 (by decide) ?_
      refine lv_iload_n hx hb dX2_older_19 rfl (lv_at hl 1 rfl) ?_
      refine lv_imul hx hb dX2_older_20 ?_
      refine lv_iload hx hb dX2_older_21 (lv_at hl 3 rfl) ?_
      refine lv_iadd hx hb dX2_older_23 ?_
      revert hf
      refine k_req (fun h3 hf => ?_)
      refine w_iald C hw h3 rfl dX2_older_24 ?_
      refine lv_iadd hx hb dX2_older_25 ?_
      revert hf
      refine k_stp (fun z4 ez4 hf => ?_)
      refine w_nmI ez4 ?_
      refine lv_istore_n (lv' := [(3, .int z4), (0, .ref (gb G + x0)), (1, .int x1), (4, .int x4)]) hx hb dX2_older_26 rfl hl (by decide) rfl (fun ls hl => ?_)
      revert hf
      refine k_stp (fun z5 ez5 hf => ?_)
      refine lv_iinc (k := 3) (lv' := [(4, .int z5), (3, .int z4), (0, .ref (gb G + x0)), (1, .int x1)]) hx hb dX2_older_27 hl rfl (inc_e (by decide) ez5) (by decide) rfl (fun ls hl => ?_)
      refine lv_goto (tgt := 5) hx hb dX2_older_30 (by decide) ?_
      exact ih _ _ _ _ _ hf hw (lv_sub hl [2, 3, 1, 0] rfl)
set_option maxHeartbeats 4000000 in
theorem ok_X2_older {l : Launch} {G : gG} {T : Tt} {V0 : Vt} {o : Nat} {a0 : Int32} {a1 : Int32} {r : Int32} (hf : f_X2_older T V0 o a0 a1 = some r) : okM l G yX2_older cX2_older 5 (some .int) 0 [.ref (gb G + o), .int a0, .int a1] V0 T (some (.int r)) V0 T 0 0 := by
  refine ok_intro (by decide) (Nat.le_of_ble_eq_true rfl) ?_
  intro p e s m below meth c ls C hr hnm hw hl
  have hx := C.1
  have hb := C.2.1
  have hown := C.2.2.2.1
  have hts := C.2.2.2.2.1
  have hl : lv_has ls 5 [(0, .ref (gb G + o)), (1, .int a0), (2, .int a1)] := hl
  unfold f_X2_older at hf
  revert hf
  refine k_req (fun k0 hf => ?_)
  refine lv_iconst (v := (0 : Int32)) hx hb dX2_older_0 (by decide) ?_
  refine lv_istore_n (lv' := [(3, .int (0 : Int32)), (0, .ref (gb G + o)), (1, .int a0), (2, .int a1)]) hx hb dX2_older_1 rfl hl (by decide) rfl (fun ls hl => ?_)
  refine lv_iload_n hx hb dX2_older_2 rfl (lv_at hl 3 rfl) ?_
  refine lv_istore (lv' := [(4, .int a1), (3, .int (0 : Int32)), (0, .ref (gb G + o)), (1, .int a0), (2, .int a1)]) hx hb dX2_older_3 hl (by decide) rfl (fun ls hl => ?_)
  refine lk_X2_older_5 C hr k0 (fun z6 H locs ls hf hw hl => ?_) fuel _ _ _ _ _ hf hw (lv_sub hl [2, 3, 1, 0] rfl)
  refine lv_iload_n hx hb dX2_older_33 rfl (lv_at hl 0 rfl) ?_
  cases hf
  exact w_iret C hr hw dX2_older_34
set_option maxHeartbeats 4000000 in
theorem lk_X2_label_19 {l : Launch} {G : gG} {p : Program} {e : Env} {s : State} {m : MethodId} {args : Array Value} {below : List Frame} {meth : Method} {c : Code} {T : Tt} {V0 : Vt} {r : Int32} (C : Cx G p s m args meth c cX2_label RX2 6) (hr : meth.sig.returnType = (some .int)) {x0 : Nat} {x1 : Int32} {x2 : Int32} {x3 : Int64} {kx19_45 : Int32 → Option (Int32)} (k0 : T.1 x0 = 3) (hkx19_45 : ∀ (y5 : Int32) (H : Heap) (locs : List Loc) (ls : Array Slot), kx19_45 y5 = some r → wS G V0 T H locs → lv_has ls 6 [(5, .int y5)] → W p l e (rmL 1 0 0) s m args below meth c H locs 0 0 (eQ G below (some (.int r)) V0 T args s 0 0) (F0 m 45 ls [])) : ∀ (n : Nat) (x5 : Int32) (H : Heap) (locs : List Loc) (ls : Array Slot), f_X2_label_L19 T V0 x0 x1 x2 x3 kx19_45 n x5 = some r → wS G V0 T H locs → lv_has ls 6 [(0, .ref (gb G + x0)), (1, .int x1), (2, .int x2), (3, .long x3), (5, .int x5)] → W p l e (rmL 1 0 0) s m args below meth c H locs 0 0 (eQ G below (some (.int r)) V0 T args s 0 0) (F0 m 19 ls []) := by
  have hx := C.1
  have hb := C.2.1
  have hown := C.2.2.2.1
  have hts := C.2.2.2.2.1
  intro n
  induction n with
  | zero =>
    intro x5 H locs ls hf
    cases hf
  | succ n ih =>
    intro x5 H locs ls hf hw hl
    unfold f_X2_label_L19 at hf
    refine lv_ldc2 (v := (100 : Int64)) hx hb hown (hts _ q587) dX2_label_19 ?_
    refine lv_aload_n hx hb dX2_label_22 rfl (lv_at hl 0 rfl) ?_
    refine lv_iload_n hx hb dX2_label_23 rfl (lv_at hl 1 rfl) ?_
    refine lv_iload hx hb dX2_label_24 (lv_at hl 4 rfl) ?_
    revert hf
    refine k_pcl (fun z6 h5 hf => ?_)
    refine w_afi hw (w_rV (As := [.int x1, .int x5]) C hw (ok_X2_older h5) (cw_X2_41 hts (Nat.le_of_ble_eq_true rfl) (Nat.le_of_ble_eq_true rfl)) rfl (by decide) (of_req h5).1 rfl hl.1 rfl (Nat.le_of_ble_eq_true rfl) ⟨Nat.zero_le _, Nat.zero_le _⟩ dX2_label_26) (fun H locs hw => ?_)
    refine lv_i2l hx hb dX2_label_29 rfl ?_
    refine lv_lmul hx hb dX2_label_30 ?_
    refine lv_lload_n hx hb dX2_label_31 rfl (lv_at hl 3 rfl) ?_
    refine lv_iload_n hx hb dX2_label_32 rfl (lv_at hl 2 rfl) ?_
    refine lv_i2l hx hb dX2_label_33 rfl ?_
    refine lv_lmul hx hb dX2_label_34 ?_
    refine W.lcmp hx hb dX2_label_35 ?_
    refine lv_if_ge (tgt := 45) hx hb dX2_label_36 (by decide) (fun c7 => ?_) (fun c7 => ?_)
    · replace hf := ite_t c7 hf
      exact hkx19_45 _ _ _ _ hf hw (lv_sub hl [4] rfl)
    · replace hf := ite_f c7 hf
      revert hf
      refine k_stp (fun z8 ez8 hf => ?_)
      refine lv_iinc (k := 4) (lv' := [(5, .int z8), (0, .ref (gb G + x0)), (1, .int x1), (2, .int x2), (3, .long x3)]) hx hb dX2_label_39 hl rfl (inc_e (by decide) ez8) (by decide) rfl (fun ls hl => ?_)
      refine lv_goto (tgt := 19) hx hb dX2_label_42 (by decide) ?_
      exact ih _ _ _ _ hf hw (lv_sub hl [1, 2, 3, 4, 0] rfl)
set_option maxHeartbeats 4000000 in
theorem ok_X2_label {l : Launch} {G : gG} {T : Tt} {V0 : Vt} {o : Nat} {a0 : Int32} {a1 : Int32} {r : Int32} (hf : f_X2_label T V0 o a0 a1 = some r) : okM l G yX2_label cX2_label 6 (some .int) 1 [.ref (gb G + o), .int a0, .int a1] V0 T (some (.int r)) V0 T 0 0 := by
  refine ok_intro (by decide) (Nat.le_of_ble_eq_true rfl) ?_
  intro p e s m below meth c ls C hr hnm hw hl
  have hx := C.1
  have hb := C.2.1
  have hown := C.2.2.2.1
  have hts := C.2.2.2.2.1
  have hl : lv_has ls 6 [(0, .ref (gb G + o)), (1, .int a0), (2, .int a1)] := hl
  unfold f_X2_label at hf
  revert hf
  refine k_req (fun k0 hf => ?_)
  refine lv_aload_n hx hb dX2_label_0 rfl (lv_at hl 0 rfl) ?_
  refine lv_iload_n hx hb dX2_label_1 rfl (lv_at hl 1 rfl) ?_
  revert hf
  refine k_pcl (fun z2 h1 hf => ?_)
  refine w_afi hw (w_rV (As := [.int a0]) C hw (ok_X2_all h1) (cw_X2_28 hts (Nat.le_of_ble_eq_true rfl) (Nat.le_of_ble_eq_true rfl)) rfl (by decide) (of_req h1).1 rfl hl.1 rfl (Nat.le_of_ble_eq_true rfl) ⟨Nat.zero_le _, Nat.zero_le _⟩ dX2_label_2) (fun H locs hw => ?_)
  refine lv_i2l hx hb dX2_label_5 rfl ?_
  revert hf
  refine k_stp (fun z3 ez3 hf => ?_)
  refine w_nmL ez3 ?_
  refine lv_lstore_n (lv' := [(3, .long z3), (0, .ref (gb G + o)), (1, .int a0), (2, .int a1)]) hx hb dX2_label_6 rfl hl (by decide) rfl (fun ls hl => ?_)
  refine lv_lload_n hx hb dX2_label_7 rfl (lv_at hl 0 rfl) ?_
  refine lv_lconst (v := (0 : Int64)) hx hb dX2_label_8 (by decide) ?_
  refine W.lcmp hx hb dX2_label_9 ?_
  refine lv_if_ne (tgt := 15) hx hb dX2_label_10 (by decide) (fun c4 => ?_) (fun c4 => ?_)
  · replace hf := ite_f c4 hf
    refine lv_bipush (v := (19 : Int32)) hx hb dX2_label_15 (by decide) ?_
    refine lv_istore (lv' := [(5, .int (19 : Int32)), (3, .long z3), (0, .ref (gb G + o)), (1, .int a0), (2, .int a1)]) hx hb dX2_label_17 hl (by decide) rfl (fun ls hl => ?_)
    refine lk_X2_label_19 C hr k0 (fun z9 H locs ls hf hw hl => ?_) fuel _ _ _ _ hf hw (lv_sub hl [2, 3, 4, 1, 0] rfl)
    refine lv_iload hx hb dX2_label_45 (lv_at hl 0 rfl) ?_
    cases hf
    exact w_iret C hr hw dX2_label_47
  · replace hf := ite_t c4 hf
    refine lv_iconst (v := ((-1) : Int32)) hx hb dX2_label_13 (by decide) ?_
    cases hf
    exact w_iret C hr hw dX2_label_14
set_option maxHeartbeats 4000000 in
theorem ok_X2_full {l : Launch} {G : gG} {T : Tt} {V0 : Vt} {o : Nat} {a0 : Int32} {r : Int32} (hf : f_X2_full T V0 o a0 = some r) : okM l G yX2_full cX2_full 2 (some .int) 1 [.ref (gb G + o), .int a0] V0 T (some (.int r)) V0 T 0 0 := by
  refine ok_intro (by decide) (Nat.le_of_ble_eq_true rfl) ?_
  intro p e s m below meth c ls C hr hnm hw hl
  have hx := C.1
  have hb := C.2.1
  have hown := C.2.2.2.1
  have hts := C.2.2.2.2.1
  have hl : lv_has ls 2 [(0, .ref (gb G + o)), (1, .int a0)] := hl
  unfold f_X2_full at hf
  revert hf
  refine k_req (fun k0 hf => ?_)
  refine lv_aload_n hx hb dX2_full_0 rfl (lv_at hl 0 rfl) ?_
  refine lv_iload_n hx hb dX2_full_1 rfl (lv_at hl 1 rfl) ?_
  revert hf
  refine k_pcl (fun z2 h1 hf => ?_)
  refine w_afi hw (w_rV (As := [.int a0]) C hw (ok_X2_all h1) (cw_X2_28 hts (Nat.le_of_ble_eq_true rfl) (Nat.le_of_ble_eq_true rfl)) rfl (by decide) (of_req h1).1 rfl hl.1 rfl (Nat.le_of_ble_eq_true rfl) ⟨Nat.zero_le _, Nat.zero_le _⟩ dX2_full_2) (fun H locs hw => ?_)
  refine lv_sipush (v := (1000 : Int32)) hx hb dX2_full_5 (by decide) ?_
  refine lv_idiv hx hb dX2_full_8 (by decide) ?_
  cases hf
  exact w_iret C hr hw dX2_full_9
set_option maxHeartbeats 4000000 in
theorem ok_X2_years {l : Launch} {G : gG} {T : Tt} {V0 : Vt} {o : Nat} {a0 : Int32} {r : Int32} (hf : f_X2_years T V0 o a0 = some r) : okM l G yX2_years cX2_years 2 (some .int) 2 [.ref (gb G + o), .int a0] V0 T (some (.int r)) V0 T 0 0 := by
  refine ok_intro (by decide) (Nat.le_of_ble_eq_true rfl) ?_
  intro p e s m below meth c ls C hr hnm hw hl
  have hx := C.1
  have hb := C.2.1
  have hown := C.2.2.2.1
  have hts := C.2.2.2.2.1
  have hl : lv_has ls 2 [(0, .ref (gb G + o)), (1, .int a0)] := hl
  unfold f_X2_years at hf
  revert hf
  refine k_req (fun k0 hf => ?_)
  refine lv_aload_n hx hb dX2_years_0 rfl (lv_at hl 0 rfl) ?_
  refine lv_iload_n hx hb dX2_years_1 rfl (lv_at hl 1 rfl) ?_
  revert hf
  refine k_pcl (fun z2 h1 hf => ?_)
  refine w_afi hw (w_rV (As := [.int a0]) C hw (ok_X2_mean h1) (cw_X2_36 hts (Nat.le_of_ble_eq_true rfl) (Nat.le_of_ble_eq_true rfl)) rfl (by decide) (of_req h1).1 rfl hl.1 rfl (Nat.le_of_ble_eq_true rfl) ⟨Nat.zero_le _, Nat.zero_le _⟩ dX2_years_2) (fun H locs hw => ?_)
  refine lv_iconst (v := ((-1) : Int32)) hx hb dX2_years_5 (by decide) ?_
  refine lv_icmp_ne (tgt := 13) hx hb dX2_years_6 (by decide) (fun c3 => ?_) (fun c3 => ?_)
  · replace hf := ite_f c3 hf
    refine lv_aload_n hx hb dX2_years_13 rfl (lv_at hl 0 rfl) ?_
    refine lv_iload_n hx hb dX2_years_14 rfl (lv_at hl 1 rfl) ?_
    revert hf
    refine k_pcl (fun z5 h4 hf => ?_)
    refine w_afi hw (w_rV (As := [.int a0]) C hw (ok_X2_mean h4) (cw_X2_36 hts (Nat.le_of_ble_eq_true rfl) (Nat.le_of_ble_eq_true rfl)) rfl (by decide) (of_req h4).1 rfl hl.1 rfl (Nat.le_of_ble_eq_true rfl) ⟨Nat.zero_le _, Nat.zero_le _⟩ dX2_years_15) (fun H locs hw => ?_)
    refine lv_sipush (v := (1000 : Int32)) hx hb dX2_years_18 (by decide) ?_
    refine lv_idiv hx hb dX2_years_21 (by decide) ?_
    cases hf
    exact w_iret C hr hw dX2_years_22
  · replace hf := ite_t c3 hf
    refine lv_iconst (v := ((-1) : Int32)) hx hb dX2_years_9 (by decide) ?_
    refine lv_goto (tgt := 22) hx hb dX2_years_10 (by decide) ?_
    cases hf
    exact w_iret C hr hw dX2_years_22
set_option maxHeartbeats 4000000 in
theorem jk_X2_draws_146 {l : Launch} {G : gG} {p : Program} {e : Env} {s : State} {m : MethodId} {args : Array Value} {below : List Frame} {meth : Method} {c : Code} {T : Tt} {V0 : Vt} {V' : Vt} (C : Cx G p s m args meth c cX2_draws RX2 8) (hr : meth.sig.returnType = none) {x0 : Nat} {x1 : Int32} {x3 : Nat} {x6 : Int32} {x7 : Int32} {kc91 : Int32 → Int32 → Vt → Option (Vt)} {kx91_152 : Vt → Option (Vt)} {H : Heap} {locs : List Loc} {ls : Array Slot} (k0 : T.1 x0 = 3) (hf : f_X2_draws_J146 T V0 x0 x1 x3 x6 x7 kc91 kx91_152 = some V') (hw : wS G V0 T H locs) (hl : lv_has ls 8 [(0, .ref (gb G + x0)), (1, .int x1), (3, .ref (gb G + x3)), (6, .int x6), (7, .int x7)]) (hkc91 : ∀ (y6 : Int32) (y7 : Int32) (W1 : Vt) (H : Heap) (locs : List Loc) (ls : Array Slot), kc91 y6 y7 W1 = some V' → wS G W1 T H locs → lv_has ls 8 [(0, .ref (gb G + x0)), (1, .int x1), (3, .ref (gb G + x3)), (6, .int y6), (7, .int y7)] → W p l e (rmL 1 0 0) s m args below meth c H locs 0 0 (eQ G below none V' T args s 0 0) (F0 m 91 ls [])) (hkx91_152 : ∀ (W1 : Vt) (H : Heap) (locs : List Loc) (ls : Array Slot), kx91_152 W1 = some V' → wS G W1 T H locs → lv_has ls 8 [] → W p l e (rmL 1 0 0) s m args below meth c H locs 0 0 (eQ G below none V' T args s 0 0) (F0 m 152 ls [])) : W p l e (rmL 1 0 0) s m args below meth c H locs 0 0 (eQ G below none V' T args s 0 0) (F0 m 146 ls []) := by
  have hx := C.1
  have hb := C.2.1
  have hown := C.2.2.2.1
  have hts := C.2.2.2.2.1
  unfold f_X2_draws_J146 at hf
  revert hf
  refine k_stp (fun z34 ez34 hf => ?_)
  refine lv_iinc (k := 4) (lv' := [(7, .int z34), (0, .ref (gb G + x0)), (1, .int x1), (3, .ref (gb G + x3)), (6, .int x6)]) hx hb dX2_draws_146 hl rfl (inc_e (by decide) ez34) (by decide) rfl (fun ls hl => ?_)
  refine lv_goto (tgt := 91) hx hb dX2_draws_149 (by decide) ?_
  exact hkc91 _ _ _ _ _ _ hf hw (lv_sub hl [1, 2, 3, 4, 0] rfl)
set_option maxHeartbeats 4000000 in
theorem lk_X2_draws_91 {l : Launch} {G : gG} {p : Program} {e : Env} {s : State} {m : MethodId} {args : Array Value} {below : List Frame} {meth : Method} {c : Code} {T : Tt} {V' : Vt} (C : Cx G p s m args meth c cX2_draws RX2 8) (hr : meth.sig.returnType = none) {x0 : Nat} {x1 : Int32} {x3 : Nat} {kx91_152 : Vt → Option (Vt)} (k0 : T.1 x0 = 3) (hkx91_152 : ∀ (W1 : Vt) (H : Heap) (locs : List Loc) (ls : Array Slot), kx91_152 W1 = some V' → wS G W1 T H locs → lv_has ls 8 [] → W p l e (rmL 1 0 0) s m args below meth c H locs 0 0 (eQ G below none V' T args s 0 0) (F0 m 152 ls [])) : ∀ (n : Nat) (x6 : Int32) (x7 : Int32) (V1 : Vt) (H : Heap) (locs : List Loc) (ls : Array Slot), f_X2_draws_L91 T x0 x1 x3 kx91_152 n x6 x7 V1 = some V' → wS G V1 T H locs → lv_has ls 8 [(0, .ref (gb G + x0)), (1, .int x1), (3, .ref (gb G + x3)), (6, .int x6), (7, .int x7)] → W p l e (rmL 1 0 0) s m args below meth c H locs 0 0 (eQ G below none V' T args s 0 0) (F0 m 91 ls []) := by
  have hx := C.1
  have hb := C.2.1
  have hown := C.2.2.2.1
  have hts := C.2.2.2.2.1
  intro n
  induction n with
  | zero =>
    intro x6 x7 V1 H locs ls hf
    cases hf
  | succ n ih =>
    intro x6 x7 V1 H locs ls hf hw hl
    unfold f_X2_draws_L91 at hf
    refine lv_iload hx hb dX2_draws_91 (lv_at hl 4 rfl) ?_
    refine lv_if_lt (tgt := 152) hx hb dX2_draws_93 (by decide) (fun c21 => ?_) (fun c21 => ?_)
    · replace hf := ite_t c21 hf
      exact hkx91_152 _ _ _ _ hf hw (lv_sub hl [] rfl)
    · replace hf := ite_f c21 hf
      refine lv_iload hx hb dX2_draws_96 (lv_at hl 3 rfl) ?_
      refine lv_if_le (tgt := 152) hx hb dX2_draws_98 (by decide) (fun c22 => ?_) (fun c22 => ?_)
      · replace hf := ite_t c22 hf
        exact hkx91_152 _ _ _ _ hf hw (lv_sub hl [] rfl)
      · replace hf := ite_f c22 hf
        refine lv_aload_n hx hb dX2_draws_101 rfl (lv_at hl 0 rfl) ?_
        revert hf
        refine k_drf (fun r23 er23 hf => ?_)
        refine gf_X2_9 C hw k0 er23 dX2_draws_102 ?_
        refine lv_bipush (v := (20 : Int32)) hx hb dX2_draws_105 (by decide) ?_
        refine lv_iload_n hx hb dX2_draws_107 rfl (lv_at hl 1 rfl) ?_
        refine lv_imul hx hb dX2_draws_108 ?_
        refine lv_iload hx hb dX2_draws_109 (lv_at hl 4 rfl) ?_
        refine lv_iadd hx hb dX2_draws_111 ?_
        revert hf
        refine k_req (fun h24 hf => ?_)
        refine w_iald C hw h24 rfl dX2_draws_112 ?_
        refine lv_if_ne (tgt := 119) hx hb dX2_draws_113 (by decide) (fun c25 => ?_) (fun c25 => ?_)
        · replace hf := ite_f c25 hf
          refine lv_aload_n hx hb dX2_draws_119 rfl (lv_at hl 2 rfl) ?_
          refine lv_iload hx hb dX2_draws_120 (lv_at hl 4 rfl) ?_
          refine lv_dup2_11 hx hb dX2_draws_122 rfl rfl ?_
          revert hf
          refine k_req (fun h26 hf => ?_)
          refine w_iald C hw h26 rfl dX2_draws_123 ?_
          refine lv_iconst (v := (1 : Int32)) hx hb dX2_draws_124 (by decide) ?_
          refine lv_iadd hx hb dX2_draws_125 ?_
          revert hf
          refine k_req (fun h27 hf => ?_)
          revert hf
          refine k_stp (fun U28 eU28 hf => ?_)
          refine w_iast C hw h27 eU28 dX2_draws_126 (fun H locs hw => ?_)
          refine lv_aload_n hx hb dX2_draws_127 rfl (lv_at hl 0 rfl) ?_
          revert hf
          refine k_drf (fun r29 er29 hf => ?_)
          refine gf_X2_9 C hw k0 er29 dX2_draws_128 ?_
          refine lv_bipush (v := (20 : Int32)) hx hb dX2_draws_131 (by decide) ?_
          refine lv_iload_n hx hb dX2_draws_133 rfl (lv_at hl 1 rfl) ?_
          refine lv_imul hx hb dX2_draws_134 ?_
          refine lv_iload hx hb dX2_draws_135 (lv_at hl 4 rfl) ?_
          refine lv_iadd hx hb dX2_draws_137 ?_
          refine lv_dup2_11 hx hb dX2_draws_138 rfl rfl ?_
          revert hf
          refine k_req (fun h30 hf => ?_)
          refine w_iald C hw h30 rfl dX2_draws_139 ?_
          refine lv_iconst (v := (1 : Int32)) hx hb dX2_draws_140 (by decide) ?_
          refine lv_isub hx hb dX2_draws_141 ?_
          revert hf
          refine k_req (fun h31 hf => ?_)
          revert hf
          refine k_stp (fun U32 eU32 hf => ?_)
          refine w_iast C hw h31 eU32 dX2_draws_142 (fun H locs hw => ?_)
          revert hf
          refine k_stp (fun z33 ez33 hf => ?_)
          refine lv_iinc (k := 3) (lv' := [(6, .int z33), (0, .ref (gb G + x0)), (1, .int x1), (3, .ref (gb G + x3)), (7, .int x7)]) hx hb dX2_draws_143 hl rfl (inc_e (by decide) ez33) (by decide) rfl (fun ls hl => ?_)
          exact jk_X2_draws_146 C hr k0 hf hw (lv_sub hl [1, 2, 3, 0, 4] rfl) ih hkx91_152
        · replace hf := ite_t c25 hf
          refine lv_goto (tgt := 146) hx hb dX2_draws_116 (by decide) ?_
          exact jk_X2_draws_146 C hr k0 hf hw (lv_sub hl [0, 1, 2, 3, 4] rfl) ih hkx91_152
set_option maxHeartbeats 4000000 in
theorem lk_X2_draws_18 {l : Launch} {G : gG} {p : Program} {e : Env} {s : State} {m : MethodId} {args : Array Value} {below : List Frame} {meth : Method} {c : Code} {T : Tt} {V' : Vt} (C : Cx G p s m args meth c cX2_draws RX2 8) (hr : meth.sig.returnType = none) {x0 : Nat} {x1 : Int32} {x2 : Int32} {x3 : Nat} {x4 : Int64} {kx18_87 : Int32 → Vt → Option (Vt)} (k0 : T.1 x0 = 3) (hkx18_87 : ∀ (y6 : Int32) (W1 : Vt) (H : Heap) (locs : List Loc) (ls : Array Slot), kx18_87 y6 W1 = some V' → wS G W1 T H locs → lv_has ls 8 [(0, .ref (gb G + x0)), (1, .int x1), (3, .ref (gb G + x3)), (6, .int y6)] → W p l e (rmL 1 0 0) s m args below meth c H locs 0 0 (eQ G below none V' T args s 0 0) (F0 m 87 ls [])) : ∀ (n : Nat) (x6 : Int32) (x7 : Int32) (V1 : Vt) (H : Heap) (locs : List Loc) (ls : Array Slot), f_X2_draws_L18 T x0 x1 x2 x3 x4 kx18_87 n x6 x7 V1 = some V' → wS G V1 T H locs → lv_has ls 8 [(0, .ref (gb G + x0)), (1, .int x1), (2, .int x2), (3, .ref (gb G + x3)), (4, .long x4), (6, .int x6), (7, .int x7)] → W p l e (rmL 1 0 0) s m args below meth c H locs 0 0 (eQ G below none V' T args s 0 0) (F0 m 18 ls []) := by
  have hx := C.1
  have hb := C.2.1
  have hown := C.2.2.2.1
  have hts := C.2.2.2.2.1
  intro n
  induction n with
  | zero =>
    intro x6 x7 V1 H locs ls hf
    cases hf
  | succ n ih =>
    intro x6 x7 V1 H locs ls hf hw hl
    unfold f_X2_draws_L18 at hf
    refine lv_iload hx hb dX2_draws_18 (lv_at hl 6 rfl) ?_
    refine lv_bipush (v := (20 : Int32)) hx hb dX2_draws_20 (by decide) ?_
    refine lv_icmp_ge (tgt := 87) hx hb dX2_draws_22 (by decide) (fun c5 => ?_) (fun c5 => ?_)
    · replace hf := ite_t c5 hf
      exact hkx18_87 _ _ _ _ _ hf hw (lv_sub hl [0, 1, 3, 5] rfl)
    · replace hf := ite_f c5 hf
      refine lv_aload_n hx hb dX2_draws_25 rfl (lv_at hl 3 rfl) ?_
      refine lv_iload hx hb dX2_draws_26 (lv_at hl 6 rfl) ?_
      refine lv_aload_n hx hb dX2_draws_28 rfl (lv_at hl 0 rfl) ?_
      revert hf
      refine k_drf (fun r6 er6 hf => ?_)
      refine gf_X2_9 C hw k0 er6 dX2_draws_29 ?_
      refine lv_bipush (v := (20 : Int32)) hx hb dX2_draws_32 (by decide) ?_
      refine lv_iload_n hx hb dX2_draws_34 rfl (lv_at hl 1 rfl) ?_
      refine lv_imul hx hb dX2_draws_35 ?_
      refine lv_iload hx hb dX2_draws_36 (lv_at hl 6 rfl) ?_
      refine lv_iadd hx hb dX2_draws_38 ?_
      revert hf
      refine k_req (fun h7 hf => ?_)
      refine w_iald C hw h7 rfl dX2_draws_39 ?_
      refine lv_i2l hx hb dX2_draws_40 rfl ?_
      refine lv_iload_n hx hb dX2_draws_41 rfl (lv_at hl 2 rfl) ?_
      refine lv_i2l hx hb dX2_draws_42 rfl ?_
      refine lv_lmul hx hb dX2_draws_43 ?_
      refine lv_ldc2 (v := (1000 : Int64)) hx hb hown (hts _ q1313) dX2_draws_44 ?_
      refine lv_lmul hx hb dX2_draws_47 ?_
      refine lv_lload hx hb dX2_draws_48 (lv_at hl 4 rfl) ?_
      revert hf
      refine k_req (fun h8 hf => ?_)
      refine lv_ldiv hx hb dX2_draws_50 h8 ?_
      refine lv_l2i hx hb dX2_draws_51 rfl ?_
      revert hf
      refine k_req (fun h9 hf => ?_)
      revert hf
      refine k_stp (fun U10 eU10 hf => ?_)
      refine w_iast C hw h9 eU10 dX2_draws_52 (fun H locs hw => ?_)
      refine lv_iload hx hb dX2_draws_53 (lv_at hl 5 rfl) ?_
      refine lv_aload_n hx hb dX2_draws_55 rfl (lv_at hl 3 rfl) ?_
      refine lv_iload hx hb dX2_draws_56 (lv_at hl 6 rfl) ?_
      revert hf
      refine k_req (fun h11 hf => ?_)
      refine w_iald C hw h11 rfl dX2_draws_58 ?_
      refine lv_isub hx hb dX2_draws_59 ?_
      revert hf
      refine k_stp (fun z12 ez12 hf => ?_)
      refine w_nmI ez12 ?_
      refine lv_istore (lv' := [(6, .int z12), (0, .ref (gb G + x0)), (1, .int x1), (2, .int x2), (3, .ref (gb G + x3)), (4, .long x4), (7, .int x7)]) hx hb dX2_draws_60 hl (by decide) rfl (fun ls hl => ?_)
      refine lv_aload_n hx hb dX2_draws_62 rfl (lv_at hl 1 rfl) ?_
      revert hf
      refine k_drf (fun r13 er13 hf => ?_)
      refine gf_X2_9 C hw k0 er13 dX2_draws_63 ?_
      refine lv_bipush (v := (20 : Int32)) hx hb dX2_draws_66 (by decide) ?_
      refine lv_iload_n hx hb dX2_draws_68 rfl (lv_at hl 2 rfl) ?_
      refine lv_imul hx hb dX2_draws_69 ?_
      refine lv_iload hx hb dX2_draws_70 (lv_at hl 6 rfl) ?_
      refine lv_iadd hx hb dX2_draws_72 ?_
      refine lv_dup2_11 hx hb dX2_draws_73 rfl rfl ?_
      revert hf
      refine k_req (fun h14 hf => ?_)
      refine w_iald C hw h14 rfl dX2_draws_74 ?_
      refine lv_aload_n hx hb dX2_draws_75 rfl (lv_at hl 4 rfl) ?_
      refine lv_iload hx hb dX2_draws_76 (lv_at hl 6 rfl) ?_
      revert hf
      refine k_req (fun h15 hf => ?_)
      refine w_iald C hw h15 rfl dX2_draws_78 ?_
      refine lv_isub hx hb dX2_draws_79 ?_
      revert hf
      refine k_req (fun h16 hf => ?_)
      revert hf
      refine k_stp (fun U17 eU17 hf => ?_)
      refine w_iast C hw h16 eU17 dX2_draws_80 (fun H locs hw => ?_)
      revert hf
      refine k_stp (fun z18 ez18 hf => ?_)
      refine lv_iinc (k := 6) (lv' := [(7, .int z18), (6, .int z12), (0, .ref (gb G + x0)), (1, .int x1), (2, .int x2), (3, .ref (gb G + x3)), (4, .long x4)]) hx hb dX2_draws_81 hl rfl (inc_e (by decide) ez18) (by decide) rfl (fun ls hl => ?_)
      refine lv_goto (tgt := 18) hx hb dX2_draws_84 (by decide) ?_
      exact ih _ _ _ _ _ _ hf hw (lv_sub hl [2, 3, 4, 5, 6, 1, 0] rfl)
set_option maxHeartbeats 4000000 in
theorem ok_X2_draws {l : Launch} {G : gG} {T : Tt} {V0 : Vt} {o : Nat} {a0 : Int32} {a1 : Int32} {a2 : Nat} {V' : Vt} (hf : f_X2_draws T V0 o a0 a1 a2 = some V') : okM l G yX2_draws cX2_draws 8 none 1 [.ref (gb G + o), .int a0, .int a1, .ref (gb G + a2)] V0 T none V' T 0 0 := by
  refine ok_intro (by decide) (Nat.le_of_ble_eq_true rfl) ?_
  intro p e s m below meth c ls C hr hnm hw hl
  have hx := C.1
  have hb := C.2.1
  have hown := C.2.2.2.1
  have hts := C.2.2.2.2.1
  have hl : lv_has ls 8 [(0, .ref (gb G + o)), (1, .int a0), (2, .int a1), (3, .ref (gb G + a2))] := hl
  unfold f_X2_draws at hf
  revert hf
  refine k_req (fun k0 hf => ?_)
  refine lv_aload_n hx hb dX2_draws_0 rfl (lv_at hl 0 rfl) ?_
  refine lv_iload_n hx hb dX2_draws_1 rfl (lv_at hl 1 rfl) ?_
  revert hf
  refine k_pcl (fun z2 h1 hf => ?_)
  refine w_afi hw (w_rV (As := [.int a0]) C hw (ok_X2_all h1) (cw_X2_28 hts (Nat.le_of_ble_eq_true rfl) (Nat.le_of_ble_eq_true rfl)) rfl (by decide) (of_req h1).1 rfl hl.1 rfl (Nat.le_of_ble_eq_true rfl) ⟨Nat.zero_le _, Nat.zero_le _⟩ dX2_draws_2) (fun H locs hw => ?_)
  refine lv_i2l hx hb dX2_draws_5 rfl ?_
  revert hf
  refine k_stp (fun z3 ez3 hf => ?_)
  refine w_nmL ez3 ?_
  refine lv_lstore (lv' := [(4, .long z3), (0, .ref (gb G + o)), (1, .int a0), (2, .int a1), (3, .ref (gb G + a2))]) hx hb dX2_draws_6 hl (by decide) rfl (fun ls hl => ?_)
  refine lv_iload_n hx hb dX2_draws_8 rfl (lv_at hl 3 rfl) ?_
  refine lv_sipush (v := (1000 : Int32)) hx hb dX2_draws_9 (by decide) ?_
  refine lv_imul hx hb dX2_draws_12 ?_
  revert hf
  refine k_stp (fun z4 ez4 hf => ?_)
  refine w_nmI ez4 ?_
  refine lv_istore (lv' := [(6, .int z4), (4, .long z3), (0, .ref (gb G + o)), (1, .int a0), (2, .int a1), (3, .ref (gb G + a2))]) hx hb dX2_draws_13 hl (by decide) rfl (fun ls hl => ?_)
  refine lv_iconst (v := (0 : Int32)) hx hb dX2_draws_15 (by decide) ?_
  refine lv_istore (lv' := [(7, .int (0 : Int32)), (6, .int z4), (4, .long z3), (0, .ref (gb G + o)), (1, .int a0), (2, .int a1), (3, .ref (gb G + a2))]) hx hb dX2_draws_16 hl (by decide) rfl (fun ls hl => ?_)
  refine lk_X2_draws_18 C hr k0 (fun z19 U20 H locs ls hf hw hl => ?_) fuel _ _ _ _ _ _ hf hw (lv_sub hl [3, 4, 5, 6, 2, 1, 0] rfl)
  refine lv_bipush (v := (19 : Int32)) hx hb dX2_draws_87 (by decide) ?_
  refine lv_istore (lv' := [(7, .int (19 : Int32)), (0, .ref (gb G + o)), (1, .int a0), (3, .ref (gb G + a2)), (6, .int z19)]) hx hb dX2_draws_89 hl (by decide) rfl (fun ls hl => ?_)
  refine lk_X2_draws_91 C hr k0 (fun U35 H locs ls hf hw hl => ?_) fuel _ _ _ _ _ _ hf hw (lv_sub hl [1, 2, 3, 4, 0] rfl)
  cases hf
  exact w_vret C hr hw dX2_draws_152
set_option maxHeartbeats 4000000 in
theorem lk_X2_comes_2 {l : Launch} {G : gG} {p : Program} {e : Env} {s : State} {m : MethodId} {args : Array Value} {below : List Frame} {meth : Method} {c : Code} {T : Tt} {V' : Vt} (C : Cx G p s m args meth c cX2_comes RX2 4) (hr : meth.sig.returnType = none) {x0 : Nat} {x1 : Int32} {x2 : Nat} {kx2_31 : Vt → Option (Vt)} (k0 : T.1 x0 = 3) (hkx2_31 : ∀ (W1 : Vt) (H : Heap) (locs : List Loc) (ls : Array Slot), kx2_31 W1 = some V' → wS G W1 T H locs → lv_has ls 4 [] → W p l e (rmL 0 0 0) s m args below meth c H locs 0 0 (eQ G below none V' T args s 0 0) (F0 m 31 ls [])) : ∀ (n : Nat) (x3 : Int32) (V1 : Vt) (H : Heap) (locs : List Loc) (ls : Array Slot), f_X2_comes_L2 T x0 x1 x2 kx2_31 n x3 V1 = some V' → wS G V1 T H locs → lv_has ls 4 [(0, .ref (gb G + x0)), (1, .int x1), (2, .ref (gb G + x2)), (3, .int x3)] → W p l e (rmL 0 0 0) s m args below meth c H locs 0 0 (eQ G below none V' T args s 0 0) (F0 m 2 ls []) := by
  have hx := C.1
  have hb := C.2.1
  have hown := C.2.2.2.1
  have hts := C.2.2.2.2.1
  intro n
  induction n with
  | zero =>
    intro x3 V1 H locs ls hf
    cases hf
  | succ n ih =>
    intro x3 V1 H locs ls hf hw hl
    unfold f_X2_comes_L2 at hf
    refine lv_iload_n hx hb dX2_comes_2 rfl (lv_at hl 3 rfl) ?_
    refine lv_bipush (v := (20 : Int32)) hx hb dX2_comes_3 (by decide) ?_
    refine lv_icmp_ge (tgt := 31) hx hb dX2_comes_5 (by decide) (fun c1 => ?_) (fun c1 => ?_)
    · replace hf := ite_t c1 hf
      exact hkx2_31 _ _ _ _ hf hw (lv_sub hl [] rfl)
    · replace hf := ite_f c1 hf
      refine lv_aload_n hx hb dX2_comes_8 rfl (lv_at hl 0 rfl) ?_
      revert hf
      refine k_drf (fun r2 er2 hf => ?_)
      refine gf_X2_9 C hw k0 er2 dX2_comes_9 ?_
      refine lv_bipush (v := (20 : Int32)) hx hb dX2_comes_12 (by decide) ?_
      refine lv_iload_n hx hb dX2_comes_14 rfl (lv_at hl 1 rfl) ?_
      refine lv_imul hx hb dX2_comes_15 ?_
      refine lv_iload_n hx hb dX2_comes_16 rfl (lv_at hl 3 rfl) ?_
      refine lv_iadd hx hb dX2_comes_17 ?_
      refine lv_dup2_11 hx hb dX2_comes_18 rfl rfl ?_
      revert hf
      refine k_req (fun h3 hf => ?_)
      refine w_iald C hw h3 rfl dX2_comes_19 ?_
      refine lv_aload_n hx hb dX2_comes_20 rfl (lv_at hl 2 rfl) ?_
      refine lv_iload_n hx hb dX2_comes_21 rfl (lv_at hl 3 rfl) ?_
      revert hf
      refine k_req (fun h4 hf => ?_)
      refine w_iald C hw h4 rfl dX2_comes_22 ?_
      refine lv_iadd hx hb dX2_comes_23 ?_
      revert hf
      refine k_req (fun h5 hf => ?_)
      revert hf
      refine k_stp (fun U6 eU6 hf => ?_)
      refine w_iast C hw h5 eU6 dX2_comes_24 (fun H locs hw => ?_)
      revert hf
      refine k_stp (fun z7 ez7 hf => ?_)
      refine lv_iinc (k := 3) (lv' := [(3, .int z7), (0, .ref (gb G + x0)), (1, .int x1), (2, .ref (gb G + x2))]) hx hb dX2_comes_25 hl rfl (inc_e (by decide) ez7) (by decide) rfl (fun ls hl => ?_)
      refine lv_goto (tgt := 2) hx hb dX2_comes_28 (by decide) ?_
      exact ih _ _ _ _ _ hf hw (lv_sub hl [1, 2, 3, 0] rfl)
set_option maxHeartbeats 4000000 in
theorem ok_X2_comes {l : Launch} {G : gG} {T : Tt} {V0 : Vt} {o : Nat} {a0 : Int32} {a1 : Nat} {V' : Vt} (hf : f_X2_comes T V0 o a0 a1 = some V') : okM l G yX2_comes cX2_comes 4 none 0 [.ref (gb G + o), .int a0, .ref (gb G + a1)] V0 T none V' T 0 0 := by
  refine ok_intro (by decide) (Nat.le_of_ble_eq_true rfl) ?_
  intro p e s m below meth c ls C hr hnm hw hl
  have hx := C.1
  have hb := C.2.1
  have hown := C.2.2.2.1
  have hts := C.2.2.2.2.1
  have hl : lv_has ls 4 [(0, .ref (gb G + o)), (1, .int a0), (2, .ref (gb G + a1))] := hl
  unfold f_X2_comes at hf
  revert hf
  refine k_req (fun k0 hf => ?_)
  refine lv_iconst (v := (0 : Int32)) hx hb dX2_comes_0 (by decide) ?_
  refine lv_istore_n (lv' := [(3, .int (0 : Int32)), (0, .ref (gb G + o)), (1, .int a0), (2, .ref (gb G + a1))]) hx hb dX2_comes_1 rfl hl (by decide) rfl (fun ls hl => ?_)
  refine lk_X2_comes_2 C hr k0 (fun U8 H locs ls hf hw hl => ?_) fuel _ _ _ _ _ hf hw (lv_sub hl [1, 2, 3, 0] rfl)
  cases hf
  exact w_vret C hr hw dX2_comes_31
set_option maxHeartbeats 4000000 in
theorem lk_X2_ages_33 {l : Launch} {G : gG} {p : Program} {e : Env} {s : State} {m : MethodId} {args : Array Value} {below : List Frame} {meth : Method} {c : Code} {T : Tt} {V' : Vt} (C : Cx G p s m args meth c cX2_ages RX2 4) (hr : meth.sig.returnType = none) {x0 : Nat} {x2 : Int32} {kx33_61 : Vt → Option (Vt)} (k0 : T.1 x0 = 3) (hkx33_61 : ∀ (W1 : Vt) (H : Heap) (locs : List Loc) (ls : Array Slot), kx33_61 W1 = some V' → wS G W1 T H locs → lv_has ls 4 [(0, .ref (gb G + x0)), (2, .int x2)] → W p l e (rmL 0 0 0) s m args below meth c H locs 0 0 (eQ G below none V' T args s 0 0) (F0 m 61 ls [])) : ∀ (n : Nat) (x3 : Int32) (V1 : Vt) (H : Heap) (locs : List Loc) (ls : Array Slot), f_X2_ages_L33 T x0 x2 kx33_61 n x3 V1 = some V' → wS G V1 T H locs → lv_has ls 4 [(0, .ref (gb G + x0)), (2, .int x2), (3, .int x3)] → W p l e (rmL 0 0 0) s m args below meth c H locs 0 0 (eQ G below none V' T args s 0 0) (F0 m 33 ls []) := by
  have hx := C.1
  have hb := C.2.1
  have hown := C.2.2.2.1
  have hts := C.2.2.2.2.1
  intro n
  induction n with
  | zero =>
    intro x3 V1 H locs ls hf
    cases hf
  | succ n ih =>
    intro x3 V1 H locs ls hf hw hl
    unfold f_X2_ages_L33 at hf
    refine lv_iload_n hx hb dX2_ages_33 rfl (lv_at hl 2 rfl) ?_
    refine lv_if_le (tgt := 61) hx hb dX2_ages_34 (by decide) (fun c8 => ?_) (fun c8 => ?_)
    · replace hf := ite_t c8 hf
      exact hkx33_61 _ _ _ _ hf hw (lv_sub hl [0, 1] rfl)
    · replace hf := ite_f c8 hf
      refine lv_aload_n hx hb dX2_ages_37 rfl (lv_at hl 0 rfl) ?_
      revert hf
      refine k_drf (fun r9 er9 hf => ?_)
      refine gf_X2_9 C hw k0 er9 dX2_ages_38 ?_
      refine lv_iload_n hx hb dX2_ages_41 rfl (lv_at hl 1 rfl) ?_
      refine lv_iload_n hx hb dX2_ages_42 rfl (lv_at hl 2 rfl) ?_
      refine lv_iadd hx hb dX2_ages_43 ?_
      refine lv_aload_n hx hb dX2_ages_44 rfl (lv_at hl 0 rfl) ?_
      revert hf
      refine k_drf (fun r10 er10 hf => ?_)
      refine gf_X2_9 C hw k0 er10 dX2_ages_45 ?_
      refine lv_iload_n hx hb dX2_ages_48 rfl (lv_at hl 1 rfl) ?_
      refine lv_iload_n hx hb dX2_ages_49 rfl (lv_at hl 2 rfl) ?_
      refine lv_iadd hx hb dX2_ages_50 ?_
      refine lv_iconst (v := (1 : Int32)) hx hb dX2_ages_51 (by decide) ?_
      refine lv_isub hx hb dX2_ages_52 ?_
      revert hf
      refine k_req (fun h11 hf => ?_)
      refine w_iald C hw h11 rfl dX2_ages_53 ?_
      revert hf
      refine k_req (fun h12 hf => ?_)
      revert hf
      refine k_stp (fun U13 eU13 hf => ?_)
      refine w_iast C hw h12 eU13 dX2_ages_54 (fun H locs hw => ?_)
      revert hf
      refine k_stp (fun z14 ez14 hf => ?_)
      refine lv_iinc (k := 2) (lv' := [(3, .int z14), (0, .ref (gb G + x0)), (2, .int x2)]) hx hb dX2_ages_55 hl rfl (inc_e (by decide) ez14) (by decide) rfl (fun ls hl => ?_)
      refine lv_goto (tgt := 33) hx hb dX2_ages_58 (by decide) ?_
      exact ih _ _ _ _ _ hf hw (lv_sub hl [1, 2, 0] rfl)
set_option maxHeartbeats 4000000 in
theorem ok_X2_ages {l : Launch} {G : gG} {T : Tt} {V0 : Vt} {o : Nat} {a0 : Int32} {V' : Vt} (hf : f_X2_ages T V0 o a0 = some V') : okM l G yX2_ages cX2_ages 4 none 0 [.ref (gb G + o), .int a0] V0 T none V' T 0 0 := by
  refine ok_intro (by decide) (Nat.le_of_ble_eq_true rfl) ?_
  intro p e s m below meth c ls C hr hnm hw hl
  have hx := C.1
  have hb := C.2.1
  have hown := C.2.2.2.1
  have hts := C.2.2.2.2.1
  have hl : lv_has ls 4 [(0, .ref (gb G + o)), (1, .int a0)] := hl
  unfold f_X2_ages at hf
  revert hf
  refine k_req (fun k0 hf => ?_)
  refine lv_bipush (v := (20 : Int32)) hx hb dX2_ages_0 (by decide) ?_
  refine lv_iload_n hx hb dX2_ages_2 rfl (lv_at hl 1 rfl) ?_
  refine lv_imul hx hb dX2_ages_3 ?_
  revert hf
  refine k_stp (fun z1 ez1 hf => ?_)
  refine w_nmI ez1 ?_
  refine lv_istore_n (lv' := [(2, .int z1), (0, .ref (gb G + o)), (1, .int a0)]) hx hb dX2_ages_4 rfl hl (by decide) rfl (fun ls hl => ?_)
  refine lv_aload_n hx hb dX2_ages_5 rfl (lv_at hl 1 rfl) ?_
  revert hf
  refine k_drf (fun r2 er2 hf => ?_)
  refine gf_X2_9 C hw k0 er2 dX2_ages_6 ?_
  refine lv_iload_n hx hb dX2_ages_9 rfl (lv_at hl 0 rfl) ?_
  refine lv_bipush (v := (20 : Int32)) hx hb dX2_ages_10 (by decide) ?_
  refine lv_iadd hx hb dX2_ages_12 ?_
  refine lv_iconst (v := (1 : Int32)) hx hb dX2_ages_13 (by decide) ?_
  refine lv_isub hx hb dX2_ages_14 ?_
  refine lv_dup2_11 hx hb dX2_ages_15 rfl rfl ?_
  revert hf
  refine k_req (fun h3 hf => ?_)
  refine w_iald C hw h3 rfl dX2_ages_16 ?_
  refine lv_aload_n hx hb dX2_ages_17 rfl (lv_at hl 1 rfl) ?_
  revert hf
  refine k_drf (fun r4 er4 hf => ?_)
  refine gf_X2_9 C hw k0 er4 dX2_ages_18 ?_
  refine lv_iload_n hx hb dX2_ages_21 rfl (lv_at hl 0 rfl) ?_
  refine lv_bipush (v := (20 : Int32)) hx hb dX2_ages_22 (by decide) ?_
  refine lv_iadd hx hb dX2_ages_24 ?_
  refine lv_iconst (v := (2 : Int32)) hx hb dX2_ages_25 (by decide) ?_
  refine lv_isub hx hb dX2_ages_26 ?_
  revert hf
  refine k_req (fun h5 hf => ?_)
  refine w_iald C hw h5 rfl dX2_ages_27 ?_
  refine lv_iadd hx hb dX2_ages_28 ?_
  revert hf
  refine k_req (fun h6 hf => ?_)
  revert hf
  refine k_stp (fun U7 eU7 hf => ?_)
  refine w_iast C hw h6 eU7 dX2_ages_29 (fun H locs hw => ?_)
  refine lv_bipush (v := (18 : Int32)) hx hb dX2_ages_30 (by decide) ?_
  refine lv_istore_n (lv' := [(3, .int (18 : Int32)), (2, .int z1), (0, .ref (gb G + o)), (1, .int a0)]) hx hb dX2_ages_32 rfl hl (by decide) rfl (fun ls hl => ?_)
  refine lk_X2_ages_33 C hr k0 (fun U15 H locs ls hf hw hl => ?_) fuel _ _ _ _ _ hf hw (lv_sub hl [2, 1, 0] rfl)
  refine lv_aload_n hx hb dX2_ages_61 rfl (lv_at hl 0 rfl) ?_
  revert hf
  refine k_drf (fun r16 er16 hf => ?_)
  refine gf_X2_9 C hw k0 er16 dX2_ages_62 ?_
  refine lv_iload_n hx hb dX2_ages_65 rfl (lv_at hl 1 rfl) ?_
  refine lv_iconst (v := (0 : Int32)) hx hb dX2_ages_66 (by decide) ?_
  revert hf
  refine k_req (fun h17 hf => ?_)
  revert hf
  refine k_stp (fun U18 eU18 hf => ?_)
  refine w_iast C hw h17 eU18 dX2_ages_67 (fun H locs hw => ?_)
  cases hf
  exact w_vret C hr hw dX2_ages_68
