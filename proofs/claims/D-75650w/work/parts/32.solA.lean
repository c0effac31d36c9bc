set_option maxRecDepth 100000
def f_X0_refuse (T : Tt) (V0 : Vt) (o : Nat) (a0 : Int32) : Option (Int32 × Vt) :=
  req (T.1 o = 1) (stp (uI V0 o 0 a0) (fun U1 => drf (U1.2.2 o 1) (fun r2 => req (aIn T r2 0 (-a0)) (req (aIn T r2 0 (-a0)) (stp (uI U1 r2 (ixN (-a0)) ((U1.1 r2 (ixN (-a0))) + (1 : Int32))) (fun U5 => some (a0, U5)))))))
def f_X0_done (T : Tt) (V0 : Vt) (o : Nat) (a0 : Int32) : Option (Int32 × Vt) :=
  req (T.1 o = 1) (stp (uI V0 o 0 (0 : Int32)) (fun U1 => some (a0, U1)))
def f_X0_in (T : Tt) (V0 : Vt) (a0 : Int32) (a1 : Int32) (a2 : Int32) : Option (Int32) :=
  if a0 < a1 then (some (0 : Int32)) else (if a2 < a0 then (some (0 : Int32)) else (some (1 : Int32)))
def f_X0_within (T : Tt) (V0 : Vt) (a0 : Int64) (a1 : Int32) : Option (Int32) :=
  some (Int64.toInt32 (if (if a0 < (Int32.toInt64 a1) then a0 else (Int32.toInt64 a1)) < (0 : Int64) then (0 : Int64) else (if a0 < (Int32.toInt64 a1) then a0 else (Int32.toInt64 a1))))
def f_X0_table (T : Tt) (V0 : Vt) (o : Nat) : Option (Nat) :=
  req (T.1 o = 1) (drf (V0.2.2 o 2) (fun r1 => req (T.1 r1 = 2) (drf (V0.2.2 r1 0) (fun r3 => some r3))))
def f_X0_settles (T : Tt) (V0 : Vt) (o : Nat) (a0 : Int32) : Option (Int32 × Vt) :=
  req (T.1 o = 1) (stp (uI V0 o 15 (0 : Int32)) (fun U1 => cal (f_X0_done T U1 o a0) (fun z3 U4 => some (z3, U4))))
def f_X0_isCask (T : Tt) (V0 : Vt) (o : Nat) (a0 : Int32) : Option (Int32) :=
  req (T.1 o = 1) (drf (V0.2.2 o 2) (fun r1 => req (T.1 r1 = 2) (pcl (f_X0_in T V0 a0 (0 : Int32) ((V0.1 r1 6) - (1 : Int32))) (fun z4 => req (isB z4) (some z4)))))
def f_X0_canCask (T : Tt) (V0 : Vt) (a0 : Int32) (a1 : Int32) : Option (Int32) :=
  pcl (f_X0_in T V0 a0 (0 : Int32) (4 : Int32)) (fun z2 => if z2 = 0 then (some (0 : Int32)) else (pcl (f_X0_in T V0 a1 (1 : Int32) (999 : Int32)) (fun z5 => if z5 = 0 then (some (0 : Int32)) else (some (1 : Int32)))))
def f_X0_adds_J70 (T : Tt) (V0 : Vt) (x0 : Nat) (x3 : Int32) (x4 : Int32) (x5 : Int32) (s0 : Nat) (s1 : Int32) (s2 : Int32) (kc34 : Int32 → Vt → Option (Int32 × Vt)) (kx34_77 : Vt → Option (Int32 × Vt)) : Option (Int32 × Vt) :=
  req (aIn T s0 0 s1) (stp (uI V0 s0 (ixN s1) s2) (fun U21 => stp (x5 + (1 : Int32)) (fun z22 => kc34 z22 U21)))
def f_X0_adds_L34 (T : Tt) (x0 : Nat) (x3 : Int32) (x4 : Int32) (kx34_77 : Vt → Option (Int32 × Vt)) : Nat → Int32 → Vt → Option (Int32 × Vt)
  | 0, _, _ => none
  | n + 1, x5, V1 => if (20 : Int32) ≤ x5 then (kx34_77 V1) else (pcl (f_X0_table T V1 x0) (fun r16 => req (T.1 r16 = 3) (drf (V1.2.2 r16 0) (fun r18 => if x5 = 0 then (f_X0_adds_J70 T V1 x0 x3 x4 x5 r18 (((20 : Int32) * x4) + x5) ((1000 : Int32) * x3) (f_X0_adds_L34 T x0 x3 x4 kx34_77 n) kx34_77) else (f_X0_adds_J70 T V1 x0 x3 x4 x5 r18 (((20 : Int32) * x4) + x5) (0 : Int32) (f_X0_adds_L34 T x0 x3 x4 kx34_77 n) kx34_77)))))
def f_X0_adds (T : Tt) (V0 : Vt) (o : Nat) (a0 : Int32) (a1 : Int32) (a2 : Int32) : Option (Int32 × Vt) :=
  req (T.1 o = 1) (drf (V0.2.2 o 2) (fun r1 => req (T.1 r1 = 2) (stp (V0.1 r1 6) (fun z3 => drf (V0.2.2 o 2) (fun r4 => req (T.1 r4 = 2) (drf (V0.2.2 r4 1) (fun r6 => req (aIn T r6 0 z3) (stp (uI V0 r6 (ixN z3) a0) (fun U8 => drf (U8.2.2 o 2) (fun r9 => req (T.1 r9 = 2) (drf (U8.2.2 r9 2) (fun r11 => req (aIn T r11 0 z3) (stp (uI U8 r11 (ixN z3) a1) (fun U13 => f_X0_adds_L34 T o a2 z3 (fun U23 => drf (U23.2.2 o 2) (fun r24 => req (T.1 r24 = 2) (stp (uI U23 r24 6 ((U23.1 r24 6) + (1 : Int32))) (fun U26 => some (z3, U26))))) fuel (0 : Int32) U13))))))))))))))
def f_X0_cask (T : Tt) (V0 : Vt) (o : Nat) (a0 : Int32) (a1 : Int32) : Option (Int32 × Vt) :=
  req (T.1 o = 1) (pcl (f_X0_canCask T V0 a0 a1) (fun z2 => if z2 = 0 then (cal (f_X0_refuse T V0 o ((-1) : Int32)) (fun z17 U18 => some (z17, U18))) else (drf (V0.2.2 o 2) (fun r4 => req (T.1 r4 = 2) (if (V0.1 r4 6) = (8 : Int32) then (cal (f_X0_refuse T V0 o ((-5) : Int32)) (fun z14 U15 => some (z14, U15))) else (cal (f_X0_adds T V0 o a0 a1 (0 : Int32)) (fun z8 U9 => cal (f_X0_settles T U9 o z8) (fun z11 U12 => some (z11, U12)))))))))
def f_X0_old_J29 (T : Tt) (V0 : Vt) : Option (Int64) :=
  some ((-1) : Int64)
def f_X0_old (T : Tt) (V0 : Vt) (o : Nat) (a0 : Int32) (a1 : Int32) : Option (Int64) :=
  req (T.1 o = 1) (pcl (f_X0_isCask T V0 o a0) (fun z2 => if z2 = 0 then (f_X0_old_J29 T V0) else (pcl (f_X0_in T V0 a1 (0 : Int32) (19 : Int32)) (fun z5 => if z5 = 0 then (f_X0_old_J29 T V0) else (pcl (f_X0_table T V0 o) (fun r8 => pcl (f_X2_all T V0 r8 a0) (fun z10 => if z10 = 0 then (f_X0_old_J29 T V0) else (pcl (f_X0_table T V0 o) (fun r13 => pcl (f_X2_older T V0 r13 a0 a1) (fun z15 => pcl (f_X0_table T V0 o) (fun r17 => pcl (f_X2_all T V0 r17 a0) (fun z19 => req (¬ Int32.toInt64 z19 = 0) (some (((Int32.toInt64 z15) * (1000000000000 : Int64)) / (Int32.toInt64 z19)))))))))))))))
def f_X0_isTerm (T : Tt) (V0 : Vt) (a0 : Int32) (a1 : Int32) : Option (Int32) :=
  if a0 = (0 : Int32) then (pcl (f_X0_in T V0 a1 (0 : Int32) (999 : Int32)) (fun z3 => req (isB z3) (some z3))) else (if a0 = (1 : Int32) then (pcl (f_X0_in T V0 a1 (0 : Int32) (10 : Int32)) (fun z7 => req (isB z7) (some z7))) else (if a0 = (2 : Int32) then (pcl (f_X0_in T V0 a1 (0 : Int32) (9 : Int32)) (fun z11 => req (isB z11) (some z11))) else (if a0 = (3 : Int32) then (pcl (f_X0_in T V0 a1 (1 : Int32) (100 : Int32)) (fun z15 => req (isB z15) (some z15))) else (some (0 : Int32)))))
def f_X0_termNow (T : Tt) (V0 : Vt) (o : Nat) (a0 : Int32) : Option (Int32) :=
  req (T.1 o = 1) (if a0 = 0 then (pcl (f_X0_table T V0 o) (fun r11 => req (T.1 r11 = 3) (some (V0.1 r11 2)))) else (if a0 = (1 : Int32) then (drf (V0.2.2 o 2) (fun r8 => req (T.1 r8 = 2) (some (V0.1 r8 8)))) else (if a0 = (2 : Int32) then (drf (V0.2.2 o 2) (fun r6 => req (T.1 r6 = 2) (some (V0.1 r6 9)))) else (drf (V0.2.2 o 2) (fun r4 => req (T.1 r4 = 2) (some (V0.1 r4 10)))))))
def f_X0_terms_J75 (T : Tt) (V0 : Vt) (x0 : Nat) (x3 : Int32) : Option (Int32 × Vt) :=
  cal (f_X0_settles T V0 x0 x3) (fun z13 U14 => some (z13, U14))
def f_X0_terms (T : Tt) (V0 : Vt) (o : Nat) (a0 : Int32) (a1 : Int32) : Option (Int32 × Vt) :=
  req (T.1 o = 1) (pcl (f_X0_isTerm T V0 a0 a1) (fun z2 => if z2 = 0 then (cal (f_X0_refuse T V0 o ((-1) : Int32)) (fun z26 U27 => some (z26, U27))) else (pcl (f_X0_termNow T V0 o a0) (fun z5 => if a0 = 0 then (pcl (f_X0_table T V0 o) (fun r22 => req (T.1 r22 = 3) (stp (uI V0 r22 2 a1) (fun U24 => f_X0_terms_J75 T U24 o z5)))) else (if a0 = (1 : Int32) then (drf (V0.2.2 o 2) (fun r18 => req (T.1 r18 = 2) (stp (uI V0 r18 8 a1) (fun U20 => f_X0_terms_J75 T U20 o z5)))) else (if a0 = (2 : Int32) then (drf (V0.2.2 o 2) (fun r15 => req (T.1 r15 = 2) (stp (uI V0 r15 9 a1) (fun U17 => f_X0_terms_J75 T U17 o z5)))) else (drf (V0.2.2 o 2) (fun r9 => req (T.1 r9 = 2) (stp (uI V0 r9 10 a1) (fun U11 => f_X0_terms_J75 T U11 o z5))))))))))
def f_X0_four_L3 (T : Tt) (x0 : Nat) (x1 : Int32) (kx3_36 : Vt → Option (Vt)) : Nat → Int32 → Vt → Option (Vt)
  | 0, _, _ => none
  | n + 1, x2, V1 => if x2 < 0 then (kx3_36 V1) else (drf (V1.2.2 x0 10) (fun r2 => req (aIn T r2 2 (V1.1 x0 11)) (stp (uI V1 r2 (ixN (V1.1 x0 11)) (bN (bN (x1 >>> (x2 &&& 31))))) (fun U4 => stp (uI U4 x0 11 ((U4.1 x0 11) + (1 : Int32))) (fun U5 => stp (x2 + ((-8) : Int32)) (fun z6 => (f_X0_four_L3 T x0 x1 kx3_36 n) z6 U5))))))
def f_X0_four (T : Tt) (V0 : Vt) (o : Nat) (a0 : Int32) : Option (Vt) :=
  req (T.1 o = 1) (f_X0_four_L3 T o a0 (fun U7 => some U7) fuel (24 : Int32) V0)
def f_X0_feed (T : Tt) (V0 : Vt) (o : Nat) (a0 : Int32) (a1 : Int32) (a2 : Int32) (a3 : Int32) (a4 : Int32) : Option (Int32 × Vt) :=
  req (T.1 o = 1) (if ((V0.1 o 11) + (20 : Int32)) ≤ (400 : Int32) then (pcl (f_X0_four T V0 o a0) (fun U4 => pcl (f_X0_four T U4 o a1) (fun U7 => pcl (f_X0_four T U7 o a2) (fun U10 => pcl (f_X0_four T U10 o a3) (fun U13 => pcl (f_X0_four T U13 o a4) (fun U16 => some ((U16.1 o 11), U16))))))) else (some (((-1) : Int32), V0)))
def f_X0_end (T : Tt) (V0 : Vt) (o : Nat) (a0 : Int32) : Option (Int32 × Vt) :=
  req (T.1 o = 1) (if a0 < 0 then (some (((-1) : Int32), V0)) else (if a0 ≤ (V0.1 o 11) then (stp (uI V0 o 11 a0) (fun U3 => some (a0, U3))) else (some (((-1) : Int32), V0))))
def f_X0_row_J163 (T : Tt) (V0 : Vt) (x0 : Nat) (x1 : Int32) (x2 : Int32) (x3 : Int32) (s0 : Nat) (s1 : Int32) (s2 : Int32) (kc40 : Int32 → Int32 → Vt → Option (Int32 × Vt)) (kx40_173 : Int32 → Vt → Option (Int32 × Vt)) : Option (Int32 × Vt) :=
  req (T.1 s0 = 1) (stp (uI V0 s0 13 (s1 + s2)) (fun U22 => stp (x3 + (3 : Int32)) (fun z23 => kc40 x2 z23 U22)))
def f_X0_row_J146 (T : Tt) (V0 : Vt) (x0 : Nat) (x1 : Int32) (x3 : Int32) (x6 : Int32) (s0 : Int32) (s1 : Int32) (kc40 : Int32 → Int32 → Vt → Option (Int32 × Vt)) (kx40_173 : Int32 → Vt → Option (Int32 × Vt)) : Option (Int32 × Vt) :=
  stp (s0 + s1) (fun z19 => if x6 = 0 then (f_X0_row_J163 T V0 x0 x1 z19 x3 x0 (V0.1 x0 13) (1 : Int32) kc40 kx40_173) else (f_X0_row_J163 T V0 x0 x1 z19 x3 x0 (V0.1 x0 13) (0 : Int32) kc40 kx40_173))
def f_X0_row_J135 (T : Tt) (V0 : Vt) (x0 : Nat) (x1 : Int32) (x2 : Int32) (x3 : Int32) (x6 : Int32) (kc40 : Int32 → Int32 → Vt → Option (Int32 × Vt)) (kx40_173 : Int32 → Vt → Option (Int32 × Vt)) : Option (Int32 × Vt) :=
  if x6 = 0 then (f_X0_row_J146 T V0 x0 x1 x3 x6 x2 (0 : Int32) kc40 kx40_173) else (f_X0_row_J146 T V0 x0 x1 x3 x6 x2 (1 : Int32) kc40 kx40_173)
def f_X0_row_J113 (T : Tt) (V0 : Vt) (x0 : Nat) (x1 : Int32) (x2 : Int32) (x3 : Int32) (x4 : Int32) (x5 : Int32) (s0 : Int32) (kc40 : Int32 → Int32 → Vt → Option (Int32 × Vt)) (kx40_173 : Int32 → Vt → Option (Int32 × Vt)) : Option (Int32 × Vt) :=
  if s0 = 0 then (f_X0_row_J135 T V0 x0 x1 x2 x3 s0 kc40 kx40_173) else (drf (V0.2.2 x0 10) (fun r24 => req (aIn T r24 2 x3) (cal (f_X0_adds T V0 x0 (V0.1 r24 (ixN x3)) x4 x5) (fun z27 U28 => f_X0_row_J135 T U28 x0 x1 x2 x3 s0 kc40 kx40_173))))
def f_X0_row_J112 (T : Tt) (V0 : Vt) (x0 : Nat) (x1 : Int32) (x2 : Int32) (x3 : Int32) (x4 : Int32) (x5 : Int32) (kc40 : Int32 → Int32 → Vt → Option (Int32 × Vt)) (kx40_173 : Int32 → Vt → Option (Int32 × Vt)) : Option (Int32 × Vt) :=
  f_X0_row_J113 T V0 x0 x1 x2 x3 x4 x5 (0 : Int32) kc40 kx40_173
def f_X0_row_L40 (T : Tt) (x0 : Nat) (x1 : Int32) (kx40_173 : Int32 → Vt → Option (Int32 × Vt)) : Nat → Int32 → Int32 → Vt → Option (Int32 × Vt)
  | 0, _, _, _ => none
  | n + 1, x2, x3, V1 => if x1 < (x3 + (3 : Int32)) then (kx40_173 x2 V1) else (drf (V1.2.2 x0 10) (fun r8 => req (aIn T r8 2 (x3 + (1 : Int32))) (stp ((V1.1 r8 (ixN (x3 + (1 : Int32)))) &&& (255 : Int32)) (fun z10 => drf (V1.2.2 x0 10) (fun r11 => req (aIn T r11 2 (x3 + (2 : Int32))) (stp ((V1.1 r11 (ixN (x3 + (2 : Int32)))) &&& (255 : Int32)) (fun z13 => drf (V1.2.2 x0 2) (fun r14 => req (T.1 r14 = 2) (if (8 : Int32) ≤ (V1.1 r14 6) then (f_X0_row_J112 T V1 x0 x1 x2 x3 z10 z13 (f_X0_row_L40 T x0 x1 kx40_173 n) kx40_173) else (drf (V1.2.2 x0 10) (fun r29 => req (aIn T r29 2 x3) (pcl (f_X0_canCask T V1 (V1.1 r29 (ixN x3)) z10) (fun z32 => if z32 = 0 then (f_X0_row_J112 T V1 x0 x1 x2 x3 z10 z13 (f_X0_row_L40 T x0 x1 kx40_173 n) kx40_173) else (if z10 < z13 then (f_X0_row_J112 T V1 x0 x1 x2 x3 z10 z13 (f_X0_row_L40 T x0 x1 kx40_173 n) kx40_173) else (f_X0_row_J113 T V1 x0 x1 x2 x3 z10 z13 (1 : Int32) (f_X0_row_L40 T x0 x1 kx40_173 n) kx40_173)))))))))))))))
def f_X0_row_J35 (T : Tt) (V0 : Vt) (x0 : Nat) (x1 : Int32) (x2 : Int32) (s0 : Nat) (s1 : Int32) : Option (Int32 × Vt) :=
  req (T.1 s0 = 1) (stp (uI V0 s0 13 s1) (fun U6 => f_X0_row_L40 T x0 x1 (fun z35 U36 => cal (f_X0_settles T U36 x0 z35) (fun z38 U39 => some (z38, U39))) fuel x2 (0 : Int32) U6))
def f_X0_row (T : Tt) (V0 : Vt) (o : Nat) : Option (Int32 × Vt) :=
  req (T.1 o = 1) (stp (V0.1 o 11) (fun z1 => stp (uI V0 o 11 (0 : Int32)) (fun U2 => if z1 = 0 then (cal (f_X0_refuse T U2 o ((-6) : Int32)) (fun z41 U42 => some (z41, U42))) else (if (z1 - (z1 / (3 : Int32)) * (3 : Int32)) = 0 then (f_X0_row_J35 T U2 o z1 (0 : Int32) o (0 : Int32)) else (f_X0_row_J35 T U2 o z1 (0 : Int32) o (1 : Int32))))))
def f_X0_leaks (T : Tt) (V0 : Vt) (o : Nat) : Option (Int32) :=
  req (T.1 o = 1) (some (V0.1 o 13))
def f_X0_fault (T : Tt) (V0 : Vt) (o : Nat) : Option (Int32) :=
  req (T.1 o = 1) (some (V0.1 o 12))
def f_X0_stopped (T : Tt) (V0 : Vt) (o : Nat) : Option (Int32) :=
  req (T.1 o = 1) (some (V0.1 o 14))
def f_X0_hasRoom (T : Tt) (V0 : Vt) (o : Nat) (a0 : Nat) (a1 : Int32) (a2 : Int32) : Option (Int32) :=
  req (T.1 o = 1) (pcl (f_X2_all T V0 a0 a1) (fun z2 => drf (V0.2.2 o 2) (fun r3 => req (T.1 r3 = 2) (drf (V0.2.2 r3 2) (fun r5 => req (aIn T r5 0 a1) (if ((V0.1 r5 (ixN a1)) * (1000 : Int32)) < (z2 + (a2 * (1000 : Int32))) then (some (0 : Int32)) else (some (1 : Int32))))))))
def f_X0_checks (T : Tt) (V0 : Vt) (o : Nat) (a0 : Int32) (a1 : Int32) : Option (Int32) :=
  req (T.1 o = 1) (pcl (f_X0_in T V0 a1 (1 : Int32) (999 : Int32)) (fun z2 => if z2 = 0 then (some ((-1) : Int32)) else (pcl (f_X0_isCask T V0 o a0) (fun z5 => if z5 = 0 then (some ((-2) : Int32)) else (some (0 : Int32))))))
def f_X0_canPour (T : Tt) (V0 : Vt) (o : Nat) (a0 : Nat) (a1 : Int32) (a2 : Int32) : Option (Int32) :=
  req (T.1 o = 1) (pcl (f_X0_checks T V0 o a1 a2) (fun z2 => if 0 ≤ z2 then (pcl (f_X0_hasRoom T V0 o a0 a1 a2) (fun z5 => if z5 = 0 then (some ((-3) : Int32)) else (some (0 : Int32)))) else (some z2)))
def f_X0_pours (T : Tt) (V0 : Vt) (o : Nat) (a0 : Nat) (a1 : Int32) (a2 : Int32) : Option (Int32 × Vt) :=
  req (T.1 o = 1) (req (T.1 a0 = 3) (drf (V0.2.2 a0 0) (fun r2 => req (aIn T r2 0 ((20 : Int32) * a1)) (req (aIn T r2 0 ((20 : Int32) * a1)) (stp (uI V0 r2 (ixN ((20 : Int32) * a1)) ((V0.1 r2 (ixN ((20 : Int32) * a1))) + (a2 * (1000 : Int32)))) (fun U5 => pcl (f_X2_full T U5 a0 a1) (fun z7 => some (z7, U5))))))))
def f_X0_racks (T : Tt) (V0 : Vt) (o : Nat) (a0 : Nat) (a1 : Int32) (a2 : Int32) (a3 : Int32) : Option (Int32 × Vt) :=
  req (T.1 o = 1) (drf (V0.2.2 o 17) (fun r1 => pcl (f_X2_draws T V0 a0 a1 a3 r1) (fun U4 => drf (U4.2.2 o 17) (fun r5 => pcl (f_X2_comes T U4 a0 a2 r5) (fun U8 => pcl (f_X2_mean T U8 a0 a2) (fun z10 => some (z10, U8)))))))
def f_X0_bottles (T : Tt) (V0 : Vt) (o : Nat) (a0 : Nat) (a1 : Int32) (a2 : Int32) : Option (Int32 × Vt) :=
  req (T.1 o = 1) (drf (V0.2.2 o 17) (fun r1 => pcl (f_X2_draws T V0 a0 a1 a2 r1) (fun U4 => req (T.1 a0 = 3) (stp (uI U4 a0 1 (if ((U4.1 a0 1) + a2) < (999999 : Int32) then ((U4.1 a0 1) + a2) else (999999 : Int32))) (fun U6 => drf (U6.2.2 o 17) (fun r7 => pcl (f_X0_meanOf T U6 r7 (0 : Int32)) (fun z9 => some (z9, U6))))))))
def f_X0_keeps_J76 (T : Tt) (V0 : Vt) (x0 : Nat) (x1 : Int32) : Option (Vt) :=
  drf (V0.2.2 x0 4) (fun r2 => req (aIn T r2 5 (V0.1 x0 15)) (drf (V0.2.2 r2 (ixN (V0.1 x0 15))) (fun r4 => pcl (f_X0_table T V0 x0) (fun r6 => pcl (f_X2_takes T V0 r4 r6) (fun U9 => drf (U9.2.2 x0 6) (fun r10 => req (aIn T r10 0 (U9.1 x0 15)) (stp (uI U9 r10 (ixN (U9.1 x0 15)) x1) (fun U12 => stp (uI U12 x0 15 ((U12.1 x0 15) + (1 : Int32))) (fun U13 => some U13)))))))))
def f_X0_keeps_L18 (T : Tt) (x0 : Nat) (x1 : Int32) (x2 : Nat) (kx18_58 : Vt → Option (Vt)) : Nat → Int32 → Vt → Option (Vt)
  | 0, _, _ => none
  | n + 1, x3, V1 => if (16 : Int32) ≤ x3 then (kx18_58 V1) else (drf (V1.2.2 x0 4) (fun r18 => drf (V1.2.2 x0 4) (fun r19 => req (aIn T r19 5 x3) (drf (V1.2.2 r19 (ixN x3)) (fun r21 => req (aIn T r18 5 (x3 - (1 : Int32))) (req (stK5 T r21) (stp (uR V1 r18 (ixN (x3 - (1 : Int32))) (some r21)) (fun U24 => drf (U24.2.2 x0 6) (fun r25 => drf (U24.2.2 x0 6) (fun r26 => req (aIn T r26 0 x3) (req (aIn T r25 0 (x3 - (1 : Int32))) (stp (uI U24 r25 (ixN (x3 - (1 : Int32))) (U24.1 r26 (ixN x3))) (fun U29 => stp (x3 + (1 : Int32)) (fun z30 => (f_X0_keeps_L18 T x0 x1 x2 kx18_58 n) z30 U29))))))))))))))
def f_X0_keeps (T : Tt) (V0 : Vt) (o : Nat) (a0 : Int32) : Option (Vt) :=
  req (T.1 o = 1) (if (V0.1 o 15) = (16 : Int32) then (drf (V0.2.2 o 4) (fun r14 => req (aIn T r14 5 (0 : Int32)) (drf (V0.2.2 r14 (ixN (0 : Int32))) (fun r16 => f_X0_keeps_L18 T o a0 r16 (fun U31 => drf (U31.2.2 o 4) (fun r32 => req (aIn T r32 5 (15 : Int32)) (req (stK5 T r16) (stp (uR U31 r32 (ixN (15 : Int32)) (some r16)) (fun U35 => stp (uI U35 o 15 ((U35.1 o 15) - (1 : Int32))) (fun U36 => f_X0_keeps_J76 T U36 o a0)))))) fuel (1 : Int32) V0)))) else (f_X0_keeps_J76 T V0 o a0))
def f_X0_poursKept (T : Tt) (V0 : Vt) (o : Nat) (a0 : Int32) (a1 : Int32) : Option (Int32 × Vt) :=
  req (T.1 o = 1) (pcl (f_X0_table T V0 o) (fun r2 => pcl (f_X0_canPour T V0 o r2 a0 a1) (fun z4 => if 0 ≤ z4 then (pcl (f_X0_keeps T V0 o (0 : Int32)) (fun U8 => pcl (f_X0_table T U8 o) (fun r10 => cal (f_X0_pours T U8 o r10 a0 a1) (fun z12 U13 => some (z12, U13))))) else (some (z4, V0)))))
def f_X0_doneOr (T : Tt) (V0 : Vt) (o : Nat) (a0 : Int32) : Option (Int32 × Vt) :=
  req (T.1 o = 1) (if 0 ≤ a0 then (cal (f_X0_done T V0 o a0) (fun z3 U4 => some (z3, U4))) else (cal (f_X0_refuse T V0 o a0) (fun z6 U7 => some (z6, U7))))
def f_X0_pour (T : Tt) (V0 : Vt) (o : Nat) (a0 : Int32) (a1 : Int32) : Option (Int32 × Vt) :=
  req (T.1 o = 1) (cal (f_X0_poursKept T V0 o a0 a1) (fun z2 U3 => cal (f_X0_doneOr T U3 o z2) (fun z5 U6 => some (z5, U6))))
def f_X0_undo (T : Tt) (V0 : Vt) (o : Nat) : Option (Int32 × Vt) :=
  req (T.1 o = 1) (if (V0.1 o 15) = 0 then (cal (f_X0_refuse T V0 o ((-3) : Int32)) (fun z17 U18 => some (z17, U18))) else (stp (uI V0 o 15 ((V0.1 o 15) - (1 : Int32))) (fun U2 => pcl (f_X0_table T U2 o) (fun r4 => drf (U2.2.2 o 4) (fun r5 => req (aIn T r5 5 (U2.1 o 15)) (drf (U2.2.2 r5 (ixN (U2.1 o 15))) (fun r7 => pcl (f_X2_takes T U2 r4 r7) (fun U10 => drf (U10.2.2 o 6) (fun r11 => req (aIn T r11 0 (U10.1 o 15)) (cal (f_X0_done T U10 o (U10.1 r11 (ixN (U10.1 o 15)))) (fun z14 U15 => some (z14, U15))))))))))))
def f_X0_factOf_J46 (T : Tt) (V0 : Vt) (s0 : Int32) : Option (Int32) :=
  if s0 = ((-1) : Int32) then (some (999 : Int32)) else (some s0)
def f_X0_factOf (T : Tt) (V0 : Vt) (o : Nat) (a0 : Int32) (a1 : Int32) : Option (Int32) :=
  req (T.1 o = 1) (if a1 = 0 then (pcl (f_X0_table T V0 o) (fun r15 => pcl (f_X2_years T V0 r15 a0) (fun z17 => f_X0_factOf_J46 T V0 z17))) else (if a1 = (1 : Int32) then (pcl (f_X0_table T V0 o) (fun r11 => pcl (f_X2_full T V0 r11 a0) (fun z13 => f_X0_factOf_J46 T V0 z13))) else (pcl (f_X0_table T V0 o) (fun r4 => drf (V0.2.2 o 2) (fun r5 => req (T.1 r5 = 2) (pcl (f_X2_label T V0 r4 a0 (V0.1 r5 10)) (fun z8 => f_X0_factOf_J46 T V0 z8)))))))
def f_X0_tasted_J20 (T : Tt) (V0 : Vt) (x0 : Nat) : Option (Int32 × Vt) :=
  cal (f_X0_refuse T V0 x0 ((-1) : Int32)) (fun z5 U6 => some (z5, U6))
def f_X0_tasted (T : Tt) (V0 : Vt) (o : Nat) (a0 : Int32) (a1 : Int32) : Option (Int32 × Vt) :=
  req (T.1 o = 1) (pcl (f_X0_in T V0 a0 (0 : Int32) (2 : Int32)) (fun z2 => if z2 = 0 then (f_X0_tasted_J20 T V0 o) else (pcl (f_X0_in T V0 a1 (0 : Int32) (999 : Int32)) (fun z8 => if z8 = 0 then (f_X0_tasted_J20 T V0 o) else (drf (V0.2.2 o 2) (fun r10 => req (T.1 r10 = 2) (if (V0.1 r10 7) = (6 : Int32) then (cal (f_X0_refuse T V0 o ((-5) : Int32)) (fun z36 U37 => some (z36, U37))) else (drf (V0.2.2 o 2) (fun r13 => req (T.1 r13 = 2) (drf (V0.2.2 r13 3) (fun r15 => drf (V0.2.2 o 2) (fun r16 => req (T.1 r16 = 2) (req (aIn T r15 0 ((2 : Int32) * (V0.1 r16 7))) (stp (uI V0 r15 (ixN ((2 : Int32) * (V0.1 r16 7))) a0) (fun U19 => drf (U19.2.2 o 2) (fun r20 => req (T.1 r20 = 2) (drf (U19.2.2 r20 3) (fun r22 => drf (U19.2.2 o 2) (fun r23 => req (T.1 r23 = 2) (req (aIn T r22 0 (((2 : Int32) * (U19.1 r23 7)) + (1 : Int32))) (stp (uI U19 r22 (ixN (((2 : Int32) * (U19.1 r23 7)) + (1 : Int32))) a1) (fun U26 => drf (U26.2.2 o 2) (fun r27 => req (T.1 r27 = 2) (stp (uI U26 r27 7 ((U26.1 r27 7) + (1 : Int32))) (fun U29 => drf (U29.2.2 o 2) (fun r30 => req (T.1 r30 = 2) (cal (f_X0_done T U29 o (U29.1 r30 7)) (fun z33 U34 => some (z33, U34)))))))))))))))))))))))))))))
def f_X0_forget (T : Tt) (V0 : Vt) (o : Nat) : Option (Int32 × Vt) :=
  req (T.1 o = 1) (drf (V0.2.2 o 2) (fun r1 => req (T.1 r1 = 2) (stp (V0.1 r1 7) (fun z3 => drf (V0.2.2 o 2) (fun r4 => req (T.1 r4 = 2) (stp (uI V0 r4 7 (0 : Int32)) (fun U6 => some (z3, U6))))))))
def f_X0_isSo_L2 (T : Tt) (V0 : Vt) (x0 : Nat) (x1 : Int32) (kx2_43 : Option (Int32)) (kx2_51 : Option (Int32)) : Nat → Int32 → Option (Int32)
  | 0, _ => none
  | n + 1, x2 => drf (V0.2.2 x0 2) (fun r1 => req (T.1 r1 = 2) (if ((2 : Int32) * (V0.1 r1 7)) ≤ x2 then (kx2_51) else (drf (V0.2.2 x0 2) (fun r4 => req (T.1 r4 = 2) (drf (V0.2.2 r4 3) (fun r6 => req (aIn T r6 0 x2) (pcl (f_X0_factOf T V0 x0 x1 (V0.1 r6 (ixN x2))) (fun z9 => drf (V0.2.2 x0 2) (fun r10 => req (T.1 r10 = 2) (drf (V0.2.2 r10 3) (fun r12 => req (aIn T r12 0 (x2 + (1 : Int32))) (if z9 = (V0.1 r12 (ixN (x2 + (1 : Int32)))) then (stp (x2 + (2 : Int32)) (fun z15 => (f_X0_isSo_L2 T V0 x0 x1 kx2_43 kx2_51 n) z15)) else (kx2_43)))))))))))))
def f_X0_isSo (T : Tt) (V0 : Vt) (o : Nat) (a0 : Int32) : Option (Int32) :=
  req (T.1 o = 1) (f_X0_isSo_L2 T V0 o a0 (some (0 : Int32)) (some (1 : Int32)) fuel (0 : Int32))
def f_X0_canBe_J31 (T : Tt) (V0 : Vt) (x0 : Nat) (x2 : Int32) (s0 : Int32) (s1 : Int32) (kc4 : Int32 → Int32 → Option (Int32)) (kx4_39 : Int32 → Option (Int32)) : Option (Int32) :=
  stp (s0 ||| s1) (fun z7 => stp (x2 + (1 : Int32)) (fun z8 => kc4 z7 z8))
def f_X0_canBe_L4 (T : Tt) (V0 : Vt) (x0 : Nat) (kx4_39 : Int32 → Option (Int32)) : Nat → Int32 → Int32 → Option (Int32)
  | 0, _, _ => none
  | n + 1, x1, x2 => drf (V0.2.2 x0 2) (fun r1 => req (T.1 r1 = 2) (if (V0.1 r1 6) ≤ x2 then (kx4_39 x1) else (pcl (f_X0_isSo T V0 x0 x2) (fun z5 => if z5 = 0 then (f_X0_canBe_J31 T V0 x0 x2 x1 (0 : Int32) (f_X0_canBe_L4 T V0 x0 kx4_39 n) kx4_39) else (f_X0_canBe_J31 T V0 x0 x2 x1 ((1 : Int32) <<< (x2 &&& 31)) (f_X0_canBe_L4 T V0 x0 kx4_39 n) kx4_39)))))
def f_X0_canBe (T : Tt) (V0 : Vt) (o : Nat) : Option (Int32) :=
  req (T.1 o = 1) (f_X0_canBe_L4 T V0 o (fun z9 => some z9) fuel (0 : Int32) (0 : Int32))
def f_X0_mostAlike_J98 (T : Tt) (V0 : Vt) (x0 : Nat) (x1 : Int32) (x2 : Int32) (x4 : Int32) (s0 : Int32) (kc5 : Int32 → Int32 → Option (Int32)) (kx5_105 : Int32 → Option (Int32)) : Option (Int32) :=
  stp (x4 + (1 : Int32)) (fun z17 => kc5 s0 z17)
def f_X0_mostAlike_J69 (T : Tt) (V0 : Vt) (x0 : Nat) (x1 : Int32) (x2 : Int32) (x3 : Int32) (x4 : Int32) (x6 : Int32) (s0 : Int32) (s1 : Int32) (kc5 : Int32 → Int32 → Option (Int32)) (kx5_105 : Int32 → Option (Int32)) (kc23 : Int32 → Int32 → Option (Int32)) (kx23_78 : Int32 → Option (Int32)) : Option (Int32) :=
  stp (s0 + s1) (fun z8 => stp (x6 + (1 : Int32)) (fun z9 => kc23 z8 z9))
def f_X0_mostAlike_J68 (T : Tt) (V0 : Vt) (x0 : Nat) (x1 : Int32) (x2 : Int32) (x3 : Int32) (x4 : Int32) (x6 : Int32) (s0 : Int32) (kc5 : Int32 → Int32 → Option (Int32)) (kx5_105 : Int32 → Option (Int32)) (kc23 : Int32 → Int32 → Option (Int32)) (kx23_78 : Int32 → Option (Int32)) : Option (Int32) :=
  f_X0_mostAlike_J69 T V0 x0 x1 x2 x3 x4 x6 s0 (0 : Int32) kc5 kx5_105 kc23 kx23_78
def f_X0_mostAlike_L23 (T : Tt) (V0 : Vt) (x0 : Nat) (x1 : Int32) (x2 : Int32) (x3 : Int32) (x4 : Int32) (kc5 : Int32 → Int32 → Option (Int32)) (kx5_105 : Int32 → Option (Int32)) (kx23_78 : Int32 → Option (Int32)) : Nat → Int32 → Int32 → Option (Int32)
  | 0, _, _ => none
  | n + 1, x5, x6 => drf (V0.2.2 x0 2) (fun r4 => req (T.1 r4 = 2) (if (V0.1 r4 6) ≤ x6 then (kx23_78 x5) else (if ((x1 >>> (x6 &&& 31)) &&& (1 : Int32)) = (1 : Int32) then (pcl (f_X0_factOf T V0 x0 x4 x2) (fun z11 => pcl (f_X0_factOf T V0 x0 x6 x2) (fun z13 => if z11 = z13 then (f_X0_mostAlike_J69 T V0 x0 x1 x2 x3 x4 x6 x5 (1 : Int32) kc5 kx5_105 (f_X0_mostAlike_L23 T V0 x0 x1 x2 x3 x4 kc5 kx5_105 kx23_78 n) kx23_78) else (f_X0_mostAlike_J68 T V0 x0 x1 x2 x3 x4 x6 x5 kc5 kx5_105 (f_X0_mostAlike_L23 T V0 x0 x1 x2 x3 x4 kc5 kx5_105 kx23_78 n) kx23_78)))) else (f_X0_mostAlike_J68 T V0 x0 x1 x2 x3 x4 x6 x5 kc5 kx5_105 (f_X0_mostAlike_L23 T V0 x0 x1 x2 x3 x4 kc5 kx5_105 kx23_78 n) kx23_78))))
def f_X0_mostAlike_L5 (T : Tt) (V0 : Vt) (x0 : Nat) (x1 : Int32) (x2 : Int32) (kx5_105 : Int32 → Option (Int32)) : Nat → Int32 → Int32 → Option (Int32)
  | 0, _, _ => none
  | n + 1, x3, x4 => drf (V0.2.2 x0 2) (fun r1 => req (T.1 r1 = 2) (if (V0.1 r1 6) ≤ x4 then (kx5_105 x3) else (f_X0_mostAlike_L23 T V0 x0 x1 x2 x3 x4 (f_X0_mostAlike_L5 T V0 x0 x1 x2 kx5_105 n) kx5_105 (fun z15 => if ((x1 >>> (x4 &&& 31)) &&& (1 : Int32)) = (1 : Int32) then (f_X0_mostAlike_J98 T V0 x0 x1 x2 x4 (if x3 < z15 then z15 else x3) (f_X0_mostAlike_L5 T V0 x0 x1 x2 kx5_105 n) kx5_105) else (f_X0_mostAlike_J98 T V0 x0 x1 x2 x4 x3 (f_X0_mostAlike_L5 T V0 x0 x1 x2 kx5_105 n) kx5_105)) fuel (0 : Int32) (0 : Int32))))
def f_X0_mostAlike (T : Tt) (V0 : Vt) (o : Nat) (a0 : Int32) (a1 : Int32) : Option (Int32) :=
  req (T.1 o = 1) (f_X0_mostAlike_L5 T V0 o a0 a1 (fun z18 => some z18) fuel (0 : Int32) (0 : Int32))
def f_X0_taste_J68 (T : Tt) (V0 : Vt) (x1 : Int32) (x3 : Int32) (x4 : Int32) : Option (Int32) :=
  if x3 = ((-1) : Int32) then (some x3) else (if x1 = 0 then (some x3) else (some x4))
def f_X0_taste_J62 (T : Tt) (V0 : Vt) (x0 : Nat) (x1 : Int32) (x2 : Int32) (x3 : Int32) (x4 : Int32) (x5 : Int32) (kc26 : Int32 → Int32 → Int32 → Option (Int32)) (kx26_68 : Int32 → Int32 → Option (Int32)) : Option (Int32) :=
  stp (x5 + (1 : Int32)) (fun z11 => kc26 x3 x4 z11)
def f_X0_taste_L26 (T : Tt) (V0 : Vt) (x0 : Nat) (x1 : Int32) (x2 : Int32) (kx26_68 : Int32 → Int32 → Option (Int32)) : Nat → Int32 → Int32 → Int32 → Option (Int32)
  | 0, _, _, _ => none
  | n + 1, x3, x4, x5 => if (3 : Int32) ≤ x5 then (kx26_68 x3 x4) else (if x2 = 0 then (kx26_68 x3 x4) else (pcl (f_X0_mostAlike T V0 x0 x2 x5) (fun z9 => if z9 < x4 then (f_X0_taste_J62 T V0 x0 x1 x2 x5 z9 x5 (f_X0_taste_L26 T V0 x0 x1 x2 kx26_68 n) kx26_68) else (f_X0_taste_J62 T V0 x0 x1 x2 x3 x4 x5 (f_X0_taste_L26 T V0 x0 x1 x2 kx26_68 n) kx26_68))))
def f_X0_taste (T : Tt) (V0 : Vt) (o : Nat) (a0 : Int32) : Option (Int32) :=
  req (T.1 o = 1) (pcl (f_X0_in T V0 a0 (0 : Int32) (1 : Int32)) (fun z2 => if z2 = 0 then (some ((-1) : Int32)) else (pcl (f_X0_canBe T V0 o) (fun z5 => f_X0_taste_L26 T V0 o a0 z5 (fun z12 z13 => f_X0_taste_J68 T V0 a0 z12 z13) fuel ((-1) : Int32) (1000000 : Int32) (0 : Int32)))))
def f_X0_few_L151 (T : Tt) (V0 : Vt) (x0 : Nat) (x1 : Int32) (kx151_173 : Int64 → Option (Int64 × Vt)) : Nat → Int64 → Int32 → Option (Int64 × Vt)
  | 0, _, _ => none
  | n + 1, x3, x5 => if x1 ≤ x5 then (kx151_173 x3) else (drf (V0.2.2 x0 22) (fun r37 => req (aIn T r37 1 x5) (stp (x3 + (V0.2.1 r37 (ixN x5))) (fun z39 => stp (x5 + (1 : Int32)) (fun z40 => (f_X0_few_L151 T V0 x0 x1 kx151_173 n) z39 z40)))))
def f_X0_few_L67 (T : Tt) (x0 : Nat) (x1 : Int32) (x2 : Int32) (x3 : Int32) (kc57 : Int32 → Vt → Option (Int64 × Vt)) (kx57_146 : Vt → Option (Int64 × Vt)) (kx67_140 : Vt → Option (Int64 × Vt)) : Nat → Int32 → Vt → Option (Int64 × Vt)
  | 0, _, _ => none
  | n + 1, x4, V1 => if x4 < 0 then (kx67_140 V1) else (drf (V1.2.2 x0 22) (fun r17 => req (aIn T r17 1 (x4 + (1 : Int32))) (drf (V1.2.2 x0 22) (fun r19 => req (aIn T r19 1 x4) (drf (V1.2.2 x0 2) (fun r21 => req (T.1 r21 = 2) (req (aIn T r17 1 (x4 + (1 : Int32))) (stp (uL V1 r17 (ixN (x4 + (1 : Int32))) ((V1.2.1 r17 (ixN (x4 + (1 : Int32)))) + (((V1.2.1 r19 (ixN x4)) * (Int32.toInt64 (V1.1 r21 8))) / (10 : Int64)))) (fun U24 => drf (U24.2.2 x0 22) (fun r25 => drf (U24.2.2 x0 22) (fun r26 => req (aIn T r26 1 x4) (drf (U24.2.2 x0 2) (fun r28 => req (T.1 r28 = 2) (req (aIn T r25 1 x4) (stp (uL U24 r25 (ixN x4) (((U24.2.1 r26 (ixN x4)) * (Int32.toInt64 ((10 : Int32) - (U24.1 r28 8)))) / (10 : Int64))) (fun U31 => stp (x4 + ((-1) : Int32)) (fun z32 => (f_X0_few_L67 T x0 x1 x2 x3 kc57 kx57_146 kx67_140 n) z32 U31)))))))))))))))))
def f_X0_few_L57 (T : Tt) (x0 : Nat) (x1 : Int32) (x2 : Int32) (kx57_146 : Vt → Option (Int64 × Vt)) : Nat → Int32 → Vt → Option (Int64 × Vt)
  | 0, _, _ => none
  | n + 1, x3, V1 => if x2 ≤ x3 then (kx57_146 V1) else (stp (x1 - (1 : Int32)) (fun z15 => f_X0_few_L67 T x0 x1 x2 x3 (f_X0_few_L57 T x0 x1 x2 kx57_146 n) kx57_146 (fun U33 => stp (x3 + (1 : Int32)) (fun z34 => (f_X0_few_L57 T x0 x1 x2 kx57_146 n) z34 U33)) fuel z15 V1))
def f_X0_few_J48 (T : Tt) (V0 : Vt) (x0 : Nat) (x1 : Int32) (x2 : Int32) (x3 : Int32) (s0 : Nat) (s1 : Int32) (s2 : Int64) (kc26 : Int32 → Vt → Option (Int64 × Vt)) (kx26_55 : Vt → Option (Int64 × Vt)) : Option (Int64 × Vt) :=
  req (aIn T s0 1 s1) (stp (uL V0 s0 (ixN s1) s2) (fun U11 => stp (x3 + (1 : Int32)) (fun z12 => kc26 z12 U11)))
def f_X0_few_L26 (T : Tt) (x0 : Nat) (x1 : Int32) (x2 : Int32) (kx26_55 : Vt → Option (Int64 × Vt)) : Nat → Int32 → Vt → Option (Int64 × Vt)
  | 0, _, _ => none
  | n + 1, x3, V1 => if (20 : Int32) < x3 then (kx26_55 V1) else (drf (V1.2.2 x0 22) (fun r8 => if x3 = 0 then (f_X0_few_J48 T V1 x0 x1 x2 x3 r8 x3 (1000000000000 : Int64) (f_X0_few_L26 T x0 x1 x2 kx26_55 n) kx26_55) else (f_X0_few_J48 T V1 x0 x1 x2 x3 r8 x3 (0 : Int64) (f_X0_few_L26 T x0 x1 x2 kx26_55 n) kx26_55)))
def f_X0_few_J20 (T : Tt) (V0 : Vt) : Option (Int64 × Vt) :=
  some (((-1) : Int64), V0)
def f_X0_few (T : Tt) (V0 : Vt) (o : Nat) (a0 : Int32) (a1 : Int32) : Option (Int64 × Vt) :=
  req (T.1 o = 1) (pcl (f_X0_in T V0 a0 (1 : Int32) (20 : Int32)) (fun z2 => if z2 = 0 then (f_X0_few_J20 T V0) else (pcl (f_X0_in T V0 a1 (0 : Int32) (99 : Int32)) (fun z5 => if z5 = 0 then (f_X0_few_J20 T V0) else (f_X0_few_L26 T o a0 a1 (fun U13 => f_X0_few_L57 T o a0 a1 (fun U35 => f_X0_few_L151 T U35 o a0 (fun z41 => some (z41, U35)) fuel (0 : Int64) (0 : Int32)) fuel (0 : Int32) U13) fuel (0 : Int32) V0)))))
def f_X0_drawn (T : Tt) (V0 : Vt) (o : Nat) (a0 : Int32) (a1 : Int32) : Option (Int32) :=
  req (T.1 o = 1) (if (V0.1 o 24) = ((-1) : Int32) then (some ((-1) : Int32)) else (pcl (f_X0_in T V0 a0 (0 : Int32) ((V0.1 o 24) - (1 : Int32))) (fun z3 => if z3 = 0 then (some ((-1) : Int32)) else (pcl (f_X0_in T V0 a1 (0 : Int32) (1 : Int32)) (fun z6 => if z6 = 0 then (some ((-1) : Int32)) else (if a1 = 0 then (drf (V0.2.2 o 23) (fun r12 => pcl (f_X2_all T V0 r12 a0) (fun z14 => some z14))) else (drf (V0.2.2 o 23) (fun r9 => pcl (f_X2_mean T V0 r9 a0) (fun z11 => some z11)))))))))
def f_X0_status (T : Tt) (V0 : Vt) (o : Nat) : Option (Int32) :=
  req (T.1 o = 1) (some (V0.1 o 0))
def f_X0_draw (T : Tt) (V0 : Vt) (o : Nat) (a0 : Int32) : Option (Int32 × Vt) :=
  req (T.1 o = 1) (stp (uI V0 o 25 (Int64.toInt32 ((((Int32.toInt64 (V0.1 o 25)) * (1103 : Int64)) + (12345 : Int64)) - ((((Int32.toInt64 (V0.1 o 25)) * (1103 : Int64)) + (12345 : Int64)) / (1000003 : Int64)) * (1000003 : Int64)))) (fun U1 => req (¬ a0 = 0) (some (((U1.1 o 25) - ((U1.1 o 25) / a0) * a0), U1))))
def f_X0_begins (T : Tt) (V0 : Vt) (o : Nat) : Option (Vt) :=
  req (T.1 o = 1) (drf (V0.2.2 o 9) (fun r1 => pcl (f_X0_table T V0 o) (fun r3 => pcl (f_X2_takes T V0 r1 r3) (fun U6 => stp (uI U6 o 19 (0 : Int32)) (fun U7 => stp (uI U7 o 20 (1000000 : Int32)) (fun U8 => some U8))))))
def f_X0_putsBack_L13 (T : Tt) (x0 : Nat) (x1 : Int32) (kx13_39 : Vt → Option (Vt)) : Nat → Int32 → Vt → Option (Vt)
  | 0, _, _ => none
  | n + 1, x2, V1 => if x1 ≤ x2 then (kx13_39 V1) else (drf (V1.2.2 x0 4) (fun r8 => req (aIn T r8 5 x2) (drf (V1.2.2 r8 (ixN x2)) (fun r10 => drf (V1.2.2 x0 5) (fun r11 => req (aIn T r11 5 x2) (drf (V1.2.2 r11 (ixN x2)) (fun r13 => pcl (f_X2_takes T V1 r10 r13) (fun U16 => stp (x2 + (1 : Int32)) (fun z17 => (f_X0_putsBack_L13 T x0 x1 kx13_39 n) z17 U16)))))))))
def f_X0_putsBack (T : Tt) (V0 : Vt) (o : Nat) (a0 : Int32) : Option (Vt) :=
  req (T.1 o = 1) (pcl (f_X0_table T V0 o) (fun r2 => drf (V0.2.2 o 8) (fun r3 => pcl (f_X2_takes T V0 r2 r3) (fun U6 => f_X0_putsBack_L13 T o a0 (fun U18 => drf (U18.2.2 o 7) (fun r19 => drf (U18.2.2 o 6) (fun r20 => req (cpIn T 0 r19 r20 (0 : Int32) (0 : Int32) (16 : Int32)) (stp (cpI U18 r19 (ixN (0 : Int32)) r20 (ixN (0 : Int32)) (ixN (16 : Int32))) (fun U22 => stp (uI U22 o 15 a0) (fun U23 => some U23)))))) fuel (0 : Int32) U6))))
set_option maxHeartbeats 4000000 in
theorem ok_X0_refuse {l : Launch} {G : gG} {T : Tt} {V0 : Vt} {o : Nat} {a0 : Int32} {r : Int32} {V' : Vt} (hf : f_X0_refuse T V0 o a0 = some (r, V')) : okM l G yX0_refuse cX0_refuse 2 (some .int) 0 [.ref (gb G + o), .int a0] V0 T (some (.int r)) V' T 0 0 := by
  refine ok_intro (by decide) (Nat.le_of_ble_eq_true rfl) ?_
  intro p e s m below meth c ls C hr hnm hw hl
  have hx := C.1
  have hb := C.2.1
  have hown := C.2.2.2.1
  have hts := C.2.2.2.2.1
  have hl : lv_has ls 2 [(0, .ref (gb G + o)), (1, .int a0)] := hl
  unfold f_X0_refuse at hf
  revert hf
  refine k_req (fun k0 hf => ?_)
  refine lv_aload_n hx hb dX0_refuse_0 rfl (lv_at hl 0 rfl) ?_
  refine lv_iload_n hx hb dX0_refuse_1 rfl (lv_at hl 1 rfl) ?_
  revert hf
  refine k_stp (fun U1 eU1 hf => ?_)
  refine pf_X0_1 C hw k0 eU1 dX0_refuse_2 (fun H locs hw => ?_)
  refine lv_aload_n hx hb dX0_refuse_5 rfl (lv_at hl 0 rfl) ?_
  revert hf
  refine k_drf (fun r2 er2 hf => ?_)
  refine gf_X0_7 C hw k0 er2 dX0_refuse_6 ?_
  refine lv_iload_n hx hb dX0_refuse_9 rfl (lv_at hl 1 rfl) ?_
  refine lv_ineg hx hb dX0_refuse_10 ?_
  refine lv_dup2_11 hx hb dX0_refuse_11 rfl rfl ?_
  revert hf
  refine k_req (fun h3 hf => ?_)
  refine w_iald C hw h3 rfl dX0_refuse_12 ?_
  refine lv_iconst (v := (1 : Int32)) hx hb dX0_refuse_13 (by decide) ?_
  refine lv_iadd hx hb dX0_refuse_14 ?_
  revert hf
  refine k_req (fun h4 hf => ?_)
  revert hf
  refine k_stp (fun U5 eU5 hf => ?_)
  refine w_iast C hw h4 eU5 dX0_refuse_15 (fun H locs hw => ?_)
  refine lv_iload_n hx hb dX0_refuse_16 rfl (lv_at hl 1 rfl) ?_
  cases hf
  exact w_iret C hr hw dX0_refuse_17
set_option maxHeartbeats 4000000 in
theorem ok_X0_done {l : Launch} {G : gG} {T : Tt} {V0 : Vt} {o : Nat} {a0 : Int32} {r : Int32} {V' : Vt} (hf : f_X0_done T V0 o a0 = some (r, V')) : okM l G yX0_done cX0_done 2 (some .int) 0 [.ref (gb G + o), .int a0] V0 T (some (.int r)) V' T 0 0 := by
  refine ok_intro (by decide) (Nat.le_of_ble_eq_true rfl) ?_
  intro p e s m below meth c ls C hr hnm hw hl
  have hx := C.1
  have hb := C.2.1
  have hown := C.2.2.2.1
  have hts := C.2.2.2.2.1
  have hl : lv_has ls 2 [(0, .ref (gb G + o)), (1, .int a0)] := hl
  unfold f_X0_done at hf
  revert hf
  refine k_req (fun k0 hf => ?_)
  refine lv_aload_n hx hb dX0_done_0 rfl (lv_at hl 0 rfl) ?_
  refine lv_iconst (v := (0 : Int32)) hx hb dX0_done_1 (by decide) ?_
  revert hf
  refine k_stp (fun U1 eU1 hf => ?_)
  refine pf_X0_1 C hw k0 eU1 dX0_done_2 (fun H locs hw => ?_)
  refine lv_iload_n hx hb dX0_done_5 rfl (lv_at hl 1 rfl) ?_
  cases hf
  exact w_iret C hr hw dX0_done_6
set_option maxHeartbeats 4000000 in
theorem ok_X0_in {l : Launch} {G : gG} {T : Tt} {V0 : Vt} {a0 : Int32} {a1 : Int32} {a2 : Int32} {r : Int32} (hf : f_X0_in T V0 a0 a1 a2 = some r) : okM l G yX0_in cX0_in 3 (some .boolean) 0 [.int a0, .int a1, .int a2] V0 T (some (.int r)) V0 T 0 0 := by
  refine ok_intro (by decide) (Nat.le_of_ble_eq_true rfl) ?_
  intro p e s m below meth c ls C hr hnm hw hl
  have hx := C.1
  have hb := C.2.1
  have hown := C.2.2.2.1
  have hts := C.2.2.2.2.1
  have hl : lv_has ls 3 [(0, .int a0), (1, .int a1), (2, .int a2)] := hl
  unfold f_X0_in at hf
  refine lv_iload_n hx hb dX0_in_0 rfl (lv_at hl 0 rfl) ?_
  refine lv_iload_n hx hb dX0_in_1 rfl (lv_at hl 1 rfl) ?_
  refine lv_icmp_lt (tgt := 14) hx hb dX0_in_2 (by decide) (fun c1 => ?_) (fun c1 => ?_)
  · replace hf := ite_t c1 hf
    refine lv_iconst (v := (0 : Int32)) hx hb dX0_in_14 (by decide) ?_
    cases hf
    exact w_zret C hr hw (by decide) dX0_in_15
  · replace hf := ite_f c1 hf
    refine lv_iload_n hx hb dX0_in_5 rfl (lv_at hl 0 rfl) ?_
    refine lv_iload_n hx hb dX0_in_6 rfl (lv_at hl 2 rfl) ?_
    refine lv_icmp_gt (tgt := 14) hx hb dX0_in_7 (by decide) (fun c2 => ?_) (fun c2 => ?_)
    · replace hf := ite_t c2 hf
      refine lv_iconst (v := (0 : Int32)) hx hb dX0_in_14 (by decide) ?_
      cases hf
      exact w_zret C hr hw (by decide) dX0_in_15
    · replace hf := ite_f c2 hf
      refine lv_iconst (v := (1 : Int32)) hx hb dX0_in_10 (by decide) ?_
      refine lv_goto (tgt := 15) hx hb dX0_in_11 (by decide) ?_
      cases hf
      exact w_zret C hr hw (by decide) dX0_in_15
set_option maxHeartbeats 4000000 in
theorem ok_X0_within {l : Launch} {G : gG} {T : Tt} {V0 : Vt} {a0 : Int64} {a1 : Int32} {r : Int32} (hf : f_X0_within T V0 a0 a1 = some r) : okM l G yX0_within cX0_within 3 (some .int) 1 [.long a0, .int a1] V0 T (some (.int r)) V0 T 0 0 := by
  refine ok_intro (by decide) (Nat.le_of_ble_eq_true rfl) ?_
  intro p e s m below meth c ls C hr hnm hw hl
  have hx := C.1
  have hb := C.2.1
  have hown := C.2.2.2.1
  have hts := C.2.2.2.2.1
  have hl : lv_has ls 3 [(0, .long a0), (2, .int a1)] := hl
  unfold f_X0_within at hf
  refine lv_lconst (v := (0 : Int64)) hx hb dX0_within_0 (by decide) ?_
  refine lv_iload_n hx hb dX0_within_1 rfl (lv_at hl 1 rfl) ?_
  refine lv_i2l hx hb dX0_within_2 rfl ?_
  refine lv_lload_n hx hb dX0_within_3 rfl (lv_at hl 0 rfl) ?_
  refine va_mmin_long hx hb (C.2.2.1.trans hl.1.symm) hown (hts _ q678) (hts _ q679) (hts _ q145) (hts _ q680) (Nat.le_of_ble_eq_true rfl) (Nat.le_of_ble_eq_true rfl) (Nat.zero_le _) (Nat.zero_le _) dX0_within_4 ?_
  refine va_mmax_long hx hb (C.2.2.1.trans hl.1.symm) hown (hts _ q681) (hts _ q682) (hts _ q145) (hts _ q683) (Nat.le_of_ble_eq_true rfl) (Nat.le_of_ble_eq_true rfl) (Nat.zero_le _) (Nat.zero_le _) dX0_within_7 ?_
  refine lv_l2i hx hb dX0_within_10 rfl ?_
  cases hf
  exact w_iret C hr hw dX0_within_11
set_option maxHeartbeats 4000000 in
theorem ok_X0_table {l : Launch} {G : gG} {T : Tt} {V0 : Vt} {o : Nat} {r : Nat} (hf : f_X0_table T V0 o = some r) : okM l G yX0_table cX0_table 1 (some (.object "SoleraCellar$Table")) 0 [.ref (gb G + o)] V0 T (some (.ref (gb G + r))) V0 T 0 0 := by
  refine ok_intro (by decide) (Nat.le_of_ble_eq_true rfl) ?_
  intro p e s m below meth c ls C hr hnm hw hl
  have hx := C.1
  have hb := C.2.1
  have hown := C.2.2.2.1
  have hts := C.2.2.2.2.1
  have hl : lv_has ls 1 [(0, .ref (gb G + o))] := hl
  unfold f_X0_table at hf
  revert hf
  refine k_req (fun k0 hf => ?_)
  refine lv_aload_n hx hb dX0_table_0 rfl (lv_at hl 0 rfl) ?_
  revert hf
  refine k_drf (fun r1 er1 hf => ?_)
  refine gf_X0_31 C hw k0 er1 dX0_table_1 ?_
  revert hf
  refine k_req (fun k2 hf => ?_)
  revert hf
  refine k_drf (fun r3 er3 hf => ?_)
  refine gf_X0_95 C hw k2 er3 dX0_table_4 ?_
  cases hf
  exact w_aret C hr (Or.inl ⟨_, rfl⟩) (Or.inr ⟨_, rfl⟩) hw dX0_table_7
set_option maxHeartbeats 4000000 in
theorem ok_X0_settles {l : Launch} {G : gG} {T : Tt} {V0 : Vt} {o : Nat} {a0 : Int32} {r : Int32} {V' : Vt} (hf : f_X0_settles T V0 o a0 = some (r, V')) : okM l G yX0_settles cX0_settles 2 (some .int) 1 [.ref (gb G + o), .int a0] V0 T (some (.int r)) V' T 0 0 := by
  refine ok_intro (by decide) (Nat.le_of_ble_eq_true rfl) ?_
  intro p e s m below meth c ls C hr hnm hw hl
  have hx := C.1
  have hb := C.2.1
  have hown := C.2.2.2.1
  have hts := C.2.2.2.2.1
  have hl : lv_has ls 2 [(0, .ref (gb G + o)), (1, .int a0)] := hl
  unfold f_X0_settles at hf
  revert hf
  refine k_req (fun k0 hf => ?_)
  refine lv_aload_n hx hb dX0_settles_0 rfl (lv_at hl 0 rfl) ?_
  refine lv_iconst (v := (0 : Int32)) hx hb dX0_settles_1 (by decide) ?_
  revert hf
  refine k_stp (fun U1 eU1 hf => ?_)
  refine pf_X0_98 C hw k0 eU1 dX0_settles_2 (fun H locs hw => ?_)
  refine lv_aload_n hx hb dX0_settles_5 rfl (lv_at hl 0 rfl) ?_
  refine lv_iload_n hx hb dX0_settles_6 rfl (lv_at hl 1 rfl) ?_
  revert hf
  refine k_cal (fun z3 U4 h2 hf => ?_)
  refine w_afi hw (w_rV (As := [.int a0]) C hw (ok_X0_done h2) (cw_X0_101 hts (Nat.le_of_ble_eq_true rfl) (Nat.le_of_ble_eq_true rfl)) rfl (by decide) (of_req h2).1 rfl hl.1 rfl (Nat.le_of_ble_eq_true rfl) ⟨Nat.zero_le _, Nat.zero_le _⟩ dX0_settles_7) (fun H locs hw => ?_)
  cases hf
  exact w_iret C hr hw dX0_settles_10
set_option maxHeartbeats 4000000 in
theorem ok_X0_isCask {l : Launch} {G : gG} {T : Tt} {V0 : Vt} {o : Nat} {a0 : Int32} {r : Int32} (hf : f_X0_isCask T V0 o a0 = some r) : okM l G yX0_isCask cX0_isCask 2 (some .boolean) 1 [.ref (gb G + o), .int a0] V0 T (some (.int r)) V0 T 0 0 := by
  refine ok_intro (by decide) (Nat.le_of_ble_eq_true rfl) ?_
  intro p e s m below meth c ls C hr hnm hw hl
  have hx := C.1
  have hb := C.2.1
  have hown := C.2.2.2.1
  have hts := C.2.2.2.2.1
  have hl : lv_has ls 2 [(0, .ref (gb G + o)), (1, .int a0)] := hl
  unfold f_X0_isCask at hf
  revert hf
  refine k_req (fun k0 hf => ?_)
  refine lv_iload_n hx hb dX0_isCask_0 rfl (lv_at hl 1 rfl) ?_
  refine lv_iconst (v := (0 : Int32)) hx hb dX0_isCask_1 (by decide) ?_
  refine lv_aload_n hx hb dX0_isCask_2 rfl (lv_at hl 0 rfl) ?_
  revert hf
  refine k_drf (fun r1 er1 hf => ?_)
  refine gf_X0_31 C hw k0 er1 dX0_isCask_3 ?_
  revert hf
  refine k_req (fun k2 hf => ?_)
  refine gf_X0_105 C hw k2 dX0_isCask_6 ?_
  refine lv_iconst (v := (1 : Int32)) hx hb dX0_isCask_9 (by decide) ?_
  refine lv_isub hx hb dX0_isCask_10 ?_
  revert hf
  refine k_pcl (fun z4 h3 hf => ?_)
  refine w_afi hw (w_rS (As := [.int a0, .int (0 : Int32), .int ((V0.1 r1 6) - (1 : Int32))]) C hw (ok_X0_in h3) (cw_X0_108 hts (Nat.le_of_ble_eq_true rfl) (Nat.le_of_ble_eq_true rfl)) rfl hl.1 rfl (Nat.le_of_ble_eq_true rfl) ⟨Nat.zero_le _, Nat.zero_le _⟩ dX0_isCask_11) (fun H locs hw => ?_)
  revert hf
  refine k_req (fun h5 hf => ?_)
  cases hf
  exact w_zret C hr hw h5 dX0_isCask_14
set_option maxHeartbeats 4000000 in
theorem ok_X0_canCask {l : Launch} {G : gG} {T : Tt} {V0 : Vt} {a0 : Int32} {a1 : Int32} {r : Int32} (hf : f_X0_canCask T V0 a0 a1 = some r) : okM l G yX0_canCask cX0_canCask 2 (some .boolean) 1 [.int a0, .int a1] V0 T (some (.int r)) V0 T 0 0 := by
  refine ok_intro (by decide) (Nat.le_of_ble_eq_true rfl) ?_
  intro p e s m below meth c ls C hr hnm hw hl
  have hx := C.1
  have hb := C.2.1
  have hown := C.2.2.2.1
  have hts := C.2.2.2.2.1
  have hl : lv_has ls 2 [(0, .int a0), (1, .int a1)] := hl
  unfold f_X0_canCask at hf
  refine lv_iload_n hx hb dX0_canCask_0 rfl (lv_at hl 0 rfl) ?_
  refine lv_iconst (v := (0 : Int32)) hx hb dX0_canCask_1 (by decide) ?_
  refine lv_iconst (v := (4 : Int32)) hx hb dX0_canCask_2 (by decide) ?_
  revert hf
  refine k_pcl (fun z2 h1 hf => ?_)
  refine w_afi hw (w_rS (As := [.int a0, .int (0 : Int32), .int (4 : Int32)]) C hw (ok_X0_in h1) (cw_X0_108 hts (Nat.le_of_ble_eq_true rfl) (Nat.le_of_ble_eq_true rfl)) rfl hl.1 rfl (Nat.le_of_ble_eq_true rfl) ⟨Nat.zero_le _, Nat.zero_le _⟩ dX0_canCask_3) (fun H locs hw => ?_)
  refine lv_if_eq (tgt := 24) hx hb dX0_canCask_6 (by decide) (fun c3 => ?_) (fun c3 => ?_)
  · replace hf := ite_t c3 hf
    refine lv_iconst (v := (0 : Int32)) hx hb dX0_canCask_24 (by decide) ?_
    cases hf
    exact w_zret C hr hw (by decide) dX0_canCask_25
  · replace hf := ite_f c3 hf
    refine lv_iload_n hx hb dX0_canCask_9 rfl (lv_at hl 1 rfl) ?_
    refine lv_iconst (v := (1 : Int32)) hx hb dX0_canCask_10 (by decide) ?_
    refine lv_sipush (v := (999 : Int32)) hx hb dX0_canCask_11 (by decide) ?_
    revert hf
    refine k_pcl (fun z5 h4 hf => ?_)
    refine w_afi hw (w_rS (As := [.int a1, .int (1 : Int32), .int (999 : Int32)]) C hw (ok_X0_in h4) (cw_X0_108 hts (Nat.le_of_ble_eq_true rfl) (Nat.le_of_ble_eq_true rfl)) rfl hl.1 rfl (Nat.le_of_ble_eq_true rfl) ⟨Nat.zero_le _, Nat.zero_le _⟩ dX0_canCask_14) (fun H locs hw => ?_)
    refine lv_if_eq (tgt := 24) hx hb dX0_canCask_17 (by decide) (fun c6 => ?_) (fun c6 => ?_)
    · replace hf := ite_t c6 hf
      refine lv_iconst (v := (0 : Int32)) hx hb dX0_canCask_24 (by decide) ?_
      cases hf
      exact w_zret C hr hw (by decide) dX0_canCask_25
    · replace hf := ite_f c6 hf
      refine lv_iconst (v := (1 : Int32)) hx hb dX0_canCask_20 (by decide) ?_
      refine lv_goto (tgt := 25) hx hb dX0_canCask_21 (by decide) ?_
      cases hf
      exact w_zret C hr hw (by decide) dX0_canCask_25
set_option maxHeartbeats 4000000 in
theorem jk_X0_adds_70 {l : Launch} {G : gG} {p : Program} {e : Env} {s : State} {m : MethodId} {args : Array Value} {below : List Frame} {meth : Method} {c : Code} {T : Tt} {V0 : Vt} {r : Int32} {V' : Vt} (C : Cx G p s m args meth c cX0_adds RX0 6) (hr : meth.sig.returnType = (some .int)) {x0 : Nat} {x3 : Int32} {x4 : Int32} {x5 : Int32} {s0 : Nat} {s1 : Int32} {s2 : Int32} {kc34 : Int32 → Vt → Option (Int32 × Vt)} {kx34_77 : Vt → Option (Int32 × Vt)} {H : Heap} {locs : List Loc} {ls : Array Slot} (k0 : T.1 x0 = 1) (hf : f_X0_adds_J70 T V0 x0 x3 x4 x5 s0 s1 s2 kc34 kx34_77 = some (r, V')) (hw : wS G V0 T H locs) (hl : lv_has ls 6 [(0, .ref (gb G + x0)), (3, .int x3), (4, .int x4), (5, .int x5)]) (hkc34 : ∀ (y5 : Int32) (W1 : Vt) (H : Heap) (locs : List Loc) (ls : Array Slot), kc34 y5 W1 = some (r, V') → wS G W1 T H locs → lv_has ls 6 [(0, .ref (gb G + x0)), (3, .int x3), (4, .int x4), (5, .int y5)] → W p l e (rmL 1 0 0) s m args below meth c H locs 0 0 (eQ G below (some (.int r)) V' T args s 0 0) (F0 m 34 ls [])) (hkx34_77 : ∀ (W1 : Vt) (H : Heap) (locs : List Loc) (ls : Array Slot), kx34_77 W1 = some (r, V') → wS G W1 T H locs → lv_has ls 6 [(0, .ref (gb G + x0)), (4, .int x4)] → W p l e (rmL 1 0 0) s m args below meth c H locs 0 0 (eQ G below (some (.int r)) V' T args s 0 0) (F0 m 77 ls [])) : W p l e (rmL 1 0 0) s m args below meth c H locs 0 0 (eQ G below (some (.int r)) V' T args s 0 0) (F0 m 70 ls [.int s2, .int s1, .ref (gb G + s0)]) := by
  have hx := C.1
  have hb := C.2.1
  have hown := C.2.2.2.1
  have hts := C.2.2.2.2.1
  unfold f_X0_adds_J70 at hf
  revert hf
  refine k_req (fun h20 hf => ?_)
  revert hf
  refine k_stp (fun U21 eU21 hf => ?_)
  refine w_iast C hw h20 eU21 dX0_adds_70 (fun H locs hw => ?_)
  revert hf
  refine k_stp (fun z22 ez22 hf => ?_)
  refine lv_iinc (k := 3) (lv' := [(5, .int z22), (0, .ref (gb G + x0)), (3, .int x3), (4, .int x4)]) hx hb dX0_adds_71 hl rfl (inc_e (by decide) ez22) (by decide) rfl (fun ls hl => ?_)
  refine lv_goto (tgt := 34) hx hb dX0_adds_74 (by decide) ?_
  exact hkc34 _ _ _ _ _ hf hw (lv_sub hl [1, 2, 3, 0] rfl)
set_option maxHeartbeats 4000000 in
theorem lk_X0_adds_34 {l : Launch} {G : gG} {p : Program} {e : Env} {s : State} {m : MethodId} {args : Array Value} {below : List Frame} {meth : Method} {c : Code} {T : Tt} {r : Int32} {V' : Vt} (C : Cx G p s m args meth c cX0_adds RX0 6) (hr : meth.sig.returnType = (some .int)) {x0 : Nat} {x3 : Int32} {x4 : Int32} {kx34_77 : Vt → Option (Int32 × Vt)} (k0 : T.1 x0 = 1) (hkx34_77 : ∀ (W1 : Vt) (H : Heap) (locs : List Loc) (ls : Array Slot), kx34_77 W1 = some (r, V') → wS G W1 T H locs → lv_has ls 6 [(0, .ref (gb G + x0)), (4, .int x4)] → W p l e (rmL 1 0 0) s m args below meth c H locs 0 0 (eQ G below (some (.int r)) V' T args s 0 0) (F0 m 77 ls [])) : ∀ (n : Nat) (x5 : Int32) (V1 : Vt) (H : Heap) (locs : List Loc) (ls : Array Slot), f_X0_adds_L34 T x0 x3 x4 kx34_77 n x5 V1 = some (r, V') → wS G V1 T H locs → lv_has ls 6 [(0, .ref (gb G + x0)), (3, .int x3), (4, .int x4), (5, .int x5)] → W p l e (rmL 1 0 0) s m args below meth c H locs 0 0 (eQ G below (some (.int r)) V' T args s 0 0) (F0 m 34 ls []) := by
  have hx := C.1
  have hb := C.2.1
  have hown := C.2.2.2.1
  have hts := C.2.2.2.2.1
  intro n
  induction n with
  | zero =>
    intro x5 V1 H locs ls hf
    cases hf
  | succ n ih =>
    intro x5 V1 H locs ls hf hw hl
    unfold f_X0_adds_L34 at hf
    refine lv_iload hx hb dX0_adds_34 (lv_at hl 3 rfl) ?_
    refine lv_bipush (v := (20 : Int32)) hx hb dX0_adds_36 (by decide) ?_
    refine lv_icmp_ge (tgt := 77) hx hb dX0_adds_38 (by decide) (fun c14 => ?_) (fun c14 => ?_)
    · replace hf := ite_t c14 hf
      exact hkx34_77 _ _ _ _ hf hw (lv_sub hl [0, 2] rfl)
    · replace hf := ite_f c14 hf
      refine lv_aload_n hx hb dX0_adds_41 rfl (lv_at hl 0 rfl) ?_
      revert hf
      refine k_pcl (fun r16 h15 hf => ?_)
      refine w_afr hw (w_rV (As := []) C hw (ok_X0_table h15) (cw_X0_137 hts (Nat.le_of_ble_eq_true rfl) (Nat.le_of_ble_eq_true rfl)) rfl (by decide) (of_req h15).1 rfl hl.1 rfl (Nat.le_of_ble_eq_true rfl) ⟨Nat.zero_le _, Nat.zero_le _⟩ dX0_adds_42) (fun H locs hw => ?_)
      revert hf
      refine k_req (fun k17 hf => ?_)
      revert hf
      refine k_drf (fun r18 er18 hf => ?_)
      refine gf_X0_140 C hw k17 er18 dX0_adds_45 ?_
      refine lv_bipush (v := (20 : Int32)) hx hb dX0_adds_48 (by decide) ?_
      refine lv_iload hx hb dX0_adds_50 (lv_at hl 2 rfl) ?_
      refine lv_imul hx hb dX0_adds_52 ?_
      refine lv_iload hx hb dX0_adds_53 (lv_at hl 3 rfl) ?_
      refine lv_iadd hx hb dX0_adds_55 ?_
      refine lv_iload hx hb dX0_adds_56 (lv_at hl 3 rfl) ?_
      refine lv_if_ne (tgt := 69) hx hb dX0_adds_58 (by decide) (fun c19 => ?_) (fun c19 => ?_)
      · replace hf := ite_f c19 hf
        refine lv_iconst (v := (0 : Int32)) hx hb dX0_adds_69 (by decide) ?_
        exact jk_X0_adds_70 C hr k0 hf hw (lv_sub hl [0, 1, 2, 3] rfl) ih hkx34_77
      · replace hf := ite_t c19 hf
        refine lv_sipush (v := (1000 : Int32)) hx hb dX0_adds_61 (by decide) ?_
        refine lv_iload_n hx hb dX0_adds_64 rfl (lv_at hl 1 rfl) ?_
        refine lv_imul hx hb dX0_adds_65 ?_
        refine lv_goto (tgt := 70) hx hb dX0_adds_66 (by decide) ?_
        exact jk_X0_adds_70 C hr k0 hf hw (lv_sub hl [0, 1, 2, 3] rfl) ih hkx34_77
set_option maxHeartbeats 4000000 in
theorem ok_X0_adds {l : Launch} {G : gG} {T : Tt} {V0 : Vt} {o : Nat} {a0 : Int32} {a1 : Int32} {a2 : Int32} {r : Int32} {V' : Vt} (hf : f_X0_adds T V0 o a0 a1 a2 = some (r, V')) : okM l G yX0_adds cX0_adds 6 (some .int) 1 [.ref (gb G + o), .int a0, .int a1, .int a2] V0 T (some (.int r)) V' T 0 0 := by
  refine ok_intro (by decide) (Nat.le_of_ble_eq_true rfl) ?_
  intro p e s m below meth c ls C hr hnm hw hl
  have hx := C.1
  have hb := C.2.1
  have hown := C.2.2.2.1
  have hts := C.2.2.2.2.1
  have hl : lv_has ls 6 [(0, .ref (gb G + o)), (1, .int a0), (2, .int a1), (3, .int a2)] := hl
  unfold f_X0_adds at hf
  revert hf
  refine k_req (fun k0 hf => ?_)
  refine lv_aload_n hx hb dX0_adds_0 rfl (lv_at hl 0 rfl) ?_
  revert hf
  refine k_drf (fun r1 er1 hf => ?_)
  refine gf_X0_31 C hw k0 er1 dX0_adds_1 ?_
  revert hf
  refine k_req (fun k2 hf => ?_)
  refine gf_X0_105 C hw k2 dX0_adds_4 ?_
  revert hf
  refine k_stp (fun z3 ez3 hf => ?_)
  refine w_nmI ez3 ?_
  refine lv_istore (lv' := [(4, .int z3), (0, .ref (gb G + o)), (1, .int a0), (2, .int a1), (3, .int a2)]) hx hb dX0_adds_7 hl (by decide) rfl (fun ls hl => ?_)
  refine lv_aload_n hx hb dX0_adds_9 rfl (lv_at hl 1 rfl) ?_
  revert hf
  refine k_drf (fun r4 er4 hf => ?_)
  refine gf_X0_31 C hw k0 er4 dX0_adds_10 ?_
  revert hf
  refine k_req (fun k5 hf => ?_)
  revert hf
  refine k_drf (fun r6 er6 hf => ?_)
  refine gf_X0_132 C hw k5 er6 dX0_adds_13 ?_
  refine lv_iload hx hb dX0_adds_16 (lv_at hl 0 rfl) ?_
  refine lv_iload_n hx hb dX0_adds_18 rfl (lv_at hl 2 rfl) ?_
  revert hf
  refine k_req (fun h7 hf => ?_)
  revert hf
  refine k_stp (fun U8 eU8 hf => ?_)
  refine w_iast C hw h7 eU8 dX0_adds_19 (fun H locs hw => ?_)
  refine lv_aload_n hx hb dX0_adds_20 rfl (lv_at hl 1 rfl) ?_
  revert hf
  refine k_drf (fun r9 er9 hf => ?_)
  refine gf_X0_31 C hw k0 er9 dX0_adds_21 ?_
  revert hf
  refine k_req (fun k10 hf => ?_)
  revert hf
  refine k_drf (fun r11 er11 hf => ?_)
  refine gf_X0_135 C hw k10 er11 dX0_adds_24 ?_
  refine lv_iload hx hb dX0_adds_27 (lv_at hl 0 rfl) ?_
  refine lv_iload_n hx hb dX0_adds_29 rfl (lv_at hl 3 rfl) ?_
  revert hf
  refine k_req (fun h12 hf => ?_)
  revert hf
  refine k_stp (fun U13 eU13 hf => ?_)
  refine w_iast C hw h12 eU13 dX0_adds_30 (fun H locs hw => ?_)
  refine lv_iconst (v := (0 : Int32)) hx hb dX0_adds_31 (by decide) ?_
  refine lv_istore (lv' := [(5, .int (0 : Int32)), (4, .int z3), (0, .ref (gb G + o)), (1, .int a0), (2, .int a1), (3, .int a2)]) hx hb dX0_adds_32 hl (by decide) rfl (fun ls hl => ?_)
  refine lk_X0_adds_34 C hr k0 (fun U23 H locs ls hf hw hl => ?_) fuel _ _ _ _ _ hf hw (lv_sub hl [2, 5, 1, 0] rfl)
  refine lv_aload_n hx hb dX0_adds_77 rfl (lv_at hl 0 rfl) ?_
  revert hf
  refine k_drf (fun r24 er24 hf => ?_)
  refine gf_X0_31 C hw k0 er24 dX0_adds_78 ?_
  refine lv_dup hx hb dX0_adds_81 rfl ?_
  revert hf
  refine k_req (fun k25 hf => ?_)
  refine gf_X0_105 C hw k25 dX0_adds_82 ?_
  refine lv_iconst (v := (1 : Int32)) hx hb dX0_adds_85 (by decide) ?_
  refine lv_iadd hx hb dX0_adds_86 ?_
  revert hf
  refine k_stp (fun U26 eU26 hf => ?_)
  refine pf_X0_105 C hw k25 eU26 dX0_adds_87 (fun H locs hw => ?_)
  refine lv_iload hx hb dX0_adds_90 (lv_at hl 1 rfl) ?_
  cases hf
  exact w_iret C hr hw dX0_adds_92
set_option maxHeartbeats 4000000 in
theorem ok_X0_cask {l : Launch} {G : gG} {T : Tt} {V0 : Vt} {o : Nat} {a0 : Int32} {a1 : Int32} {r : Int32} {V' : Vt} (hf : f_X0_cask T V0 o a0 a1 = some (r, V')) : okM l G yX0_cask cX0_cask 3 (some .int) 2 [.ref (gb G + o), .int a0, .int a1] V0 T (some (.int r)) V' T 0 0 := by
  refine ok_intro (by decide) (Nat.le_of_ble_eq_true rfl) ?_
  intro p e s m below meth c ls C hr hnm hw hl
  have hx := C.1
  have hb := C.2.1
  have hown := C.2.2.2.1
  have hts := C.2.2.2.2.1
  have hl : lv_has ls 3 [(0, .ref (gb G + o)), (1, .int a0), (2, .int a1)] := hl
  unfold f_X0_cask at hf
  revert hf
  refine k_req (fun k0 hf => ?_)
  refine lv_iload_n hx hb dX0_cask_0 rfl (lv_at hl 1 rfl) ?_
  refine lv_iload_n hx hb dX0_cask_1 rfl (lv_at hl 2 rfl) ?_
  revert hf
  refine k_pcl (fun z2 h1 hf => ?_)
  refine w_afi hw (w_rS (As := [.int a0, .int a1]) C hw (ok_X0_canCask h1) (cw_X0_143 hts (Nat.le_of_ble_eq_true rfl) (Nat.le_of_ble_eq_true rfl)) rfl hl.1 rfl (Nat.le_of_ble_eq_true rfl) ⟨Nat.zero_le _, Nat.zero_le _⟩ dX0_cask_2) (fun H locs hw => ?_)
  refine lv_if_ne (tgt := 14) hx hb dX0_cask_5 (by decide) (fun c3 => ?_) (fun c3 => ?_)
  · replace hf := ite_f c3 hf
    refine lv_aload_n hx hb dX0_cask_14 rfl (lv_at hl 0 rfl) ?_
    revert hf
    refine k_drf (fun r4 er4 hf => ?_)
    refine gf_X0_31 C hw k0 er4 dX0_cask_15 ?_
    revert hf
    refine k_req (fun k5 hf => ?_)
    refine gf_X0_105 C hw k5 dX0_cask_18 ?_
    refine lv_bipush (v := (8 : Int32)) hx hb dX0_cask_21 (by decide) ?_
    refine lv_icmp_ne (tgt := 33) hx hb dX0_cask_23 (by decide) (fun c6 => ?_) (fun c6 => ?_)
    · replace hf := ite_f c6 hf
      refine lv_aload_n hx hb dX0_cask_33 rfl (lv_at hl 0 rfl) ?_
      refine lv_aload_n hx hb dX0_cask_34 rfl (lv_at hl 0 rfl) ?_
      refine lv_iload_n hx hb dX0_cask_35 rfl (lv_at hl 1 rfl) ?_
      refine lv_iload_n hx hb dX0_cask_36 rfl (lv_at hl 2 rfl) ?_
      refine lv_iconst (v := (0 : Int32)) hx hb dX0_cask_37 (by decide) ?_
      revert hf
      refine k_cal (fun z8 U9 h7 hf => ?_)
      refine w_afi hw (w_rV (As := [.int a0, .int a1, .int (0 : Int32)]) C hw (ok_X0_adds h7) (cw_X0_147 hts (Nat.le_of_ble_eq_true rfl) (Nat.le_of_ble_eq_true rfl)) rfl (by decide) (of_req h7).1 rfl hl.1 rfl (Nat.le_of_ble_eq_true rfl) ⟨Nat.zero_le _, Nat.zero_le _⟩ dX0_cask_38) (fun H locs hw => ?_)
      revert hf
      refine k_cal (fun z11 U12 h10 hf => ?_)
      refine w_afi hw (w_rV (As := [.int z8]) C hw (ok_X0_settles h10) (cw_X0_129 hts (Nat.le_of_ble_eq_true rfl) (Nat.le_of_ble_eq_true rfl)) rfl (by decide) (of_req h10).1 rfl hl.1 rfl (Nat.le_of_ble_eq_true rfl) ⟨Nat.zero_le _, Nat.zero_le _⟩ dX0_cask_41) (fun H locs hw => ?_)
      cases hf
      exact w_iret C hr hw dX0_cask_44
    · replace hf := ite_t c6 hf
      refine lv_aload_n hx hb dX0_cask_26 rfl (lv_at hl 0 rfl) ?_
      refine lv_bipush (v := ((-5) : Int32)) hx hb dX0_cask_27 (by decide) ?_
      revert hf
      refine k_cal (fun z14 U15 h13 hf => ?_)
      refine w_afi hw (w_rV (As := [.int ((-5) : Int32)]) C hw (ok_X0_refuse h13) (cw_X0_122 hts (Nat.le_of_ble_eq_true rfl) (Nat.le_of_ble_eq_true rfl)) rfl (by decide) (of_req h13).1 rfl hl.1 rfl (Nat.le_of_ble_eq_true rfl) ⟨Nat.zero_le _, Nat.zero_le _⟩ dX0_cask_29) (fun H locs hw => ?_)
      cases hf
      exact w_iret C hr hw dX0_cask_32
  · replace hf := ite_t c3 hf
    refine lv_aload_n hx hb dX0_cask_8 rfl (lv_at hl 0 rfl) ?_
    refine lv_iconst (v := ((-1) : Int32)) hx hb dX0_cask_9 (by decide) ?_
    revert hf
    refine k_cal (fun z17 U18 h16 hf => ?_)
    refine w_afi hw (w_rV (As := [.int ((-1) : Int32)]) C hw (ok_X0_refuse h16) (cw_X0_122 hts (Nat.le_of_ble_eq_true rfl) (Nat.le_of_ble_eq_true rfl)) rfl (by decide) (of_req h16).1 rfl hl.1 rfl (Nat.le_of_ble_eq_true rfl) ⟨Nat.zero_le _, Nat.zero_le _⟩ dX0_cask_10) (fun H locs hw => ?_)
    cases hf
    exact w_iret C hr hw dX0_cask_13
set_option maxHeartbeats 4000000 in
theorem jk_X0_old_29 {l : Launch} {G : gG} {p : Program} {e : Env} {s : State} {m : MethodId} {args : Array Value} {below : List Frame} {meth : Method} {c : Code} {T : Tt} {V0 : Vt} {r : Int64} (C : Cx G p s m args meth c cX0_old RX0 3) (hr : meth.sig.returnType = (some .long)) {H : Heap} {locs : List Loc} {ls : Array Slot} (hf : f_X0_old_J29 T V0 = some r) (hw : wS G V0 T H locs) (hl : lv_has ls 3 []) : W p l e (rmL 2 0 0) s m args below meth c H locs 0 0 (eQ G below (some (.long r)) V0 T args s 0 0) (F0 m 29 ls []) := by
  have hx := C.1
  have hb := C.2.1
  have hown := C.2.2.2.1
  have hts := C.2.2.2.2.1
  unfold f_X0_old_J29 at hf
  refine lv_ldc2 (v := ((-1) : Int64)) hx hb hown (hts _ q696) dX0_old_29 ?_
  cases hf
  exact w_lret C hr hw dX0_old_32
set_option maxHeartbeats 4000000 in
theorem ok_X0_old {l : Launch} {G : gG} {T : Tt} {V0 : Vt} {o : Nat} {a0 : Int32} {a1 : Int32} {r : Int64} (hf : f_X0_old T V0 o a0 a1 = some r) : okM l G yX0_old cX0_old 3 (some .long) 2 [.ref (gb G + o), .int a0, .int a1] V0 T (some (.long r)) V0 T 0 0 := by
  refine ok_intro (by decide) (Nat.le_of_ble_eq_true rfl) ?_
  intro p e s m below meth c ls C hr hnm hw hl
  have hx := C.1
  have hb := C.2.1
  have hown := C.2.2.2.1
  have hts := C.2.2.2.2.1
  have hl : lv_has ls 3 [(0, .ref (gb G + o)), (1, .int a0), (2, .int a1)] := hl
  unfold f_X0_old at hf
  revert hf
  refine k_req (fun k0 hf => ?_)
  refine lv_aload_n hx hb dX0_old_0 rfl (lv_at hl 0 rfl) ?_
  refine lv_iload_n hx hb dX0_old_1 rfl (lv_at hl 1 rfl) ?_
  revert hf
  refine k_pcl (fun z2 h1 hf => ?_)
  refine w_afi hw (w_rV (As := [.int a0]) C hw (ok_X0_isCask h1) (cw_X0_151 hts (Nat.le_of_ble_eq_true rfl) (Nat.le_of_ble_eq_true rfl)) rfl (by decide) (of_req h1).1 rfl hl.1 rfl (Nat.le_of_ble_eq_true rfl) ⟨Nat.zero_le _, Nat.zero_le _⟩ dX0_old_2) (fun H locs hw => ?_)
  refine lv_if_eq (tgt := 29) hx hb dX0_old_5 (by decide) (fun c3 => ?_) (fun c3 => ?_)
  · replace hf := ite_t c3 hf
    exact jk_X0_old_29 C hr hf hw (lv_sub hl [] rfl)
  · replace hf := ite_f c3 hf
    refine lv_iload_n hx hb dX0_old_8 rfl (lv_at hl 2 rfl) ?_
    refine lv_iconst (v := (0 : Int32)) hx hb dX0_old_9 (by decide) ?_
    refine lv_bipush (v := (19 : Int32)) hx hb dX0_old_10 (by decide) ?_
    revert hf
    refine k_pcl (fun z5 h4 hf => ?_)
    refine w_afi hw (w_rS (As := [.int a1, .int (0 : Int32), .int (19 : Int32)]) C hw (ok_X0_in h4) (cw_X0_108 hts (Nat.le_of_ble_eq_true rfl) (Nat.le_of_ble_eq_true rfl)) rfl hl.1 rfl (Nat.le_of_ble_eq_true rfl) ⟨Nat.zero_le _, Nat.zero_le _⟩ dX0_old_12) (fun H locs hw => ?_)
    refine lv_if_eq (tgt := 29) hx hb dX0_old_15 (by decide) (fun c6 => ?_) (fun c6 => ?_)
    · replace hf := ite_t c6 hf
      exact jk_X0_old_29 C hr hf hw (lv_sub hl [] rfl)
    · replace hf := ite_f c6 hf
      refine lv_aload_n hx hb dX0_old_18 rfl (lv_at hl 0 rfl) ?_
      revert hf
      refine k_pcl (fun r8 h7 hf => ?_)
      refine w_afr hw (w_rV (As := []) C hw (ok_X0_table h7) (cw_X0_137 hts (Nat.le_of_ble_eq_true rfl) (Nat.le_of_ble_eq_true rfl)) rfl (by decide) (of_req h7).1 rfl hl.1 rfl (Nat.le_of_ble_eq_true rfl) ⟨Nat.zero_le _, Nat.zero_le _⟩ dX0_old_19) (fun H locs hw => ?_)
      refine lv_iload_n hx hb dX0_old_22 rfl (lv_at hl 1 rfl) ?_
      revert hf
      refine k_pcl (fun z10 h9 hf => ?_)
      refine w_afi hw (w_rV (As := [.int a0]) C hw (ok_X2_all h9) (cw_X0_155 hts (Nat.le_of_ble_eq_true rfl) (Nat.le_of_ble_eq_true rfl)) rfl (by decide) (of_req h9).1 rfl hl.1 rfl (Nat.le_of_ble_eq_true rfl) ⟨Nat.zero_le _, Nat.zero_le _⟩ dX0_old_23) (fun H locs hw => ?_)
      refine lv_if_ne (tgt := 33) hx hb dX0_old_26 (by decide) (fun c11 => ?_) (fun c11 => ?_)
      · replace hf := ite_f c11 hf
        refine lv_aload_n hx hb dX0_old_33 rfl (lv_at hl 0 rfl) ?_
        revert hf
        refine k_pcl (fun r13 h12 hf => ?_)
        refine w_afr hw (w_rV (As := []) C hw (ok_X0_table h12) (cw_X0_137 hts (Nat.le_of_ble_eq_true rfl) (Nat.le_of_ble_eq_true rfl)) rfl (by decide) (of_req h12).1 rfl hl.1 rfl (Nat.le_of_ble_eq_true rfl) ⟨Nat.zero_le _, Nat.zero_le _⟩ dX0_old_34) (fun H locs hw => ?_)
        refine lv_iload_n hx hb dX0_old_37 rfl (lv_at hl 1 rfl) ?_
        refine lv_iload_n hx hb dX0_old_38 rfl (lv_at hl 2 rfl) ?_
        revert hf
        refine k_pcl (fun z15 h14 hf => ?_)
        refine w_afi hw (w_rV (As := [.int a0, .int a1]) C hw (ok_X2_older h14) (cw_X0_181 hts (Nat.le_of_ble_eq_true rfl) (Nat.le_of_ble_eq_true rfl)) rfl (by decide) (of_req h14).1 rfl hl.1 rfl (Nat.le_of_ble_eq_true rfl) ⟨Nat.zero_le _, Nat.zero_le _⟩ dX0_old_39) (fun H locs hw => ?_)
        refine lv_i2l hx hb dX0_old_42 rfl ?_
        refine lv_ldc2 (v := (1000000000000 : Int64)) hx hb hown (hts _ q698) dX0_old_43 ?_
        refine lv_lmul hx hb dX0_old_46 ?_
        refine lv_aload_n hx hb dX0_old_47 rfl (lv_at hl 0 rfl) ?_
        revert hf
        refine k_pcl (fun r17 h16 hf => ?_)
        refine w_afr hw (w_rV (As := []) C hw (ok_X0_table h16) (cw_X0_137 hts (Nat.le_of_ble_eq_true rfl) (Nat.le_of_ble_eq_true rfl)) rfl (by decide) (of_req h16).1 rfl hl.1 rfl (Nat.le_of_ble_eq_true rfl) ⟨Nat.zero_le _, Nat.zero_le _⟩ dX0_old_48) (fun H locs hw => ?_)
        refine lv_iload_n hx hb dX0_old_51 rfl (lv_at hl 1 rfl) ?_
        revert hf
        refine k_pcl (fun z19 h18 hf => ?_)
        refine w_afi hw (w_rV (As := [.int a0]) C hw (ok_X2_all h18) (cw_X0_155 hts (Nat.le_of_ble_eq_true rfl) (Nat.le_of_ble_eq_true rfl)) rfl (by decide) (of_req h18).1 rfl hl.1 rfl (Nat.le_of_ble_eq_true rfl) ⟨Nat.zero_le _, Nat.zero_le _⟩ dX0_old_52) (fun H locs hw => ?_)
        refine lv_i2l hx hb dX0_old_55 rfl ?_
        revert hf
        refine k_req (fun h20 hf => ?_)
        refine lv_ldiv hx hb dX0_old_56 h20 ?_
        cases hf
        exact w_lret C hr hw dX0_old_57
      · replace hf := ite_t c11 hf
        exact jk_X0_old_29 C hr hf hw (lv_sub hl [] rfl)
set_option maxHeartbeats 4000000 in
theorem ok_X0_isTerm {l : Launch} {G : gG} {T : Tt} {V0 : Vt} {a0 : Int32} {a1 : Int32} {r : Int32} (hf : f_X0_isTerm T V0 a0 a1 = some r) : okM l G yX0_isTerm cX0_isTerm 2 (some .boolean) 1 [.int a0, .int a1] V0 T (some (.int r)) V0 T 0 0 := by
  refine ok_intro (by decide) (Nat.le_of_ble_eq_true rfl) ?_
  intro p e s m below meth c ls C hr hnm hw hl
  have hx := C.1
  have hb := C.2.1
  have hown := C.2.2.2.1
  have hts := C.2.2.2.2.1
  have hl : lv_has ls 2 [(0, .int a0), (1, .int a1)] := hl
  unfold f_X0_isTerm at hf
  refine lv_iload_n hx hb dX0_isTerm_0 rfl (lv_at hl 0 rfl) ?_
  by_cases c1 : a0 = (0 : Int32)
  · replace hf := ite_t c1 hf
    refine lv_tableIn (tgt := 32) (off := 31) hx hb dX0_isTerm_1 (by rw [c1]; decide) (by rw [c1]; decide) (by rw [c1]; decide) (by decide) ?_
    refine lv_iload_n hx hb dX0_isTerm_32 rfl (lv_at hl 1 rfl) ?_
    refine lv_iconst (v := (0 : Int32)) hx hb dX0_isTerm_33 (by decide) ?_
    refine lv_sipush (v := (999 : Int32)) hx hb dX0_isTerm_34 (by decide) ?_
    revert hf
    refine k_pcl (fun z3 h2 hf => ?_)
    refine w_afi hw (w_rS (As := [.int a1, .int (0 : Int32), .int (999 : Int32)]) C hw (ok_X0_in h2) (cw_X0_108 hts (Nat.le_of_ble_eq_true rfl) (Nat.le_of_ble_eq_true rfl)) rfl hl.1 rfl (Nat.le_of_ble_eq_true rfl) ⟨Nat.zero_le _, Nat.zero_le _⟩ dX0_isTerm_37) (fun H locs hw => ?_)
    revert hf
    refine k_req (fun h4 hf => ?_)
    cases hf
    exact w_zret C hr hw h4 dX0_isTerm_40
  · replace hf := ite_f c1 hf
    by_cases c5 : a0 = (1 : Int32)
    · replace hf := ite_t c5 hf
      refine lv_tableIn (tgt := 41) (off := 40) hx hb dX0_isTerm_1 (by rw [c5]; decide) (by rw [c5]; decide) (by rw [c5]; decide) (by decide) ?_
      refine lv_iload_n hx hb dX0_isTerm_41 rfl (lv_at hl 1 rfl) ?_
      refine lv_iconst (v := (0 : Int32)) hx hb dX0_isTerm_42 (by decide) ?_
      refine lv_bipush (v := (10 : Int32)) hx hb dX0_isTerm_43 (by decide) ?_
      revert hf
      refine k_pcl (fun z7 h6 hf => ?_)
      refine w_afi hw (w_rS (As := [.int a1, .int (0 : Int32), .int (10 : Int32)]) C hw (ok_X0_in h6) (cw_X0_108 hts (Nat.le_of_ble_eq_true rfl) (Nat.le_of_ble_eq_true rfl)) rfl hl.1 rfl (Nat.le_of_ble_eq_true rfl) ⟨Nat.zero_le _, Nat.zero_le _⟩ dX0_isTerm_45) (fun H locs hw => ?_)
      revert hf
      refine k_req (fun h8 hf => ?_)
      cases hf
      exact w_zret C hr hw h8 dX0_isTerm_48
    · replace hf := ite_f c5 hf
      by_cases c9 : a0 = (2 : Int32)
      · replace hf := ite_t c9 hf
        refine lv_tableIn (tgt := 49) (off := 48) hx hb dX0_isTerm_1 (by rw [c9]; decide) (by rw [c9]; decide) (by rw [c9]; decide) (by decide) ?_
        refine lv_iload_n hx hb dX0_isTerm_49 rfl (lv_at hl 1 rfl) ?_
        refine lv_iconst (v := (0 : Int32)) hx hb dX0_isTerm_50 (by decide) ?_
        refine lv_bipush (v := (9 : Int32)) hx hb dX0_isTerm_51 (by decide) ?_
        revert hf
        refine k_pcl (fun z11 h10 hf => ?_)
        refine w_afi hw (w_rS (As := [.int a1, .int (0 : Int32), .int (9 : Int32)]) C hw (ok_X0_in h10) (cw_X0_108 hts (Nat.le_of_ble_eq_true rfl) (Nat.le_of_ble_eq_true rfl)) rfl hl.1 rfl (Nat.le_of_ble_eq_true rfl) ⟨Nat.zero_le _, Nat.zero_le _⟩ dX0_isTerm_53) (fun H locs hw => ?_)
        revert hf
        refine k_req (fun h12 hf => ?_)
        cases hf
        exact w_zret C hr hw h12 dX0_isTerm_56
      · replace hf := ite_f c9 hf
        by_cases c13 : a0 = (3 : Int32)
        · replace hf := ite_t c13 hf
          refine lv_tableIn (tgt := 57) (off := 56) hx hb dX0_isTerm_1 (by rw [c13]; decide) (by rw [c13]; decide) (by rw [c13]; decide) (by decide) ?_
          refine lv_iload_n hx hb dX0_isTerm_57 rfl (lv_at hl 1 rfl) ?_
          refine lv_iconst (v := (1 : Int32)) hx hb dX0_isTerm_58 (by decide) ?_
          refine lv_bipush (v := (100 : Int32)) hx hb dX0_isTerm_59 (by decide) ?_
          revert hf
          refine k_pcl (fun z15 h14 hf => ?_)
          refine w_afi hw (w_rS (As := [.int a1, .int (1 : Int32), .int (100 : Int32)]) C hw (ok_X0_in h14) (cw_X0_108 hts (Nat.le_of_ble_eq_true rfl) (Nat.le_of_ble_eq_true rfl)) rfl hl.1 rfl (Nat.le_of_ble_eq_true rfl) ⟨Nat.zero_le _, Nat.zero_le _⟩ dX0_isTerm_61) (fun H locs hw => ?_)
          revert hf
          refine k_req (fun h16 hf => ?_)
          cases hf
          exact w_zret C hr hw h16 dX0_isTerm_64
        · replace hf := ite_f c13 hf
          have gc1 := lv_neT (a := 0) c1 (by decide)
          have gc5 := lv_neT (a := 1) c5 (by decide)
          have gc9 := lv_neT (a := 2) c9 (by decide)
          have gc13 := lv_neT (a := 3) c13 (by decide)
          refine lv_tableOut (tgt := 65) hx hb dX0_isTerm_1 (by show Int32.toInt a0 < 0 ∨ 3 < Int32.toInt a0; omega) (by decide) ?_
          refine lv_iconst (v := (0 : Int32)) hx hb dX0_isTerm_65 (by decide) ?_
          cases hf
          exact w_zret C hr hw (by decide) dX0_isTerm_66
set_option maxHeartbeats 4000000 in
theorem ok_X0_termNow {l : Launch} {G : gG} {T : Tt} {V0 : Vt} {o : Nat} {a0 : Int32} {r : Int32} (hf : f_X0_termNow T V0 o a0 = some r) : okM l G yX0_termNow cX0_termNow 2 (some .int) 1 [.ref (gb G + o), .int a0] V0 T (some (.int r)) V0 T 0 0 := by
  refine ok_intro (by decide) (Nat.le_of_ble_eq_true rfl) ?_
  intro p e s m below meth c ls C hr hnm hw hl
  have hx := C.1
  have hb := C.2.1
  have hown := C.2.2.2.1
  have hts := C.2.2.2.2.1
  have hl : lv_has ls 2 [(0, .ref (gb G + o)), (1, .int a0)] := hl
  unfold f_X0_termNow at hf
  revert hf
  refine k_req (fun k0 hf => ?_)
  refine lv_iload_n hx hb dX0_termNow_0 rfl (lv_at hl 1 rfl) ?_
  refine lv_if_ne (tgt := 14) hx hb dX0_termNow_1 (by decide) (fun c1 => ?_) (fun c1 => ?_)
  · replace hf := ite_f c1 hf
    refine lv_iload_n hx hb dX0_termNow_14 rfl (lv_at hl 1 rfl) ?_
    refine lv_iconst (v := (1 : Int32)) hx hb dX0_termNow_15 (by decide) ?_
    refine lv_icmp_ne (tgt := 29) hx hb dX0_termNow_16 (by decide) (fun c2 => ?_) (fun c2 => ?_)
    · replace hf := ite_f c2 hf
      refine lv_iload_n hx hb dX0_termNow_29 rfl (lv_at hl 1 rfl) ?_
      refine lv_iconst (v := (2 : Int32)) hx hb dX0_termNow_30 (by decide) ?_
      refine lv_icmp_ne (tgt := 44) hx hb dX0_termNow_31 (by decide) (fun c3 => ?_) (fun c3 => ?_)
      · replace hf := ite_f c3 hf
        refine lv_aload_n hx hb dX0_termNow_44 rfl (lv_at hl 0 rfl) ?_
        revert hf
        refine k_drf (fun r4 er4 hf => ?_)
        refine gf_X0_31 C hw k0 er4 dX0_termNow_45 ?_
        revert hf
        refine k_req (fun k5 hf => ?_)
        refine gf_X0_161 C hw k5 dX0_termNow_48 ?_
        cases hf
        exact w_iret C hr hw dX0_termNow_51
      · replace hf := ite_t c3 hf
        refine lv_aload_n hx hb dX0_termNow_34 rfl (lv_at hl 0 rfl) ?_
        revert hf
        refine k_drf (fun r6 er6 hf => ?_)
        refine gf_X0_31 C hw k0 er6 dX0_termNow_35 ?_
        revert hf
        refine k_req (fun k7 hf => ?_)
        refine gf_X0_192 C hw k7 dX0_termNow_38 ?_
        refine lv_goto (tgt := 51) hx hb dX0_termNow_41 (by decide) ?_
        cases hf
        exact w_iret C hr hw dX0_termNow_51
    · replace hf := ite_t c2 hf
      refine lv_aload_n hx hb dX0_termNow_19 rfl (lv_at hl 0 rfl) ?_
      revert hf
      refine k_drf (fun r8 er8 hf => ?_)
      refine gf_X0_31 C hw k0 er8 dX0_termNow_20 ?_
      revert hf
      refine k_req (fun k9 hf => ?_)
      refine gf_X0_189 C hw k9 dX0_termNow_23 ?_
      refine lv_goto (tgt := 51) hx hb dX0_termNow_26 (by decide) ?_
      cases hf
      exact w_iret C hr hw dX0_termNow_51
  · replace hf := ite_t c1 hf
    refine lv_aload_n hx hb dX0_termNow_4 rfl (lv_at hl 0 rfl) ?_
    revert hf
    refine k_pcl (fun r11 h10 hf => ?_)
    refine w_afr hw (w_rV (As := []) C hw (ok_X0_table h10) (cw_X0_137 hts (Nat.le_of_ble_eq_true rfl) (Nat.le_of_ble_eq_true rfl)) rfl (by decide) (of_req h10).1 rfl hl.1 rfl (Nat.le_of_ble_eq_true rfl) ⟨Nat.zero_le _, Nat.zero_le _⟩ dX0_termNow_5) (fun H locs hw => ?_)
    revert hf
    refine k_req (fun k12 hf => ?_)
    refine gf_X0_186 C hw k12 dX0_termNow_8 ?_
    refine lv_goto (tgt := 51) hx hb dX0_termNow_11 (by decide) ?_
    cases hf
    exact w_iret C hr hw dX0_termNow_51
set_option maxHeartbeats 4000000 in
theorem jk_X0_terms_75 {l : Launch} {G : gG} {p : Program} {e : Env} {s : State} {m : MethodId} {args : Array Value} {below : List Frame} {meth : Method} {c : Code} {T : Tt} {V0 : Vt} {r : Int32} {V' : Vt} (C : Cx G p s m args meth c cX0_terms RX0 4) (hr : meth.sig.returnType = (some .int)) {x0 : Nat} {x3 : Int32} {H : Heap} {locs : List Loc} {ls : Array Slot} (k0 : T.1 x0 = 1) (hf : f_X0_terms_J75 T V0 x0 x3 = some (r, V')) (hw : wS G V0 T H locs) (hl : lv_has ls 4 [(0, .ref (gb G + x0)), (3, .int x3)]) : W p l e (rmL 2 0 0) s m args below meth c H locs 0 0 (eQ G below (some (.int r)) V' T args s 0 0) (F0 m 75 ls []) := by
  have hx := C.1
  have hb := C.2.1
  have hown := C.2.2.2.1
  have hts := C.2.2.2.2.1
  unfold f_X0_terms_J75 at hf
  refine lv_aload_n hx hb dX0_terms_75 rfl (lv_at hl 0 rfl) ?_
  refine lv_iload_n hx hb dX0_terms_76 rfl (lv_at hl 1 rfl) ?_
  revert hf
  refine k_cal (fun z13 U14 h12 hf => ?_)
  refine w_afi hw (w_rV (As := [.int x3]) C hw (ok_X0_settles h12) (cw_X0_129 hts (Nat.le_of_ble_eq_true rfl) (Nat.le_of_ble_eq_true rfl)) rfl (by decide) (of_req h12).1 rfl hl.1 rfl (Nat.le_of_ble_eq_true rfl) ⟨Nat.zero_le _, Nat.zero_le _⟩ dX0_terms_77) (fun H locs hw => ?_)
  cases hf
  exact w_iret C hr hw dX0_terms_80
set_option maxHeartbeats 4000000 in
theorem ok_X0_terms {l : Launch} {G : gG} {T : Tt} {V0 : Vt} {o : Nat} {a0 : Int32} {a1 : Int32} {r : Int32} {V' : Vt} (hf : f_X0_terms T V0 o a0 a1 = some (r, V')) : okM l G yX0_terms cX0_terms 4 (some .int) 2 [.ref (gb G + o), .int a0, .int a1] V0 T (some (.int r)) V' T 0 0 := by
  refine ok_intro (by decide) (Nat.le_of_ble_eq_true rfl) ?_
  intro p e s m below meth c ls C hr hnm hw hl
  have hx := C.1
  have hb := C.2.1
  have hown := C.2.2.2.1
  have hts := C.2.2.2.2.1
  have hl : lv_has ls 4 [(0, .ref (gb G + o)), (1, .int a0), (2, .int a1)] := hl
  unfold f_X0_terms at hf
  revert hf
  refine k_req (fun k0 hf => ?_)
  refine lv_iload_n hx hb dX0_terms_0 rfl (lv_at hl 1 rfl) ?_
  refine lv_iload_n hx hb dX0_terms_1 rfl (lv_at hl 2 rfl) ?_
  revert hf
  refine k_pcl (fun z2 h1 hf => ?_)
  refine w_afi hw (w_rS (As := [.int a0, .int a1]) C hw (ok_X0_isTerm h1) (cw_X0_195 hts (Nat.le_of_ble_eq_true rfl) (Nat.le_of_ble_eq_true rfl)) rfl hl.1 rfl (Nat.le_of_ble_eq_true rfl) ⟨Nat.zero_le _, Nat.zero_le _⟩ dX0_terms_2) (fun H locs hw => ?_)
  refine lv_if_ne (tgt := 14) hx hb dX0_terms_5 (by decide) (fun c3 => ?_) (fun c3 => ?_)
  · replace hf := ite_f c3 hf
    refine lv_aload_n hx hb dX0_terms_14 rfl (lv_at hl 0 rfl) ?_
    refine lv_iload_n hx hb dX0_terms_15 rfl (lv_at hl 1 rfl) ?_
    revert hf
    refine k_pcl (fun z5 h4 hf => ?_)
    refine w_afi hw (w_rV (As := [.int a0]) C hw (ok_X0_termNow h4) (cw_X0_198 hts (Nat.le_of_ble_eq_true rfl) (Nat.le_of_ble_eq_true rfl)) rfl (by decide) (of_req h4).1 rfl hl.1 rfl (Nat.le_of_ble_eq_true rfl) ⟨Nat.zero_le _, Nat.zero_le _⟩ dX0_terms_16) (fun H locs hw => ?_)
    refine lv_istore_n (lv' := [(3, .int z5), (0, .ref (gb G + o)), (1, .int a0), (2, .int a1)]) hx hb dX0_terms_19 rfl hl (by decide) rfl (fun ls hl => ?_)
    refine lv_iload_n hx hb dX0_terms_20 rfl (lv_at hl 2 rfl) ?_
    refine lv_if_ne (tgt := 35) hx hb dX0_terms_21 (by decide) (fun c6 => ?_) (fun c6 => ?_)
    · replace hf := ite_f c6 hf
      refine lv_iload_n hx hb dX0_terms_35 rfl (lv_at hl 2 rfl) ?_
      refine lv_iconst (v := (1 : Int32)) hx hb dX0_terms_36 (by decide) ?_
      refine lv_icmp_ne (tgt := 51) hx hb dX0_terms_37 (by decide) (fun c7 => ?_) (fun c7 => ?_)
      · replace hf := ite_f c7 hf
        refine lv_iload_n hx hb dX0_terms_51 rfl (lv_at hl 2 rfl) ?_
        refine lv_iconst (v := (2 : Int32)) hx hb dX0_terms_52 (by decide) ?_
        refine lv_icmp_ne (tgt := 67) hx hb dX0_terms_53 (by decide) (fun c8 => ?_) (fun c8 => ?_)
        · replace hf := ite_f c8 hf
          refine lv_aload_n hx hb dX0_terms_67 rfl (lv_at hl 1 rfl) ?_
          revert hf
          refine k_drf (fun r9 er9 hf => ?_)
          refine gf_X0_31 C hw k0 er9 dX0_terms_68 ?_
          refine lv_iload_n hx hb dX0_terms_71 rfl (lv_at hl 3 rfl) ?_
          revert hf
          refine k_req (fun k10 hf => ?_)
          revert hf
          refine k_stp (fun U11 eU11 hf => ?_)
          refine pf_X0_161 C hw k10 eU11 dX0_terms_72 (fun H locs hw => ?_)
          exact jk_X0_terms_75 C hr k0 hf hw (lv_sub hl [1, 0] rfl)
        · replace hf := ite_t c8 hf
          refine lv_aload_n hx hb dX0_terms_56 rfl (lv_at hl 1 rfl) ?_
          revert hf
          refine k_drf (fun r15 er15 hf => ?_)
          refine gf_X0_31 C hw k0 er15 dX0_terms_57 ?_
          refine lv_iload_n hx hb dX0_terms_60 rfl (lv_at hl 3 rfl) ?_
          revert hf
          refine k_req (fun k16 hf => ?_)
          revert hf
          refine k_stp (fun U17 eU17 hf => ?_)
          refine pf_X0_192 C hw k16 eU17 dX0_terms_61 (fun H locs hw => ?_)
          refine lv_goto (tgt := 75) hx hb dX0_terms_64 (by decide) ?_
          exact jk_X0_terms_75 C hr k0 hf hw (lv_sub hl [1, 0] rfl)
      · replace hf := ite_t c7 hf
        refine lv_aload_n hx hb dX0_terms_40 rfl (lv_at hl 1 rfl) ?_
        revert hf
        refine k_drf (fun r18 er18 hf => ?_)
        refine gf_X0_31 C hw k0 er18 dX0_terms_41 ?_
        refine lv_iload_n hx hb dX0_terms_44 rfl (lv_at hl 3 rfl) ?_
        revert hf
        refine k_req (fun k19 hf => ?_)
        revert hf
        refine k_stp (fun U20 eU20 hf => ?_)
        refine pf_X0_189 C hw k19 eU20 dX0_terms_45 (fun H locs hw => ?_)
        refine lv_goto (tgt := 75) hx hb dX0_terms_48 (by decide) ?_
        exact jk_X0_terms_75 C hr k0 hf hw (lv_sub hl [1, 0] rfl)
    · replace hf := ite_t c6 hf
      refine lv_aload_n hx hb dX0_terms_24 rfl (lv_at hl 1 rfl) ?_
      revert hf
      refine k_pcl (fun r22 h21 hf => ?_)
      refine w_afr hw (w_rV (As := []) C hw (ok_X0_table h21) (cw_X0_137 hts (Nat.le_of_ble_eq_true rfl) (Nat.le_of_ble_eq_true rfl)) rfl (by decide) (of_req h21).1 rfl hl.1 rfl (Nat.le_of_ble_eq_true rfl) ⟨Nat.zero_le _, Nat.zero_le _⟩ dX0_terms_25) (fun H locs hw => ?_)
      refine lv_iload_n hx hb dX0_terms_28 rfl (lv_at hl 3 rfl) ?_
      revert hf
      refine k_req (fun k23 hf => ?_)
      revert hf
      refine k_stp (fun U24 eU24 hf => ?_)
      refine pf_X0_186 C hw k23 eU24 dX0_terms_29 (fun H locs hw => ?_)
      refine lv_goto (tgt := 75) hx hb dX0_terms_32 (by decide) ?_
      exact jk_X0_terms_75 C hr k0 hf hw (lv_sub hl [1, 0] rfl)
  · replace hf := ite_t c3 hf
    refine lv_aload_n hx hb dX0_terms_8 rfl (lv_at hl 0 rfl) ?_
    refine lv_iconst (v := ((-1) : Int32)) hx hb dX0_terms_9 (by decide) ?_
    revert hf
    refine k_cal (fun z26 U27 h25 hf => ?_)
    refine w_afi hw (w_rV (As := [.int ((-1) : Int32)]) C hw (ok_X0_refuse h25) (cw_X0_122 hts (Nat.le_of_ble_eq_true rfl) (Nat.le_of_ble_eq_true rfl)) rfl (by decide) (of_req h25).1 rfl hl.1 rfl (Nat.le_of_ble_eq_true rfl) ⟨Nat.zero_le _, Nat.zero_le _⟩ dX0_terms_10) (fun H locs hw => ?_)
    cases hf
    exact w_iret C hr hw dX0_terms_13
set_option maxHeartbeats 4000000 in
theorem lk_X0_four_3 {l : Launch} {G : gG} {p : Program} {e : Env} {s : State} {m : MethodId} {args : Array Value} {below : List Frame} {meth : Method} {c : Code} {T : Tt} {V' : Vt} (C : Cx G p s m args meth c cX0_four RX0 3) (hr : meth.sig.returnType = none) {x0 : Nat} {x1 : Int32} {kx3_36 : Vt → Option (Vt)} (k0 : T.1 x0 = 1) (hkx3_36 : ∀ (W1 : Vt) (H : Heap) (locs : List Loc) (ls : Array Slot), kx3_36 W1 = some V' → wS G W1 T H locs → lv_has ls 3 [] → W p l e (rmL 0 0 0) s m args below meth c H locs 0 0 (eQ G below none V' T args s 0 0) (F0 m 36 ls [])) : ∀ (n : Nat) (x2 : Int32) (V1 : Vt) (H : Heap) (locs : List Loc) (ls : Array Slot), f_X0_four_L3 T x0 x1 kx3_36 n x2 V1 = some V' → wS G V1 T H locs → lv_has ls 3 [(0, .ref (gb G + x0)), (1, .int x1), (2, .int x2)] → W p l e (rmL 0 0 0) s m args below meth c H locs 0 0 (eQ G below none V' T args s 0 0) (F0 m 3 ls []) := by
  have hx := C.1
  have hb := C.2.1
  have hown := C.2.2.2.1
  have hts := C.2.2.2.2.1
  intro n
  induction n with
  | zero =>
    intro x2 V1 H locs ls hf
    cases hf
  | succ n ih =>
    intro x2 V1 H locs ls hf hw hl
    unfold f_X0_four_L3 at hf
    refine lv_iload_n hx hb dX0_four_3 rfl (lv_at hl 2 rfl) ?_
    refine lv_if_lt (tgt := 36) hx hb dX0_four_4 (by decide) (fun c1 => ?_) (fun c1 => ?_)
    · replace hf := ite_t c1 hf
      exact hkx3_36 _ _ _ _ hf hw (lv_sub hl [] rfl)
    · replace hf := ite_f c1 hf
      refine lv_aload_n hx hb dX0_four_7 rfl (lv_at hl 0 rfl) ?_
      revert hf
      refine k_drf (fun r2 er2 hf => ?_)
      refine gf_X0_62 C hw k0 er2 dX0_four_8 ?_
      refine lv_aload_n hx hb dX0_four_11 rfl (lv_at hl 0 rfl) ?_
      refine gf_X0_201 C hw k0 dX0_four_12 ?_
      refine lv_iload_n hx hb dX0_four_15 rfl (lv_at hl 1 rfl) ?_
      refine lv_iload_n hx hb dX0_four_16 rfl (lv_at hl 2 rfl) ?_
      refine lv_ishr hx hb dX0_four_17 ?_
      refine lv_i2b hx hb dX0_four_18 rfl ?_
      revert hf
      refine k_req (fun h3 hf => ?_)
      revert hf
      refine k_stp (fun U4 eU4 hf => ?_)
      refine w_bast C hw h3 eU4 dX0_four_19 (fun H locs hw => ?_)
      refine lv_aload_n hx hb dX0_four_20 rfl (lv_at hl 0 rfl) ?_
      refine lv_dup hx hb dX0_four_21 rfl ?_
      refine gf_X0_201 C hw k0 dX0_four_22 ?_
      refine lv_iconst (v := (1 : Int32)) hx hb dX0_four_25 (by decide) ?_
      refine lv_iadd hx hb dX0_four_26 ?_
      revert hf
      refine k_stp (fun U5 eU5 hf => ?_)
      refine pf_X0_201 C hw k0 eU5 dX0_four_27 (fun H locs hw => ?_)
      revert hf
      refine k_stp (fun z6 ez6 hf => ?_)
      refine lv_iinc (k := 2) (lv' := [(2, .int z6), (0, .ref (gb G + x0)), (1, .int x1)]) hx hb dX0_four_30 hl rfl (inc_e (by decide) ez6) (by decide) rfl (fun ls hl => ?_)
      refine lv_goto (tgt := 3) hx hb dX0_four_33 (by decide) ?_
      exact ih _ _ _ _ _ hf hw (lv_sub hl [1, 2, 0] rfl)
set_option maxHeartbeats 4000000 in
theorem ok_X0_four {l : Launch} {G : gG} {T : Tt} {V0 : Vt} {o : Nat} {a0 : Int32} {V' : Vt} (hf : f_X0_four T V0 o a0 = some V') : okM l G yX0_four cX0_four 3 none 0 [.ref (gb G + o), .int a0] V0 T none V' T 0 0 := by
  refine ok_intro (by decide) (Nat.le_of_ble_eq_true rfl) ?_
  intro p e s m below meth c ls C hr hnm hw hl
  have hx := C.1
  have hb := C.2.1
  have hown := C.2.2.2.1
  have hts := C.2.2.2.2.1
  have hl : lv_has ls 3 [(0, .ref (gb G + o)), (1, .int a0)] := hl
  unfold f_X0_four at hf
  revert hf
  refine k_req (fun k0 hf => ?_)
  refine lv_bipush (v := (24 : Int32)) hx hb dX0_four_0 (by decide) ?_
  refine lv_istore_n (lv' := [(2, .int (24 : Int32)), (0, .ref (gb G + o)), (1, .int a0)]) hx hb dX0_four_2 rfl hl (by decide) rfl (fun ls hl => ?_)
  refine lk_X0_four_3 C hr k0 (fun U7 H locs ls hf hw hl => ?_) fuel _ _ _ _ _ hf hw (lv_sub hl [1, 2, 0] rfl)
  cases hf
  exact w_vret C hr hw dX0_four_36
set_option maxHeartbeats 4000000 in
theorem ok_X0_feed {l : Launch} {G : gG} {T : Tt} {V0 : Vt} {o : Nat} {a0 : Int32} {a1 : Int32} {a2 : Int32} {a3 : Int32} {a4 : Int32} {r : Int32} {V' : Vt} (hf : f_X0_feed T V0 o a0 a1 a2 a3 a4 = some (r, V')) : okM l G yX0_feed cX0_feed 6 (some .int) 1 [.ref (gb G + o), .int a0, .int a1, .int a2, .int a3, .int a4] V0 T (some (.int r)) V' T 0 0 := by
  refine ok_intro (by decide) (Nat.le_of_ble_eq_true rfl) ?_
  intro p e s m below meth c ls C hr hnm hw hl
  have hx := C.1
  have hb := C.2.1
  have hown := C.2.2.2.1
  have hts := C.2.2.2.2.1
  have hl : lv_has ls 6 [(0, .ref (gb G + o)), (1, .int a0), (2, .int a1), (3, .int a2), (4, .int a3), (5, .int a4)] := hl
  unfold f_X0_feed at hf
  revert hf
  refine k_req (fun k0 hf => ?_)
  refine lv_aload_n hx hb dX0_feed_0 rfl (lv_at hl 0 rfl) ?_
  refine gf_X0_201 C hw k0 dX0_feed_1 ?_
  refine lv_bipush (v := (20 : Int32)) hx hb dX0_feed_4 (by decide) ?_
  refine lv_iadd hx hb dX0_feed_6 ?_
  refine lv_sipush (v := (400 : Int32)) hx hb dX0_feed_7 (by decide) ?_
  refine lv_icmp_le (tgt := 15) hx hb dX0_feed_10 (by decide) (fun c1 => ?_) (fun c1 => ?_)
  · replace hf := ite_t c1 hf
    refine lv_aload_n hx hb dX0_feed_15 rfl (lv_at hl 0 rfl) ?_
    refine lv_iload_n hx hb dX0_feed_16 rfl (lv_at hl 1 rfl) ?_
    revert hf
    refine k_pcl (fun U4 h2 hf => ?_)
    refine w_afv hw (w_rV (As := [.int a0]) C hw (ok_X0_four h2) (cw_X0_204 hts (Nat.le_of_ble_eq_true rfl) (Nat.le_of_ble_eq_true rfl)) rfl (by decide) (of_req h2).1 rfl hl.1 rfl (Nat.le_of_ble_eq_true rfl) ⟨Nat.zero_le _, Nat.zero_le _⟩ dX0_feed_17) (fun H locs hw => ?_)
    refine lv_aload_n hx hb dX0_feed_20 rfl (lv_at hl 0 rfl) ?_
    refine lv_iload_n hx hb dX0_feed_21 rfl (lv_at hl 2 rfl) ?_
    revert hf
    refine k_pcl (fun U7 h5 hf => ?_)
    refine w_afv hw (w_rV (As := [.int a1]) C hw (ok_X0_four h5) (cw_X0_204 hts (Nat.le_of_ble_eq_true rfl) (Nat.le_of_ble_eq_true rfl)) rfl (by decide) (of_req h5).1 rfl hl.1 rfl (Nat.le_of_ble_eq_true rfl) ⟨Nat.zero_le _, Nat.zero_le _⟩ dX0_feed_22) (fun H locs hw => ?_)
    refine lv_aload_n hx hb dX0_feed_25 rfl (lv_at hl 0 rfl) ?_
    refine lv_iload_n hx hb dX0_feed_26 rfl (lv_at hl 3 rfl) ?_
    revert hf
    refine k_pcl (fun U10 h8 hf => ?_)
    refine w_afv hw (w_rV (As := [.int a2]) C hw (ok_X0_four h8) (cw_X0_204 hts (Nat.le_of_ble_eq_true rfl) (Nat.le_of_ble_eq_true rfl)) rfl (by decide) (of_req h8).1 rfl hl.1 rfl (Nat.le_of_ble_eq_true rfl) ⟨Nat.zero_le _, Nat.zero_le _⟩ dX0_feed_27) (fun H locs hw => ?_)
    refine lv_aload_n hx hb dX0_feed_30 rfl (lv_at hl 0 rfl) ?_
    refine lv_iload hx hb dX0_feed_31 (lv_at hl 4 rfl) ?_
    revert hf
    refine k_pcl (fun U13 h11 hf => ?_)
    refine w_afv hw (w_rV (As := [.int a3]) C hw (ok_X0_four h11) (cw_X0_204 hts (Nat.le_of_ble_eq_true rfl) (Nat.le_of_ble_eq_true rfl)) rfl (by decide) (of_req h11).1 rfl hl.1 rfl (Nat.le_of_ble_eq_true rfl) ⟨Nat.zero_le _, Nat.zero_le _⟩ dX0_feed_33) (fun H locs hw => ?_)
    refine lv_aload_n hx hb dX0_feed_36 rfl (lv_at hl 0 rfl) ?_
    refine lv_iload hx hb dX0_feed_37 (lv_at hl 5 rfl) ?_
    revert hf
    refine k_pcl (fun U16 h14 hf => ?_)
    refine w_afv hw (w_rV (As := [.int a4]) C hw (ok_X0_four h14) (cw_X0_204 hts (Nat.le_of_ble_eq_true rfl) (Nat.le_of_ble_eq_true rfl)) rfl (by decide) (of_req h14).1 rfl hl.1 rfl (Nat.le_of_ble_eq_true rfl) ⟨Nat.zero_le _, Nat.zero_le _⟩ dX0_feed_39) (fun H locs hw => ?_)
    refine lv_aload_n hx hb dX0_feed_42 rfl (lv_at hl 0 rfl) ?_
    refine gf_X0_201 C hw k0 dX0_feed_43 ?_
    cases hf
    exact w_iret C hr hw dX0_feed_46
  · replace hf := ite_f c1 hf
    refine lv_iconst (v := ((-1) : Int32)) hx hb dX0_feed_13 (by decide) ?_
    cases hf
    exact w_iret C hr hw dX0_feed_14
set_option maxHeartbeats 4000000 in
theorem ok_X0_end {l : Launch} {G : gG} {T : Tt} {V0 : Vt} {o : Nat} {a0 : Int32} {r : Int32} {V' : Vt} (hf : f_X0_end T V0 o a0 = some (r, V')) : okM l G yX0_end cX0_end 2 (some .int) 0 [.ref (gb G + o), .int a0] V0 T (some (.int r)) V' T 0 0 := by
  refine ok_intro (by decide) (Nat.le_of_ble_eq_true rfl) ?_
  intro p e s m below meth c ls C hr hnm hw hl
  have hx := C.1
  have hb := C.2.1
  have hown := C.2.2.2.1
  have hts := C.2.2.2.2.1
  have hl : lv_has ls 2 [(0, .ref (gb G + o)), (1, .int a0)] := hl
  unfold f_X0_end at hf
  revert hf
  refine k_req (fun k0 hf => ?_)
  refine lv_iload_n hx hb dX0_end_0 rfl (lv_at hl 1 rfl) ?_
  refine lv_if_lt (tgt := 12) hx hb dX0_end_1 (by decide) (fun c1 => ?_) (fun c1 => ?_)
  · replace hf := ite_t c1 hf
    refine lv_iconst (v := ((-1) : Int32)) hx hb dX0_end_12 (by decide) ?_
    cases hf
    exact w_iret C hr hw dX0_end_13
  · replace hf := ite_f c1 hf
    refine lv_iload_n hx hb dX0_end_4 rfl (lv_at hl 1 rfl) ?_
    refine lv_aload_n hx hb dX0_end_5 rfl (lv_at hl 0 rfl) ?_
    refine gf_X0_201 C hw k0 dX0_end_6 ?_
    refine lv_icmp_le (tgt := 14) hx hb dX0_end_9 (by decide) (fun c2 => ?_) (fun c2 => ?_)
    · replace hf := ite_t c2 hf
      refine lv_aload_n hx hb dX0_end_14 rfl (lv_at hl 0 rfl) ?_
      refine lv_iload_n hx hb dX0_end_15 rfl (lv_at hl 1 rfl) ?_
      revert hf
      refine k_stp (fun U3 eU3 hf => ?_)
      refine pf_X0_201 C hw k0 eU3 dX0_end_16 (fun H locs hw => ?_)
      refine lv_iload_n hx hb dX0_end_19 rfl (lv_at hl 1 rfl) ?_
      cases hf
      exact w_iret C hr hw dX0_end_20
    · replace hf := ite_f c2 hf
      refine lv_iconst (v := ((-1) : Int32)) hx hb dX0_end_12 (by decide) ?_
      cases hf
      exact w_iret C hr hw dX0_end_13
set_option maxHeartbeats 4000000 in
theorem jk_X0_row_163 {l : Launch} {G : gG} {p : Program} {e : Env} {s : State} {m : MethodId} {args : Array Value} {below : List Frame} {meth : Method} {c : Code} {T : Tt} {V0 : Vt} {r : Int32} {V' : Vt} (C : Cx G p s m args meth c cX0_row RX0 7) (hr : meth.sig.returnType = (some .int)) {x0 : Nat} {x1 : Int32} {x2 : Int32} {x3 : Int32} {s0 : Nat} {s1 : Int32} {s2 : Int32} {kc40 : Int32 → Int32 → Vt → Option (Int32 × Vt)} {kx40_173 : Int32 → Vt → Option (Int32 × Vt)} {H : Heap} {locs : List Loc} {ls : Array Slot} (k0 : T.1 x0 = 1) (hf : f_X0_row_J163 T V0 x0 x1 x2 x3 s0 s1 s2 kc40 kx40_173 = some (r, V')) (hw : wS G V0 T H locs) (hl : lv_has ls 7 [(0, .ref (gb G + x0)), (1, .int x1), (2, .int x2), (3, .int x3)]) (hkc40 : ∀ (y2 : Int32) (y3 : Int32) (W1 : Vt) (H : Heap) (locs : List Loc) (ls : Array Slot), kc40 y2 y3 W1 = some (r, V') → wS G W1 T H locs → lv_has ls 7 [(0, .ref (gb G + x0)), (1, .int x1), (2, .int y2), (3, .int y3)] → W p l e (rmL 2 0 0) s m args below meth c H locs 0 0 (eQ G below (some (.int r)) V' T args s 0 0) (F0 m 40 ls [])) (hkx40_173 : ∀ (y2 : Int32) (W1 : Vt) (H : Heap) (locs : List Loc) (ls : Array Slot), kx40_173 y2 W1 = some (r, V') → wS G W1 T H locs → lv_has ls 7 [(0, .ref (gb G + x0)), (2, .int y2)] → W p l e (rmL 2 0 0) s m args below meth c H locs 0 0 (eQ G below (some (.int r)) V' T args s 0 0) (F0 m 173 ls [])) : W p l e (rmL 2 0 0) s m args below meth c H locs 0 0 (eQ G below (some (.int r)) V' T args s 0 0) (F0 m 163 ls [.int s2, .int s1, .ref (gb G + s0)]) := by
  have hx := C.1
  have hb := C.2.1
  have hown := C.2.2.2.1
  have hts := C.2.2.2.2.1
  unfold f_X0_row_J163 at hf
  refine lv_iadd hx hb dX0_row_163 ?_
  revert hf
  refine k_req (fun k21 hf => ?_)
  revert hf
  refine k_stp (fun U22 eU22 hf => ?_)
  refine pf_X0_208 C hw k21 eU22 dX0_row_164 (fun H locs hw => ?_)
  revert hf
  refine k_stp (fun z23 ez23 hf => ?_)
  refine lv_iinc (k := 3) (lv' := [(3, .int z23), (0, .ref (gb G + x0)), (1, .int x1), (2, .int x2)]) hx hb dX0_row_167 hl rfl (inc_e (by decide) ez23) (by decide) rfl (fun ls hl => ?_)
  refine lv_goto (tgt := 40) hx hb dX0_row_170 (by decide) ?_
  exact hkc40 _ _ _ _ _ _ hf hw (lv_sub hl [1, 2, 3, 0] rfl)
set_option maxHeartbeats 4000000 in
theorem jk_X0_row_146 {l : Launch} {G : gG} {p : Program} {e : Env} {s : State} {m : MethodId} {args : Array Value} {below : List Frame} {meth : Method} {c : Code} {T : Tt} {V0 : Vt} {r : Int32} {V' : Vt} (C : Cx G p s m args meth c cX0_row RX0 7) (hr : meth.sig.returnType = (some .int)) {x0 : Nat} {x1 : Int32} {x3 : Int32} {x6 : Int32} {s0 : Int32} {s1 : Int32} {kc40 : Int32 → Int32 → Vt → Option (Int32 × Vt)} {kx40_173 : Int32 → Vt → Option (Int32 × Vt)} {H : Heap} {locs : List Loc} {ls : Array Slot} (k0 : T.1 x0 = 1) (hf : f_X0_row_J146 T V0 x0 x1 x3 x6 s0 s1 kc40 kx40_173 = some (r, V')) (hw : wS G V0 T H locs) (hl : lv_has ls 7 [(0, .ref (gb G + x0)), (1, .int x1), (3, .int x3), (6, .int x6)]) (hkc40 : ∀ (y2 : Int32) (y3 : Int32) (W1 : Vt) (H : Heap) (locs : List Loc) (ls : Array Slot), kc40 y2 y3 W1 = some (r, V') → wS G W1 T H locs → lv_has ls 7 [(0, .ref (gb G + x0)), (1, .int x1), (2, .int y2), (3, .int y3)] → W p l e (rmL 2 0 0) s m args below meth c H locs 0 0 (eQ G below (some (.int r)) V' T args s 0 0) (F0 m 40 ls [])) (hkx40_173 : ∀ (y2 : Int32) (W1 : Vt) (H : Heap) (locs : List Loc) (ls : Array Slot), kx40_173 y2 W1 = some (r, V') → wS G W1 T H locs → lv_has ls 7 [(0, .ref (gb G + x0)), (2, .int y2)] → W p l e (rmL 2 0 0) s m args below meth c H locs 0 0 (eQ G below (some (.int r)) V' T args s 0 0) (F0 m 173 ls [])) : W p l e (rmL 2 0 0) s m args below meth c H locs 0 0 (eQ G below (some (.int r)) V' T args s 0 0) (F0 m 146 ls [.int s1, .int s0]) := by
  have hx := C.1
  have hb := C.2.1
  have hown := C.2.2.2.1
  have hts := C.2.2.2.2.1
  unfold f_X0_row_J146 at hf
  refine lv_iadd hx hb dX0_row_146 ?_
  revert hf
  refine k_stp (fun z19 ez19 hf => ?_)
  refine w_nmI ez19 ?_
  refine lv_istore_n (lv' := [(2, .int z19), (0, .ref (gb G + x0)), (1, .int x1), (3, .int x3), (6, .int x6)]) hx hb dX0_row_147 rfl hl (by decide) rfl (fun ls hl => ?_)
  refine lv_aload_n hx hb dX0_row_148 rfl (lv_at hl 1 rfl) ?_
  refine lv_dup hx hb dX0_row_149 rfl ?_
  refine gf_X0_208 C hw k0 dX0_row_150 ?_
  refine lv_iload hx hb dX0_row_153 (lv_at hl 4 rfl) ?_
  refine lv_if_eq (tgt := 162) hx hb dX0_row_155 (by decide) (fun c20 => ?_) (fun c20 => ?_)
  · replace hf := ite_t c20 hf
    refine lv_iconst (v := (1 : Int32)) hx hb dX0_row_162 (by decide) ?_
    exact jk_X0_row_163 C hr k0 hf hw (lv_sub hl [1, 2, 0, 3] rfl) hkc40 hkx40_173
  · replace hf := ite_f c20 hf
    refine lv_iconst (v := (0 : Int32)) hx hb dX0_row_158 (by decide) ?_
    refine lv_goto (tgt := 163) hx hb dX0_row_159 (by decide) ?_
    exact jk_X0_row_163 C hr k0 hf hw (lv_sub hl [1, 2, 0, 3] rfl) hkc40 hkx40_173
set_option maxHeartbeats 4000000 in
theorem jk_X0_row_135 {l : Launch} {G : gG} {p : Program} {e : Env} {s : State} {m : MethodId} {args : Array Value} {below : List Frame} {meth : Method} {c : Code} {T : Tt} {V0 : Vt} {r : Int32} {V' : Vt} (C : Cx G p s m args meth c cX0_row RX0 7) (hr : meth.sig.returnType = (some .int)) {x0 : Nat} {x1 : Int32} {x2 : Int32} {x3 : Int32} {x6 : Int32} {kc40 : Int32 → Int32 → Vt → Option (Int32 × Vt)} {kx40_173 : Int32 → Vt → Option (Int32 × Vt)} {H : Heap} {locs : List Loc} {ls : Array Slot} (k0 : T.1 x0 = 1) (hf : f_X0_row_J135 T V0 x0 x1 x2 x3 x6 kc40 kx40_173 = some (r, V')) (hw : wS G V0 T H locs) (hl : lv_has ls 7 [(0, .ref (gb G + x0)), (1, .int x1), (2, .int x2), (3, .int x3), (6, .int x6)]) (hkc40 : ∀ (y2 : Int32) (y3 : Int32) (W1 : Vt) (H : Heap) (locs : List Loc) (ls : Array Slot), kc40 y2 y3 W1 = some (r, V') → wS G W1 T H locs → lv_has ls 7 [(0, .ref (gb G + x0)), (1, .int x1), (2, .int y2), (3, .int y3)] → W p l e (rmL 2 0 0) s m args below meth c H locs 0 0 (eQ G below (some (.int r)) V' T args s 0 0) (F0 m 40 ls [])) (hkx40_173 : ∀ (y2 : Int32) (W1 : Vt) (H : Heap) (locs : List Loc) (ls : Array Slot), kx40_173 y2 W1 = some (r, V') → wS G W1 T H locs → lv_has ls 7 [(0, .ref (gb G + x0)), (2, .int y2)] → W p l e (rmL 2 0 0) s m args below meth c H locs 0 0 (eQ G below (some (.int r)) V' T args s 0 0) (F0 m 173 ls [])) : W p l e (rmL 2 0 0) s m args below meth c H locs 0 0 (eQ G below (some (.int r)) V' T args s 0 0) (F0 m 135 ls []) := by
  have hx := C.1
  have hb := C.2.1
  have hown := C.2.2.2.1
  have hts := C.2.2.2.2.1
  unfold f_X0_row_J135 at hf
  refine lv_iload_n hx hb dX0_row_135 rfl (lv_at hl 2 rfl) ?_
  refine lv_iload hx hb dX0_row_136 (lv_at hl 4 rfl) ?_
  refine lv_if_eq (tgt := 145) hx hb dX0_row_138 (by decide) (fun c18 => ?_) (fun c18 => ?_)
  · replace hf := ite_t c18 hf
    refine lv_iconst (v := (0 : Int32)) hx hb dX0_row_145 (by decide) ?_
    exact jk_X0_row_146 C hr k0 hf hw (lv_sub hl [0, 1, 3, 4] rfl) hkc40 hkx40_173
  · replace hf := ite_f c18 hf
    refine lv_iconst (v := (1 : Int32)) hx hb dX0_row_141 (by decide) ?_
    refine lv_goto (tgt := 146) hx hb dX0_row_142 (by decide) ?_
    exact jk_X0_row_146 C hr k0 hf hw (lv_sub hl [0, 1, 3, 4] rfl) hkc40 hkx40_173
set_option maxHeartbeats 4000000 in
theorem jk_X0_row_113 {l : Launch} {G : gG} {p : Program} {e : Env} {s : State} {m : MethodId} {args : Array Value} {below : List Frame} {meth : Method} {c : Code} {T : Tt} {V0 : Vt} {r : Int32} {V' : Vt} (C : Cx G p s m args meth c cX0_row RX0 7) (hr : meth.sig.returnType = (some .int)) {x0 : Nat} {x1 : Int32} {x2 : Int32} {x3 : Int32} {x4 : Int32} {x5 : Int32} {s0 : Int32} {kc40 : Int32 → Int32 → Vt → Option (Int32 × Vt)} {kx40_173 : Int32 → Vt → Option (Int32 × Vt)} {H : Heap} {locs : List Loc} {ls : Array Slot} (k0 : T.1 x0 = 1) (hf : f_X0_row_J113 T V0 x0 x1 x2 x3 x4 x5 s0 kc40 kx40_173 = some (r, V')) (hw : wS G V0 T H locs) (hl : lv_has ls 7 [(0, .ref (gb G + x0)), (1, .int x1), (2, .int x2), (3, .int x3), (4, .int x4), (5, .int x5)]) (hkc40 : ∀ (y2 : Int32) (y3 : Int32) (W1 : Vt) (H : Heap) (locs : List Loc) (ls : Array Slot), kc40 y2 y3 W1 = some (r, V') → wS G W1 T H locs → lv_has ls 7 [(0, .ref (gb G + x0)), (1, .int x1), (2, .int y2), (3, .int y3)] → W p l e (rmL 2 0 0) s m args below meth c H locs 0 0 (eQ G below (some (.int r)) V' T args s 0 0) (F0 m 40 ls [])) (hkx40_173 : ∀ (y2 : Int32) (W1 : Vt) (H : Heap) (locs : List Loc) (ls : Array Slot), kx40_173 y2 W1 = some (r, V') → wS G W1 T H locs → lv_has ls 7 [(0, .ref (gb G + x0)), (2, .int y2)] → W p l e (rmL 2 0 0) s m args below meth c H locs 0 0 (eQ G below (some (.int r)) V' T args s 0 0) (F0 m 173 ls [])) : W p l e (rmL 2 0 0) s m args below meth c H locs 0 0 (eQ G below (some (.int r)) V' T args s 0 0) (F0 m 113 ls [.int s0]) := by
  have hx := C.1
  have hb := C.2.1
  have hown := C.2.2.2.1
  have hts := C.2.2.2.2.1
  unfold f_X0_row_J113 at hf
  refine lv_istore (lv' := [(6, .int s0), (0, .ref (gb G + x0)), (1, .int x1), (2, .int x2), (3, .int x3), (4, .int x4), (5, .int x5)]) hx hb dX0_row_113 hl (by decide) rfl (fun ls hl => ?_)
  refine lv_iload hx hb dX0_row_115 (lv_at hl 0 rfl) ?_
  refine lv_if_eq (tgt := 135) hx hb dX0_row_117 (by decide) (fun c17 => ?_) (fun c17 => ?_)
  · replace hf := ite_t c17 hf
    exact jk_X0_row_135 C hr k0 hf hw (lv_sub hl [1, 2, 3, 4, 0] rfl) hkc40 hkx40_173
  · replace hf := ite_f c17 hf
    refine lv_aload_n hx hb dX0_row_120 rfl (lv_at hl 1 rfl) ?_
    refine lv_aload_n hx hb dX0_row_121 rfl (lv_at hl 1 rfl) ?_
    revert hf
    refine k_drf (fun r24 er24 hf => ?_)
    refine gf_X0_62 C hw k0 er24 dX0_row_122 ?_
    refine lv_iload_n hx hb dX0_row_125 rfl (lv_at hl 4 rfl) ?_
    revert hf
    refine k_req (fun h25 hf => ?_)
    refine w_bald C hw h25 rfl dX0_row_126 ?_
    refine lv_iload hx hb dX0_row_127 (lv_at hl 5 rfl) ?_
    refine lv_iload hx hb dX0_row_129 (lv_at hl 6 rfl) ?_
    revert hf
    refine k_cal (fun z27 U28 h26 hf => ?_)
    refine w_afi hw (w_rV (As := [.int (V0.1 r24 (ixN x3)), .int x4, .int x5]) C hw (ok_X0_adds h26) (cw_X0_147 hts (Nat.le_of_ble_eq_true rfl) (Nat.le_of_ble_eq_true rfl)) rfl (by decide) (of_req h26).1 rfl hl.1 rfl (Nat.le_of_ble_eq_true rfl) ⟨Nat.zero_le _, Nat.zero_le _⟩ dX0_row_131) (fun H locs hw => ?_)
    refine lv_pop hx hb dX0_row_134 rfl ?_
    exact jk_X0_row_135 C hr k0 hf hw (lv_sub hl [1, 2, 3, 4, 0] rfl) hkc40 hkx40_173
set_option maxHeartbeats 4000000 in
theorem jk_X0_row_112 {l : Launch} {G : gG} {p : Program} {e : Env} {s : State} {m : MethodId} {args : Array Value} {below : List Frame} {meth : Method} {c : Code} {T : Tt} {V0 : Vt} {r : Int32} {V' : Vt} (C : Cx G p s m args meth c cX0_row RX0 7) (hr : meth.sig.returnType = (some .int)) {x0 : Nat} {x1 : Int32} {x2 : Int32} {x3 : Int32} {x4 : Int32} {x5 : Int32} {kc40 : Int32 → Int32 → Vt → Option (Int32 × Vt)} {kx40_173 : Int32 → Vt → Option (Int32 × Vt)} {H : Heap} {locs : List Loc} {ls : Array Slot} (k0 : T.1 x0 = 1) (hf : f_X0_row_J112 T V0 x0 x1 x2 x3 x4 x5 kc40 kx40_173 = some (r, V')) (hw : wS G V0 T H locs) (hl : lv_has ls 7 [(0, .ref (gb G + x0)), (1, .int x1), (2, .int x2), (3, .int x3), (4, .int x4), (5, .int x5)]) (hkc40 : ∀ (y2 : Int32) (y3 : Int32) (W1 : Vt) (H : Heap) (locs : List Loc) (ls : Array Slot), kc40 y2 y3 W1 = some (r, V') → wS G W1 T H locs → lv_has ls 7 [(0, .ref (gb G + x0)), (1, .int x1), (2, .int y2), (3, .int y3)] → W p l e (rmL 2 0 0) s m args below meth c H locs 0 0 (eQ G below (some (.int r)) V' T args s 0 0) (F0 m 40 ls [])) (hkx40_173 : ∀ (y2 : Int32) (W1 : Vt) (H : Heap) (locs : List Loc) (ls : Array Slot), kx40_173 y2 W1 = some (r, V') → wS G W1 T H locs → lv_has ls 7 [(0, .ref (gb G + x0)), (2, .int y2)] → W p l e (rmL 2 0 0) s m args below meth c H locs 0 0 (eQ G below (some (.int r)) V' T args s 0 0) (F0 m 173 ls [])) : W p l e (rmL 2 0 0) s m args below meth c H locs 0 0 (eQ G below (some (.int r)) V' T args s 0 0) (F0 m 112 ls []) := by
  have hx := C.1
  have hb := C.2.1
  have hown := C.2.2.2.1
  have hts := C.2.2.2.2.1
  unfold f_X0_row_J112 at hf
  refine lv_iconst (v := (0 : Int32)) hx hb dX0_row_112 (by decide) ?_
  exact jk_X0_row_113 C hr k0 hf hw (lv_sub hl [0, 1, 2, 3, 4, 5] rfl) hkc40 hkx40_173
set_option maxHeartbeats 4000000 in
theorem lk_X0_row_40 {l : Launch} {G : gG} {p : Program} {e : Env} {s : State} {m : MethodId} {args : Array Value} {below : List Frame} {meth : Method} {c : Code} {T : Tt} {r : Int32} {V' : Vt} (C : Cx G p s m args meth c cX0_row RX0 7) (hr : meth.sig.returnType = (some .int)) {x0 : Nat} {x1 : Int32} {kx40_173 : Int32 → Vt → Option (Int32 × Vt)} (k0 : T.1 x0 = 1) (hkx40_173 : ∀ (y2 : Int32) (W1 : Vt) (H : Heap) (locs : List Loc) (ls : Array Slot), kx40_173 y2 W1 = some (r, V') → wS G W1 T H locs → lv_has ls 7 [(0, .ref (gb G + x0)), (2, .int y2)] → W p l e (rmL 2 0 0) s m args below meth c H locs 0 0 (eQ G below (some (.int r)) V' T args s 0 0) (F0 m 173 ls [])) : ∀ (n : Nat) (x2 : Int32) (x3 : Int32) (V1 : Vt) (H : Heap) (locs : List Loc) (ls : Array Slot), f_X0_row_L40 T x0 x1 kx40_173 n x2 x3 V1 = some (r, V') → wS G V1 T H locs → lv_has ls 7 [(0, .ref (gb G + x0)), (1, .int x1), (2, .int x2), (3, .int x3)] → W p l e (rmL 2 0 0) s m args below meth c H locs 0 0 (eQ G below (some (.int r)) V' T args s 0 0) (F0 m 40 ls []) := by
  have hx := C.1
  have hb := C.2.1
  have hown := C.2.2.2.1
  have hts := C.2.2.2.2.1
  intro n
  induction n with
  | zero =>
    intro x2 x3 V1 H locs ls hf
    cases hf
  | succ n ih =>
    intro x2 x3 V1 H locs ls hf hw hl
    unfold f_X0_row_L40 at hf
    refine lv_iload_n hx hb dX0_row_40 rfl (lv_at hl 3 rfl) ?_
    refine lv_iconst (v := (3 : Int32)) hx hb dX0_row_41 (by decide) ?_
    refine lv_iadd hx hb dX0_row_42 ?_
    refine lv_iload_n hx hb dX0_row_43 rfl (lv_at hl 1 rfl) ?_
    refine lv_icmp_gt (tgt := 173) hx hb dX0_row_44 (by decide) (fun c7 => ?_) (fun c7 => ?_)
    · replace hf := ite_t c7 hf
      exact hkx40_173 _ _ _ _ _ hf hw (lv_sub hl [0, 2] rfl)
    · replace hf := ite_f c7 hf
      refine lv_aload_n hx hb dX0_row_47 rfl (lv_at hl 0 rfl) ?_
      revert hf
      refine k_drf (fun r8 er8 hf => ?_)
      refine gf_X0_62 C hw k0 er8 dX0_row_48 ?_
      refine lv_iload_n hx hb dX0_row_51 rfl (lv_at hl 3 rfl) ?_
      refine lv_iconst (v := (1 : Int32)) hx hb dX0_row_52 (by decide) ?_
      refine lv_iadd hx hb dX0_row_53 ?_
      revert hf
      refine k_req (fun h9 hf => ?_)
      refine w_bald C hw h9 rfl dX0_row_54 ?_
      refine lv_sipush (v := (255 : Int32)) hx hb dX0_row_55 (by decide) ?_
      refine lv_iand hx hb dX0_row_58 ?_
      revert hf
      refine k_stp (fun z10 ez10 hf => ?_)
      refine w_nmI ez10 ?_
      refine lv_istore (lv' := [(4, .int z10), (0, .ref (gb G + x0)), (1, .int x1), (2, .int x2), (3, .int x3)]) hx hb dX0_row_59 hl (by decide) rfl (fun ls hl => ?_)
      refine lv_aload_n hx hb dX0_row_61 rfl (lv_at hl 1 rfl) ?_
      revert hf
      refine k_drf (fun r11 er11 hf => ?_)
      refine gf_X0_62 C hw k0 er11 dX0_row_62 ?_
      refine lv_iload_n hx hb dX0_row_65 rfl (lv_at hl 4 rfl) ?_
      refine lv_iconst (v := (2 : Int32)) hx hb dX0_row_66 (by decide) ?_
      refine lv_iadd hx hb dX0_row_67 ?_
      revert hf
      refine k_req (fun h12 hf => ?_)
      refine w_bald C hw h12 rfl dX0_row_68 ?_
      refine lv_sipush (v := (255 : Int32)) hx hb dX0_row_69 (by decide) ?_
      refine lv_iand hx hb dX0_row_72 ?_
      revert hf
      refine k_stp (fun z13 ez13 hf => ?_)
      refine w_nmI ez13 ?_
      refine lv_istore (lv' := [(5, .int z13), (4, .int z10), (0, .ref (gb G + x0)), (1, .int x1), (2, .int x2), (3, .int x3)]) hx hb dX0_row_73 hl (by decide) rfl (fun ls hl => ?_)
      refine lv_aload_n hx hb dX0_row_75 rfl (lv_at hl 2 rfl) ?_
      revert hf
      refine k_drf (fun r14 er14 hf => ?_)
      refine gf_X0_31 C hw k0 er14 dX0_row_76 ?_
      revert hf
      refine k_req (fun k15 hf => ?_)
      refine gf_X0_105 C hw k15 dX0_row_79 ?_
      refine lv_bipush (v := (8 : Int32)) hx hb dX0_row_82 (by decide) ?_
      refine lv_icmp_ge (tgt := 112) hx hb dX0_row_84 (by decide) (fun c16 => ?_) (fun c16 => ?_)
      · replace hf := ite_t c16 hf
        exact jk_X0_row_112 C hr k0 hf hw (lv_sub hl [2, 3, 4, 5, 1, 0] rfl) ih hkx40_173
      · replace hf := ite_f c16 hf
        refine lv_aload_n hx hb dX0_row_87 rfl (lv_at hl 2 rfl) ?_
        revert hf
        refine k_drf (fun r29 er29 hf => ?_)
        refine gf_X0_62 C hw k0 er29 dX0_row_88 ?_
        refine lv_iload_n hx hb dX0_row_91 rfl (lv_at hl 5 rfl) ?_
        revert hf
        refine k_req (fun h30 hf => ?_)
        refine w_bald C hw h30 rfl dX0_row_92 ?_
        refine lv_iload hx hb dX0_row_93 (lv_at hl 1 rfl) ?_
        revert hf
        refine k_pcl (fun z32 h31 hf => ?_)
        refine w_afi hw (w_rS (As := [.int (V1.1 r29 (ixN x3)), .int z10]) C hw (ok_X0_canCask h31) (cw_X0_143 hts (Nat.le_of_ble_eq_true rfl) (Nat.le_of_ble_eq_true rfl)) rfl hl.1 rfl (Nat.le_of_ble_eq_true rfl) ⟨Nat.zero_le _, Nat.zero_le _⟩ dX0_row_95) (fun H locs hw => ?_)
        refine lv_if_eq (tgt := 112) hx hb dX0_row_98 (by decide) (fun c33 => ?_) (fun c33 => ?_)
        · replace hf := ite_t c33 hf
          exact jk_X0_row_112 C hr k0 hf hw (lv_sub hl [2, 3, 4, 5, 1, 0] rfl) ih hkx40_173
        · replace hf := ite_f c33 hf
          refine lv_iload hx hb dX0_row_101 (lv_at hl 0 rfl) ?_
          refine lv_iload hx hb dX0_row_103 (lv_at hl 1 rfl) ?_
          refine lv_icmp_gt (tgt := 112) hx hb dX0_row_105 (by decide) (fun c34 => ?_) (fun c34 => ?_)
          · replace hf := ite_t c34 hf
            exact jk_X0_row_112 C hr k0 hf hw (lv_sub hl [2, 3, 4, 5, 1, 0] rfl) ih hkx40_173
          · replace hf := ite_f c34 hf
            refine lv_iconst (v := (1 : Int32)) hx hb dX0_row_108 (by decide) ?_
            refine lv_goto (tgt := 113) hx hb dX0_row_109 (by decide) ?_
            exact jk_X0_row_113 C hr k0 hf hw (lv_sub hl [2, 3, 4, 5, 1, 0] rfl) ih hkx40_173
set_option maxHeartbeats 4000000 in
theorem jk_X0_row_35 {l : Launch} {G : gG} {p : Program} {e : Env} {s : State} {m : MethodId} {args : Array Value} {below : List Frame} {meth : Method} {c : Code} {T : Tt} {V0 : Vt} {r : Int32} {V' : Vt} (C : Cx G p s m args meth c cX0_row RX0 7) (hr : meth.sig.returnType = (some .int)) {x0 : Nat} {x1 : Int32} {x2 : Int32} {s0 : Nat} {s1 : Int32} {H : Heap} {locs : List Loc} {ls : Array Slot} (k0 : T.1 x0 = 1) (hf : f_X0_row_J35 T V0 x0 x1 x2 s0 s1 = some (r, V')) (hw : wS G V0 T H locs) (hl : lv_has ls 7 [(0, .ref (gb G + x0)), (1, .int x1), (2, .int x2)]) : W p l e (rmL 2 0 0) s m args below meth c H locs 0 0 (eQ G below (some (.int r)) V' T args s 0 0) (F0 m 35 ls [.int s1, .ref (gb G + s0)]) := by
  have hx := C.1
  have hb := C.2.1
  have hown := C.2.2.2.1
  have hts := C.2.2.2.2.1
  unfold f_X0_row_J35 at hf
  revert hf
  refine k_req (fun k5 hf => ?_)
  revert hf
  refine k_stp (fun U6 eU6 hf => ?_)
  refine pf_X0_208 C hw k5 eU6 dX0_row_35 (fun H locs hw => ?_)
  refine lv_iconst (v := (0 : Int32)) hx hb dX0_row_38 (by decide) ?_
  refine lv_istore_n (lv' := [(3, .int (0 : Int32)), (0, .ref (gb G + x0)), (1, .int x1), (2, .int x2)]) hx hb dX0_row_39 rfl hl (by decide) rfl (fun ls hl => ?_)
  refine lk_X0_row_40 C hr k0 (fun z35 U36 H locs ls hf hw hl => ?_) fuel _ _ _ _ _ _ hf hw (lv_sub hl [1, 2, 3, 0] rfl)
  refine lv_aload_n hx hb dX0_row_173 rfl (lv_at hl 0 rfl) ?_
  refine lv_iload_n hx hb dX0_row_174 rfl (lv_at hl 1 rfl) ?_
  revert hf
  refine k_cal (fun z38 U39 h37 hf => ?_)
  refine w_afi hw (w_rV (As := [.int z35]) C hw (ok_X0_settles h37) (cw_X0_129 hts (Nat.le_of_ble_eq_true rfl) (Nat.le_of_ble_eq_true rfl)) rfl (by decide) (of_req h37).1 rfl hl.1 rfl (Nat.le_of_ble_eq_true rfl) ⟨Nat.zero_le _, Nat.zero_le _⟩ dX0_row_175) (fun H locs hw => ?_)
  cases hf
  exact w_iret C hr hw dX0_row_178
set_option maxHeartbeats 4000000 in
theorem ok_X0_row {l : Launch} {G : gG} {T : Tt} {V0 : Vt} {o : Nat} {r : Int32} {V' : Vt} (hf : f_X0_row T V0 o = some (r, V')) : okM l G yX0_row cX0_row 7 (some .int) 2 [.ref (gb G + o)] V0 T (some (.int r)) V' T 0 0 := by
  refine ok_intro (by decide) (Nat.le_of_ble_eq_true rfl) ?_
  intro p e s m below meth c ls C hr hnm hw hl
  have hx := C.1
  have hb := C.2.1
  have hown := C.2.2.2.1
  have hts := C.2.2.2.2.1
  have hl : lv_has ls 7 [(0, .ref (gb G + o))] := hl
  unfold f_X0_row at hf
  revert hf
  refine k_req (fun k0 hf => ?_)
  refine lv_aload_n hx hb dX0_row_0 rfl (lv_at hl 0 rfl) ?_
  refine gf_X0_201 C hw k0 dX0_row_1 ?_
  revert hf
  refine k_stp (fun z1 ez1 hf => ?_)
  refine w_nmI ez1 ?_
  refine lv_istore_n (lv' := [(1, .int z1), (0, .ref (gb G + o))]) hx hb dX0_row_4 rfl hl (by decide) rfl (fun ls hl => ?_)
  refine lv_aload_n hx hb dX0_row_5 rfl (lv_at hl 1 rfl) ?_
  refine lv_iconst (v := (0 : Int32)) hx hb dX0_row_6 (by decide) ?_
  revert hf
  refine k_stp (fun U2 eU2 hf => ?_)
  refine pf_X0_201 C hw k0 eU2 dX0_row_7 (fun H locs hw => ?_)
  refine lv_iload_n hx hb dX0_row_10 rfl (lv_at hl 0 rfl) ?_
  refine lv_if_ne (tgt := 21) hx hb dX0_row_11 (by decide) (fun c3 => ?_) (fun c3 => ?_)
  · replace hf := ite_f c3 hf
    refine lv_iconst (v := (0 : Int32)) hx hb dX0_row_21 (by decide) ?_
    refine lv_istore_n (lv' := [(2, .int (0 : Int32)), (1, .int z1), (0, .ref (gb G + o))]) hx hb dX0_row_22 rfl hl (by decide) rfl (fun ls hl => ?_)
    refine lv_aload_n hx hb dX0_row_23 rfl (lv_at hl 2 rfl) ?_
    refine lv_iload_n hx hb dX0_row_24 rfl (lv_at hl 1 rfl) ?_
    refine lv_iconst (v := (3 : Int32)) hx hb dX0_row_25 (by decide) ?_
    refine lv_irem hx hb dX0_row_26 (by decide) ?_
    refine lv_if_ne (tgt := 34) hx hb dX0_row_27 (by decide) (fun c4 => ?_) (fun c4 => ?_)
    · replace hf := ite_f c4 hf
      refine lv_iconst (v := (1 : Int32)) hx hb dX0_row_34 (by decide) ?_
      exact jk_X0_row_35 C hr k0 hf hw (lv_sub hl [2, 1, 0] rfl)
    · replace hf := ite_t c4 hf
      refine lv_iconst (v := (0 : Int32)) hx hb dX0_row_30 (by decide) ?_
      refine lv_goto (tgt := 35) hx hb dX0_row_31 (by decide) ?_
      exact jk_X0_row_35 C hr k0 hf hw (lv_sub hl [2, 1, 0] rfl)
  · replace hf := ite_t c3 hf
    refine lv_aload_n hx hb dX0_row_14 rfl (lv_at hl 1 rfl) ?_
    refine lv_bipush (v := ((-6) : Int32)) hx hb dX0_row_15 (by decide) ?_
    revert hf
    refine k_cal (fun z41 U42 h40 hf => ?_)
    refine w_afi hw (w_rV (As := [.int ((-6) : Int32)]) C hw (ok_X0_refuse h40) (cw_X0_122 hts (Nat.le_of_ble_eq_true rfl) (Nat.le_of_ble_eq_true rfl)) rfl (by decide) (of_req h40).1 rfl hl.1 rfl (Nat.le_of_ble_eq_true rfl) ⟨Nat.zero_le _, Nat.zero_le _⟩ dX0_row_17) (fun H locs hw => ?_)
    cases hf
    exact w_iret C hr hw dX0_row_20
set_option maxHeartbeats 4000000 in
theorem ok_X0_leaks {l : Launch} {G : gG} {T : Tt} {V0 : Vt} {o : Nat} {r : Int32} (hf : f_X0_leaks T V0 o = some r) : okM l G yX0_leaks cX0_leaks 1 (some .int) 0 [.ref (gb G + o)] V0 T (some (.int r)) V0 T 0 0 := by
  refine ok_intro (by decide) (Nat.le_of_ble_eq_true rfl) ?_
  intro p e s m below meth c ls C hr hnm hw hl
  have hx := C.1
  have hb := C.2.1
  have hown := C.2.2.2.1
  have hts := C.2.2.2.2.1
  have hl : lv_has ls 1 [(0, .ref (gb G + o))] := hl
  unfold f_X0_leaks at hf
  revert hf
  refine k_req (fun k0 hf => ?_)
  refine lv_aload_n hx hb dX0_leaks_0 rfl (lv_at hl 0 rfl) ?_
  refine gf_X0_208 C hw k0 dX0_leaks_1 ?_
  cases hf
  exact w_iret C hr hw dX0_leaks_4
set_option maxHeartbeats 4000000 in
theorem ok_X0_fault {l : Launch} {G : gG} {T : Tt} {V0 : Vt} {o : Nat} {r : Int32} (hf : f_X0_fault T V0 o = some r) : okM l G yX0_fault cX0_fault 1 (some .int) 0 [.ref (gb G + o)] V0 T (some (.int r)) V0 T 0 0 := by
  refine ok_intro (by decide) (Nat.le_of_ble_eq_true rfl) ?_
  intro p e s m below meth c ls C hr hnm hw hl
  have hx := C.1
  have hb := C.2.1
  have hown := C.2.2.2.1
  have hts := C.2.2.2.2.1
  have hl : lv_has ls 1 [(0, .ref (gb G + o))] := hl
  unfold f_X0_fault at hf
  revert hf
  refine k_req (fun k0 hf => ?_)
  refine lv_aload_n hx hb dX0_fault_0 rfl (lv_at hl 0 rfl) ?_
  refine gf_X0_66 C hw k0 dX0_fault_1 ?_
  cases hf
  exact w_iret C hr hw dX0_fault_4
set_option maxHeartbeats 4000000 in
theorem ok_X0_stopped {l : Launch} {G : gG} {T : Tt} {V0 : Vt} {o : Nat} {r : Int32} (hf : f_X0_stopped T V0 o = some r) : okM l G yX0_stopped cX0_stopped 1 (some .int) 0 [.ref (gb G + o)] V0 T (some (.int r)) V0 T 0 0 := by
  refine ok_intro (by decide) (Nat.le_of_ble_eq_true rfl) ?_
  intro p e s m below meth c ls C hr hnm hw hl
  have hx := C.1
  have hb := C.2.1
  have hown := C.2.2.2.1
  have hts := C.2.2.2.2.1
  have hl : lv_has ls 1 [(0, .ref (gb G + o))] := hl
  unfold f_X0_stopped at hf
  revert hf
  refine k_req (fun k0 hf => ?_)
  refine lv_aload_n hx hb dX0_stopped_0 rfl (lv_at hl 0 rfl) ?_
  refine gf_X0_69 C hw k0 dX0_stopped_1 ?_
  cases hf
  exact w_iret C hr hw dX0_stopped_4
set_option maxHeartbeats 4000000 in
theorem ok_X0_hasRoom {l : Launch} {G : gG} {T : Tt} {V0 : Vt} {o : Nat} {a0 : Nat} {a1 : Int32} {a2 : Int32} {r : Int32} (hf : f_X0_hasRoom T V0 o a0 a1 a2 = some r) : okM l G yX0_hasRoom cX0_hasRoom 4 (some .boolean) 1 [.ref (gb G + o), .ref (gb G + a0), .int a1, .int a2] V0 T (some (.int r)) V0 T 0 0 := by
  refine ok_intro (by decide) (Nat.le_of_ble_eq_true rfl) ?_
  intro p e s m below meth c ls C hr hnm hw hl
  have hx := C.1
  have hb := C.2.1
  have hown := C.2.2.2.1
  have hts := C.2.2.2.2.1
  have hl : lv_has ls 4 [(0, .ref (gb G + o)), (1, .ref (gb G + a0)), (2, .int a1), (3, .int a2)] := hl
  unfold f_X0_hasRoom at hf
  revert hf
  refine k_req (fun k0 hf => ?_)
  refine lv_aload_n hx hb dX0_hasRoom_0 rfl (lv_at hl 1 rfl) ?_
  refine lv_iload_n hx hb dX0_hasRoom_1 rfl (lv_at hl 2 rfl) ?_
  revert hf
  refine k_pcl (fun z2 h1 hf => ?_)
  refine w_afi hw (w_rV (As := [.int a1]) C hw (ok_X2_all h1) (cw_X0_155 hts (Nat.le_of_ble_eq_true rfl) (Nat.le_of_ble_eq_true rfl)) rfl (by decide) (of_req h1).1 rfl hl.1 rfl (Nat.le_of_ble_eq_true rfl) ⟨Nat.zero_le _, Nat.zero_le _⟩ dX0_hasRoom_2) (fun H locs hw => ?_)
  refine lv_iload_n hx hb dX0_hasRoom_5 rfl (lv_at hl 3 rfl) ?_
  refine lv_sipush (v := (1000 : Int32)) hx hb dX0_hasRoom_6 (by decide) ?_
  refine lv_imul hx hb dX0_hasRoom_9 ?_
  refine lv_iadd hx hb dX0_hasRoom_10 ?_
  refine lv_aload_n hx hb dX0_hasRoom_11 rfl (lv_at hl 0 rfl) ?_
  revert hf
  refine k_drf (fun r3 er3 hf => ?_)
  refine gf_X0_31 C hw k0 er3 dX0_hasRoom_12 ?_
  revert hf
  refine k_req (fun k4 hf => ?_)
  revert hf
  refine k_drf (fun r5 er5 hf => ?_)
  refine gf_X0_135 C hw k4 er5 dX0_hasRoom_15 ?_
  refine lv_iload_n hx hb dX0_hasRoom_18 rfl (lv_at hl 2 rfl) ?_
  revert hf
  refine k_req (fun h6 hf => ?_)
  refine w_iald C hw h6 rfl dX0_hasRoom_19 ?_
  refine lv_sipush (v := (1000 : Int32)) hx hb dX0_hasRoom_20 (by decide) ?_
  refine lv_imul hx hb dX0_hasRoom_23 ?_
  refine lv_icmp_gt (tgt := 31) hx hb dX0_hasRoom_24 (by decide) (fun c7 => ?_) (fun c7 => ?_)
  · replace hf := ite_t c7 hf
    refine lv_iconst (v := (0 : Int32)) hx hb dX0_hasRoom_31 (by decide) ?_
    cases hf
    exact w_zret C hr hw (by decide) dX0_hasRoom_32
  · replace hf := ite_f c7 hf
    refine lv_iconst (v := (1 : Int32)) hx hb dX0_hasRoom_27 (by decide) ?_
    refine lv_goto (tgt := 32) hx hb dX0_hasRoom_28 (by decide) ?_
    cases hf
    exact w_zret C hr hw (by decide) dX0_hasRoom_32
set_option maxHeartbeats 4000000 in
theorem ok_X0_checks {l : Launch} {G : gG} {T : Tt} {V0 : Vt} {o : Nat} {a0 : Int32} {a1 : Int32} {r : Int32} (hf : f_X0_checks T V0 o a0 a1 = some r) : okM l G yX0_checks cX0_checks 3 (some .int) 2 [.ref (gb G + o), .int a0, .int a1] V0 T (some (.int r)) V0 T 0 0 := by
  refine ok_intro (by decide) (Nat.le_of_ble_eq_true rfl) ?_
  intro p e s m below meth c ls C hr hnm hw hl
  have hx := C.1
  have hb := C.2.1
  have hown := C.2.2.2.1
  have hts := C.2.2.2.2.1
  have hl : lv_has ls 3 [(0, .ref (gb G + o)), (1, .int a0), (2, .int a1)] := hl
  unfold f_X0_checks at hf
  revert hf
  refine k_req (fun k0 hf => ?_)
  refine lv_iload_n hx hb dX0_checks_0 rfl (lv_at hl 2 rfl) ?_
  refine lv_iconst (v := (1 : Int32)) hx hb dX0_checks_1 (by decide) ?_
  refine lv_sipush (v := (999 : Int32)) hx hb dX0_checks_2 (by decide) ?_
  revert hf
  refine k_pcl (fun z2 h1 hf => ?_)
  refine w_afi hw (w_rS (As := [.int a1, .int (1 : Int32), .int (999 : Int32)]) C hw (ok_X0_in h1) (cw_X0_108 hts (Nat.le_of_ble_eq_true rfl) (Nat.le_of_ble_eq_true rfl)) rfl hl.1 rfl (Nat.le_of_ble_eq_true rfl) ⟨Nat.zero_le _, Nat.zero_le _⟩ dX0_checks_5) (fun H locs hw => ?_)
  refine lv_if_ne (tgt := 15) hx hb dX0_checks_8 (by decide) (fun c3 => ?_) (fun c3 => ?_)
  · replace hf := ite_f c3 hf
    refine lv_aload_n hx hb dX0_checks_15 rfl (lv_at hl 0 rfl) ?_
    refine lv_iload_n hx hb dX0_checks_16 rfl (lv_at hl 1 rfl) ?_
    revert hf
    refine k_pcl (fun z5 h4 hf => ?_)
    refine w_afi hw (w_rV (As := [.int a0]) C hw (ok_X0_isCask h4) (cw_X0_151 hts (Nat.le_of_ble_eq_true rfl) (Nat.le_of_ble_eq_true rfl)) rfl (by decide) (of_req h4).1 rfl hl.1 rfl (Nat.le_of_ble_eq_true rfl) ⟨Nat.zero_le _, Nat.zero_le _⟩ dX0_checks_17) (fun H locs hw => ?_)
    refine lv_if_ne (tgt := 28) hx hb dX0_checks_20 (by decide) (fun c6 => ?_) (fun c6 => ?_)
    · replace hf := ite_f c6 hf
      refine lv_iconst (v := (0 : Int32)) hx hb dX0_checks_28 (by decide) ?_
      cases hf
      exact w_iret C hr hw dX0_checks_29
    · replace hf := ite_t c6 hf
      refine lv_bipush (v := ((-2) : Int32)) hx hb dX0_checks_23 (by decide) ?_
      refine lv_goto (tgt := 29) hx hb dX0_checks_25 (by decide) ?_
      cases hf
      exact w_iret C hr hw dX0_checks_29
  · replace hf := ite_t c3 hf
    refine lv_iconst (v := ((-1) : Int32)) hx hb dX0_checks_11 (by decide) ?_
    refine lv_goto (tgt := 29) hx hb dX0_checks_12 (by decide) ?_
    cases hf
    exact w_iret C hr hw dX0_checks_29
set_option maxHeartbeats 4000000 in
theorem ok_X0_canPour {l : Launch} {G : gG} {T : Tt} {V0 : Vt} {o : Nat} {a0 : Nat} {a1 : Int32} {a2 : Int32} {r : Int32} (hf : f_X0_canPour T V0 o a0 a1 a2 = some r) : okM l G yX0_canPour cX0_canPour 5 (some .int) 3 [.ref (gb G + o), .ref (gb G + a0), .int a1, .int a2] V0 T (some (.int r)) V0 T 0 0 := by
  refine ok_intro (by decide) (Nat.le_of_ble_eq_true rfl) ?_
  intro p e s m below meth c ls C hr hnm hw hl
  have hx := C.1
  have hb := C.2.1
  have hown := C.2.2.2.1
  have hts := C.2.2.2.2.1
  have hl : lv_has ls 5 [(0, .ref (gb G + o)), (1, .ref (gb G + a0)), (2, .int a1), (3, .int a2)] := hl
  unfold f_X0_canPour at hf
  revert hf
  refine k_req (fun k0 hf => ?_)
  refine lv_aload_n hx hb dX0_canPour_0 rfl (lv_at hl 0 rfl) ?_
  refine lv_iload_n hx hb dX0_canPour_1 rfl (lv_at hl 2 rfl) ?_
  refine lv_iload_n hx hb dX0_canPour_2 rfl (lv_at hl 3 rfl) ?_
  revert hf
  refine k_pcl (fun z2 h1 hf => ?_)
  refine w_afi hw (w_rV (As := [.int a1, .int a2]) C hw (ok_X0_checks h1) (cw_X0_287 hts (Nat.le_of_ble_eq_true rfl) (Nat.le_of_ble_eq_true rfl)) rfl (by decide) (of_req h1).1 rfl hl.1 rfl (Nat.le_of_ble_eq_true rfl) ⟨Nat.zero_le _, Nat.zero_le _⟩ dX0_canPour_3) (fun H locs hw => ?_)
  refine lv_istore (lv' := [(4, .int z2), (0, .ref (gb G + o)), (1, .ref (gb G + a0)), (2, .int a1), (3, .int a2)]) hx hb dX0_canPour_6 hl (by decide) rfl (fun ls hl => ?_)
  refine lv_iload hx hb dX0_canPour_8 (lv_at hl 0 rfl) ?_
  refine lv_if_ge (tgt := 18) hx hb dX0_canPour_10 (by decide) (fun c3 => ?_) (fun c3 => ?_)
  · replace hf := ite_t c3 hf
    refine lv_aload_n hx hb dX0_canPour_18 rfl (lv_at hl 1 rfl) ?_
    refine lv_aload_n hx hb dX0_canPour_19 rfl (lv_at hl 2 rfl) ?_
    refine lv_iload_n hx hb dX0_canPour_20 rfl (lv_at hl 3 rfl) ?_
    refine lv_iload_n hx hb dX0_canPour_21 rfl (lv_at hl 4 rfl) ?_
    revert hf
    refine k_pcl (fun z5 h4 hf => ?_)
    refine w_afi hw (w_rV (As := [.ref (gb G + a0), .int a1, .int a2]) C hw (ok_X0_hasRoom h4) (cw_X0_290 hts (Nat.le_of_ble_eq_true rfl) (Nat.le_of_ble_eq_true rfl)) rfl (by decide) (of_req h4).1 rfl hl.1 rfl (Nat.le_of_ble_eq_true rfl) ⟨Nat.zero_le _, Nat.zero_le _⟩ dX0_canPour_22) (fun H locs hw => ?_)
    refine lv_if_eq (tgt := 32) hx hb dX0_canPour_25 (by decide) (fun c6 => ?_) (fun c6 => ?_)
    · replace hf := ite_t c6 hf
      refine lv_bipush (v := ((-3) : Int32)) hx hb dX0_canPour_32 (by decide) ?_
      cases hf
      exact w_iret C hr hw dX0_canPour_34
    · replace hf := ite_f c6 hf
      refine lv_iconst (v := (0 : Int32)) hx hb dX0_canPour_28 (by decide) ?_
      refine lv_goto (tgt := 34) hx hb dX0_canPour_29 (by decide) ?_
      cases hf
      exact w_iret C hr hw dX0_canPour_34
  · replace hf := ite_f c3 hf
    refine lv_iload hx hb dX0_canPour_13 (lv_at hl 0 rfl) ?_
    refine lv_goto (tgt := 34) hx hb dX0_canPour_15 (by decide) ?_
    cases hf
    exact w_iret C hr hw dX0_canPour_34
set_option maxHeartbeats 4000000 in
theorem ok_X0_pours {l : Launch} {G : gG} {T : Tt} {V0 : Vt} {o : Nat} {a0 : Nat} {a1 : Int32} {a2 : Int32} {r : Int32} {V' : Vt} (hf : f_X0_pours T V0 o a0 a1 a2 = some (r, V')) : okM l G yX0_pours cX0_pours 4 (some .int) 2 [.ref (gb G + o), .ref (gb G + a0), .int a1, .int a2] V0 T (some (.int r)) V' T 0 0 := by
  refine ok_intro (by decide) (Nat.le_of_ble_eq_true rfl) ?_
  intro p e s m below meth c ls C hr hnm hw hl
  have hx := C.1
  have hb := C.2.1
  have hown := C.2.2.2.1
  have hts := C.2.2.2.2.1
  have hl : lv_has ls 4 [(0, .ref (gb G + o)), (1, .ref (gb G + a0)), (2, .int a1), (3, .int a2)] := hl
  unfold f_X0_pours at hf
  revert hf
  refine k_req (fun k0 hf => ?_)
  refine lv_aload_n hx hb dX0_pours_0 rfl (lv_at hl 1 rfl) ?_
  revert hf
  refine k_req (fun k1 hf => ?_)
  revert hf
  refine k_drf (fun r2 er2 hf => ?_)
  refine gf_X0_140 C hw k1 er2 dX0_pours_1 ?_
  refine lv_bipush (v := (20 : Int32)) hx hb dX0_pours_4 (by decide) ?_
  refine lv_iload_n hx hb dX0_pours_6 rfl (lv_at hl 2 rfl) ?_
  refine lv_imul hx hb dX0_pours_7 ?_
  refine lv_dup2_11 hx hb dX0_pours_8 rfl rfl ?_
  revert hf
  refine k_req (fun h3 hf => ?_)
  refine w_iald C hw h3 rfl dX0_pours_9 ?_
  refine lv_iload_n hx hb dX0_pours_10 rfl (lv_at hl 3 rfl) ?_
  refine lv_sipush (v := (1000 : Int32)) hx hb dX0_pours_11 (by decide) ?_
  refine lv_imul hx hb dX0_pours_14 ?_
  refine lv_iadd hx hb dX0_pours_15 ?_
  revert hf
  refine k_req (fun h4 hf => ?_)
  revert hf
  refine k_stp (fun U5 eU5 hf => ?_)
  refine w_iast C hw h4 eU5 dX0_pours_16 (fun H locs hw => ?_)
  refine lv_aload_n hx hb dX0_pours_17 rfl (lv_at hl 1 rfl) ?_
  refine lv_iload_n hx hb dX0_pours_18 rfl (lv_at hl 2 rfl) ?_
  revert hf
  refine k_pcl (fun z7 h6 hf => ?_)
  refine w_afi hw (w_rV (As := [.int a1]) C hw (ok_X2_full h6) (cw_X0_265 hts (Nat.le_of_ble_eq_true rfl) (Nat.le_of_ble_eq_true rfl)) rfl (by decide) (of_req h6).1 rfl hl.1 rfl (Nat.le_of_ble_eq_true rfl) ⟨Nat.zero_le _, Nat.zero_le _⟩ dX0_pours_19) (fun H locs hw => ?_)
  cases hf
  exact w_iret C hr hw dX0_pours_22
set_option maxHeartbeats 4000000 in
theorem ok_X0_racks {l : Launch} {G : gG} {T : Tt} {V0 : Vt} {o : Nat} {a0 : Nat} {a1 : Int32} {a2 : Int32} {a3 : Int32} {r : Int32} {V' : Vt} (hf : f_X0_racks T V0 o a0 a1 a2 a3 = some (r, V')) : okM l G yX0_racks cX0_racks 5 (some .int) 2 [.ref (gb G + o), .ref (gb G + a0), .int a1, .int a2, .int a3] V0 T (some (.int r)) V' T 0 0 := by
  refine ok_intro (by decide) (Nat.le_of_ble_eq_true rfl) ?_
  intro p e s m below meth c ls C hr hnm hw hl
  have hx := C.1
  have hb := C.2.1
  have hown := C.2.2.2.1
  have hts := C.2.2.2.2.1
  have hl : lv_has ls 5 [(0, .ref (gb G + o)), (1, .ref (gb G + a0)), (2, .int a1), (3, .int a2), (4, .int a3)] := hl
  unfold f_X0_racks at hf
  revert hf
  refine k_req (fun k0 hf => ?_)
  refine lv_aload_n hx hb dX0_racks_0 rfl (lv_at hl 1 rfl) ?_
  refine lv_iload_n hx hb dX0_racks_1 rfl (lv_at hl 2 rfl) ?_
  refine lv_iload hx hb dX0_racks_2 (lv_at hl 4 rfl) ?_
  refine lv_aload_n hx hb dX0_racks_4 rfl (lv_at hl 0 rfl) ?_
  revert hf
  refine k_drf (fun r1 er1 hf => ?_)
  refine gf_X0_79 C hw k0 er1 dX0_racks_5 ?_
  revert hf
  refine k_pcl (fun U4 h2 hf => ?_)
  refine w_afv hw (w_rV (As := [.int a1, .int a3, .ref (gb G + r1)]) C hw (ok_X2_draws h2) (cw_X0_297 hts (Nat.le_of_ble_eq_true rfl) (Nat.le_of_ble_eq_true rfl)) rfl (by decide) (of_req h2).1 rfl hl.1 rfl (Nat.le_of_ble_eq_true rfl) ⟨Nat.zero_le _, Nat.zero_le _⟩ dX0_racks_8) (fun H locs hw => ?_)
  refine lv_aload_n hx hb dX0_racks_11 rfl (lv_at hl 1 rfl) ?_
  refine lv_iload_n hx hb dX0_racks_12 rfl (lv_at hl 3 rfl) ?_
  refine lv_aload_n hx hb dX0_racks_13 rfl (lv_at hl 0 rfl) ?_
  revert hf
  refine k_drf (fun r5 er5 hf => ?_)
  refine gf_X0_79 C hw k0 er5 dX0_racks_14 ?_
  revert hf
  refine k_pcl (fun U8 h6 hf => ?_)
  refine w_afv hw (w_rV (As := [.int a2, .ref (gb G + r5)]) C hw (ok_X2_comes h6) (cw_X0_301 hts (Nat.le_of_ble_eq_true rfl) (Nat.le_of_ble_eq_true rfl)) rfl (by decide) (of_req h6).1 rfl hl.1 rfl (Nat.le_of_ble_eq_true rfl) ⟨Nat.zero_le _, Nat.zero_le _⟩ dX0_racks_17) (fun H locs hw => ?_)
  refine lv_aload_n hx hb dX0_racks_20 rfl (lv_at hl 1 rfl) ?_
  refine lv_iload_n hx hb dX0_racks_21 rfl (lv_at hl 3 rfl) ?_
  revert hf
  refine k_pcl (fun z10 h9 hf => ?_)
  refine w_afi hw (w_rV (As := [.int a2]) C hw (ok_X2_mean h9) (cw_X0_158 hts (Nat.le_of_ble_eq_true rfl) (Nat.le_of_ble_eq_true rfl)) rfl (by decide) (of_req h9).1 rfl hl.1 rfl (Nat.le_of_ble_eq_true rfl) ⟨Nat.zero_le _, Nat.zero_le _⟩ dX0_racks_22) (fun H locs hw => ?_)
  cases hf
  exact w_iret C hr hw dX0_racks_25
set_option maxHeartbeats 4000000 in
theorem ok_X0_bottles {l : Launch} {G : gG} {T : Tt} {V0 : Vt} {o : Nat} {a0 : Nat} {a1 : Int32} {a2 : Int32} {r : Int32} {V' : Vt} (hf : f_X0_bottles T V0 o a0 a1 a2 = some (r, V')) : okM l G yX0_bottles cX0_bottles 4 (some .int) 2 [.ref (gb G + o), .ref (gb G + a0), .int a1, .int a2] V0 T (some (.int r)) V' T 0 0 := by
  refine ok_intro (by decide) (Nat.le_of_ble_eq_true rfl) ?_
  intro p e s m below meth c ls C hr hnm hw hl
  have hx := C.1
  have hb := C.2.1
  have hown := C.2.2.2.1
  have hts := C.2.2.2.2.1
  have hl : lv_has ls 4 [(0, .ref (gb G + o)), (1, .ref (gb G + a0)), (2, .int a1), (3, .int a2)] := hl
  unfold f_X0_bottles at hf
  revert hf
  refine k_req (fun k0 hf => ?_)
  refine lv_aload_n hx hb dX0_bottles_0 rfl (lv_at hl 1 rfl) ?_
  refine lv_iload_n hx hb dX0_bottles_1 rfl (lv_at hl 2 rfl) ?_
  refine lv_iload_n hx hb dX0_bottles_2 rfl (lv_at hl 3 rfl) ?_
  refine lv_aload_n hx hb dX0_bottles_3 rfl (lv_at hl 0 rfl) ?_
  revert hf
  refine k_drf (fun r1 er1 hf => ?_)
  refine gf_X0_79 C hw k0 er1 dX0_bottles_4 ?_
  revert hf
  refine k_pcl (fun U4 h2 hf => ?_)
  refine w_afv hw (w_rV (As := [.int a1, .int a2, .ref (gb G + r1)]) C hw (ok_X2_draws h2) (cw_X0_297 hts (Nat.le_of_ble_eq_true rfl) (Nat.le_of_ble_eq_true rfl)) rfl (by decide) (of_req h2).1 rfl hl.1 rfl (Nat.le_of_ble_eq_true rfl) ⟨Nat.zero_le _, Nat.zero_le _⟩ dX0_bottles_7) (fun H locs hw => ?_)
  refine lv_aload_n hx hb dX0_bottles_10 rfl (lv_at hl 1 rfl) ?_
  refine lv_ldcw (v := (999999 : Int32)) hx hb hown (hts _ q1334) dX0_bottles_11 ?_
  refine lv_aload_n hx hb dX0_bottles_14 rfl (lv_at hl 1 rfl) ?_
  revert hf
  refine k_req (fun k5 hf => ?_)
  refine gf_X0_306 C hw k5 dX0_bottles_15 ?_
  refine lv_iload_n hx hb dX0_bottles_18 rfl (lv_at hl 3 rfl) ?_
  refine lv_iadd hx hb dX0_bottles_19 ?_
  refine va_mmin hx hb (C.2.2.1.trans hl.1.symm) hown (hts _ q1335) (hts _ q514) (hts _ q145) (hts _ q515) (Nat.le_of_ble_eq_true rfl) (Nat.le_of_ble_eq_true rfl) (Nat.zero_le _) (Nat.zero_le _) dX0_bottles_20 ?_
  revert hf
  refine k_stp (fun U6 eU6 hf => ?_)
  refine pf_X0_306 C hw k5 eU6 dX0_bottles_23 (fun H locs hw => ?_)
  refine lv_aload_n hx hb dX0_bottles_26 rfl (lv_at hl 0 rfl) ?_
  revert hf
  refine k_drf (fun r7 er7 hf => ?_)
  refine gf_X0_79 C hw k0 er7 dX0_bottles_27 ?_
  refine lv_iconst (v := (0 : Int32)) hx hb dX0_bottles_30 (by decide) ?_
  revert hf
  refine k_pcl (fun z9 h8 hf => ?_)
  refine w_afi hw (w_rS (As := [.ref (gb G + r7), .int (0 : Int32)]) C hw (ok_X0_meanOf h8) (cw_X0_311 hts (Nat.le_of_ble_eq_true rfl) (Nat.le_of_ble_eq_true rfl)) rfl hl.1 rfl (Nat.le_of_ble_eq_true rfl) ⟨Nat.zero_le _, Nat.zero_le _⟩ dX0_bottles_31) (fun H locs hw => ?_)
  cases hf
  exact w_iret C hr hw dX0_bottles_34
set_option maxHeartbeats 4000000 in
theorem jk_X0_keeps_76 {l : Launch} {G : gG} {p : Program} {e : Env} {s : State} {m : MethodId} {args : Array Value} {below : List Frame} {meth : Method} {c : Code} {T : Tt} {V0 : Vt} {V' : Vt} (C : Cx G p s m args meth c cX0_keeps RX0 4) (hr : meth.sig.returnType = none) {x0 : Nat} {x1 : Int32} {H : Heap} {locs : List Loc} {ls : Array Slot} (k0 : T.1 x0 = 1) (hf : f_X0_keeps_J76 T V0 x0 x1 = some V') (hw : wS G V0 T H locs) (hl : lv_has ls 4 [(0, .ref (gb G + x0)), (1, .int x1)]) : W p l e (rmL 3 0 0) s m args below meth c H locs 0 0 (eQ G below none V' T args s 0 0) (F0 m 76 ls []) := by
  have hx := C.1
  have hb := C.2.1
  have hown := C.2.2.2.1
  have hts := C.2.2.2.2.1
  unfold f_X0_keeps_J76 at hf
  refine lv_aload_n hx hb dX0_keeps_76 rfl (lv_at hl 0 rfl) ?_
  revert hf
  refine k_drf (fun r2 er2 hf => ?_)
  refine gf_X0_41 C hw k0 er2 dX0_keeps_77 ?_
  refine lv_aload_n hx hb dX0_keeps_80 rfl (lv_at hl 0 rfl) ?_
  refine gf_X0_98 C hw k0 dX0_keeps_81 ?_
  revert hf
  refine k_req (fun h3 hf => ?_)
  revert hf
  refine k_drf (fun r4 er4 hf => ?_)
  refine w_aald (v := .ref (gb G + r4)) C hw (by decide) (by decide) h3 (by rw [er4]; rfl) dX0_keeps_84 ?_
  refine lv_aload_n hx hb dX0_keeps_85 rfl (lv_at hl 0 rfl) ?_
  revert hf
  refine k_pcl (fun r6 h5 hf => ?_)
  refine w_afr hw (w_rV (As := []) C hw (ok_X0_table h5) (cw_X0_137 hts (Nat.le_of_ble_eq_true rfl) (Nat.le_of_ble_eq_true rfl)) rfl (by decide) (of_req h5).1 rfl hl.1 rfl (Nat.le_of_ble_eq_true rfl) ⟨Nat.zero_le _, Nat.zero_le _⟩ dX0_keeps_86) (fun H locs hw => ?_)
  revert hf
  refine k_pcl (fun U9 h7 hf => ?_)
  refine w_afv hw (w_rV (As := [.ref (gb G + r6)]) C hw (ok_X2_takes h7) (cw_X0_318 hts (Nat.le_of_ble_eq_true rfl) (Nat.le_of_ble_eq_true rfl)) rfl (by decide) (of_req h7).1 rfl hl.1 rfl (Nat.le_of_ble_eq_true rfl) ⟨Nat.zero_le _, Nat.zero_le _⟩ dX0_keeps_89) (fun H locs hw => ?_)
  refine lv_aload_n hx hb dX0_keeps_92 rfl (lv_at hl 0 rfl) ?_
  revert hf
  refine k_drf (fun r10 er10 hf => ?_)
  refine gf_X0_48 C hw k0 er10 dX0_keeps_93 ?_
  refine lv_aload_n hx hb dX0_keeps_96 rfl (lv_at hl 0 rfl) ?_
  refine gf_X0_98 C hw k0 dX0_keeps_97 ?_
  refine lv_iload_n hx hb dX0_keeps_100 rfl (lv_at hl 1 rfl) ?_
  revert hf
  refine k_req (fun h11 hf => ?_)
  revert hf
  refine k_stp (fun U12 eU12 hf => ?_)
  refine w_iast C hw h11 eU12 dX0_keeps_101 (fun H locs hw => ?_)
  refine lv_aload_n hx hb dX0_keeps_102 rfl (lv_at hl 0 rfl) ?_
  refine lv_dup hx hb dX0_keeps_103 rfl ?_
  refine gf_X0_98 C hw k0 dX0_keeps_104 ?_
  refine lv_iconst (v := (1 : Int32)) hx hb dX0_keeps_107 (by decide) ?_
  refine lv_iadd hx hb dX0_keeps_108 ?_
  revert hf
  refine k_stp (fun U13 eU13 hf => ?_)
  refine pf_X0_98 C hw k0 eU13 dX0_keeps_109 (fun H locs hw => ?_)
  cases hf
  exact w_vret C hr hw dX0_keeps_112
set_option maxHeartbeats 4000000 in
theorem lk_X0_keeps_18 {l : Launch} {G : gG} {p : Program} {e : Env} {s : State} {m : MethodId} {args : Array Value} {below : List Frame} {meth : Method} {c : Code} {T : Tt} {V' : Vt} (C : Cx G p s m args meth c cX0_keeps RX0 4) (hr : meth.sig.returnType = none) {x0 : Nat} {x1 : Int32} {x2 : Nat} {kx18_58 : Vt → Option (Vt)} (k0 : T.1 x0 = 1) (hkx18_58 : ∀ (W1 : Vt) (H : Heap) (locs : List Loc) (ls : Array Slot), kx18_58 W1 = some V' → wS G W1 T H locs → lv_has ls 4 [(0, .ref (gb G + x0)), (1, .int x1), (2, .ref (gb G + x2))] → W p l e (rmL 3 0 0) s m args below meth c H locs 0 0 (eQ G below none V' T args s 0 0) (F0 m 58 ls [])) : ∀ (n : Nat) (x3 : Int32) (V1 : Vt) (H : Heap) (locs : List Loc) (ls : Array Slot), f_X0_keeps_L18 T x0 x1 x2 kx18_58 n x3 V1 = some V' → wS G V1 T H locs → lv_has ls 4 [(0, .ref (gb G + x0)), (1, .int x1), (2, .ref (gb G + x2)), (3, .int x3)] → W p l e (rmL 3 0 0) s m args below meth c H locs 0 0 (eQ G below none V' T args s 0 0) (F0 m 18 ls []) := by
  have hx := C.1
  have hb := C.2.1
  have hown := C.2.2.2.1
  have hts := C.2.2.2.2.1
  intro n
  induction n with
  | zero =>
    intro x3 V1 H locs ls hf
    cases hf
  | succ n ih =>
    intro x3 V1 H locs ls hf hw hl
    unfold f_X0_keeps_L18 at hf
    refine lv_iload_n hx hb dX0_keeps_18 rfl (lv_at hl 3 rfl) ?_
    refine lv_bipush (v := (16 : Int32)) hx hb dX0_keeps_19 (by decide) ?_
    refine lv_icmp_ge (tgt := 58) hx hb dX0_keeps_21 (by decide) (fun c17 => ?_) (fun c17 => ?_)
    · replace hf := ite_t c17 hf
      exact hkx18_58 _ _ _ _ hf hw (lv_sub hl [0, 1, 2] rfl)
    · replace hf := ite_f c17 hf
      refine lv_aload_n hx hb dX0_keeps_24 rfl (lv_at hl 0 rfl) ?_
      revert hf
      refine k_drf (fun r18 er18 hf => ?_)
      refine gf_X0_41 C hw k0 er18 dX0_keeps_25 ?_
      refine lv_iload_n hx hb dX0_keeps_28 rfl (lv_at hl 3 rfl) ?_
      refine lv_iconst (v := (1 : Int32)) hx hb dX0_keeps_29 (by decide) ?_
      refine lv_isub hx hb dX0_keeps_30 ?_
      refine lv_aload_n hx hb dX0_keeps_31 rfl (lv_at hl 0 rfl) ?_
      revert hf
      refine k_drf (fun r19 er19 hf => ?_)
      refine gf_X0_41 C hw k0 er19 dX0_keeps_32 ?_
      refine lv_iload_n hx hb dX0_keeps_35 rfl (lv_at hl 3 rfl) ?_
      revert hf
      refine k_req (fun h20 hf => ?_)
      revert hf
      refine k_drf (fun r21 er21 hf => ?_)
      refine w_aald (v := .ref (gb G + r21)) C hw (by decide) (by decide) h20 (by rw [er21]; rfl) dX0_keeps_36 ?_
      revert hf
      refine k_req (fun h22 hf => ?_)
      revert hf
      refine k_req (fun h23 hf => ?_)
      revert hf
      refine k_stp (fun U24 eU24 hf => ?_)
      refine w_aast5 C hw h22 h23 eU24 dX0_keeps_37 (fun H locs hw => ?_)
      refine lv_aload_n hx hb dX0_keeps_38 rfl (lv_at hl 0 rfl) ?_
      revert hf
      refine k_drf (fun r25 er25 hf => ?_)
      refine gf_X0_48 C hw k0 er25 dX0_keeps_39 ?_
      refine lv_iload_n hx hb dX0_keeps_42 rfl (lv_at hl 3 rfl) ?_
      refine lv_iconst (v := (1 : Int32)) hx hb dX0_keeps_43 (by decide) ?_
      refine lv_isub hx hb dX0_keeps_44 ?_
      refine lv_aload_n hx hb dX0_keeps_45 rfl (lv_at hl 0 rfl) ?_
      revert hf
      refine k_drf (fun r26 er26 hf => ?_)
      refine gf_X0_48 C hw k0 er26 dX0_keeps_46 ?_
      refine lv_iload_n hx hb dX0_keeps_49 rfl (lv_at hl 3 rfl) ?_
      revert hf
      refine k_req (fun h27 hf => ?_)
      refine w_iald C hw h27 rfl dX0_keeps_50 ?_
      revert hf
      refine k_req (fun h28 hf => ?_)
      revert hf
      refine k_stp (fun U29 eU29 hf => ?_)
      refine w_iast C hw h28 eU29 dX0_keeps_51 (fun H locs hw => ?_)
      revert hf
      refine k_stp (fun z30 ez30 hf => ?_)
      refine lv_iinc (k := 3) (lv' := [(3, .int z30), (0, .ref (gb G + x0)), (1, .int x1), (2, .ref (gb G + x2))]) hx hb dX0_keeps_52 hl rfl (inc_e (by decide) ez30) (by decide) rfl (fun ls hl => ?_)
      refine lv_goto (tgt := 18) hx hb dX0_keeps_55 (by decide) ?_
      exact ih _ _ _ _ _ hf hw (lv_sub hl [1, 2, 3, 0] rfl)
set_option maxHeartbeats 4000000 in
theorem ok_X0_keeps {l : Launch} {G : gG} {T : Tt} {V0 : Vt} {o : Nat} {a0 : Int32} {V' : Vt} (hf : f_X0_keeps T V0 o a0 = some V') : okM l G yX0_keeps cX0_keeps 4 none 3 [.ref (gb G + o), .int a0] V0 T none V' T 0 0 := by
  refine ok_intro (by decide) (Nat.le_of_ble_eq_true rfl) ?_
  intro p e s m below meth c ls C hr hnm hw hl
  have hx := C.1
  have hb := C.2.1
  have hown := C.2.2.2.1
  have hts := C.2.2.2.2.1
  have hl : lv_has ls 4 [(0, .ref (gb G + o)), (1, .int a0)] := hl
  unfold f_X0_keeps at hf
  revert hf
  refine k_req (fun k0 hf => ?_)
  refine lv_aload_n hx hb dX0_keeps_0 rfl (lv_at hl 0 rfl) ?_
  refine gf_X0_98 C hw k0 dX0_keeps_1 ?_
  refine lv_bipush (v := (16 : Int32)) hx hb dX0_keeps_4 (by decide) ?_
  refine lv_icmp_ne (tgt := 76) hx hb dX0_keeps_6 (by decide) (fun c1 => ?_) (fun c1 => ?_)
  · replace hf := ite_f c1 hf
    exact jk_X0_keeps_76 C hr k0 hf hw (lv_sub hl [0, 1] rfl)
  · replace hf := ite_t c1 hf
    refine lv_aload_n hx hb dX0_keeps_9 rfl (lv_at hl 0 rfl) ?_
    revert hf
    refine k_drf (fun r14 er14 hf => ?_)
    refine gf_X0_41 C hw k0 er14 dX0_keeps_10 ?_
    refine lv_iconst (v := (0 : Int32)) hx hb dX0_keeps_13 (by decide) ?_
    revert hf
    refine k_req (fun h15 hf => ?_)
    revert hf
    refine k_drf (fun r16 er16 hf => ?_)
    refine w_aald (v := .ref (gb G + r16)) C hw (by decide) (by decide) h15 (by rw [er16]; rfl) dX0_keeps_14 ?_
    refine lv_astore_n (lv' := [(2, .ref (gb G + r16)), (0, .ref (gb G + o)), (1, .int a0)]) hx hb dX0_keeps_15 rfl hl (by decide) rfl (fun ls hl => ?_)
    refine lv_iconst (v := (1 : Int32)) hx hb dX0_keeps_16 (by decide) ?_
    refine lv_istore_n (lv' := [(3, .int (1 : Int32)), (2, .ref (gb G + r16)), (0, .ref (gb G + o)), (1, .int a0)]) hx hb dX0_keeps_17 rfl hl (by decide) rfl (fun ls hl => ?_)
    refine lk_X0_keeps_18 C hr k0 (fun U31 H locs ls hf hw hl => ?_) fuel _ _ _ _ _ hf hw (lv_sub hl [2, 3, 1, 0] rfl)
    refine lv_aload_n hx hb dX0_keeps_58 rfl (lv_at hl 0 rfl) ?_
    revert hf
    refine k_drf (fun r32 er32 hf => ?_)
    refine gf_X0_41 C hw k0 er32 dX0_keeps_59 ?_
    refine lv_bipush (v := (15 : Int32)) hx hb dX0_keeps_62 (by decide) ?_
    refine lv_aload_n hx hb dX0_keeps_64 rfl (lv_at hl 2 rfl) ?_
    revert hf
    refine k_req (fun h33 hf => ?_)
    revert hf
    refine k_req (fun h34 hf => ?_)
    revert hf
    refine k_stp (fun U35 eU35 hf => ?_)
    refine w_aast5 C hw h33 h34 eU35 dX0_keeps_65 (fun H locs hw => ?_)
    refine lv_aload_n hx hb dX0_keeps_66 rfl (lv_at hl 0 rfl) ?_
    refine lv_dup hx hb dX0_keeps_67 rfl ?_
    refine gf_X0_98 C hw k0 dX0_keeps_68 ?_
    refine lv_iconst (v := (1 : Int32)) hx hb dX0_keeps_71 (by decide) ?_
    refine lv_isub hx hb dX0_keeps_72 ?_
    revert hf
    refine k_stp (fun U36 eU36 hf => ?_)
    refine pf_X0_98 C hw k0 eU36 dX0_keeps_73 (fun H locs hw => ?_)
    exact jk_X0_keeps_76 C hr k0 hf hw (lv_sub hl [0, 1] rfl)
set_option maxHeartbeats 4000000 in
theorem ok_X0_poursKept {l : Launch} {G : gG} {T : Tt} {V0 : Vt} {o : Nat} {a0 : Int32} {a1 : Int32} {r : Int32} {V' : Vt} (hf : f_X0_poursKept T V0 o a0 a1 = some (r, V')) : okM l G yX0_poursKept cX0_poursKept 4 (some .int) 4 [.ref (gb G + o), .int a0, .int a1] V0 T (some (.int r)) V' T 0 0 := by
  refine ok_intro (by decide) (Nat.le_of_ble_eq_true rfl) ?_
  intro p e s m below meth c ls C hr hnm hw hl
  have hx := C.1
  have hb := C.2.1
  have hown := C.2.2.2.1
  have hts := C.2.2.2.2.1
  have hl : lv_has ls 4 [(0, .ref (gb G + o)), (1, .int a0), (2, .int a1)] := hl
  unfold f_X0_poursKept at hf
  revert hf
  refine k_req (fun k0 hf => ?_)
  refine lv_aload_n hx hb dX0_poursKept_0 rfl (lv_at hl 0 rfl) ?_
  refine lv_aload_n hx hb dX0_poursKept_1 rfl (lv_at hl 0 rfl) ?_
  revert hf
  refine k_pcl (fun r2 h1 hf => ?_)
  refine w_afr hw (w_rV (As := []) C hw (ok_X0_table h1) (cw_X0_137 hts (Nat.le_of_ble_eq_true rfl) (Nat.le_of_ble_eq_true rfl)) rfl (by decide) (of_req h1).1 rfl hl.1 rfl (Nat.le_of_ble_eq_true rfl) ⟨Nat.zero_le _, Nat.zero_le _⟩ dX0_poursKept_2) (fun H locs hw => ?_)
  refine lv_iload_n hx hb dX0_poursKept_5 rfl (lv_at hl 1 rfl) ?_
  refine lv_iload_n hx hb dX0_poursKept_6 rfl (lv_at hl 2 rfl) ?_
  revert hf
  refine k_pcl (fun z4 h3 hf => ?_)
  refine w_afi hw (w_rV (As := [.ref (gb G + r2), .int a0, .int a1]) C hw (ok_X0_canPour h3) (cw_X0_321 hts (Nat.le_of_ble_eq_true rfl) (Nat.le_of_ble_eq_true rfl)) rfl (by decide) (of_req h3).1 rfl hl.1 rfl (Nat.le_of_ble_eq_true rfl) ⟨Nat.zero_le _, Nat.zero_le _⟩ dX0_poursKept_7) (fun H locs hw => ?_)
  refine lv_istore_n (lv' := [(3, .int z4), (0, .ref (gb G + o)), (1, .int a0), (2, .int a1)]) hx hb dX0_poursKept_10 rfl hl (by decide) rfl (fun ls hl => ?_)
  refine lv_iload_n hx hb dX0_poursKept_11 rfl (lv_at hl 0 rfl) ?_
  refine lv_if_ge (tgt := 17) hx hb dX0_poursKept_12 (by decide) (fun c5 => ?_) (fun c5 => ?_)
  · replace hf := ite_t c5 hf
    refine lv_aload_n hx hb dX0_poursKept_17 rfl (lv_at hl 1 rfl) ?_
    refine lv_iconst (v := (0 : Int32)) hx hb dX0_poursKept_18 (by decide) ?_
    revert hf
    refine k_pcl (fun U8 h6 hf => ?_)
    refine w_afv hw (w_rV (As := [.int (0 : Int32)]) C hw (ok_X0_keeps h6) (cw_X0_325 hts (Nat.le_of_ble_eq_true rfl) (Nat.le_of_ble_eq_true rfl)) rfl (by decide) (of_req h6).1 rfl hl.1 rfl (Nat.le_of_ble_eq_true rfl) ⟨Nat.zero_le _, Nat.zero_le _⟩ dX0_poursKept_19) (fun H locs hw => ?_)
    refine lv_aload_n hx hb dX0_poursKept_22 rfl (lv_at hl 1 rfl) ?_
    refine lv_aload_n hx hb dX0_poursKept_23 rfl (lv_at hl 1 rfl) ?_
    revert hf
    refine k_pcl (fun r10 h9 hf => ?_)
    refine w_afr hw (w_rV (As := []) C hw (ok_X0_table h9) (cw_X0_137 hts (Nat.le_of_ble_eq_true rfl) (Nat.le_of_ble_eq_true rfl)) rfl (by decide) (of_req h9).1 rfl hl.1 rfl (Nat.le_of_ble_eq_true rfl) ⟨Nat.zero_le _, Nat.zero_le _⟩ dX0_poursKept_24) (fun H locs hw => ?_)
    refine lv_iload_n hx hb dX0_poursKept_27 rfl (lv_at hl 2 rfl) ?_
    refine lv_iload_n hx hb dX0_poursKept_28 rfl (lv_at hl 3 rfl) ?_
    revert hf
    refine k_cal (fun z12 U13 h11 hf => ?_)
    refine w_afi hw (w_rV (As := [.ref (gb G + r10), .int a0, .int a1]) C hw (ok_X0_pours h11) (cw_X0_328 hts (Nat.le_of_ble_eq_true rfl) (Nat.le_of_ble_eq_true rfl)) rfl (by decide) (of_req h11).1 rfl hl.1 rfl (Nat.le_of_ble_eq_true rfl) ⟨Nat.zero_le _, Nat.zero_le _⟩ dX0_poursKept_29) (fun H locs hw => ?_)
    cases hf
    exact w_iret C hr hw dX0_poursKept_32
  · replace hf := ite_f c5 hf
    refine lv_iload_n hx hb dX0_poursKept_15 rfl (lv_at hl 0 rfl) ?_
    cases hf
    exact w_iret C hr hw dX0_poursKept_16
set_option maxHeartbeats 4000000 in
theorem ok_X0_doneOr {l : Launch} {G : gG} {T : Tt} {V0 : Vt} {o : Nat} {a0 : Int32} {r : Int32} {V' : Vt} (hf : f_X0_doneOr T V0 o a0 = some (r, V')) : okM l G yX0_doneOr cX0_doneOr 2 (some .int) 1 [.ref (gb G + o), .int a0] V0 T (some (.int r)) V' T 0 0 := by
  refine ok_intro (by decide) (Nat.le_of_ble_eq_true rfl) ?_
  intro p e s m below meth c ls C hr hnm hw hl
  have hx := C.1
  have hb := C.2.1
  have hown := C.2.2.2.1
  have hts := C.2.2.2.2.1
  have hl : lv_has ls 2 [(0, .ref (gb G + o)), (1, .int a0)] := hl
  unfold f_X0_doneOr at hf
  revert hf
  refine k_req (fun k0 hf => ?_)
  refine lv_iload_n hx hb dX0_doneOr_0 rfl (lv_at hl 1 rfl) ?_
  refine lv_if_ge (tgt := 12) hx hb dX0_doneOr_1 (by decide) (fun c1 => ?_) (fun c1 => ?_)
  · replace hf := ite_t c1 hf
    refine lv_aload_n hx hb dX0_doneOr_12 rfl (lv_at hl 0 rfl) ?_
    refine lv_iload_n hx hb dX0_doneOr_13 rfl (lv_at hl 1 rfl) ?_
    revert hf
    refine k_cal (fun z3 U4 h2 hf => ?_)
    refine w_afi hw (w_rV (As := [.int a0]) C hw (ok_X0_done h2) (cw_X0_101 hts (Nat.le_of_ble_eq_true rfl) (Nat.le_of_ble_eq_true rfl)) rfl (by decide) (of_req h2).1 rfl hl.1 rfl (Nat.le_of_ble_eq_true rfl) ⟨Nat.zero_le _, Nat.zero_le _⟩ dX0_doneOr_14) (fun H locs hw => ?_)
    cases hf
    exact w_iret C hr hw dX0_doneOr_17
  · replace hf := ite_f c1 hf
    refine lv_aload_n hx hb dX0_doneOr_4 rfl (lv_at hl 0 rfl) ?_
    refine lv_iload_n hx hb dX0_doneOr_5 rfl (lv_at hl 1 rfl) ?_
    revert hf
    refine k_cal (fun z6 U7 h5 hf => ?_)
    refine w_afi hw (w_rV (As := [.int a0]) C hw (ok_X0_refuse h5) (cw_X0_122 hts (Nat.le_of_ble_eq_true rfl) (Nat.le_of_ble_eq_true rfl)) rfl (by decide) (of_req h5).1 rfl hl.1 rfl (Nat.le_of_ble_eq_true rfl) ⟨Nat.zero_le _, Nat.zero_le _⟩ dX0_doneOr_6) (fun H locs hw => ?_)
    refine lv_goto (tgt := 17) hx hb dX0_doneOr_9 (by decide) ?_
    cases hf
    exact w_iret C hr hw dX0_doneOr_17
set_option maxHeartbeats 4000000 in
theorem ok_X0_pour {l : Launch} {G : gG} {T : Tt} {V0 : Vt} {o : Nat} {a0 : Int32} {a1 : Int32} {r : Int32} {V' : Vt} (hf : f_X0_pour T V0 o a0 a1 = some (r, V')) : okM l G yX0_pour cX0_pour 3 (some .int) 5 [.ref (gb G + o), .int a0, .int a1] V0 T (some (.int r)) V' T 0 0 := by
  refine ok_intro (by decide) (Nat.le_of_ble_eq_true rfl) ?_
  intro p e s m below meth c ls C hr hnm hw hl
  have hx := C.1
  have hb := C.2.1
  have hown := C.2.2.2.1
  have hts := C.2.2.2.2.1
  have hl : lv_has ls 3 [(0, .ref (gb G + o)), (1, .int a0), (2, .int a1)] := hl
  unfold f_X0_pour at hf
  revert hf
  refine k_req (fun k0 hf => ?_)
  refine lv_aload_n hx hb dX0_pour_0 rfl (lv_at hl 0 rfl) ?_
  refine lv_aload_n hx hb dX0_pour_1 rfl (lv_at hl 0 rfl) ?_
  refine lv_iload_n hx hb dX0_pour_2 rfl (lv_at hl 1 rfl) ?_
  refine lv_iload_n hx hb dX0_pour_3 rfl (lv_at hl 2 rfl) ?_
  revert hf
  refine k_cal (fun z2 U3 h1 hf => ?_)
  refine w_afi hw (w_rV (As := [.int a0, .int a1]) C hw (ok_X0_poursKept h1) (cw_X0_348 hts (Nat.le_of_ble_eq_true rfl) (Nat.le_of_ble_eq_true rfl)) rfl (by decide) (of_req h1).1 rfl hl.1 rfl (Nat.le_of_ble_eq_true rfl) ⟨Nat.zero_le _, Nat.zero_le _⟩ dX0_pour_4) (fun H locs hw => ?_)
  revert hf
  refine k_cal (fun z5 U6 h4 hf => ?_)
  refine w_afi hw (w_rV (As := [.int z2]) C hw (ok_X0_doneOr h4) (cw_X0_351 hts (Nat.le_of_ble_eq_true rfl) (Nat.le_of_ble_eq_true rfl)) rfl (by decide) (of_req h4).1 rfl hl.1 rfl (Nat.le_of_ble_eq_true rfl) ⟨Nat.zero_le _, Nat.zero_le _⟩ dX0_pour_7) (fun H locs hw => ?_)
  cases hf
  exact w_iret C hr hw dX0_pour_10
set_option maxHeartbeats 4000000 in
theorem ok_X0_undo {l : Launch} {G : gG} {T : Tt} {V0 : Vt} {o : Nat} {r : Int32} {V' : Vt} (hf : f_X0_undo T V0 o = some (r, V')) : okM l G yX0_undo cX0_undo 1 (some .int) 3 [.ref (gb G + o)] V0 T (some (.int r)) V' T 0 0 := by
  refine ok_intro (by decide) (Nat.le_of_ble_eq_true rfl) ?_
  intro p e s m below meth c ls C hr hnm hw hl
  have hx := C.1
  have hb := C.2.1
  have hown := C.2.2.2.1
  have hts := C.2.2.2.2.1
  have hl : lv_has ls 1 [(0, .ref (gb G + o))] := hl
  unfold f_X0_undo at hf
  revert hf
  refine k_req (fun k0 hf => ?_)
  refine lv_aload_n hx hb dX0_undo_0 rfl (lv_at hl 0 rfl) ?_
  refine gf_X0_98 C hw k0 dX0_undo_1 ?_
  refine lv_if_ne (tgt := 14) hx hb dX0_undo_4 (by decide) (fun c1 => ?_) (fun c1 => ?_)
  · replace hf := ite_f c1 hf
    refine lv_aload_n hx hb dX0_undo_14 rfl (lv_at hl 0 rfl) ?_
    refine lv_dup hx hb dX0_undo_15 rfl ?_
    refine gf_X0_98 C hw k0 dX0_undo_16 ?_
    refine lv_iconst (v := (1 : Int32)) hx hb dX0_undo_19 (by decide) ?_
    refine lv_isub hx hb dX0_undo_20 ?_
    revert hf
    refine k_stp (fun U2 eU2 hf => ?_)
    refine pf_X0_98 C hw k0 eU2 dX0_undo_21 (fun H locs hw => ?_)
    refine lv_aload_n hx hb dX0_undo_24 rfl (lv_at hl 0 rfl) ?_
    revert hf
    refine k_pcl (fun r4 h3 hf => ?_)
    refine w_afr hw (w_rV (As := []) C hw (ok_X0_table h3) (cw_X0_137 hts (Nat.le_of_ble_eq_true rfl) (Nat.le_of_ble_eq_true rfl)) rfl (by decide) (of_req h3).1 rfl hl.1 rfl (Nat.le_of_ble_eq_true rfl) ⟨Nat.zero_le _, Nat.zero_le _⟩ dX0_undo_25) (fun H locs hw => ?_)
    refine lv_aload_n hx hb dX0_undo_28 rfl (lv_at hl 0 rfl) ?_
    revert hf
    refine k_drf (fun r5 er5 hf => ?_)
    refine gf_X0_41 C hw k0 er5 dX0_undo_29 ?_
    refine lv_aload_n hx hb dX0_undo_32 rfl (lv_at hl 0 rfl) ?_
    refine gf_X0_98 C hw k0 dX0_undo_33 ?_
    revert hf
    refine k_req (fun h6 hf => ?_)
    revert hf
    refine k_drf (fun r7 er7 hf => ?_)
    refine w_aald (v := .ref (gb G + r7)) C hw (by decide) (by decide) h6 (by rw [er7]; rfl) dX0_undo_36 ?_
    revert hf
    refine k_pcl (fun U10 h8 hf => ?_)
    refine w_afv hw (w_rV (As := [.ref (gb G + r7)]) C hw (ok_X2_takes h8) (cw_X0_318 hts (Nat.le_of_ble_eq_true rfl) (Nat.le_of_ble_eq_true rfl)) rfl (by decide) (of_req h8).1 rfl hl.1 rfl (Nat.le_of_ble_eq_true rfl) ⟨Nat.zero_le _, Nat.zero_le _⟩ dX0_undo_37) (fun H locs hw => ?_)
    refine lv_aload_n hx hb dX0_undo_40 rfl (lv_at hl 0 rfl) ?_
    refine lv_aload_n hx hb dX0_undo_41 rfl (lv_at hl 0 rfl) ?_
    revert hf
    refine k_drf (fun r11 er11 hf => ?_)
    refine gf_X0_48 C hw k0 er11 dX0_undo_42 ?_
    refine lv_aload_n hx hb dX0_undo_45 rfl (lv_at hl 0 rfl) ?_
    refine gf_X0_98 C hw k0 dX0_undo_46 ?_
    revert hf
    refine k_req (fun h12 hf => ?_)
    refine w_iald C hw h12 rfl dX0_undo_49 ?_
    revert hf
    refine k_cal (fun z14 U15 h13 hf => ?_)
    refine w_afi hw (w_rV (As := [.int (U10.1 r11 (ixN (U10.1 o 15)))]) C hw (ok_X0_done h13) (cw_X0_101 hts (Nat.le_of_ble_eq_true rfl) (Nat.le_of_ble_eq_true rfl)) rfl (by decide) (of_req h13).1 rfl hl.1 rfl (Nat.le_of_ble_eq_true rfl) ⟨Nat.zero_le _, Nat.zero_le _⟩ dX0_undo_50) (fun H locs hw => ?_)
    cases hf
    exact w_iret C hr hw dX0_undo_53
  · replace hf := ite_t c1 hf
    refine lv_aload_n hx hb dX0_undo_7 rfl (lv_at hl 0 rfl) ?_
    refine lv_bipush (v := ((-3) : Int32)) hx hb dX0_undo_8 (by decide) ?_
    revert hf
    refine k_cal (fun z17 U18 h16 hf => ?_)
    refine w_afi hw (w_rV (As := [.int ((-3) : Int32)]) C hw (ok_X0_refuse h16) (cw_X0_122 hts (Nat.le_of_ble_eq_true rfl) (Nat.le_of_ble_eq_true rfl)) rfl (by decide) (of_req h16).1 rfl hl.1 rfl (Nat.le_of_ble_eq_true rfl) ⟨Nat.zero_le _, Nat.zero_le _⟩ dX0_undo_10) (fun H locs hw => ?_)
    cases hf
    exact w_iret C hr hw dX0_undo_13
set_option maxHeartbeats 4000000 in
theorem jk_X0_factOf_46 {l : Launch} {G : gG} {p : Program} {e : Env} {s : State} {m : MethodId} {args : Array Value} {below : List Frame} {meth : Method} {c : Code} {T : Tt} {V0 : Vt} {r : Int32} (C : Cx G p s m args meth c cX0_factOf RX0 4) (hr : meth.sig.returnType = (some .int)) {s0 : Int32} {H : Heap} {locs : List Loc} {ls : Array Slot} (hf : f_X0_factOf_J46 T V0 s0 = some r) (hw : wS G V0 T H locs) (hl : lv_has ls 4 []) : W p l e (rmL 3 0 0) s m args below meth c H locs 0 0 (eQ G below (some (.int r)) V0 T args s 0 0) (F0 m 46 ls [.int s0]) := by
  have hx := C.1
  have hb := C.2.1
  have hown := C.2.2.2.1
  have hts := C.2.2.2.2.1
  unfold f_X0_factOf_J46 at hf
  refine lv_istore_n (lv' := [(3, .int s0)]) hx hb dX0_factOf_46 rfl hl (by decide) rfl (fun ls hl => ?_)
  refine lv_iload_n hx hb dX0_factOf_47 rfl (lv_at hl 0 rfl) ?_
  refine lv_iconst (v := ((-1) : Int32)) hx hb dX0_factOf_48 (by decide) ?_
  refine lv_icmp_ne (tgt := 58) hx hb dX0_factOf_49 (by decide) (fun c9 => ?_) (fun c9 => ?_)
  · replace hf := ite_f c9 hf
    refine lv_iload_n hx hb dX0_factOf_58 rfl (lv_at hl 0 rfl) ?_
    cases hf
    exact w_iret C hr hw dX0_factOf_59
  · replace hf := ite_t c9 hf
    refine lv_sipush (v := (999 : Int32)) hx hb dX0_factOf_52 (by decide) ?_
    refine lv_goto (tgt := 59) hx hb dX0_factOf_55 (by decide) ?_
    cases hf
    exact w_iret C hr hw dX0_factOf_59
set_option maxHeartbeats 4000000 in
theorem ok_X0_factOf {l : Launch} {G : gG} {T : Tt} {V0 : Vt} {o : Nat} {a0 : Int32} {a1 : Int32} {r : Int32} (hf : f_X0_factOf T V0 o a0 a1 = some r) : okM l G yX0_factOf cX0_factOf 4 (some .int) 3 [.ref (gb G + o), .int a0, .int a1] V0 T (some (.int r)) V0 T 0 0 := by
  refine ok_intro (by decide) (Nat.le_of_ble_eq_true rfl) ?_
  intro p e s m below meth c ls C hr hnm hw hl
  have hx := C.1
  have hb := C.2.1
  have hown := C.2.2.2.1
  have hts := C.2.2.2.2.1
  have hl : lv_has ls 4 [(0, .ref (gb G + o)), (1, .int a0), (2, .int a1)] := hl
  unfold f_X0_factOf at hf
  revert hf
  refine k_req (fun k0 hf => ?_)
  refine lv_iload_n hx hb dX0_factOf_0 rfl (lv_at hl 2 rfl) ?_
  refine lv_if_ne (tgt := 15) hx hb dX0_factOf_1 (by decide) (fun c1 => ?_) (fun c1 => ?_)
  · replace hf := ite_f c1 hf
    refine lv_iload_n hx hb dX0_factOf_15 rfl (lv_at hl 2 rfl) ?_
    refine lv_iconst (v := (1 : Int32)) hx hb dX0_factOf_16 (by decide) ?_
    refine lv_icmp_ne (tgt := 31) hx hb dX0_factOf_17 (by decide) (fun c2 => ?_) (fun c2 => ?_)
    · replace hf := ite_f c2 hf
      refine lv_aload_n hx hb dX0_factOf_31 rfl (lv_at hl 0 rfl) ?_
      revert hf
      refine k_pcl (fun r4 h3 hf => ?_)
      refine w_afr hw (w_rV (As := []) C hw (ok_X0_table h3) (cw_X0_137 hts (Nat.le_of_ble_eq_true rfl) (Nat.le_of_ble_eq_true rfl)) rfl (by decide) (of_req h3).1 rfl hl.1 rfl (Nat.le_of_ble_eq_true rfl) ⟨Nat.zero_le _, Nat.zero_le _⟩ dX0_factOf_32) (fun H locs hw => ?_)
      refine lv_iload_n hx hb dX0_factOf_35 rfl (lv_at hl 1 rfl) ?_
      refine lv_aload_n hx hb dX0_factOf_36 rfl (lv_at hl 0 rfl) ?_
      revert hf
      refine k_drf (fun r5 er5 hf => ?_)
      refine gf_X0_31 C hw k0 er5 dX0_factOf_37 ?_
      revert hf
      refine k_req (fun k6 hf => ?_)
      refine gf_X0_161 C hw k6 dX0_factOf_40 ?_
      revert hf
      refine k_pcl (fun z8 h7 hf => ?_)
      refine w_afi hw (w_rV (As := [.int a0, .int (V0.1 r5 10)]) C hw (ok_X2_label h7) (cw_X0_164 hts (Nat.le_of_ble_eq_true rfl) (Nat.le_of_ble_eq_true rfl)) rfl (by decide) (of_req h7).1 rfl hl.1 rfl (Nat.le_of_ble_eq_true rfl) ⟨Nat.zero_le _, Nat.zero_le _⟩ dX0_factOf_43) (fun H locs hw => ?_)
      exact jk_X0_factOf_46 C hr hf hw (lv_sub hl [] rfl)
    · replace hf := ite_t c2 hf
      refine lv_aload_n hx hb dX0_factOf_20 rfl (lv_at hl 0 rfl) ?_
      revert hf
      refine k_pcl (fun r11 h10 hf => ?_)
      refine w_afr hw (w_rV (As := []) C hw (ok_X0_table h10) (cw_X0_137 hts (Nat.le_of_ble_eq_true rfl) (Nat.le_of_ble_eq_true rfl)) rfl (by decide) (of_req h10).1 rfl hl.1 rfl (Nat.le_of_ble_eq_true rfl) ⟨Nat.zero_le _, Nat.zero_le _⟩ dX0_factOf_21) (fun H locs hw => ?_)
      refine lv_iload_n hx hb dX0_factOf_24 rfl (lv_at hl 1 rfl) ?_
      revert hf
      refine k_pcl (fun z13 h12 hf => ?_)
      refine w_afi hw (w_rV (As := [.int a0]) C hw (ok_X2_full h12) (cw_X0_265 hts (Nat.le_of_ble_eq_true rfl) (Nat.le_of_ble_eq_true rfl)) rfl (by decide) (of_req h12).1 rfl hl.1 rfl (Nat.le_of_ble_eq_true rfl) ⟨Nat.zero_le _, Nat.zero_le _⟩ dX0_factOf_25) (fun H locs hw => ?_)
      refine lv_goto (tgt := 46) hx hb dX0_factOf_28 (by decide) ?_
      exact jk_X0_factOf_46 C hr hf hw (lv_sub hl [] rfl)
  · replace hf := ite_t c1 hf
    refine lv_aload_n hx hb dX0_factOf_4 rfl (lv_at hl 0 rfl) ?_
    revert hf
    refine k_pcl (fun r15 h14 hf => ?_)
    refine w_afr hw (w_rV (As := []) C hw (ok_X0_table h14) (cw_X0_137 hts (Nat.le_of_ble_eq_true rfl) (Nat.le_of_ble_eq_true rfl)) rfl (by decide) (of_req h14).1 rfl hl.1 rfl (Nat.le_of_ble_eq_true rfl) ⟨Nat.zero_le _, Nat.zero_le _⟩ dX0_factOf_5) (fun H locs hw => ?_)
    refine lv_iload_n hx hb dX0_factOf_8 rfl (lv_at hl 1 rfl) ?_
    revert hf
    refine k_pcl (fun z17 h16 hf => ?_)
    refine w_afi hw (w_rV (As := [.int a0]) C hw (ok_X2_years h16) (cw_X0_268 hts (Nat.le_of_ble_eq_true rfl) (Nat.le_of_ble_eq_true rfl)) rfl (by decide) (of_req h16).1 rfl hl.1 rfl (Nat.le_of_ble_eq_true rfl) ⟨Nat.zero_le _, Nat.zero_le _⟩ dX0_factOf_9) (fun H locs hw => ?_)
    refine lv_goto (tgt := 46) hx hb dX0_factOf_12 (by decide) ?_
    exact jk_X0_factOf_46 C hr hf hw (lv_sub hl [] rfl)
set_option maxHeartbeats 4000000 in
theorem jk_X0_tasted_20 {l : Launch} {G : gG} {p : Program} {e : Env} {s : State} {m : MethodId} {args : Array Value} {below : List Frame} {meth : Method} {c : Code} {T : Tt} {V0 : Vt} {r : Int32} {V' : Vt} (C : Cx G p s m args meth c cX0_tasted RX0 3) (hr : meth.sig.returnType = (some .int)) {x0 : Nat} {H : Heap} {locs : List Loc} {ls : Array Slot} (k0 : T.1 x0 = 1) (hf : f_X0_tasted_J20 T V0 x0 = some (r, V')) (hw : wS G V0 T H locs) (hl : lv_has ls 3 [(0, .ref (gb G + x0))]) : W p l e (rmL 1 0 0) s m args below meth c H locs 0 0 (eQ G below (some (.int r)) V' T args s 0 0) (F0 m 20 ls []) := by
  have hx := C.1
  have hb := C.2.1
  have hown := C.2.2.2.1
  have hts := C.2.2.2.2.1
  unfold f_X0_tasted_J20 at hf
  refine lv_aload_n hx hb dX0_tasted_20 rfl (lv_at hl 0 rfl) ?_
  refine lv_iconst (v := ((-1) : Int32)) hx hb dX0_tasted_21 (by decide) ?_
  revert hf
  refine k_cal (fun z5 U6 h4 hf => ?_)
  refine w_afi hw (w_rV (As := [.int ((-1) : Int32)]) C hw (ok_X0_refuse h4) (cw_X0_122 hts (Nat.le_of_ble_eq_true rfl) (Nat.le_of_ble_eq_true rfl)) rfl (by decide) (of_req h4).1 rfl hl.1 rfl (Nat.le_of_ble_eq_true rfl) ⟨Nat.zero_le _, Nat.zero_le _⟩ dX0_tasted_22) (fun H locs hw => ?_)
  cases hf
  exact w_iret C hr hw dX0_tasted_25
set_option maxHeartbeats 4000000 in
theorem ok_X0_tasted {l : Launch} {G : gG} {T : Tt} {V0 : Vt} {o : Nat} {a0 : Int32} {a1 : Int32} {r : Int32} {V' : Vt} (hf : f_X0_tasted T V0 o a0 a1 = some (r, V')) : okM l G yX0_tasted cX0_tasted 3 (some .int) 1 [.ref (gb G + o), .int a0, .int a1] V0 T (some (.int r)) V' T 0 0 := by
  refine ok_intro (by decide) (Nat.le_of_ble_eq_true rfl) ?_
  intro p e s m below meth c ls C hr hnm hw hl
  have hx := C.1
  have hb := C.2.1
  have hown := C.2.2.2.1
  have hts := C.2.2.2.2.1
  have hl : lv_has ls 3 [(0, .ref (gb G + o)), (1, .int a0), (2, .int a1)] := hl
  unfold f_X0_tasted at hf
  revert hf
  refine k_req (fun k0 hf => ?_)
  refine lv_iload_n hx hb dX0_tasted_0 rfl (lv_at hl 1 rfl) ?_
  refine lv_iconst (v := (0 : Int32)) hx hb dX0_tasted_1 (by decide) ?_
  refine lv_iconst (v := (2 : Int32)) hx hb dX0_tasted_2 (by decide) ?_
  revert hf
  refine k_pcl (fun z2 h1 hf => ?_)
  refine w_afi hw (w_rS (As := [.int a0, .int (0 : Int32), .int (2 : Int32)]) C hw (ok_X0_in h1) (cw_X0_108 hts (Nat.le_of_ble_eq_true rfl) (Nat.le_of_ble_eq_true rfl)) rfl hl.1 rfl (Nat.le_of_ble_eq_true rfl) ⟨Nat.zero_le _, Nat.zero_le _⟩ dX0_tasted_3) (fun H locs hw => ?_)
  refine lv_if_eq (tgt := 20) hx hb dX0_tasted_6 (by decide) (fun c3 => ?_) (fun c3 => ?_)
  · replace hf := ite_t c3 hf
    exact jk_X0_tasted_20 C hr k0 hf hw (lv_sub hl [0] rfl)
  · replace hf := ite_f c3 hf
    refine lv_iload_n hx hb dX0_tasted_9 rfl (lv_at hl 2 rfl) ?_
    refine lv_iconst (v := (0 : Int32)) hx hb dX0_tasted_10 (by decide) ?_
    refine lv_sipush (v := (999 : Int32)) hx hb dX0_tasted_11 (by decide) ?_
    revert hf
    refine k_pcl (fun z8 h7 hf => ?_)
    refine w_afi hw (w_rS (As := [.int a1, .int (0 : Int32), .int (999 : Int32)]) C hw (ok_X0_in h7) (cw_X0_108 hts (Nat.le_of_ble_eq_true rfl) (Nat.le_of_ble_eq_true rfl)) rfl hl.1 rfl (Nat.le_of_ble_eq_true rfl) ⟨Nat.zero_le _, Nat.zero_le _⟩ dX0_tasted_14) (fun H locs hw => ?_)
    refine lv_if_ne (tgt := 26) hx hb dX0_tasted_17 (by decide) (fun c9 => ?_) (fun c9 => ?_)
    · replace hf := ite_f c9 hf
      refine lv_aload_n hx hb dX0_tasted_26 rfl (lv_at hl 0 rfl) ?_
      revert hf
      refine k_drf (fun r10 er10 hf => ?_)
      refine gf_X0_31 C hw k0 er10 dX0_tasted_27 ?_
      revert hf
      refine k_req (fun k11 hf => ?_)
      refine gf_X0_424 C hw k11 dX0_tasted_30 ?_
      refine lv_bipush (v := (6 : Int32)) hx hb dX0_tasted_33 (by decide) ?_
      refine lv_icmp_ne (tgt := 45) hx hb dX0_tasted_35 (by decide) (fun c12 => ?_) (fun c12 => ?_)
      · replace hf := ite_f c12 hf
        refine lv_aload_n hx hb dX0_tasted_45 rfl (lv_at hl 0 rfl) ?_
        revert hf
        refine k_drf (fun r13 er13 hf => ?_)
        refine gf_X0_31 C hw k0 er13 dX0_tasted_46 ?_
        revert hf
        refine k_req (fun k14 hf => ?_)
        revert hf
        refine k_drf (fun r15 er15 hf => ?_)
        refine gf_X0_427 C hw k14 er15 dX0_tasted_49 ?_
        refine lv_iconst (v := (2 : Int32)) hx hb dX0_tasted_52 (by decide) ?_
        refine lv_aload_n hx hb dX0_tasted_53 rfl (lv_at hl 0 rfl) ?_
        revert hf
        refine k_drf (fun r16 er16 hf => ?_)
        refine gf_X0_31 C hw k0 er16 dX0_tasted_54 ?_
        revert hf
        refine k_req (fun k17 hf => ?_)
        refine gf_X0_424 C hw k17 dX0_tasted_57 ?_
        refine lv_imul hx hb dX0_tasted_60 ?_
        refine lv_iload_n hx hb dX0_tasted_61 rfl (lv_at hl 1 rfl) ?_
        revert hf
        refine k_req (fun h18 hf => ?_)
        revert hf
        refine k_stp (fun U19 eU19 hf => ?_)
        refine w_iast C hw h18 eU19 dX0_tasted_62 (fun H locs hw => ?_)
        refine lv_aload_n hx hb dX0_tasted_63 rfl (lv_at hl 0 rfl) ?_
        revert hf
        refine k_drf (fun r20 er20 hf => ?_)
        refine gf_X0_31 C hw k0 er20 dX0_tasted_64 ?_
        revert hf
        refine k_req (fun k21 hf => ?_)
        revert hf
        refine k_drf (fun r22 er22 hf => ?_)
        refine gf_X0_427 C hw k21 er22 dX0_tasted_67 ?_
        refine lv_iconst (v := (2 : Int32)) hx hb dX0_tasted_70 (by decide) ?_
        refine lv_aload_n hx hb dX0_tasted_71 rfl (lv_at hl 0 rfl) ?_
        revert hf
        refine k_drf (fun r23 er23 hf => ?_)
        refine gf_X0_31 C hw k0 er23 dX0_tasted_72 ?_
        revert hf
        refine k_req (fun k24 hf => ?_)
        refine gf_X0_424 C hw k24 dX0_tasted_75 ?_
        refine lv_imul hx hb dX0_tasted_78 ?_
        refine lv_iconst (v := (1 : Int32)) hx hb dX0_tasted_79 (by decide) ?_
        refine lv_iadd hx hb dX0_tasted_80 ?_
        refine lv_iload_n hx hb dX0_tasted_81 rfl (lv_at hl 2 rfl) ?_
        revert hf
        refine k_req (fun h25 hf => ?_)
        revert hf
        refine k_stp (fun U26 eU26 hf => ?_)
        refine w_iast C hw h25 eU26 dX0_tasted_82 (fun H locs hw => ?_)
        refine lv_aload_n hx hb dX0_tasted_83 rfl (lv_at hl 0 rfl) ?_
        revert hf
        refine k_drf (fun r27 er27 hf => ?_)
        refine gf_X0_31 C hw k0 er27 dX0_tasted_84 ?_
        refine lv_dup hx hb dX0_tasted_87 rfl ?_
        revert hf
        refine k_req (fun k28 hf => ?_)
        refine gf_X0_424 C hw k28 dX0_tasted_88 ?_
        refine lv_iconst (v := (1 : Int32)) hx hb dX0_tasted_91 (by decide) ?_
        refine lv_iadd hx hb dX0_tasted_92 ?_
        revert hf
        refine k_stp (fun U29 eU29 hf => ?_)
        refine pf_X0_424 C hw k28 eU29 dX0_tasted_93 (fun H locs hw => ?_)
        refine lv_aload_n hx hb dX0_tasted_96 rfl (lv_at hl 0 rfl) ?_
        refine lv_aload_n hx hb dX0_tasted_97 rfl (lv_at hl 0 rfl) ?_
        revert hf
        refine k_drf (fun r30 er30 hf => ?_)
        refine gf_X0_31 C hw k0 er30 dX0_tasted_98 ?_
        revert hf
        refine k_req (fun k31 hf => ?_)
        refine gf_X0_424 C hw k31 dX0_tasted_101 ?_
        revert hf
        refine k_cal (fun z33 U34 h32 hf => ?_)
        refine w_afi hw (w_rV (As := [.int (U29.1 r30 7)]) C hw (ok_X0_done h32) (cw_X0_101 hts (Nat.le_of_ble_eq_true rfl) (Nat.le_of_ble_eq_true rfl)) rfl (by decide) (of_req h32).1 rfl hl.1 rfl (Nat.le_of_ble_eq_true rfl) ⟨Nat.zero_le _, Nat.zero_le _⟩ dX0_tasted_104) (fun H locs hw => ?_)
        cases hf
        exact w_iret C hr hw dX0_tasted_107
      · replace hf := ite_t c12 hf
        refine lv_aload_n hx hb dX0_tasted_38 rfl (lv_at hl 0 rfl) ?_
        refine lv_bipush (v := ((-5) : Int32)) hx hb dX0_tasted_39 (by decide) ?_
        revert hf
        refine k_cal (fun z36 U37 h35 hf => ?_)
        refine w_afi hw (w_rV (As := [.int ((-5) : Int32)]) C hw (ok_X0_refuse h35) (cw_X0_122 hts (Nat.le_of_ble_eq_true rfl) (Nat.le_of_ble_eq_true rfl)) rfl (by decide) (of_req h35).1 rfl hl.1 rfl (Nat.le_of_ble_eq_true rfl) ⟨Nat.zero_le _, Nat.zero_le _⟩ dX0_tasted_41) (fun H locs hw => ?_)
        cases hf
        exact w_iret C hr hw dX0_tasted_44
    · replace hf := ite_t c9 hf
      exact jk_X0_tasted_20 C hr k0 hf hw (lv_sub hl [0] rfl)
set_option maxHeartbeats 4000000 in
theorem ok_X0_forget {l : Launch} {G : gG} {T : Tt} {V0 : Vt} {o : Nat} {r : Int32} {V' : Vt} (hf : f_X0_forget T V0 o = some (r, V')) : okM l G yX0_forget cX0_forget 2 (some .int) 0 [.ref (gb G + o)] V0 T (some (.int r)) V' T 0 0 := by
  refine ok_intro (by decide) (Nat.le_of_ble_eq_true rfl) ?_
  intro p e s m below meth c ls C hr hnm hw hl
  have hx := C.1
  have hb := C.2.1
  have hown := C.2.2.2.1
  have hts := C.2.2.2.2.1
  have hl : lv_has ls 2 [(0, .ref (gb G + o))] := hl
  unfold f_X0_forget at hf
  revert hf
  refine k_req (fun k0 hf => ?_)
  refine lv_aload_n hx hb dX0_forget_0 rfl (lv_at hl 0 rfl) ?_
  revert hf
  refine k_drf (fun r1 er1 hf => ?_)
  refine gf_X0_31 C hw k0 er1 dX0_forget_1 ?_
  revert hf
  refine k_req (fun k2 hf => ?_)
  refine gf_X0_424 C hw k2 dX0_forget_4 ?_
  revert hf
  refine k_stp (fun z3 ez3 hf => ?_)
  refine w_nmI ez3 ?_
  refine lv_istore_n (lv' := [(1, .int z3), (0, .ref (gb G + o))]) hx hb dX0_forget_7 rfl hl (by decide) rfl (fun ls hl => ?_)
  refine lv_aload_n hx hb dX0_forget_8 rfl (lv_at hl 1 rfl) ?_
  revert hf
  refine k_drf (fun r4 er4 hf => ?_)
  refine gf_X0_31 C hw k0 er4 dX0_forget_9 ?_
  refine lv_iconst (v := (0 : Int32)) hx hb dX0_forget_12 (by decide) ?_
  revert hf
  refine k_req (fun k5 hf => ?_)
  revert hf
  refine k_stp (fun U6 eU6 hf => ?_)
  refine pf_X0_424 C hw k5 eU6 dX0_forget_13 (fun H locs hw => ?_)
  refine lv_iload_n hx hb dX0_forget_16 rfl (lv_at hl 0 rfl) ?_
  cases hf
  exact w_iret C hr hw dX0_forget_17
set_option maxHeartbeats 4000000 in
theorem lk_X0_isSo_2 {l : Launch} {G : gG} {p : Program} {e : Env} {s : State} {m : MethodId} {args : Array Value} {below : List Frame} {meth : Method} {c : Code} {T : Tt} {V0 : Vt} {r : Int32} (C : Cx G p s m args meth c cX0_isSo RX0 3) (hr : meth.sig.returnType = (some .boolean)) {x0 : Nat} {x1 : Int32} {kx2_43 : Option (Int32)} {kx2_51 : Option (Int32)} (k0 : T.1 x0 = 1) (hkx2_43 : ∀ (H : Heap) (locs : List Loc) (ls : Array Slot), kx2_43 = some r → wS G V0 T H locs → lv_has ls 3 [] → W p l e (rmL 4 0 0) s m args below meth c H locs 0 0 (eQ G below (some (.int r)) V0 T args s 0 0) (F0 m 43 ls [])) (hkx2_51 : ∀ (H : Heap) (locs : List Loc) (ls : Array Slot), kx2_51 = some r → wS G V0 T H locs → lv_has ls 3 [] → W p l e (rmL 4 0 0) s m args below meth c H locs 0 0 (eQ G below (some (.int r)) V0 T args s 0 0) (F0 m 51 ls [])) : ∀ (n : Nat) (x2 : Int32) (H : Heap) (locs : List Loc) (ls : Array Slot), f_X0_isSo_L2 T V0 x0 x1 kx2_43 kx2_51 n x2 = some r → wS G V0 T H locs → lv_has ls 3 [(0, .ref (gb G + x0)), (1, .int x1), (2, .int x2)] → W p l e (rmL 4 0 0) s m args below meth c H locs 0 0 (eQ G below (some (.int r)) V0 T args s 0 0) (F0 m 2 ls []) := by
  have hx := C.1
  have hb := C.2.1
  have hown := C.2.2.2.1
  have hts := C.2.2.2.2.1
  intro n
  induction n with
  | zero =>
    intro x2 H locs ls hf
    cases hf
  | succ n ih =>
    intro x2 H locs ls hf hw hl
    unfold f_X0_isSo_L2 at hf
    refine lv_iload_n hx hb dX0_isSo_2 rfl (lv_at hl 2 rfl) ?_
    refine lv_iconst (v := (2 : Int32)) hx hb dX0_isSo_3 (by decide) ?_
    refine lv_aload_n hx hb dX0_isSo_4 rfl (lv_at hl 0 rfl) ?_
    revert hf
    refine k_drf (fun r1 er1 hf => ?_)
    refine gf_X0_31 C hw k0 er1 dX0_isSo_5 ?_
    revert hf
    refine k_req (fun k2 hf => ?_)
    refine gf_X0_424 C hw k2 dX0_isSo_8 ?_
    refine lv_imul hx hb dX0_isSo_11 ?_
    refine lv_icmp_ge (tgt := 51) hx hb dX0_isSo_12 (by decide) (fun c3 => ?_) (fun c3 => ?_)
    · replace hf := ite_t c3 hf
      exact hkx2_51  _ _ _ hf hw (lv_sub hl [] rfl)
    · replace hf := ite_f c3 hf
      refine lv_aload_n hx hb dX0_isSo_15 rfl (lv_at hl 0 rfl) ?_
      refine lv_iload_n hx hb dX0_isSo_16 rfl (lv_at hl 1 rfl) ?_
      refine lv_aload_n hx hb dX0_isSo_17 rfl (lv_at hl 0 rfl) ?_
      revert hf
      refine k_drf (fun r4 er4 hf => ?_)
      refine gf_X0_31 C hw k0 er4 dX0_isSo_18 ?_
      revert hf
      refine k_req (fun k5 hf => ?_)
      revert hf
      refine k_drf (fun r6 er6 hf => ?_)
      refine gf_X0_427 C hw k5 er6 dX0_isSo_21 ?_
      refine lv_iload_n hx hb dX0_isSo_24 rfl (lv_at hl 2 rfl) ?_
      revert hf
      refine k_req (fun h7 hf => ?_)
      refine w_iald C hw h7 rfl dX0_isSo_25 ?_
      revert hf
      refine k_pcl (fun z9 h8 hf => ?_)
      refine w_afi hw (w_rV (As := [.int x1, .int (V0.1 r6 (ixN x2))]) C hw (ok_X0_factOf h8) (cw_X0_430 hts (Nat.le_of_ble_eq_true rfl) (Nat.le_of_ble_eq_true rfl)) rfl (by decide) (of_req h8).1 rfl hl.1 rfl (Nat.le_of_ble_eq_true rfl) ⟨Nat.zero_le _, Nat.zero_le _⟩ dX0_isSo_26) (fun H locs hw => ?_)
      refine lv_aload_n hx hb dX0_isSo_29 rfl (lv_at hl 0 rfl) ?_
      revert hf
      refine k_drf (fun r10 er10 hf => ?_)
      refine gf_X0_31 C hw k0 er10 dX0_isSo_30 ?_
      revert hf
      refine k_req (fun k11 hf => ?_)
      revert hf
      refine k_drf (fun r12 er12 hf => ?_)
      refine gf_X0_427 C hw k11 er12 dX0_isSo_33 ?_
      refine lv_iload_n hx hb dX0_isSo_36 rfl (lv_at hl 2 rfl) ?_
      refine lv_iconst (v := (1 : Int32)) hx hb dX0_isSo_37 (by decide) ?_
      refine lv_iadd hx hb dX0_isSo_38 ?_
      revert hf
      refine k_req (fun h13 hf => ?_)
      refine w_iald C hw h13 rfl dX0_isSo_39 ?_
      refine lv_icmp_eq (tgt := 45) hx hb dX0_isSo_40 (by decide) (fun c14 => ?_) (fun c14 => ?_)
      · replace hf := ite_t c14 hf
        revert hf
        refine k_stp (fun z15 ez15 hf => ?_)
        refine lv_iinc (k := 2) (lv' := [(2, .int z15), (0, .ref (gb G + x0)), (1, .int x1)]) hx hb dX0_isSo_45 hl rfl (inc_e (by decide) ez15) (by decide) rfl (fun ls hl => ?_)
        refine lv_goto (tgt := 2) hx hb dX0_isSo_48 (by decide) ?_
        exact ih _ _ _ _ hf hw (lv_sub hl [1, 2, 0] rfl)
      · replace hf := ite_f c14 hf
        exact hkx2_43  _ _ _ hf hw (lv_sub hl [] rfl)
set_option maxHeartbeats 4000000 in
theorem ok_X0_isSo {l : Launch} {G : gG} {T : Tt} {V0 : Vt} {o : Nat} {a0 : Int32} {r : Int32} (hf : f_X0_isSo T V0 o a0 = some r) : okM l G yX0_isSo cX0_isSo 3 (some .boolean) 4 [.ref (gb G + o), .int a0] V0 T (some (.int r)) V0 T 0 0 := by
  refine ok_intro (by decide) (Nat.le_of_ble_eq_true rfl) ?_
  intro p e s m below meth c ls C hr hnm hw hl
  have hx := C.1
  have hb := C.2.1
  have hown := C.2.2.2.1
  have hts := C.2.2.2.2.1
  have hl : lv_has ls 3 [(0, .ref (gb G + o)), (1, .int a0)] := hl
  unfold f_X0_isSo at hf
  revert hf
  refine k_req (fun k0 hf => ?_)
  refine lv_iconst (v := (0 : Int32)) hx hb dX0_isSo_0 (by decide) ?_
  refine lv_istore_n (lv' := [(2, .int (0 : Int32)), (0, .ref (gb G + o)), (1, .int a0)]) hx hb dX0_isSo_1 rfl hl (by decide) rfl (fun ls hl => ?_)
  refine lk_X0_isSo_2 C hr k0 (fun H locs ls hf hw hl => ?_) (fun H locs ls hf hw hl => ?_) fuel _ _ _ _ hf hw (lv_sub hl [1, 2, 0] rfl)
  · refine lv_iconst (v := (0 : Int32)) hx hb dX0_isSo_43 (by decide) ?_
    cases hf
    exact w_zret C hr hw (by decide) dX0_isSo_44
  · refine lv_iconst (v := (1 : Int32)) hx hb dX0_isSo_51 (by decide) ?_
    cases hf
    exact w_zret C hr hw (by decide) dX0_isSo_52
set_option maxHeartbeats 4000000 in
theorem jk_X0_canBe_31 {l : Launch} {G : gG} {p : Program} {e : Env} {s : State} {m : MethodId} {args : Array Value} {below : List Frame} {meth : Method} {c : Code} {T : Tt} {V0 : Vt} {r : Int32} (C : Cx G p s m args meth c cX0_canBe RX0 3) (hr : meth.sig.returnType = (some .int)) {x0 : Nat} {x2 : Int32} {s0 : Int32} {s1 : Int32} {kc4 : Int32 → Int32 → Option (Int32)} {kx4_39 : Int32 → Option (Int32)} {H : Heap} {locs : List Loc} {ls : Array Slot} (k0 : T.1 x0 = 1) (hf : f_X0_canBe_J31 T V0 x0 x2 s0 s1 kc4 kx4_39 = some r) (hw : wS G V0 T H locs) (hl : lv_has ls 3 [(0, .ref (gb G + x0)), (2, .int x2)]) (hkc4 : ∀ (y1 : Int32) (y2 : Int32) (H : Heap) (locs : List Loc) (ls : Array Slot), kc4 y1 y2 = some r → wS G V0 T H locs → lv_has ls 3 [(0, .ref (gb G + x0)), (1, .int y1), (2, .int y2)] → W p l e (rmL 5 0 0) s m args below meth c H locs 0 0 (eQ G below (some (.int r)) V0 T args s 0 0) (F0 m 4 ls [])) (hkx4_39 : ∀ (y1 : Int32) (H : Heap) (locs : List Loc) (ls : Array Slot), kx4_39 y1 = some r → wS G V0 T H locs → lv_has ls 3 [(1, .int y1)] → W p l e (rmL 5 0 0) s m args below meth c H locs 0 0 (eQ G below (some (.int r)) V0 T args s 0 0) (F0 m 39 ls [])) : W p l e (rmL 5 0 0) s m args below meth c H locs 0 0 (eQ G below (some (.int r)) V0 T args s 0 0) (F0 m 31 ls [.int s1, .int s0]) := by
  have hx := C.1
  have hb := C.2.1
  have hown := C.2.2.2.1
  have hts := C.2.2.2.2.1
  unfold f_X0_canBe_J31 at hf
  refine lv_ior hx hb dX0_canBe_31 ?_
  revert hf
  refine k_stp (fun z7 ez7 hf => ?_)
  refine w_nmI ez7 ?_
  refine lv_istore_n (lv' := [(1, .int z7), (0, .ref (gb G + x0)), (2, .int x2)]) hx hb dX0_canBe_32 rfl hl (by decide) rfl (fun ls hl => ?_)
  revert hf
  refine k_stp (fun z8 ez8 hf => ?_)
  refine lv_iinc (k := 2) (lv' := [(2, .int z8), (1, .int z7), (0, .ref (gb G + x0))]) hx hb dX0_canBe_33 hl rfl (inc_e (by decide) ez8) (by decide) rfl (fun ls hl => ?_)
  refine lv_goto (tgt := 4) hx hb dX0_canBe_36 (by decide) ?_
  exact hkc4 _ _ _ _ _ hf hw (lv_sub hl [2, 1, 0] rfl)
set_option maxHeartbeats 4000000 in
theorem lk_X0_canBe_4 {l : Launch} {G : gG} {p : Program} {e : Env} {s : State} {m : MethodId} {args : Array Value} {below : List Frame} {meth : Method} {c : Code} {T : Tt} {V0 : Vt} {r : Int32} (C : Cx G p s m args meth c cX0_canBe RX0 3) (hr : meth.sig.returnType = (some .int)) {x0 : Nat} {kx4_39 : Int32 → Option (Int32)} (k0 : T.1 x0 = 1) (hkx4_39 : ∀ (y1 : Int32) (H : Heap) (locs : List Loc) (ls : Array Slot), kx4_39 y1 = some r → wS G V0 T H locs → lv_has ls 3 [(1, .int y1)] → W p l e (rmL 5 0 0) s m args below meth c H locs 0 0 (eQ G below (some (.int r)) V0 T args s 0 0) (F0 m 39 ls [])) : ∀ (n : Nat) (x1 : Int32) (x2 : Int32) (H : Heap) (locs : List Loc) (ls : Array Slot), f_X0_canBe_L4 T V0 x0 kx4_39 n x1 x2 = some r → wS G V0 T H locs → lv_has ls 3 [(0, .ref (gb G + x0)), (1, .int x1), (2, .int x2)] → W p l e (rmL 5 0 0) s m args below meth c H locs 0 0 (eQ G below (some (.int r)) V0 T args s 0 0) (F0 m 4 ls []) := by
  have hx := C.1
  have hb := C.2.1
  have hown := C.2.2.2.1
  have hts := C.2.2.2.2.1
  intro n
  induction n with
  | zero =>
    intro x1 x2 H locs ls hf
    cases hf
  | succ n ih =>
    intro x1 x2 H locs ls hf hw hl
    unfold f_X0_canBe_L4 at hf
    refine lv_iload_n hx hb dX0_canBe_4 rfl (lv_at hl 2 rfl) ?_
    refine lv_aload_n hx hb dX0_canBe_5 rfl (lv_at hl 0 rfl) ?_
    revert hf
    refine k_drf (fun r1 er1 hf => ?_)
    refine gf_X0_31 C hw k0 er1 dX0_canBe_6 ?_
    revert hf
    refine k_req (fun k2 hf => ?_)
    refine gf_X0_105 C hw k2 dX0_canBe_9 ?_
    refine lv_icmp_ge (tgt := 39) hx hb dX0_canBe_12 (by decide) (fun c3 => ?_) (fun c3 => ?_)
    · replace hf := ite_t c3 hf
      exact hkx4_39 _ _ _ _ hf hw (lv_sub hl [1] rfl)
    · replace hf := ite_f c3 hf
      refine lv_iload_n hx hb dX0_canBe_15 rfl (lv_at hl 1 rfl) ?_
      refine lv_aload_n hx hb dX0_canBe_16 rfl (lv_at hl 0 rfl) ?_
      refine lv_iload_n hx hb dX0_canBe_17 rfl (lv_at hl 2 rfl) ?_
      revert hf
      refine k_pcl (fun z5 h4 hf => ?_)
      refine w_afi hw (w_rV (As := [.int x2]) C hw (ok_X0_isSo h4) (cw_X0_433 hts (Nat.le_of_ble_eq_true rfl) (Nat.le_of_ble_eq_true rfl)) rfl (by decide) (of_req h4).1 rfl hl.1 rfl (Nat.le_of_ble_eq_true rfl) ⟨Nat.zero_le _, Nat.zero_le _⟩ dX0_canBe_18) (fun H locs hw => ?_)
      refine lv_if_eq (tgt := 30) hx hb dX0_canBe_21 (by decide) (fun c6 => ?_) (fun c6 => ?_)
      · replace hf := ite_t c6 hf
        refine lv_iconst (v := (0 : Int32)) hx hb dX0_canBe_30 (by decide) ?_
        exact jk_X0_canBe_31 C hr k0 hf hw (lv_sub hl [0, 2] rfl) ih hkx4_39
      · replace hf := ite_f c6 hf
        refine lv_iconst (v := (1 : Int32)) hx hb dX0_canBe_24 (by decide) ?_
        refine lv_iload_n hx hb dX0_canBe_25 rfl (lv_at hl 2 rfl) ?_
        refine lv_ishl hx hb dX0_canBe_26 ?_
        refine lv_goto (tgt := 31) hx hb dX0_canBe_27 (by decide) ?_
        exact jk_X0_canBe_31 C hr k0 hf hw (lv_sub hl [0, 2] rfl) ih hkx4_39
set_option maxHeartbeats 4000000 in
theorem ok_X0_canBe {l : Launch} {G : gG} {T : Tt} {V0 : Vt} {o : Nat} {r : Int32} (hf : f_X0_canBe T V0 o = some r) : okM l G yX0_canBe cX0_canBe 3 (some .int) 5 [.ref (gb G + o)] V0 T (some (.int r)) V0 T 0 0 := by
  refine ok_intro (by decide) (Nat.le_of_ble_eq_true rfl) ?_
  intro p e s m below meth c ls C hr hnm hw hl
  have hx := C.1
  have hb := C.2.1
  have hown := C.2.2.2.1
  have hts := C.2.2.2.2.1
  have hl : lv_has ls 3 [(0, .ref (gb G + o))] := hl
  unfold f_X0_canBe at hf
  revert hf
  refine k_req (fun k0 hf => ?_)
  refine lv_iconst (v := (0 : Int32)) hx hb dX0_canBe_0 (by decide) ?_
  refine lv_istore_n (lv' := [(1, .int (0 : Int32)), (0, .ref (gb G + o))]) hx hb dX0_canBe_1 rfl hl (by decide) rfl (fun ls hl => ?_)
  refine lv_iconst (v := (0 : Int32)) hx hb dX0_canBe_2 (by decide) ?_
  refine lv_istore_n (lv' := [(2, .int (0 : Int32)), (1, .int (0 : Int32)), (0, .ref (gb G + o))]) hx hb dX0_canBe_3 rfl hl (by decide) rfl (fun ls hl => ?_)
  refine lk_X0_canBe_4 C hr k0 (fun z9 H locs ls hf hw hl => ?_) fuel _ _ _ _ _ hf hw (lv_sub hl [2, 1, 0] rfl)
  refine lv_iload_n hx hb dX0_canBe_39 rfl (lv_at hl 0 rfl) ?_
  cases hf
  exact w_iret C hr hw dX0_canBe_40
set_option maxHeartbeats 4000000 in
theorem jk_X0_mostAlike_98 {l : Launch} {G : gG} {p : Program} {e : Env} {s : State} {m : MethodId} {args : Array Value} {below : List Frame} {meth : Method} {c : Code} {T : Tt} {V0 : Vt} {r : Int32} (C : Cx G p s m args meth c cX0_mostAlike RX0 7) (hr : meth.sig.returnType = (some .int)) {x0 : Nat} {x1 : Int32} {x2 : Int32} {x4 : Int32} {s0 : Int32} {kc5 : Int32 → Int32 → Option (Int32)} {kx5_105 : Int32 → Option (Int32)} {H : Heap} {locs : List Loc} {ls : Array Slot} (k0 : T.1 x0 = 1) (hf : f_X0_mostAlike_J98 T V0 x0 x1 x2 x4 s0 kc5 kx5_105 = some r) (hw : wS G V0 T H locs) (hl : lv_has ls 7 [(0, .ref (gb G + x0)), (1, .int x1), (2, .int x2), (4, .int x4)]) (hkc5 : ∀ (y3 : Int32) (y4 : Int32) (H : Heap) (locs : List Loc) (ls : Array Slot), kc5 y3 y4 = some r → wS G V0 T H locs → lv_has ls 7 [(0, .ref (gb G + x0)), (1, .int x1), (2, .int x2), (3, .int y3), (4, .int y4)] → W p l e (rmL 4 0 0) s m args below meth c H locs 0 0 (eQ G below (some (.int r)) V0 T args s 0 0) (F0 m 5 ls [])) (hkx5_105 : ∀ (y3 : Int32) (H : Heap) (locs : List Loc) (ls : Array Slot), kx5_105 y3 = some r → wS G V0 T H locs → lv_has ls 7 [(3, .int y3)] → W p l e (rmL 4 0 0) s m args below meth c H locs 0 0 (eQ G below (some (.int r)) V0 T args s 0 0) (F0 m 105 ls [])) : W p l e (rmL 4 0 0) s m args below meth c H locs 0 0 (eQ G below (some (.int r)) V0 T args s 0 0) (F0 m 98 ls [.int s0]) := by
  have hx := C.1
  have hb := C.2.1
  have hown := C.2.2.2.1
  have hts := C.2.2.2.2.1
  unfold f_X0_mostAlike_J98 at hf
  refine lv_istore_n (lv' := [(3, .int s0), (0, .ref (gb G + x0)), (1, .int x1), (2, .int x2), (4, .int x4)]) hx hb dX0_mostAlike_98 rfl hl (by decide) rfl (fun ls hl => ?_)
  revert hf
  refine k_stp (fun z17 ez17 hf => ?_)
  refine lv_iinc (k := 4) (lv' := [(4, .int z17), (3, .int s0), (0, .ref (gb G + x0)), (1, .int x1), (2, .int x2)]) hx hb dX0_mostAlike_99 hl rfl (inc_e (by decide) ez17) (by decide) rfl (fun ls hl => ?_)
  refine lv_goto (tgt := 5) hx hb dX0_mostAlike_102 (by decide) ?_
  exact hkc5 _ _ _ _ _ hf hw (lv_sub hl [2, 3, 4, 1, 0] rfl)
set_option maxHeartbeats 4000000 in
theorem jk_X0_mostAlike_69 {l : Launch} {G : gG} {p : Program} {e : Env} {s : State} {m : MethodId} {args : Array Value} {below : List Frame} {meth : Method} {c : Code} {T : Tt} {V0 : Vt} {r : Int32} (C : Cx G p s m args meth c cX0_mostAlike RX0 7) (hr : meth.sig.returnType = (some .int)) {x0 : Nat} {x1 : Int32} {x2 : Int32} {x3 : Int32} {x4 : Int32} {x6 : Int32} {s0 : Int32} {s1 : Int32} {kc5 : Int32 → Int32 → Option (Int32)} {kx5_105 : Int32 → Option (Int32)} {kc23 : Int32 → Int32 → Option (Int32)} {kx23_78 : Int32 → Option (Int32)} {H : Heap} {locs : List Loc} {ls : Array Slot} (k0 : T.1 x0 = 1) (hf : f_X0_mostAlike_J69 T V0 x0 x1 x2 x3 x4 x6 s0 s1 kc5 kx5_105 kc23 kx23_78 = some r) (hw : wS G V0 T H locs) (hl : lv_has ls 7 [(0, .ref (gb G + x0)), (1, .int x1), (2, .int x2), (3, .int x3), (4, .int x4), (6, .int x6)]) (hkc5 : ∀ (y3 : Int32) (y4 : Int32) (H : Heap) (locs : List Loc) (ls : Array Slot), kc5 y3 y4 = some r → wS G V0 T H locs → lv_has ls 7 [(0, .ref (gb G + x0)), (1, .int x1), (2, .int x2), (3, .int y3), (4, .int y4)] → W p l e (rmL 4 0 0) s m args below meth c H locs 0 0 (eQ G below (some (.int r)) V0 T args s 0 0) (F0 m 5 ls [])) (hkx5_105 : ∀ (y3 : Int32) (H : Heap) (locs : List Loc) (ls : Array Slot), kx5_105 y3 = some r → wS G V0 T H locs → lv_has ls 7 [(3, .int y3)] → W p l e (rmL 4 0 0) s m args below meth c H locs 0 0 (eQ G below (some (.int r)) V0 T args s 0 0) (F0 m 105 ls [])) (hkc23 : ∀ (y5 : Int32) (y6 : Int32) (H : Heap) (locs : List Loc) (ls : Array Slot), kc23 y5 y6 = some r → wS G V0 T H locs → lv_has ls 7 [(0, .ref (gb G + x0)), (1, .int x1), (2, .int x2), (3, .int x3), (4, .int x4), (5, .int y5), (6, .int y6)] → W p l e (rmL 4 0 0) s m args below meth c H locs 0 0 (eQ G below (some (.int r)) V0 T args s 0 0) (F0 m 23 ls [])) (hkx23_78 : ∀ (y5 : Int32) (H : Heap) (locs : List Loc) (ls : Array Slot), kx23_78 y5 = some r → wS G V0 T H locs → lv_has ls 7 [(0, .ref (gb G + x0)), (1, .int x1), (2, .int x2), (3, .int x3), (4, .int x4), (5, .int y5)] → W p l e (rmL 4 0 0) s m args below meth c H locs 0 0 (eQ G below (some (.int r)) V0 T args s 0 0) (F0 m 78 ls [])) : W p l e (rmL 4 0 0) s m args below meth c H locs 0 0 (eQ G below (some (.int r)) V0 T args s 0 0) (F0 m 69 ls [.int s1, .int s0]) := by
  have hx := C.1
  have hb := C.2.1
  have hown := C.2.2.2.1
  have hts := C.2.2.2.2.1
  unfold f_X0_mostAlike_J69 at hf
  refine lv_iadd hx hb dX0_mostAlike_69 ?_
  revert hf
  refine k_stp (fun z8 ez8 hf => ?_)
  refine w_nmI ez8 ?_
  refine lv_istore (lv' := [(5, .int z8), (0, .ref (gb G + x0)), (1, .int x1), (2, .int x2), (3, .int x3), (4, .int x4), (6, .int x6)]) hx hb dX0_mostAlike_70 hl (by decide) rfl (fun ls hl => ?_)
  revert hf
  refine k_stp (fun z9 ez9 hf => ?_)
  refine lv_iinc (k := 6) (lv' := [(6, .int z9), (5, .int z8), (0, .ref (gb G + x0)), (1, .int x1), (2, .int x2), (3, .int x3), (4, .int x4)]) hx hb dX0_mostAlike_72 hl rfl (inc_e (by decide) ez9) (by decide) rfl (fun ls hl => ?_)
  refine lv_goto (tgt := 23) hx hb dX0_mostAlike_75 (by decide) ?_
  exact hkc23 _ _ _ _ _ hf hw (lv_sub hl [2, 3, 4, 5, 6, 1, 0] rfl)
set_option maxHeartbeats 4000000 in
theorem jk_X0_mostAlike_68 {l : Launch} {G : gG} {p : Program} {e : Env} {s : State} {m : MethodId} {args : Array Value} {below : List Frame} {meth : Method} {c : Code} {T : Tt} {V0 : Vt} {r : Int32} (C : Cx G p s m args meth c cX0_mostAlike RX0 7) (hr : meth.sig.returnType = (some .int)) {x0 : Nat} {x1 : Int32} {x2 : Int32} {x3 : Int32} {x4 : Int32} {x6 : Int32} {s0 : Int32} {kc5 : Int32 → Int32 → Option (Int32)} {kx5_105 : Int32 → Option (Int32)} {kc23 : Int32 → Int32 → Option (Int32)} {kx23_78 : Int32 → Option (Int32)} {H : Heap} {locs : List Loc} {ls : Array Slot} (k0 : T.1 x0 = 1) (hf : f_X0_mostAlike_J68 T V0 x0 x1 x2 x3 x4 x6 s0 kc5 kx5_105 kc23 kx23_78 = some r) (hw : wS G V0 T H locs) (hl : lv_has ls 7 [(0, .ref (gb G + x0)), (1, .int x1), (2, .int x2), (3, .int x3), (4, .int x4), (6, .int x6)]) (hkc5 : ∀ (y3 : Int32) (y4 : Int32) (H : Heap) (locs : List Loc) (ls : Array Slot), kc5 y3 y4 = some r → wS G V0 T H locs → lv_has ls 7 [(0, .ref (gb G + x0)), (1, .int x1), (2, .int x2), (3, .int y3), (4, .int y4)] → W p l e (rmL 4 0 0) s m args below meth c H locs 0 0 (eQ G below (some (.int r)) V0 T args s 0 0) (F0 m 5 ls [])) (hkx5_105 : ∀ (y3 : Int32) (H : Heap) (locs : List Loc) (ls : Array Slot), kx5_105 y3 = some r → wS G V0 T H locs → lv_has ls 7 [(3, .int y3)] → W p l e (rmL 4 0 0) s m args below meth c H locs 0 0 (eQ G below (some (.int r)) V0 T args s 0 0) (F0 m 105 ls [])) (hkc23 : ∀ (y5 : Int32) (y6 : Int32) (H : Heap) (locs : List Loc) (ls : Array Slot), kc23 y5 y6 = some r → wS G V0 T H locs → lv_has ls 7 [(0, .ref (gb G + x0)), (1, .int x1), (2, .int x2), (3, .int x3), (4, .int x4), (5, .int y5), (6, .int y6)] → W p l e (rmL 4 0 0) s m args below meth c H locs 0 0 (eQ G below (some (.int r)) V0 T args s 0 0) (F0 m 23 ls [])) (hkx23_78 : ∀ (y5 : Int32) (H : Heap) (locs : List Loc) (ls : Array Slot), kx23_78 y5 = some r → wS G V0 T H locs → lv_has ls 7 [(0, .ref (gb G + x0)), (1, .int x1), (2, .int x2), (3, .int x3), (4, .int x4), (5, .int y5)] → W p l e (rmL 4 0 0) s m args below meth c H locs 0 0 (eQ G below (some (.int r)) V0 T args s 0 0) (F0 m 78 ls [])) : W p l e (rmL 4 0 0) s m args below meth c H locs 0 0 (eQ G below (some (.int r)) V0 T args s 0 0) (F0 m 68 ls [.int s0]) := by
  have hx := C.1
  have hb := C.2.1
  have hown := C.2.2.2.1
  have hts := C.2.2.2.2.1
  unfold f_X0_mostAlike_J68 at hf
  refine lv_iconst (v := (0 : Int32)) hx hb dX0_mostAlike_68 (by decide) ?_
  exact jk_X0_mostAlike_69 C hr k0 hf hw (lv_sub hl [0, 1, 2, 3, 4, 5] rfl) hkc5 hkx5_105 hkc23 hkx23_78
set_option maxHeartbeats 4000000 in
theorem lk_X0_mostAlike_23 {l : Launch} {G : gG} {p : Program} {e : Env} {s : State} {m : MethodId} {args : Array Value} {below : List Frame} {meth : Method} {c : Code} {T : Tt} {V0 : Vt} {r : Int32} (C : Cx G p s m args meth c cX0_mostAlike RX0 7) (hr : meth.sig.returnType = (some .int)) {x0 : Nat} {x1 : Int32} {x2 : Int32} {x3 : Int32} {x4 : Int32} {kc5 : Int32 → Int32 → Option (Int32)} {kx5_105 : Int32 → Option (Int32)} {kx23_78 : Int32 → Option (Int32)} (k0 : T.1 x0 = 1) (hkc5 : ∀ (y3 : Int32) (y4 : Int32) (H : Heap) (locs : List Loc) (ls : Array Slot), kc5 y3 y4 = some r → wS G V0 T H locs → lv_has ls 7 [(0, .ref (gb G + x0)), (1, .int x1), (2, .int x2), (3, .int y3), (4, .int y4)] → W p l e (rmL 4 0 0) s m args below meth c H locs 0 0 (eQ G below (some (.int r)) V0 T args s 0 0) (F0 m 5 ls [])) (hkx5_105 : ∀ (y3 : Int32) (H : Heap) (locs : List Loc) (ls : Array Slot), kx5_105 y3 = some r → wS G V0 T H locs → lv_has ls 7 [(3, .int y3)] → W p l e (rmL 4 0 0) s m args below meth c H locs 0 0 (eQ G below (some (.int r)) V0 T args s 0 0) (F0 m 105 ls [])) (hkx23_78 : ∀ (y5 : Int32) (H : Heap) (locs : List Loc) (ls : Array Slot), kx23_78 y5 = some r → wS G V0 T H locs → lv_has ls 7 [(0, .ref (gb G + x0)), (1, .int x1), (2, .int x2), (3, .int x3), (4, .int x4), (5, .int y5)] → W p l e (rmL 4 0 0) s m args below meth c H locs 0 0 (eQ G below (some (.int r)) V0 T args s 0 0) (F0 m 78 ls [])) : ∀ (n : Nat) (x5 : Int32) (x6 : Int32) (H : Heap) (locs : List Loc) (ls : Array Slot), f_X0_mostAlike_L23 T V0 x0 x1 x2 x3 x4 kc5 kx5_105 kx23_78 n x5 x6 = some r → wS G V0 T H locs → lv_has ls 7 [(0, .ref (gb G + x0)), (1, .int x1), (2, .int x2), (3, .int x3), (4, .int x4), (5, .int x5), (6, .int x6)] → W p l e (rmL 4 0 0) s m args below meth c H locs 0 0 (eQ G below (some (.int r)) V0 T args s 0 0) (F0 m 23 ls []) := by
  have hx := C.1
  have hb := C.2.1
  have hown := C.2.2.2.1
  have hts := C.2.2.2.2.1
  intro n
  induction n with
  | zero =>
    intro x5 x6 H locs ls hf
    cases hf
  | succ n ih =>
    intro x5 x6 H locs ls hf hw hl
    unfold f_X0_mostAlike_L23 at hf
    refine lv_iload hx hb dX0_mostAlike_23 (lv_at hl 6 rfl) ?_
    refine lv_aload_n hx hb dX0_mostAlike_25 rfl (lv_at hl 0 rfl) ?_
    revert hf
    refine k_drf (fun r4 er4 hf => ?_)
    refine gf_X0_31 C hw k0 er4 dX0_mostAlike_26 ?_
    revert hf
    refine k_req (fun k5 hf => ?_)
    refine gf_X0_105 C hw k5 dX0_mostAlike_29 ?_
    refine lv_icmp_ge (tgt := 78) hx hb dX0_mostAlike_32 (by decide) (fun c6 => ?_) (fun c6 => ?_)
    · replace hf := ite_t c6 hf
      exact hkx23_78 _ _ _ _ hf hw (lv_sub hl [0, 1, 2, 3, 4, 5] rfl)
    · replace hf := ite_f c6 hf
      refine lv_iload hx hb dX0_mostAlike_35 (lv_at hl 5 rfl) ?_
      refine lv_iload_n hx hb dX0_mostAlike_37 rfl (lv_at hl 1 rfl) ?_
      refine lv_iload hx hb dX0_mostAlike_38 (lv_at hl 6 rfl) ?_
      refine lv_ishr hx hb dX0_mostAlike_40 ?_
      refine lv_iconst (v := (1 : Int32)) hx hb dX0_mostAlike_41 (by decide) ?_
      refine lv_iand hx hb dX0_mostAlike_42 ?_
      refine lv_iconst (v := (1 : Int32)) hx hb dX0_mostAlike_43 (by decide) ?_
      refine lv_icmp_ne (tgt := 68) hx hb dX0_mostAlike_44 (by decide) (fun c7 => ?_) (fun c7 => ?_)
      · replace hf := ite_f c7 hf
        exact jk_X0_mostAlike_68 C hr k0 hf hw (lv_sub hl [0, 1, 2, 3, 4, 6] rfl) hkc5 hkx5_105 ih hkx23_78
      · replace hf := ite_t c7 hf
        refine lv_aload_n hx hb dX0_mostAlike_47 rfl (lv_at hl 0 rfl) ?_
        refine lv_iload hx hb dX0_mostAlike_48 (lv_at hl 4 rfl) ?_
        refine lv_iload_n hx hb dX0_mostAlike_50 rfl (lv_at hl 2 rfl) ?_
        revert hf
        refine k_pcl (fun z11 h10 hf => ?_)
        refine w_afi hw (w_rV (As := [.int x4, .int x2]) C hw (ok_X0_factOf h10) (cw_X0_430 hts (Nat.le_of_ble_eq_true rfl) (Nat.le_of_ble_eq_true rfl)) rfl (by decide) (of_req h10).1 rfl hl.1 rfl (Nat.le_of_ble_eq_true rfl) ⟨Nat.zero_le _, Nat.zero_le _⟩ dX0_mostAlike_51) (fun H locs hw => ?_)
        refine lv_aload_n hx hb dX0_mostAlike_54 rfl (lv_at hl 0 rfl) ?_
        refine lv_iload hx hb dX0_mostAlike_55 (lv_at hl 6 rfl) ?_
        refine lv_iload_n hx hb dX0_mostAlike_57 rfl (lv_at hl 2 rfl) ?_
        revert hf
        refine k_pcl (fun z13 h12 hf => ?_)
        refine w_afi hw (w_rV (As := [.int x6, .int x2]) C hw (ok_X0_factOf h12) (cw_X0_430 hts (Nat.le_of_ble_eq_true rfl) (Nat.le_of_ble_eq_true rfl)) rfl (by decide) (of_req h12).1 rfl hl.1 rfl (Nat.le_of_ble_eq_true rfl) ⟨Nat.zero_le _, Nat.zero_le _⟩ dX0_mostAlike_58) (fun H locs hw => ?_)
        refine lv_icmp_ne (tgt := 68) hx hb dX0_mostAlike_61 (by decide) (fun c14 => ?_) (fun c14 => ?_)
        · replace hf := ite_f c14 hf
          exact jk_X0_mostAlike_68 C hr k0 hf hw (lv_sub hl [0, 1, 2, 3, 4, 6] rfl) hkc5 hkx5_105 ih hkx23_78
        · replace hf := ite_t c14 hf
          refine lv_iconst (v := (1 : Int32)) hx hb dX0_mostAlike_64 (by decide) ?_
          refine lv_goto (tgt := 69) hx hb dX0_mostAlike_65 (by decide) ?_
          exact jk_X0_mostAlike_69 C hr k0 hf hw (lv_sub hl [0, 1, 2, 3, 4, 6] rfl) hkc5 hkx5_105 ih hkx23_78
set_option maxHeartbeats 4000000 in
theorem lk_X0_mostAlike_5 {l : Launch} {G : gG} {p : Program} {e : Env} {s : State} {m : MethodId} {args : Array Value} {below : List Frame} {meth : Method} {c : Code} {T : Tt} {V0 : Vt} {r : Int32} (C : Cx G p s m args meth c cX0_mostAlike RX0 7) (hr : meth.sig.returnType = (some .int)) {x0 : Nat} {x1 : Int32} {x2 : Int32} {kx5_105 : Int32 → Option (Int32)} (k0 : T.1 x0 = 1) (hkx5_105 : ∀ (y3 : Int32) (H : Heap) (locs : List Loc) (ls : Array Slot), kx5_105 y3 = some r → wS G V0 T H locs → lv_has ls 7 [(3, .int y3)] → W p l e (rmL 4 0 0) s m args below meth c H locs 0 0 (eQ G below (some (.int r)) V0 T args s 0 0) (F0 m 105 ls [])) : ∀ (n : Nat) (x3 : Int32) (x4 : Int32) (H : Heap) (locs : List Loc) (ls : Array Slot), f_X0_mostAlike_L5 T V0 x0 x1 x2 kx5_105 n x3 x4 = some r → wS G V0 T H locs → lv_has ls 7 [(0, .ref (gb G + x0)), (1, .int x1), (2, .int x2), (3, .int x3), (4, .int x4)] → W p l e (rmL 4 0 0) s m args below meth c H locs 0 0 (eQ G below (some (.int r)) V0 T args s 0 0) (F0 m 5 ls []) := by
  have hx := C.1
  have hb := C.2.1
  have hown := C.2.2.2.1
  have hts := C.2.2.2.2.1
  intro n
  induction n with
  | zero =>
    intro x3 x4 H locs ls hf
    cases hf
  | succ n ih =>
    intro x3 x4 H locs ls hf hw hl
    unfold f_X0_mostAlike_L5 at hf
    refine lv_iload hx hb dX0_mostAlike_5 (lv_at hl 4 rfl) ?_
    refine lv_aload_n hx hb dX0_mostAlike_7 rfl (lv_at hl 0 rfl) ?_
    revert hf
    refine k_drf (fun r1 er1 hf => ?_)
    refine gf_X0_31 C hw k0 er1 dX0_mostAlike_8 ?_
    revert hf
    refine k_req (fun k2 hf => ?_)
    refine gf_X0_105 C hw k2 dX0_mostAlike_11 ?_
    refine lv_icmp_ge (tgt := 105) hx hb dX0_mostAlike_14 (by decide) (fun c3 => ?_) (fun c3 => ?_)
    · replace hf := ite_t c3 hf
      exact hkx5_105 _ _ _ _ hf hw (lv_sub hl [3] rfl)
    · replace hf := ite_f c3 hf
      refine lv_iconst (v := (0 : Int32)) hx hb dX0_mostAlike_17 (by decide) ?_
      refine lv_istore (lv' := [(5, .int (0 : Int32)), (0, .ref (gb G + x0)), (1, .int x1), (2, .int x2), (3, .int x3), (4, .int x4)]) hx hb dX0_mostAlike_18 hl (by decide) rfl (fun ls hl => ?_)
      refine lv_iconst (v := (0 : Int32)) hx hb dX0_mostAlike_20 (by decide) ?_
      refine lv_istore (lv' := [(6, .int (0 : Int32)), (5, .int (0 : Int32)), (0, .ref (gb G + x0)), (1, .int x1), (2, .int x2), (3, .int x3), (4, .int x4)]) hx hb dX0_mostAlike_21 hl (by decide) rfl (fun ls hl => ?_)
      refine lk_X0_mostAlike_23 C hr k0 ih hkx5_105 (fun z15 H locs ls hf hw hl => ?_) fuel _ _ _ _ _ hf hw (lv_sub hl [2, 3, 4, 5, 6, 1, 0] rfl)
      refine lv_iload_n hx hb dX0_mostAlike_78 rfl (lv_at hl 1 rfl) ?_
      refine lv_iload hx hb dX0_mostAlike_79 (lv_at hl 4 rfl) ?_
      refine lv_ishr hx hb dX0_mostAlike_81 ?_
      refine lv_iconst (v := (1 : Int32)) hx hb dX0_mostAlike_82 (by decide) ?_
      refine lv_iand hx hb dX0_mostAlike_83 ?_
      refine lv_iconst (v := (1 : Int32)) hx hb dX0_mostAlike_84 (by decide) ?_
      refine lv_icmp_ne (tgt := 97) hx hb dX0_mostAlike_85 (by decide) (fun c16 => ?_) (fun c16 => ?_)
      · replace hf := ite_f c16 hf
        refine lv_iload_n hx hb dX0_mostAlike_97 rfl (lv_at hl 3 rfl) ?_
        exact jk_X0_mostAlike_98 C hr k0 hf hw (lv_sub hl [0, 1, 2, 4] rfl) ih hkx5_105
      · replace hf := ite_t c16 hf
        refine lv_iload_n hx hb dX0_mostAlike_88 rfl (lv_at hl 3 rfl) ?_
        refine lv_iload hx hb dX0_mostAlike_89 (lv_at hl 5 rfl) ?_
        refine va_mmax hx hb (C.2.2.1.trans hl.1.symm) hown (hts _ q1461) (hts _ q527) (hts _ q145) (hts _ q528) (Nat.le_of_ble_eq_true rfl) (Nat.le_of_ble_eq_true rfl) (Nat.zero_le _) (Nat.zero_le _) dX0_mostAlike_91 ?_
        refine lv_goto (tgt := 98) hx hb dX0_mostAlike_94 (by decide) ?_
        exact jk_X0_mostAlike_98 C hr k0 hf hw (lv_sub hl [0, 1, 2, 4] rfl) ih hkx5_105
set_option maxHeartbeats 4000000 in
theorem ok_X0_mostAlike {l : Launch} {G : gG} {T : Tt} {V0 : Vt} {o : Nat} {a0 : Int32} {a1 : Int32} {r : Int32} (hf : f_X0_mostAlike T V0 o a0 a1 = some r) : okM l G yX0_mostAlike cX0_mostAlike 7 (some .int) 4 [.ref (gb G + o), .int a0, .int a1] V0 T (some (.int r)) V0 T 0 0 := by
  refine ok_intro (by decide) (Nat.le_of_ble_eq_true rfl) ?_
  intro p e s m below meth c ls C hr hnm hw hl
  have hx := C.1
  have hb := C.2.1
  have hown := C.2.2.2.1
  have hts := C.2.2.2.2.1
  have hl : lv_has ls 7 [(0, .ref (gb G + o)), (1, .int a0), (2, .int a1)] := hl
  unfold f_X0_mostAlike at hf
  revert hf
  refine k_req (fun k0 hf => ?_)
  refine lv_iconst (v := (0 : Int32)) hx hb dX0_mostAlike_0 (by decide) ?_
  refine lv_istore_n (lv' := [(3, .int (0 : Int32)), (0, .ref (gb G + o)), (1, .int a0), (2, .int a1)]) hx hb dX0_mostAlike_1 rfl hl (by decide) rfl (fun ls hl => ?_)
  refine lv_iconst (v := (0 : Int32)) hx hb dX0_mostAlike_2 (by decide) ?_
  refine lv_istore (lv' := [(4, .int (0 : Int32)), (3, .int (0 : Int32)), (0, .ref (gb G + o)), (1, .int a0), (2, .int a1)]) hx hb dX0_mostAlike_3 hl (by decide) rfl (fun ls hl => ?_)
  refine lk_X0_mostAlike_5 C hr k0 (fun z18 H locs ls hf hw hl => ?_) fuel _ _ _ _ _ hf hw (lv_sub hl [2, 3, 4, 1, 0] rfl)
  refine lv_iload_n hx hb dX0_mostAlike_105 rfl (lv_at hl 0 rfl) ?_
  cases hf
  exact w_iret C hr hw dX0_mostAlike_106
set_option maxHeartbeats 4000000 in
theorem jk_X0_taste_68 {l : Launch} {G : gG} {p : Program} {e : Env} {s : State} {m : MethodId} {args : Array Value} {below : List Frame} {meth : Method} {c : Code} {T : Tt} {V0 : Vt} {r : Int32} (C : Cx G p s m args meth c cX0_taste RX0 7) (hr : meth.sig.returnType = (some .int)) {x1 : Int32} {x3 : Int32} {x4 : Int32} {H : Heap} {locs : List Loc} {ls : Array Slot} (hf : f_X0_taste_J68 T V0 x1 x3 x4 = some r) (hw : wS G V0 T H locs) (hl : lv_has ls 7 [(1, .int x1), (3, .int x3), (4, .int x4)]) : W p l e (rmL 6 0 0) s m args below meth c H locs 0 0 (eQ G below (some (.int r)) V0 T args s 0 0) (F0 m 68 ls []) := by
  have hx := C.1
  have hb := C.2.1
  have hown := C.2.2.2.1
  have hts := C.2.2.2.2.1
  unfold f_X0_taste_J68 at hf
  refine lv_iload_n hx hb dX0_taste_68 rfl (lv_at hl 1 rfl) ?_
  refine lv_iconst (v := ((-1) : Int32)) hx hb dX0_taste_69 (by decide) ?_
  refine lv_icmp_eq (tgt := 77) hx hb dX0_taste_70 (by decide) (fun c14 => ?_) (fun c14 => ?_)
  · replace hf := ite_t c14 hf
    refine lv_iload_n hx hb dX0_taste_77 rfl (lv_at hl 1 rfl) ?_
    refine lv_goto (tgt := 83) hx hb dX0_taste_78 (by decide) ?_
    cases hf
    exact w_iret C hr hw dX0_taste_83
  · replace hf := ite_f c14 hf
    refine lv_iload_n hx hb dX0_taste_73 rfl (lv_at hl 0 rfl) ?_
    refine lv_if_ne (tgt := 81) hx hb dX0_taste_74 (by decide) (fun c15 => ?_) (fun c15 => ?_)
    · replace hf := ite_f c15 hf
      refine lv_iload hx hb dX0_taste_81 (lv_at hl 2 rfl) ?_
      cases hf
      exact w_iret C hr hw dX0_taste_83
    · replace hf := ite_t c15 hf
      refine lv_iload_n hx hb dX0_taste_77 rfl (lv_at hl 1 rfl) ?_
      refine lv_goto (tgt := 83) hx hb dX0_taste_78 (by decide) ?_
      cases hf
      exact w_iret C hr hw dX0_taste_83
set_option maxHeartbeats 4000000 in
theorem jk_X0_taste_62 {l : Launch} {G : gG} {p : Program} {e : Env} {s : State} {m : MethodId} {args : Array Value} {below : List Frame} {meth : Method} {c : Code} {T : Tt} {V0 : Vt} {r : Int32} (C : Cx G p s m args meth c cX0_taste RX0 7) (hr : meth.sig.returnType = (some .int)) {x0 : Nat} {x1 : Int32} {x2 : Int32} {x3 : Int32} {x4 : Int32} {x5 : Int32} {kc26 : Int32 → Int32 → Int32 → Option (Int32)} {kx26_68 : Int32 → Int32 → Option (Int32)} {H : Heap} {locs : List Loc} {ls : Array Slot} (k0 : T.1 x0 = 1) (hf : f_X0_taste_J62 T V0 x0 x1 x2 x3 x4 x5 kc26 kx26_68 = some r) (hw : wS G V0 T H locs) (hl : lv_has ls 7 [(0, .ref (gb G + x0)), (1, .int x1), (2, .int x2), (3, .int x3), (4, .int x4), (5, .int x5)]) (hkc26 : ∀ (y3 : Int32) (y4 : Int32) (y5 : Int32) (H : Heap) (locs : List Loc) (ls : Array Slot), kc26 y3 y4 y5 = some r → wS G V0 T H locs → lv_has ls 7 [(0, .ref (gb G + x0)), (1, .int x1), (2, .int x2), (3, .int y3), (4, .int y4), (5, .int y5)] → W p l e (rmL 6 0 0) s m args below meth c H locs 0 0 (eQ G below (some (.int r)) V0 T args s 0 0) (F0 m 26 ls [])) (hkx26_68 : ∀ (y3 : Int32) (y4 : Int32) (H : Heap) (locs : List Loc) (ls : Array Slot), kx26_68 y3 y4 = some r → wS G V0 T H locs → lv_has ls 7 [(1, .int x1), (3, .int y3), (4, .int y4)] → W p l e (rmL 6 0 0) s m args below meth c H locs 0 0 (eQ G below (some (.int r)) V0 T args s 0 0) (F0 m 68 ls [])) : W p l e (rmL 6 0 0) s m args below meth c H locs 0 0 (eQ G below (some (.int r)) V0 T args s 0 0) (F0 m 62 ls []) := by
  have hx := C.1
  have hb := C.2.1
  have hown := C.2.2.2.1
  have hts := C.2.2.2.2.1
  unfold f_X0_taste_J62 at hf
  revert hf
  refine k_stp (fun z11 ez11 hf => ?_)
  refine lv_iinc (k := 5) (lv' := [(5, .int z11), (0, .ref (gb G + x0)), (1, .int x1), (2, .int x2), (3, .int x3), (4, .int x4)]) hx hb dX0_taste_62 hl rfl (inc_e (by decide) ez11) (by decide) rfl (fun ls hl => ?_)
  refine lv_goto (tgt := 26) hx hb dX0_taste_65 (by decide) ?_
  exact hkc26 _ _ _ _ _ _ hf hw (lv_sub hl [1, 2, 3, 4, 5, 0] rfl)
set_option maxHeartbeats 4000000 in
theorem lk_X0_taste_26 {l : Launch} {G : gG} {p : Program} {e : Env} {s : State} {m : MethodId} {args : Array Value} {below : List Frame} {meth : Method} {c : Code} {T : Tt} {V0 : Vt} {r : Int32} (C : Cx G p s m args meth c cX0_taste RX0 7) (hr : meth.sig.returnType = (some .int)) {x0 : Nat} {x1 : Int32} {x2 : Int32} {kx26_68 : Int32 → Int32 → Option (Int32)} (k0 : T.1 x0 = 1) (hkx26_68 : ∀ (y3 : Int32) (y4 : Int32) (H : Heap) (locs : List Loc) (ls : Array Slot), kx26_68 y3 y4 = some r → wS G V0 T H locs → lv_has ls 7 [(1, .int x1), (3, .int y3), (4, .int y4)] → W p l e (rmL 6 0 0) s m args below meth c H locs 0 0 (eQ G below (some (.int r)) V0 T args s 0 0) (F0 m 68 ls [])) : ∀ (n : Nat) (x3 : Int32) (x4 : Int32) (x5 : Int32) (H : Heap) (locs : List Loc) (ls : Array Slot), f_X0_taste_L26 T V0 x0 x1 x2 kx26_68 n x3 x4 x5 = some r → wS G V0 T H locs → lv_has ls 7 [(0, .ref (gb G + x0)), (1, .int x1), (2, .int x2), (3, .int x3), (4, .int x4), (5, .int x5)] → W p l e (rmL 6 0 0) s m args below meth c H locs 0 0 (eQ G below (some (.int r)) V0 T args s 0 0) (F0 m 26 ls []) := by
  have hx := C.1
  have hb := C.2.1
  have hown := C.2.2.2.1
  have hts := C.2.2.2.2.1
  intro n
  induction n with
  | zero =>
    intro x3 x4 x5 H locs ls hf
    cases hf
  | succ n ih =>
    intro x3 x4 x5 H locs ls hf hw hl
    unfold f_X0_taste_L26 at hf
    refine lv_iload hx hb dX0_taste_26 (lv_at hl 5 rfl) ?_
    refine lv_iconst (v := (3 : Int32)) hx hb dX0_taste_28 (by decide) ?_
    refine lv_icmp_ge (tgt := 68) hx hb dX0_taste_29 (by decide) (fun c6 => ?_) (fun c6 => ?_)
    · replace hf := ite_t c6 hf
      exact hkx26_68 _ _ _ _ _ hf hw (lv_sub hl [1, 3, 4] rfl)
    · replace hf := ite_f c6 hf
      refine lv_iload_n hx hb dX0_taste_32 rfl (lv_at hl 2 rfl) ?_
      refine lv_if_eq (tgt := 68) hx hb dX0_taste_33 (by decide) (fun c7 => ?_) (fun c7 => ?_)
      · replace hf := ite_t c7 hf
        exact hkx26_68 _ _ _ _ _ hf hw (lv_sub hl [1, 3, 4] rfl)
      · replace hf := ite_f c7 hf
        refine lv_aload_n hx hb dX0_taste_36 rfl (lv_at hl 0 rfl) ?_
        refine lv_iload_n hx hb dX0_taste_37 rfl (lv_at hl 2 rfl) ?_
        refine lv_iload hx hb dX0_taste_38 (lv_at hl 5 rfl) ?_
        revert hf
        refine k_pcl (fun z9 h8 hf => ?_)
        refine w_afi hw (w_rV (As := [.int x2, .int x5]) C hw (ok_X0_mostAlike h8) (cw_X0_441 hts (Nat.le_of_ble_eq_true rfl) (Nat.le_of_ble_eq_true rfl)) rfl (by decide) (of_req h8).1 rfl hl.1 rfl (Nat.le_of_ble_eq_true rfl) ⟨Nat.zero_le _, Nat.zero_le _⟩ dX0_taste_40) (fun H locs hw => ?_)
        refine lv_istore (lv' := [(6, .int z9), (0, .ref (gb G + x0)), (1, .int x1), (2, .int x2), (3, .int x3), (4, .int x4), (5, .int x5)]) hx hb dX0_taste_43 hl (by decide) rfl (fun ls hl => ?_)
        refine lv_iload hx hb dX0_taste_45 (lv_at hl 0 rfl) ?_
        refine lv_iload hx hb dX0_taste_47 (lv_at hl 5 rfl) ?_
        refine lv_icmp_lt (tgt := 55) hx hb dX0_taste_49 (by decide) (fun c10 => ?_) (fun c10 => ?_)
        · replace hf := ite_t c10 hf
          refine lv_iload hx hb dX0_taste_55 (lv_at hl 0 rfl) ?_
          refine lv_istore (lv' := [(4, .int z9), (6, .int z9), (0, .ref (gb G + x0)), (1, .int x1), (2, .int x2), (3, .int x3), (5, .int x5)]) hx hb dX0_taste_57 hl (by decide) rfl (fun ls hl => ?_)
          refine lv_iload hx hb dX0_taste_59 (lv_at hl 6 rfl) ?_
          refine lv_istore_n (lv' := [(3, .int x5), (4, .int z9), (6, .int z9), (0, .ref (gb G + x0)), (1, .int x1), (2, .int x2), (5, .int x5)]) hx hb dX0_taste_61 rfl hl (by decide) rfl (fun ls hl => ?_)
          exact jk_X0_taste_62 C hr k0 hf hw (lv_sub hl [3, 4, 5, 0, 1, 6] rfl) ih hkx26_68
        · replace hf := ite_f c10 hf
          refine lv_goto (tgt := 62) hx hb dX0_taste_52 (by decide) ?_
          exact jk_X0_taste_62 C hr k0 hf hw (lv_sub hl [1, 2, 3, 4, 5, 6] rfl) ih hkx26_68
set_option maxHeartbeats 4000000 in
theorem ok_X0_taste {l : Launch} {G : gG} {T : Tt} {V0 : Vt} {o : Nat} {a0 : Int32} {r : Int32} (hf : f_X0_taste T V0 o a0 = some r) : okM l G yX0_taste cX0_taste 7 (some .int) 6 [.ref (gb G + o), .int a0] V0 T (some (.int r)) V0 T 0 0 := by
  refine ok_intro (by decide) (Nat.le_of_ble_eq_true rfl) ?_
  intro p e s m below meth c ls C hr hnm hw hl
  have hx := C.1
  have hb := C.2.1
  have hown := C.2.2.2.1
  have hts := C.2.2.2.2.1
  have hl : lv_has ls 7 [(0, .ref (gb G + o)), (1, .int a0)] := hl
  unfold f_X0_taste at hf
  revert hf
  refine k_req (fun k0 hf => ?_)
  refine lv_iload_n hx hb dX0_taste_0 rfl (lv_at hl 1 rfl) ?_
  refine lv_iconst (v := (0 : Int32)) hx hb dX0_taste_1 (by decide) ?_
  refine lv_iconst (v := (1 : Int32)) hx hb dX0_taste_2 (by decide) ?_
  revert hf
  refine k_pcl (fun z2 h1 hf => ?_)
  refine w_afi hw (w_rS (As := [.int a0, .int (0 : Int32), .int (1 : Int32)]) C hw (ok_X0_in h1) (cw_X0_108 hts (Nat.le_of_ble_eq_true rfl) (Nat.le_of_ble_eq_true rfl)) rfl hl.1 rfl (Nat.le_of_ble_eq_true rfl) ⟨Nat.zero_le _, Nat.zero_le _⟩ dX0_taste_3) (fun H locs hw => ?_)
  refine lv_if_ne (tgt := 11) hx hb dX0_taste_6 (by decide) (fun c3 => ?_) (fun c3 => ?_)
  · replace hf := ite_f c3 hf
    refine lv_aload_n hx hb dX0_taste_11 rfl (lv_at hl 0 rfl) ?_
    revert hf
    refine k_pcl (fun z5 h4 hf => ?_)
    refine w_afi hw (w_rV (As := []) C hw (ok_X0_canBe h4) (cw_X0_438 hts (Nat.le_of_ble_eq_true rfl) (Nat.le_of_ble_eq_true rfl)) rfl (by decide) (of_req h4).1 rfl hl.1 rfl (Nat.le_of_ble_eq_true rfl) ⟨Nat.zero_le _, Nat.zero_le _⟩ dX0_taste_12) (fun H locs hw => ?_)
    refine lv_istore_n (lv' := [(2, .int z5), (0, .ref (gb G + o)), (1, .int a0)]) hx hb dX0_taste_15 rfl hl (by decide) rfl (fun ls hl => ?_)
    refine lv_iconst (v := ((-1) : Int32)) hx hb dX0_taste_16 (by decide) ?_
    refine lv_istore_n (lv' := [(3, .int ((-1) : Int32)), (2, .int z5), (0, .ref (gb G + o)), (1, .int a0)]) hx hb dX0_taste_17 rfl hl (by decide) rfl (fun ls hl => ?_)
    refine lv_ldcw (v := (1000000 : Int32)) hx hb hown (hts _ q1403) dX0_taste_18 ?_
    refine lv_istore (lv' := [(4, .int (1000000 : Int32)), (3, .int ((-1) : Int32)), (2, .int z5), (0, .ref (gb G + o)), (1, .int a0)]) hx hb dX0_taste_21 hl (by decide) rfl (fun ls hl => ?_)
    refine lv_iconst (v := (0 : Int32)) hx hb dX0_taste_23 (by decide) ?_
    refine lv_istore (lv' := [(5, .int (0 : Int32)), (4, .int (1000000 : Int32)), (3, .int ((-1) : Int32)), (2, .int z5), (0, .ref (gb G + o)), (1, .int a0)]) hx hb dX0_taste_24 hl (by decide) rfl (fun ls hl => ?_)
    refine lk_X0_taste_26 C hr k0 (fun z12 z13 H locs ls hf hw hl => ?_) fuel _ _ _ _ _ _ hf hw (lv_sub hl [4, 5, 3, 2, 1, 0] rfl)
    exact jk_X0_taste_68 C hr hf hw (lv_sub hl [0, 1, 2] rfl)
  · replace hf := ite_t c3 hf
    refine lv_iconst (v := ((-1) : Int32)) hx hb dX0_taste_9 (by decide) ?_
    cases hf
    exact w_iret C hr hw dX0_taste_10
set_option maxHeartbeats 4000000 in
theorem lk_X0_few_151 {l : Launch} {G : gG} {p : Program} {e : Env} {s : State} {m : MethodId} {args : Array Value} {below : List Frame} {meth : Method} {c : Code} {T : Tt} {V0 : Vt} {r : Int64} {V' : Vt} (C : Cx G p s m args meth c cX0_few RX0 6) (hr : meth.sig.returnType = (some .long)) {x0 : Nat} {x1 : Int32} {kx151_173 : Int64 → Option (Int64 × Vt)} (k0 : T.1 x0 = 1) (hkx151_173 : ∀ (y3 : Int64) (H : Heap) (locs : List Loc) (ls : Array Slot), kx151_173 y3 = some (r, V') → wS G V0 T H locs → lv_has ls 6 [(3, .long y3)] → W p l e (rmL 1 0 0) s m args below meth c H locs 0 0 (eQ G below (some (.long r)) V' T args s 0 0) (F0 m 173 ls [])) : ∀ (n : Nat) (x3 : Int64) (x5 : Int32) (H : Heap) (locs : List Loc) (ls : Array Slot), f_X0_few_L151 T V0 x0 x1 kx151_173 n x3 x5 = some (r, V') → wS G V0 T H locs → lv_has ls 6 [(0, .ref (gb G + x0)), (1, .int x1), (3, .long x3), (5, .int x5)] → W p l e (rmL 1 0 0) s m args below meth c H locs 0 0 (eQ G below (some (.long r)) V' T args s 0 0) (F0 m 151 ls []) := by
  have hx := C.1
  have hb := C.2.1
  have hown := C.2.2.2.1
  have hts := C.2.2.2.2.1
  intro n
  induction n with
  | zero =>
    intro x3 x5 H locs ls hf
    cases hf
  | succ n ih =>
    intro x3 x5 H locs ls hf hw hl
    unfold f_X0_few_L151 at hf
    refine lv_iload hx hb dX0_few_151 (lv_at hl 3 rfl) ?_
    refine lv_iload_n hx hb dX0_few_153 rfl (lv_at hl 1 rfl) ?_
    refine lv_icmp_ge (tgt := 173) hx hb dX0_few_154 (by decide) (fun c36 => ?_) (fun c36 => ?_)
    · replace hf := ite_t c36 hf
      exact hkx151_173 _ _ _ _ hf hw (lv_sub hl [2] rfl)
    · replace hf := ite_f c36 hf
      refine lv_lload_n hx hb dX0_few_157 rfl (lv_at hl 2 rfl) ?_
      refine lv_aload_n hx hb dX0_few_158 rfl (lv_at hl 0 rfl) ?_
      revert hf
      refine k_drf (fun r37 er37 hf => ?_)
      refine gf_X0_85 C hw k0 er37 dX0_few_159 ?_
      refine lv_iload hx hb dX0_few_162 (lv_at hl 3 rfl) ?_
      revert hf
      refine k_req (fun h38 hf => ?_)
      refine w_lald C hw h38 rfl dX0_few_164 ?_
      refine lv_ladd hx hb dX0_few_165 ?_
      revert hf
      refine k_stp (fun z39 ez39 hf => ?_)
      refine w_nmL ez39 ?_
      refine lv_lstore_n (lv' := [(3, .long z39), (0, .ref (gb G + x0)), (1, .int x1), (5, .int x5)]) hx hb dX0_few_166 rfl hl (by decide) rfl (fun ls hl => ?_)
      revert hf
      refine k_stp (fun z40 ez40 hf => ?_)
      refine lv_iinc (k := 3) (lv' := [(5, .int z40), (3, .long z39), (0, .ref (gb G + x0)), (1, .int x1)]) hx hb dX0_few_167 hl rfl (inc_e (by decide) ez40) (by decide) rfl (fun ls hl => ?_)
      refine lv_goto (tgt := 151) hx hb dX0_few_170 (by decide) ?_
      exact ih _ _ _ _ _ hf hw (lv_sub hl [2, 3, 1, 0] rfl)
set_option maxHeartbeats 4000000 in
theorem lk_X0_few_67 {l : Launch} {G : gG} {p : Program} {e : Env} {s : State} {m : MethodId} {args : Array Value} {below : List Frame} {meth : Method} {c : Code} {T : Tt} {r : Int64} {V' : Vt} (C : Cx G p s m args meth c cX0_few RX0 6) (hr : meth.sig.returnType = (some .long)) {x0 : Nat} {x1 : Int32} {x2 : Int32} {x3 : Int32} {kc57 : Int32 → Vt → Option (Int64 × Vt)} {kx57_146 : Vt → Option (Int64 × Vt)} {kx67_140 : Vt → Option (Int64 × Vt)} (k0 : T.1 x0 = 1) (hkc57 : ∀ (y3 : Int32) (W1 : Vt) (H : Heap) (locs : List Loc) (ls : Array Slot), kc57 y3 W1 = some (r, V') → wS G W1 T H locs → lv_has ls 6 [(0, .ref (gb G + x0)), (1, .int x1), (2, .int x2), (3, .int y3)] → W p l e (rmL 1 0 0) s m args below meth c H locs 0 0 (eQ G below (some (.long r)) V' T args s 0 0) (F0 m 57 ls [])) (hkx57_146 : ∀ (W1 : Vt) (H : Heap) (locs : List Loc) (ls : Array Slot), kx57_146 W1 = some (r, V') → wS G W1 T H locs → lv_has ls 6 [(0, .ref (gb G + x0)), (1, .int x1)] → W p l e (rmL 1 0 0) s m args below meth c H locs 0 0 (eQ G below (some (.long r)) V' T args s 0 0) (F0 m 146 ls [])) (hkx67_140 : ∀ (W1 : Vt) (H : Heap) (locs : List Loc) (ls : Array Slot), kx67_140 W1 = some (r, V') → wS G W1 T H locs → lv_has ls 6 [(0, .ref (gb G + x0)), (1, .int x1), (2, .int x2), (3, .int x3)] → W p l e (rmL 1 0 0) s m args below meth c H locs 0 0 (eQ G below (some (.long r)) V' T args s 0 0) (F0 m 140 ls [])) : ∀ (n : Nat) (x4 : Int32) (V1 : Vt) (H : Heap) (locs : List Loc) (ls : Array Slot), f_X0_few_L67 T x0 x1 x2 x3 kc57 kx57_146 kx67_140 n x4 V1 = some (r, V') → wS G V1 T H locs → lv_has ls 6 [(0, .ref (gb G + x0)), (1, .int x1), (2, .int x2), (3, .int x3), (4, .int x4)] → W p l e (rmL 1 0 0) s m args below meth c H locs 0 0 (eQ G below (some (.long r)) V' T args s 0 0) (F0 m 67 ls []) := by
  have hx := C.1
  have hb := C.2.1
  have hown := C.2.2.2.1
  have hts := C.2.2.2.2.1
  intro n
  induction n with
  | zero =>
    intro x4 V1 H locs ls hf
    cases hf
  | succ n ih =>
    intro x4 V1 H locs ls hf hw hl
    unfold f_X0_few_L67 at hf
    refine lv_iload hx hb dX0_few_67 (lv_at hl 4 rfl) ?_
    refine lv_if_lt (tgt := 140) hx hb dX0_few_69 (by decide) (fun c16 => ?_) (fun c16 => ?_)
    · replace hf := ite_t c16 hf
      exact hkx67_140 _ _ _ _ hf hw (lv_sub hl [0, 1, 2, 3] rfl)
    · replace hf := ite_f c16 hf
      refine lv_aload_n hx hb dX0_few_72 rfl (lv_at hl 0 rfl) ?_
      revert hf
      refine k_drf (fun r17 er17 hf => ?_)
      refine gf_X0_85 C hw k0 er17 dX0_few_73 ?_
      refine lv_iload hx hb dX0_few_76 (lv_at hl 4 rfl) ?_
      refine lv_iconst (v := (1 : Int32)) hx hb dX0_few_78 (by decide) ?_
      refine lv_iadd hx hb dX0_few_79 ?_
      refine lv_dup2_11 hx hb dX0_few_80 rfl rfl ?_
      revert hf
      refine k_req (fun h18 hf => ?_)
      refine w_lald C hw h18 rfl dX0_few_81 ?_
      refine lv_aload_n hx hb dX0_few_82 rfl (lv_at hl 0 rfl) ?_
      revert hf
      refine k_drf (fun r19 er19 hf => ?_)
      refine gf_X0_85 C hw k0 er19 dX0_few_83 ?_
      refine lv_iload hx hb dX0_few_86 (lv_at hl 4 rfl) ?_
      revert hf
      refine k_req (fun h20 hf => ?_)
      refine w_lald C hw h20 rfl dX0_few_88 ?_
      refine lv_aload_n hx hb dX0_few_89 rfl (lv_at hl 0 rfl) ?_
      revert hf
      refine k_drf (fun r21 er21 hf => ?_)
      refine gf_X0_31 C hw k0 er21 dX0_few_90 ?_
      revert hf
      refine k_req (fun k22 hf => ?_)
      refine gf_X0_189 C hw k22 dX0_few_93 ?_
      refine lv_i2l hx hb dX0_few_96 rfl ?_
      refine lv_lmul hx hb dX0_few_97 ?_
      refine lv_ldc2 (v := (10 : Int64)) hx hb hown (hts _ q1466) dX0_few_98 ?_
      refine lv_ldiv hx hb dX0_few_101 (by decide) ?_
      refine lv_ladd hx hb dX0_few_102 ?_
      revert hf
      refine k_req (fun h23 hf => ?_)
      revert hf
      refine k_stp (fun U24 eU24 hf => ?_)
      refine w_last C hw h23 eU24 dX0_few_103 (fun H locs hw => ?_)
      refine lv_aload_n hx hb dX0_few_104 rfl (lv_at hl 0 rfl) ?_
      revert hf
      refine k_drf (fun r25 er25 hf => ?_)
      refine gf_X0_85 C hw k0 er25 dX0_few_105 ?_
      refine lv_iload hx hb dX0_few_108 (lv_at hl 4 rfl) ?_
      refine lv_aload_n hx hb dX0_few_110 rfl (lv_at hl 0 rfl) ?_
      revert hf
      refine k_drf (fun r26 er26 hf => ?_)
      refine gf_X0_85 C hw k0 er26 dX0_few_111 ?_
      refine lv_iload hx hb dX0_few_114 (lv_at hl 4 rfl) ?_
      revert hf
      refine k_req (fun h27 hf => ?_)
      refine w_lald C hw h27 rfl dX0_few_116 ?_
      refine lv_bipush (v := (10 : Int32)) hx hb dX0_few_117 (by decide) ?_
      refine lv_aload_n hx hb dX0_few_119 rfl (lv_at hl 0 rfl) ?_
      revert hf
      refine k_drf (fun r28 er28 hf => ?_)
      refine gf_X0_31 C hw k0 er28 dX0_few_120 ?_
      revert hf
      refine k_req (fun k29 hf => ?_)
      refine gf_X0_189 C hw k29 dX0_few_123 ?_
      refine lv_isub hx hb dX0_few_126 ?_
      refine lv_i2l hx hb dX0_few_127 rfl ?_
      refine lv_lmul hx hb dX0_few_128 ?_
      refine lv_ldc2 (v := (10 : Int64)) hx hb hown (hts _ q1466) dX0_few_129 ?_
      refine lv_ldiv hx hb dX0_few_132 (by decide) ?_
      revert hf
      refine k_req (fun h30 hf => ?_)
      revert hf
      refine k_stp (fun U31 eU31 hf => ?_)
      refine w_last C hw h30 eU31 dX0_few_133 (fun H locs hw => ?_)
      revert hf
      refine k_stp (fun z32 ez32 hf => ?_)
      refine lv_iinc (k := 4) (lv' := [(4, .int z32), (0, .ref (gb G + x0)), (1, .int x1), (2, .int x2), (3, .int x3)]) hx hb dX0_few_134 hl rfl (inc_e (by decide) ez32) (by decide) rfl (fun ls hl => ?_)
      refine lv_goto (tgt := 67) hx hb dX0_few_137 (by decide) ?_
      exact ih _ _ _ _ _ hf hw (lv_sub hl [1, 2, 3, 4, 0] rfl)
set_option maxHeartbeats 4000000 in
theorem lk_X0_few_57 {l : Launch} {G : gG} {p : Program} {e : Env} {s : State} {m : MethodId} {args : Array Value} {below : List Frame} {meth : Method} {c : Code} {T : Tt} {r : Int64} {V' : Vt} (C : Cx G p s m args meth c cX0_few RX0 6) (hr : meth.sig.returnType = (some .long)) {x0 : Nat} {x1 : Int32} {x2 : Int32} {kx57_146 : Vt → Option (Int64 × Vt)} (k0 : T.1 x0 = 1) (hkx57_146 : ∀ (W1 : Vt) (H : Heap) (locs : List Loc) (ls : Array Slot), kx57_146 W1 = some (r, V') → wS G W1 T H locs → lv_has ls 6 [(0, .ref (gb G + x0)), (1, .int x1)] → W p l e (rmL 1 0 0) s m args below meth c H locs 0 0 (eQ G below (some (.long r)) V' T args s 0 0) (F0 m 146 ls [])) : ∀ (n : Nat) (x3 : Int32) (V1 : Vt) (H : Heap) (locs : List Loc) (ls : Array Slot), f_X0_few_L57 T x0 x1 x2 kx57_146 n x3 V1 = some (r, V') → wS G V1 T H locs → lv_has ls 6 [(0, .ref (gb G + x0)), (1, .int x1), (2, .int x2), (3, .int x3)] → W p l e (rmL 1 0 0) s m args below meth c H locs 0 0 (eQ G below (some (.long r)) V' T args s 0 0) (F0 m 57 ls []) := by
  have hx := C.1
  have hb := C.2.1
  have hown := C.2.2.2.1
  have hts := C.2.2.2.2.1
  intro n
  induction n with
  | zero =>
    intro x3 V1 H locs ls hf
    cases hf
  | succ n ih =>
    intro x3 V1 H locs ls hf hw hl
    unfold f_X0_few_L57 at hf
    refine lv_iload_n hx hb dX0_few_57 rfl (lv_at hl 3 rfl) ?_
    refine lv_iload_n hx hb dX0_few_58 rfl (lv_at hl 2 rfl) ?_
    refine lv_icmp_ge (tgt := 146) hx hb dX0_few_59 (by decide) (fun c14 => ?_) (fun c14 => ?_)
    · replace hf := ite_t c14 hf
      exact hkx57_146 _ _ _ _ hf hw (lv_sub hl [0, 1] rfl)
    · replace hf := ite_f c14 hf
      refine lv_iload_n hx hb dX0_few_62 rfl (lv_at hl 1 rfl) ?_
      refine lv_iconst (v := (1 : Int32)) hx hb dX0_few_63 (by decide) ?_
      refine lv_isub hx hb dX0_few_64 ?_
      revert hf
      refine k_stp (fun z15 ez15 hf => ?_)
      refine w_nmI ez15 ?_
      refine lv_istore (lv' := [(4, .int z15), (0, .ref (gb G + x0)), (1, .int x1), (2, .int x2), (3, .int x3)]) hx hb dX0_few_65 hl (by decide) rfl (fun ls hl => ?_)
      refine lk_X0_few_67 C hr k0 ih hkx57_146 (fun U33 H locs ls hf hw hl => ?_) fuel _ _ _ _ _ hf hw (lv_sub hl [1, 2, 3, 4, 0] rfl)
      revert hf
      refine k_stp (fun z34 ez34 hf => ?_)
      refine lv_iinc (k := 3) (lv' := [(3, .int z34), (0, .ref (gb G + x0)), (1, .int x1), (2, .int x2)]) hx hb dX0_few_140 hl rfl (inc_e (by decide) ez34) (by decide) rfl (fun ls hl => ?_)
      refine lv_goto (tgt := 57) hx hb dX0_few_143 (by decide) ?_
      exact ih _ _ _ _ _ hf hw (lv_sub hl [1, 2, 3, 0] rfl)
set_option maxHeartbeats 4000000 in
theorem jk_X0_few_48 {l : Launch} {G : gG} {p : Program} {e : Env} {s : State} {m : MethodId} {args : Array Value} {below : List Frame} {meth : Method} {c : Code} {T : Tt} {V0 : Vt} {r : Int64} {V' : Vt} (C : Cx G p s m args meth c cX0_few RX0 6) (hr : meth.sig.returnType = (some .long)) {x0 : Nat} {x1 : Int32} {x2 : Int32} {x3 : Int32} {s0 : Nat} {s1 : Int32} {s2 : Int64} {kc26 : Int32 → Vt → Option (Int64 × Vt)} {kx26_55 : Vt → Option (Int64 × Vt)} {H : Heap} {locs : List Loc} {ls : Array Slot} (k0 : T.1 x0 = 1) (hf : f_X0_few_J48 T V0 x0 x1 x2 x3 s0 s1 s2 kc26 kx26_55 = some (r, V')) (hw : wS G V0 T H locs) (hl : lv_has ls 6 [(0, .ref (gb G + x0)), (1, .int x1), (2, .int x2), (3, .int x3)]) (hkc26 : ∀ (y3 : Int32) (W1 : Vt) (H : Heap) (locs : List Loc) (ls : Array Slot), kc26 y3 W1 = some (r, V') → wS G W1 T H locs → lv_has ls 6 [(0, .ref (gb G + x0)), (1, .int x1), (2, .int x2), (3, .int y3)] → W p l e (rmL 1 0 0) s m args below meth c H locs 0 0 (eQ G below (some (.long r)) V' T args s 0 0) (F0 m 26 ls [])) (hkx26_55 : ∀ (W1 : Vt) (H : Heap) (locs : List Loc) (ls : Array Slot), kx26_55 W1 = some (r, V') → wS G W1 T H locs → lv_has ls 6 [(0, .ref (gb G + x0)), (1, .int x1), (2, .int x2)] → W p l e (rmL 1 0 0) s m args below meth c H locs 0 0 (eQ G below (some (.long r)) V' T args s 0 0) (F0 m 55 ls [])) : W p l e (rmL 1 0 0) s m args below meth c H locs 0 0 (eQ G below (some (.long r)) V' T args s 0 0) (F0 m 48 ls [.long s2, .int s1, .ref (gb G + s0)]) := by
  have hx := C.1
  have hb := C.2.1
  have hown := C.2.2.2.1
  have hts := C.2.2.2.2.1
  unfold f_X0_few_J48 at hf
  revert hf
  refine k_req (fun h10 hf => ?_)
  revert hf
  refine k_stp (fun U11 eU11 hf => ?_)
  refine w_last C hw h10 eU11 dX0_few_48 (fun H locs hw => ?_)
  revert hf
  refine k_stp (fun z12 ez12 hf => ?_)
  refine lv_iinc (k := 3) (lv' := [(3, .int z12), (0, .ref (gb G + x0)), (1, .int x1), (2, .int x2)]) hx hb dX0_few_49 hl rfl (inc_e (by decide) ez12) (by decide) rfl (fun ls hl => ?_)
  refine lv_goto (tgt := 26) hx hb dX0_few_52 (by decide) ?_
  exact hkc26 _ _ _ _ _ hf hw (lv_sub hl [1, 2, 3, 0] rfl)
set_option maxHeartbeats 4000000 in
theorem lk_X0_few_26 {l : Launch} {G : gG} {p : Program} {e : Env} {s : State} {m : MethodId} {args : Array Value} {below : List Frame} {meth : Method} {c : Code} {T : Tt} {r : Int64} {V' : Vt} (C : Cx G p s m args meth c cX0_few RX0 6) (hr : meth.sig.returnType = (some .long)) {x0 : Nat} {x1 : Int32} {x2 : Int32} {kx26_55 : Vt → Option (Int64 × Vt)} (k0 : T.1 x0 = 1) (hkx26_55 : ∀ (W1 : Vt) (H : Heap) (locs : List Loc) (ls : Array Slot), kx26_55 W1 = some (r, V') → wS G W1 T H locs → lv_has ls 6 [(0, .ref (gb G + x0)), (1, .int x1), (2, .int x2)] → W p l e (rmL 1 0 0) s m args below meth c H locs 0 0 (eQ G below (some (.long r)) V' T args s 0 0) (F0 m 55 ls [])) : ∀ (n : Nat) (x3 : Int32) (V1 : Vt) (H : Heap) (locs : List Loc) (ls : Array Slot), f_X0_few_L26 T x0 x1 x2 kx26_55 n x3 V1 = some (r, V') → wS G V1 T H locs → lv_has ls 6 [(0, .ref (gb G + x0)), (1, .int x1), (2, .int x2), (3, .int x3)] → W p l e (rmL 1 0 0) s m args below meth c H locs 0 0 (eQ G below (some (.long r)) V' T args s 0 0) (F0 m 26 ls []) := by
  have hx := C.1
  have hb := C.2.1
  have hown := C.2.2.2.1
  have hts := C.2.2.2.2.1
  intro n
  induction n with
  | zero =>
    intro x3 V1 H locs ls hf
    cases hf
  | succ n ih =>
    intro x3 V1 H locs ls hf hw hl
    unfold f_X0_few_L26 at hf
    refine lv_iload_n hx hb dX0_few_26 rfl (lv_at hl 3 rfl) ?_
    refine lv_bipush (v := (20 : Int32)) hx hb dX0_few_27 (by decide) ?_
    refine lv_icmp_gt (tgt := 55) hx hb dX0_few_29 (by decide) (fun c7 => ?_) (fun c7 => ?_)
    · replace hf := ite_t c7 hf
      exact hkx26_55 _ _ _ _ hf hw (lv_sub hl [0, 1, 2] rfl)
    · replace hf := ite_f c7 hf
      refine lv_aload_n hx hb dX0_few_32 rfl (lv_at hl 0 rfl) ?_
      revert hf
      refine k_drf (fun r8 er8 hf => ?_)
      refine gf_X0_85 C hw k0 er8 dX0_few_33 ?_
      refine lv_iload_n hx hb dX0_few_36 rfl (lv_at hl 3 rfl) ?_
      refine lv_iload_n hx hb dX0_few_37 rfl (lv_at hl 3 rfl) ?_
      refine lv_if_ne (tgt := 47) hx hb dX0_few_38 (by decide) (fun c9 => ?_) (fun c9 => ?_)
      · replace hf := ite_f c9 hf
        refine lv_lconst (v := (0 : Int64)) hx hb dX0_few_47 (by decide) ?_
        exact jk_X0_few_48 C hr k0 hf hw (lv_sub hl [0, 1, 2, 3] rfl) ih hkx26_55
      · replace hf := ite_t c9 hf
        refine lv_ldc2 (v := (1000000000000 : Int64)) hx hb hown (hts _ q698) dX0_few_41 ?_
        refine lv_goto (tgt := 48) hx hb dX0_few_44 (by decide) ?_
        exact jk_X0_few_48 C hr k0 hf hw (lv_sub hl [0, 1, 2, 3] rfl) ih hkx26_55
set_option maxHeartbeats 4000000 in
theorem jk_X0_few_20 {l : Launch} {G : gG} {p : Program} {e : Env} {s : State} {m : MethodId} {args : Array Value} {below : List Frame} {meth : Method} {c : Code} {T : Tt} {V0 : Vt} {r : Int64} {V' : Vt} (C : Cx G p s m args meth c cX0_few RX0 6) (hr : meth.sig.returnType = (some .long)) {H : Heap} {locs : List Loc} {ls : Array Slot} (hf : f_X0_few_J20 T V0 = some (r, V')) (hw : wS G V0 T H locs) (hl : lv_has ls 6 []) : W p l e (rmL 1 0 0) s m args below meth c H locs 0 0 (eQ G below (some (.long r)) V' T args s 0 0) (F0 m 20 ls []) := by
  have hx := C.1
  have hb := C.2.1
  have hown := C.2.2.2.1
  have hts := C.2.2.2.2.1
  unfold f_X0_few_J20 at hf
  refine lv_ldc2 (v := ((-1) : Int64)) hx hb hown (hts _ q696) dX0_few_20 ?_
  cases hf
  exact w_lret C hr hw dX0_few_23
set_option maxHeartbeats 4000000 in
theorem ok_X0_few {l : Launch} {G : gG} {T : Tt} {V0 : Vt} {o : Nat} {a0 : Int32} {a1 : Int32} {r : Int64} {V' : Vt} (hf : f_X0_few T V0 o a0 a1 = some (r, V')) : okM l G yX0_few cX0_few 6 (some .long) 1 [.ref (gb G + o), .int a0, .int a1] V0 T (some (.long r)) V' T 0 0 := by
  refine ok_intro (by decide) (Nat.le_of_ble_eq_true rfl) ?_
  intro p e s m below meth c ls C hr hnm hw hl
  have hx := C.1
  have hb := C.2.1
  have hown := C.2.2.2.1
  have hts := C.2.2.2.2.1
  have hl : lv_has ls 6 [(0, .ref (gb G + o)), (1, .int a0), (2, .int a1)] := hl
  unfold f_X0_few at hf
  revert hf
  refine k_req (fun k0 hf => ?_)
  refine lv_iload_n hx hb dX0_few_0 rfl (lv_at hl 1 rfl) ?_
  refine lv_iconst (v := (1 : Int32)) hx hb dX0_few_1 (by decide) ?_
  refine lv_bipush (v := (20 : Int32)) hx hb dX0_few_2 (by decide) ?_
  revert hf
  refine k_pcl (fun z2 h1 hf => ?_)
  refine w_afi hw (w_rS (As := [.int a0, .int (1 : Int32), .int (20 : Int32)]) C hw (ok_X0_in h1) (cw_X0_108 hts (Nat.le_of_ble_eq_true rfl) (Nat.le_of_ble_eq_true rfl)) rfl hl.1 rfl (Nat.le_of_ble_eq_true rfl) ⟨Nat.zero_le _, Nat.zero_le _⟩ dX0_few_4) (fun H locs hw => ?_)
  refine lv_if_eq (tgt := 20) hx hb dX0_few_7 (by decide) (fun c3 => ?_) (fun c3 => ?_)
  · replace hf := ite_t c3 hf
    exact jk_X0_few_20 C hr hf hw (lv_sub hl [] rfl)
  · replace hf := ite_f c3 hf
    refine lv_iload_n hx hb dX0_few_10 rfl (lv_at hl 2 rfl) ?_
    refine lv_iconst (v := (0 : Int32)) hx hb dX0_few_11 (by decide) ?_
    refine lv_bipush (v := (99 : Int32)) hx hb dX0_few_12 (by decide) ?_
    revert hf
    refine k_pcl (fun z5 h4 hf => ?_)
    refine w_afi hw (w_rS (As := [.int a1, .int (0 : Int32), .int (99 : Int32)]) C hw (ok_X0_in h4) (cw_X0_108 hts (Nat.le_of_ble_eq_true rfl) (Nat.le_of_ble_eq_true rfl)) rfl hl.1 rfl (Nat.le_of_ble_eq_true rfl) ⟨Nat.zero_le _, Nat.zero_le _⟩ dX0_few_14) (fun H locs hw => ?_)
    refine lv_if_ne (tgt := 24) hx hb dX0_few_17 (by decide) (fun c6 => ?_) (fun c6 => ?_)
    · replace hf := ite_f c6 hf
      refine lv_iconst (v := (0 : Int32)) hx hb dX0_few_24 (by decide) ?_
      refine lv_istore_n (lv' := [(3, .int (0 : Int32)), (0, .ref (gb G + o)), (1, .int a0), (2, .int a1)]) hx hb dX0_few_25 rfl hl (by decide) rfl (fun ls hl => ?_)
      refine lk_X0_few_26 C hr k0 (fun U13 H locs ls hf hw hl => ?_) fuel _ _ _ _ _ hf hw (lv_sub hl [1, 2, 3, 0] rfl)
      refine lv_iconst (v := (0 : Int32)) hx hb dX0_few_55 (by decide) ?_
      refine lv_istore_n (lv' := [(3, .int (0 : Int32)), (0, .ref (gb G + o)), (1, .int a0), (2, .int a1)]) hx hb dX0_few_56 rfl hl (by decide) rfl (fun ls hl => ?_)
      refine lk_X0_few_57 C hr k0 (fun U35 H locs ls hf hw hl => ?_) fuel _ _ _ _ _ hf hw (lv_sub hl [1, 2, 3, 0] rfl)
      refine lv_lconst (v := (0 : Int64)) hx hb dX0_few_146 (by decide) ?_
      refine lv_lstore_n (lv' := [(3, .long (0 : Int64)), (0, .ref (gb G + o)), (1, .int a0)]) hx hb dX0_few_147 rfl hl (by decide) rfl (fun ls hl => ?_)
      refine lv_iconst (v := (0 : Int32)) hx hb dX0_few_148 (by decide) ?_
      refine lv_istore (lv' := [(5, .int (0 : Int32)), (3, .long (0 : Int64)), (0, .ref (gb G + o)), (1, .int a0)]) hx hb dX0_few_149 hl (by decide) rfl (fun ls hl => ?_)
      refine lk_X0_few_151 C hr k0 (fun z41 H locs ls hf hw hl => ?_) fuel _ _ _ _ _ hf hw (lv_sub hl [2, 3, 1, 0] rfl)
      refine lv_lload_n hx hb dX0_few_173 rfl (lv_at hl 0 rfl) ?_
      cases hf
      exact w_lret C hr hw dX0_few_174
    · replace hf := ite_t c6 hf
      exact jk_X0_few_20 C hr hf hw (lv_sub hl [] rfl)
set_option maxHeartbeats 4000000 in
theorem ok_X0_drawn {l : Launch} {G : gG} {T : Tt} {V0 : Vt} {o : Nat} {a0 : Int32} {a1 : Int32} {r : Int32} (hf : f_X0_drawn T V0 o a0 a1 = some r) : okM l G yX0_drawn cX0_drawn 3 (some .int) 2 [.ref (gb G + o), .int a0, .int a1] V0 T (some (.int r)) V0 T 0 0 := by
  refine ok_intro (by decide) (Nat.le_of_ble_eq_true rfl) ?_
  intro p e s m below meth c ls C hr hnm hw hl
  have hx := C.1
  have hb := C.2.1
  have hown := C.2.2.2.1
  have hts := C.2.2.2.2.1
  have hl : lv_has ls 3 [(0, .ref (gb G + o)), (1, .int a0), (2, .int a1)] := hl
  unfold f_X0_drawn at hf
  revert hf
  refine k_req (fun k0 hf => ?_)
  refine lv_aload_n hx hb dX0_drawn_0 rfl (lv_at hl 0 rfl) ?_
  refine gf_X0_92 C hw k0 dX0_drawn_1 ?_
  refine lv_iconst (v := ((-1) : Int32)) hx hb dX0_drawn_4 (by decide) ?_
  refine lv_icmp_eq (tgt := 31) hx hb dX0_drawn_5 (by decide) (fun c1 => ?_) (fun c1 => ?_)
  · replace hf := ite_t c1 hf
    refine lv_iconst (v := ((-1) : Int32)) hx hb dX0_drawn_31 (by decide) ?_
    cases hf
    exact w_iret C hr hw dX0_drawn_32
  · replace hf := ite_f c1 hf
    refine lv_iload_n hx hb dX0_drawn_8 rfl (lv_at hl 1 rfl) ?_
    refine lv_iconst (v := (0 : Int32)) hx hb dX0_drawn_9 (by decide) ?_
    refine lv_aload_n hx hb dX0_drawn_10 rfl (lv_at hl 0 rfl) ?_
    refine gf_X0_92 C hw k0 dX0_drawn_11 ?_
    refine lv_iconst (v := (1 : Int32)) hx hb dX0_drawn_14 (by decide) ?_
    refine lv_isub hx hb dX0_drawn_15 ?_
    revert hf
    refine k_pcl (fun z3 h2 hf => ?_)
    refine w_afi hw (w_rS (As := [.int a0, .int (0 : Int32), .int ((V0.1 o 24) - (1 : Int32))]) C hw (ok_X0_in h2) (cw_X0_108 hts (Nat.le_of_ble_eq_true rfl) (Nat.le_of_ble_eq_true rfl)) rfl hl.1 rfl (Nat.le_of_ble_eq_true rfl) ⟨Nat.zero_le _, Nat.zero_le _⟩ dX0_drawn_16) (fun H locs hw => ?_)
    refine lv_if_eq (tgt := 31) hx hb dX0_drawn_19 (by decide) (fun c4 => ?_) (fun c4 => ?_)
    · replace hf := ite_t c4 hf
      refine lv_iconst (v := ((-1) : Int32)) hx hb dX0_drawn_31 (by decide) ?_
      cases hf
      exact w_iret C hr hw dX0_drawn_32
    · replace hf := ite_f c4 hf
      refine lv_iload_n hx hb dX0_drawn_22 rfl (lv_at hl 2 rfl) ?_
      refine lv_iconst (v := (0 : Int32)) hx hb dX0_drawn_23 (by decide) ?_
      refine lv_iconst (v := (1 : Int32)) hx hb dX0_drawn_24 (by decide) ?_
      revert hf
      refine k_pcl (fun z6 h5 hf => ?_)
      refine w_afi hw (w_rS (As := [.int a1, .int (0 : Int32), .int (1 : Int32)]) C hw (ok_X0_in h5) (cw_X0_108 hts (Nat.le_of_ble_eq_true rfl) (Nat.le_of_ble_eq_true rfl)) rfl hl.1 rfl (Nat.le_of_ble_eq_true rfl) ⟨Nat.zero_le _, Nat.zero_le _⟩ dX0_drawn_25) (fun H locs hw => ?_)
      refine lv_if_ne (tgt := 33) hx hb dX0_drawn_28 (by decide) (fun c7 => ?_) (fun c7 => ?_)
      · replace hf := ite_f c7 hf
        refine lv_iload_n hx hb dX0_drawn_33 rfl (lv_at hl 2 rfl) ?_
        refine lv_if_ne (tgt := 48) hx hb dX0_drawn_34 (by decide) (fun c8 => ?_) (fun c8 => ?_)
        · replace hf := ite_f c8 hf
          refine lv_aload_n hx hb dX0_drawn_48 rfl (lv_at hl 0 rfl) ?_
          revert hf
          refine k_drf (fun r9 er9 hf => ?_)
          refine gf_X0_89 C hw k0 er9 dX0_drawn_49 ?_
          refine lv_iload_n hx hb dX0_drawn_52 rfl (lv_at hl 1 rfl) ?_
          revert hf
          refine k_pcl (fun z11 h10 hf => ?_)
          refine w_afi hw (w_rV (As := [.int a0]) C hw (ok_X2_mean h10) (cw_X0_158 hts (Nat.le_of_ble_eq_true rfl) (Nat.le_of_ble_eq_true rfl)) rfl (by decide) (of_req h10).1 rfl hl.1 rfl (Nat.le_of_ble_eq_true rfl) ⟨Nat.zero_le _, Nat.zero_le _⟩ dX0_drawn_53) (fun H locs hw => ?_)
          cases hf
          exact w_iret C hr hw dX0_drawn_56
        · replace hf := ite_t c8 hf
          refine lv_aload_n hx hb dX0_drawn_37 rfl (lv_at hl 0 rfl) ?_
          revert hf
          refine k_drf (fun r12 er12 hf => ?_)
          refine gf_X0_89 C hw k0 er12 dX0_drawn_38 ?_
          refine lv_iload_n hx hb dX0_drawn_41 rfl (lv_at hl 1 rfl) ?_
          revert hf
          refine k_pcl (fun z14 h13 hf => ?_)
          refine w_afi hw (w_rV (As := [.int a0]) C hw (ok_X2_all h13) (cw_X0_155 hts (Nat.le_of_ble_eq_true rfl) (Nat.le_of_ble_eq_true rfl)) rfl (by decide) (of_req h13).1 rfl hl.1 rfl (Nat.le_of_ble_eq_true rfl) ⟨Nat.zero_le _, Nat.zero_le _⟩ dX0_drawn_42) (fun H locs hw => ?_)
          refine lv_goto (tgt := 56) hx hb dX0_drawn_45 (by decide) ?_
          cases hf
          exact w_iret C hr hw dX0_drawn_56
      · replace hf := ite_t c7 hf
        refine lv_iconst (v := ((-1) : Int32)) hx hb dX0_drawn_31 (by decide) ?_
        cases hf
        exact w_iret C hr hw dX0_drawn_32
set_option maxHeartbeats 4000000 in
theorem ok_X0_status {l : Launch} {G : gG} {T : Tt} {V0 : Vt} {o : Nat} {r : Int32} (hf : f_X0_status T V0 o = some r) : okM l G yX0_status cX0_status 1 (some .int) 0 [.ref (gb G + o)] V0 T (some (.int r)) V0 T 0 0 := by
  refine ok_intro (by decide) (Nat.le_of_ble_eq_true rfl) ?_
  intro p e s m below meth c ls C hr hnm hw hl
  have hx := C.1
  have hb := C.2.1
  have hown := C.2.2.2.1
  have hts := C.2.2.2.2.1
  have hl : lv_has ls 1 [(0, .ref (gb G + o))] := hl
  unfold f_X0_status at hf
  revert hf
  refine k_req (fun k0 hf => ?_)
  refine lv_aload_n hx hb dX0_status_0 rfl (lv_at hl 0 rfl) ?_
  refine gf_X0_1 C hw k0 dX0_status_1 ?_
  cases hf
  exact w_iret C hr hw dX0_status_4
set_option maxHeartbeats 4000000 in
theorem ok_X0_draw {l : Launch} {G : gG} {T : Tt} {V0 : Vt} {o : Nat} {a0 : Int32} {r : Int32} {V' : Vt} (hf : f_X0_draw T V0 o a0 = some (r, V')) : okM l G yX0_draw cX0_draw 2 (some .int) 0 [.ref (gb G + o), .int a0] V0 T (some (.int r)) V' T 0 0 := by
  refine ok_intro (by decide) (Nat.le_of_ble_eq_true rfl) ?_
  intro p e s m below meth c ls C hr hnm hw hl
  have hx := C.1
  have hb := C.2.1
  have hown := C.2.2.2.1
  have hts := C.2.2.2.2.1
  have hl : lv_has ls 2 [(0, .ref (gb G + o)), (1, .int a0)] := hl
  unfold f_X0_draw at hf
  revert hf
  refine k_req (fun k0 hf => ?_)
  refine lv_aload_n hx hb dX0_draw_0 rfl (lv_at hl 0 rfl) ?_
  refine lv_aload_n hx hb dX0_draw_1 rfl (lv_at hl 0 rfl) ?_
  refine gf_X0_449 C hw k0 dX0_draw_2 ?_
  refine lv_i2l hx hb dX0_draw_5 rfl ?_
  refine lv_ldc2 (v := (1103 : Int64)) hx hb hown (hts _ q1487) dX0_draw_6 ?_
  refine lv_lmul hx hb dX0_draw_9 ?_
  refine lv_ldc2 (v := (12345 : Int64)) hx hb hown (hts _ q1488) dX0_draw_10 ?_
  refine lv_ladd hx hb dX0_draw_13 ?_
  refine lv_ldc2 (v := (1000003 : Int64)) hx hb hown (hts _ q1489) dX0_draw_14 ?_
  refine lv_lrem hx hb dX0_draw_17 (by decide) ?_
  refine lv_l2i hx hb dX0_draw_18 rfl ?_
  revert hf
  refine k_stp (fun U1 eU1 hf => ?_)
  refine pf_X0_449 C hw k0 eU1 dX0_draw_19 (fun H locs hw => ?_)
  refine lv_aload_n hx hb dX0_draw_22 rfl (lv_at hl 0 rfl) ?_
  refine gf_X0_449 C hw k0 dX0_draw_23 ?_
  refine lv_iload_n hx hb dX0_draw_26 rfl (lv_at hl 1 rfl) ?_
  revert hf
  refine k_req (fun h2 hf => ?_)
  refine lv_irem hx hb dX0_draw_27 h2 ?_
  cases hf
  exact w_iret C hr hw dX0_draw_28
set_option maxHeartbeats 4000000 in
theorem ok_X0_begins {l : Launch} {G : gG} {T : Tt} {V0 : Vt} {o : Nat} {V' : Vt} (hf : f_X0_begins T V0 o = some V') : okM l G yX0_begins cX0_begins 1 none 3 [.ref (gb G + o)] V0 T none V' T 0 0 := by
  refine ok_intro (by decide) (Nat.le_of_ble_eq_true rfl) ?_
  intro p e s m below meth c ls C hr hnm hw hl
  have hx := C.1
  have hb := C.2.1
  have hown := C.2.2.2.1
  have hts := C.2.2.2.2.1
  have hl : lv_has ls 1 [(0, .ref (gb G + o))] := hl
  unfold f_X0_begins at hf
  revert hf
  refine k_req (fun k0 hf => ?_)
  refine lv_aload_n hx hb dX0_begins_0 rfl (lv_at hl 0 rfl) ?_
  revert hf
  refine k_drf (fun r1 er1 hf => ?_)
  refine gf_X0_59 C hw k0 er1 dX0_begins_1 ?_
  refine lv_aload_n hx hb dX0_begins_4 rfl (lv_at hl 0 rfl) ?_
  revert hf
  refine k_pcl (fun r3 h2 hf => ?_)
  refine w_afr hw (w_rV (As := []) C hw (ok_X0_table h2) (cw_X0_137 hts (Nat.le_of_ble_eq_true rfl) (Nat.le_of_ble_eq_true rfl)) rfl (by decide) (of_req h2).1 rfl hl.1 rfl (Nat.le_of_ble_eq_true rfl) ⟨Nat.zero_le _, Nat.zero_le _⟩ dX0_begins_5) (fun H locs hw => ?_)
  revert hf
  refine k_pcl (fun U6 h4 hf => ?_)
  refine w_afv hw (w_rV (As := [.ref (gb G + r3)]) C hw (ok_X2_takes h4) (cw_X0_318 hts (Nat.le_of_ble_eq_true rfl) (Nat.le_of_ble_eq_true rfl)) rfl (by decide) (of_req h4).1 rfl hl.1 rfl (Nat.le_of_ble_eq_true rfl) ⟨Nat.zero_le _, Nat.zero_le _⟩ dX0_begins_8) (fun H locs hw => ?_)
  refine lv_aload_n hx hb dX0_begins_11 rfl (lv_at hl 0 rfl) ?_
  refine lv_iconst (v := (0 : Int32)) hx hb dX0_begins_12 (by decide) ?_
  revert hf
  refine k_stp (fun U7 eU7 hf => ?_)
  refine pf_X0_395 C hw k0 eU7 dX0_begins_13 (fun H locs hw => ?_)
  refine lv_aload_n hx hb dX0_begins_16 rfl (lv_at hl 0 rfl) ?_
  refine lv_ldcw (v := (1000000 : Int32)) hx hb hown (hts _ q1403) dX0_begins_17 ?_
  revert hf
  refine k_stp (fun U8 eU8 hf => ?_)
  refine pf_X0_399 C hw k0 eU8 dX0_begins_20 (fun H locs hw => ?_)
  cases hf
  exact w_vret C hr hw dX0_begins_23
set_option maxHeartbeats 4000000 in
theorem lk_X0_putsBack_13 {l : Launch} {G : gG} {p : Program} {e : Env} {s : State} {m : MethodId} {args : Array Value} {below : List Frame} {meth : Method} {c : Code} {T : Tt} {V' : Vt} (C : Cx G p s m args meth c cX0_putsBack RX0 3) (hr : meth.sig.returnType = none) {x0 : Nat} {x1 : Int32} {kx13_39 : Vt → Option (Vt)} (k0 : T.1 x0 = 1) (hkx13_39 : ∀ (W1 : Vt) (H : Heap) (locs : List Loc) (ls : Array Slot), kx13_39 W1 = some V' → wS G W1 T H locs → lv_has ls 3 [(0, .ref (gb G + x0)), (1, .int x1)] → W p l e (rmL 3 0 0) s m args below meth c H locs 0 0 (eQ G below none V' T args s 0 0) (F0 m 39 ls [])) : ∀ (n : Nat) (x2 : Int32) (V1 : Vt) (H : Heap) (locs : List Loc) (ls : Array Slot), f_X0_putsBack_L13 T x0 x1 kx13_39 n x2 V1 = some V' → wS G V1 T H locs → lv_has ls 3 [(0, .ref (gb G + x0)), (1, .int x1), (2, .int x2)] → W p l e (rmL 3 0 0) s m args below meth c H locs 0 0 (eQ G below none V' T args s 0 0) (F0 m 13 ls []) := by
  have hx := C.1
  have hb := C.2.1
  have hown := C.2.2.2.1
  have hts := C.2.2.2.2.1
  intro n
  induction n with
  | zero =>
    intro x2 V1 H locs ls hf
    cases hf
  | succ n ih =>
    intro x2 V1 H locs ls hf hw hl
    unfold f_X0_putsBack_L13 at hf
    refine lv_iload_n hx hb dX0_putsBack_13 rfl (lv_at hl 2 rfl) ?_
    refine lv_iload_n hx hb dX0_putsBack_14 rfl (lv_at hl 1 rfl) ?_
    refine lv_icmp_ge (tgt := 39) hx hb dX0_putsBack_15 (by decide) (fun c7 => ?_) (fun c7 => ?_)
    · replace hf := ite_t c7 hf
      exact hkx13_39 _ _ _ _ hf hw (lv_sub hl [0, 1] rfl)
    · replace hf := ite_f c7 hf
      refine lv_aload_n hx hb dX0_putsBack_18 rfl (lv_at hl 0 rfl) ?_
      revert hf
      refine k_drf (fun r8 er8 hf => ?_)
      refine gf_X0_41 C hw k0 er8 dX0_putsBack_19 ?_
      refine lv_iload_n hx hb dX0_putsBack_22 rfl (lv_at hl 2 rfl) ?_
      revert hf
      refine k_req (fun h9 hf => ?_)
      revert hf
      refine k_drf (fun r10 er10 hf => ?_)
      refine w_aald (v := .ref (gb G + r10)) C hw (by decide) (by decide) h9 (by rw [er10]; rfl) dX0_putsBack_23 ?_
      refine lv_aload_n hx hb dX0_putsBack_24 rfl (lv_at hl 0 rfl) ?_
      revert hf
      refine k_drf (fun r11 er11 hf => ?_)
      refine gf_X0_45 C hw k0 er11 dX0_putsBack_25 ?_
      refine lv_iload_n hx hb dX0_putsBack_28 rfl (lv_at hl 2 rfl) ?_
      revert hf
      refine k_req (fun h12 hf => ?_)
      revert hf
      refine k_drf (fun r13 er13 hf => ?_)
      refine w_aald (v := .ref (gb G + r13)) C hw (by decide) (by decide) h12 (by rw [er13]; rfl) dX0_putsBack_29 ?_
      revert hf
      refine k_pcl (fun U16 h14 hf => ?_)
      refine w_afv hw (w_rV (As := [.ref (gb G + r13)]) C hw (ok_X2_takes h14) (cw_X0_318 hts (Nat.le_of_ble_eq_true rfl) (Nat.le_of_ble_eq_true rfl)) rfl (by decide) (of_req h14).1 rfl hl.1 rfl (Nat.le_of_ble_eq_true rfl) ⟨Nat.zero_le _, Nat.zero_le _⟩ dX0_putsBack_30) (fun H locs hw => ?_)
      revert hf
      refine k_stp (fun z17 ez17 hf => ?_)
      refine lv_iinc (k := 2) (lv' := [(2, .int z17), (0, .ref (gb G + x0)), (1, .int x1)]) hx hb dX0_putsBack_33 hl rfl (inc_e (by decide) ez17) (by decide) rfl (fun ls hl => ?_)
      refine lv_goto (tgt := 13) hx hb dX0_putsBack_36 (by decide) ?_
      exact ih _ _ _ _ _ hf hw (lv_sub hl [1, 2, 0] rfl)
set_option maxHeartbeats 4000000 in
theorem ok_X0_putsBack {l : Launch} {G : gG} {T : Tt} {V0 : Vt} {o : Nat} {a0 : Int32} {V' : Vt} (hf : f_X0_putsBack T V0 o a0 = some V') : okM l G yX0_putsBack cX0_putsBack 3 none 3 [.ref (gb G + o), .int a0] V0 T none V' T 0 0 := by
  refine ok_intro (by decide) (Nat.le_of_ble_eq_true rfl) ?_
  intro p e s m below meth c ls C hr hnm hw hl
  have hx := C.1
  have hb := C.2.1
  have hown := C.2.2.2.1
  have hts := C.2.2.2.2.1
  have hl : lv_has ls 3 [(0, .ref (gb G + o)), (1, .int a0)] := hl
  unfold f_X0_putsBack at hf
  revert hf
  refine k_req (fun k0 hf => ?_)
  refine lv_aload_n hx hb dX0_putsBack_0 rfl (lv_at hl 0 rfl) ?_
  revert hf
  refine k_pcl (fun r2 h1 hf => ?_)
  refine w_afr hw (w_rV (As := []) C hw (ok_X0_table h1) (cw_X0_137 hts (Nat.le_of_ble_eq_true rfl) (Nat.le_of_ble_eq_true rfl)) rfl (by decide) (of_req h1).1 rfl hl.1 rfl (Nat.le_of_ble_eq_true rfl) ⟨Nat.zero_le _, Nat.zero_le _⟩ dX0_putsBack_1) (fun H locs hw => ?_)
  refine lv_aload_n hx hb dX0_putsBack_4 rfl (lv_at hl 0 rfl) ?_
  revert hf
  refine k_drf (fun r3 er3 hf => ?_)
  refine gf_X0_55 C hw k0 er3 dX0_putsBack_5 ?_
  revert hf
  refine k_pcl (fun U6 h4 hf => ?_)
  refine w_afv hw (w_rV (As := [.ref (gb G + r3)]) C hw (ok_X2_takes h4) (cw_X0_318 hts (Nat.le_of_ble_eq_true rfl) (Nat.le_of_ble_eq_true rfl)) rfl (by decide) (of_req h4).1 rfl hl.1 rfl (Nat.le_of_ble_eq_true rfl) ⟨Nat.zero_le _, Nat.zero_le _⟩ dX0_putsBack_8) (fun H locs hw => ?_)
  refine lv_iconst (v := (0 : Int32)) hx hb dX0_putsBack_11 (by decide) ?_
  refine lv_istore_n (lv' := [(2, .int (0 : Int32)), (0, .ref (gb G + o)), (1, .int a0)]) hx hb dX0_putsBack_12 rfl hl (by decide) rfl (fun ls hl => ?_)
  refine lk_X0_putsBack_13 C hr k0 (fun U18 H locs ls hf hw hl => ?_) fuel _ _ _ _ _ hf hw (lv_sub hl [1, 2, 0] rfl)
  refine lv_aload_n hx hb dX0_putsBack_39 rfl (lv_at hl 0 rfl) ?_
  revert hf
  refine k_drf (fun r19 er19 hf => ?_)
  refine gf_X0_51 C hw k0 er19 dX0_putsBack_40 ?_
  refine lv_iconst (v := (0 : Int32)) hx hb dX0_putsBack_43 (by decide) ?_
  refine lv_aload_n hx hb dX0_putsBack_44 rfl (lv_at hl 0 rfl) ?_
  revert hf
  refine k_drf (fun r20 er20 hf => ?_)
  refine gf_X0_48 C hw k0 er20 dX0_putsBack_45 ?_
  refine lv_iconst (v := (0 : Int32)) hx hb dX0_putsBack_48 (by decide) ?_
  refine lv_bipush (v := (16 : Int32)) hx hb dX0_putsBack_49 (by decide) ?_
  revert hf
  refine k_req (fun h21 hf => ?_)
  revert hf
  refine k_stp (fun U22 eU22 hf => ?_)
  refine w_copyI C hl.1 hw q1361 h21 (Nat.le_of_ble_eq_true rfl) (Nat.le_of_ble_eq_true rfl) eU22 dX0_putsBack_51 (fun H locs hw => ?_)
  refine lv_aload_n hx hb dX0_putsBack_54 rfl (lv_at hl 0 rfl) ?_
  refine lv_iload_n hx hb dX0_putsBack_55 rfl (lv_at hl 1 rfl) ?_
  revert hf
  refine k_stp (fun U23 eU23 hf => ?_)
  refine pf_X0_98 C hw k0 eU23 dX0_putsBack_56 (fun H locs hw => ?_)
  cases hf
  exact w_vret C hr hw dX0_putsBack_59
