set_option maxRecDepth 100000
def f_X6_behind (T : Tt) (V0 : Vt) (o : Nat) (a0 : Nat) : Option (((Nat ⊕ Nat) × Vt × Tt) × Nat × Nat) :=
  req (isRd T o) (dxl (f_X6_need T V0 o a0) (fun z2 U3 T4 => req (isRd T4 o) (dxl (f_sumR fuelP T4 U3 o) (fun r7 U8 T9 => some (((.inl r7), U8, T9), 0, 0)))))
def f_X7_clause_J98 (T : Tt) (V0 : Vt) (x0 : Nat) (x2 : Nat) : Option (((Unit ⊕ Nat) × Vt × Tt) × Nat × Nat) :=
  req (T.1 x0 = 7) (drf (V0.2.2 x0 7) (fun r33 => dcl (f_J2_add T V0 r33 x2) (fun z35 U36 T37 => some (((.inl ()), U36, T37), 0, 0))))
def f_X7_clause_J81 (T : Tt) (V0 : Vt) (x0 : Nat) (x2 : Nat) : Option (((Unit ⊕ Nat) × Vt × Tt) × Nat × Nat) :=
  req (T.1 x0 = 7) (cal (f_X6_takes T V0 x0 3) (fun z29 U30 => if z29 = 0 then (f_X7_clause_J98 T U30 x0 x2) else (dxl (f_testR fuelP T U30 x0) (fun r39 U40 T41 => req (T41.1 x2 = 9) (stp (uR U40 x2 2 (some r39)) (fun U43 => f_X7_clause_J98 T41 U43 x0 x2))))))
def f_X7_clause_J52 (T : Tt) (V0 : Vt) (x0 : Nat) (x1 : Int32) (s0 : Nat) (s1 : Int32) : Option (((Unit ⊕ Nat) × Vt × Tt) × Nat × Nat) :=
  req (T.1 s0 = 7) (dxl (f_X6_begins T V0 s0 s1) (fun z13 U14 T15 => req (T15.1 x0 = 7) (pcl (f_X6_next T15 U14 x0) (fun U19 => inc 1 3 (stp T15.2.2 (fun q20 => stp (zV U19 q20) (fun U21 => stp (aT T15 9 0) (fun T22 => pcl (f_X9_init T22 U21 q20 x1) (fun U25 => if x1 = (2 : Int32) then (f_X7_clause_J81 T22 U25 x0 q20) else (req (T22.1 x0 = 7) (dxl (f_sumR fuelP T22 U25 x0) (fun r46 U47 T48 => req (T48.1 q20 = 9) (stp (uR U47 q20 1 (some r46)) (fun U50 => f_X7_clause_J81 T48 U50 x0 q20))))))))))))))
def f_X7_clause_J40 (T : Tt) (V0 : Vt) (x0 : Nat) (s0 : Int32) : Option (((Unit ⊕ Nat) × Vt × Tt) × Nat × Nat) :=
  if s0 = ((-1) : Int32) then (f_X7_clause_J52 T V0 x0 s0 x0 (0 : Int32)) else (f_X7_clause_J52 T V0 x0 s0 x0 (1 : Int32))
def f_X7_clause (T : Tt) (V0 : Vt) (o : Nat) : Option (((Unit ⊕ Nat) × Vt × Tt) × Nat × Nat) :=
  req (T.1 o = 7) (pcl (f_X6_is T V0 o 0) (fun z2 => if z2 = 0 then (pcl (f_X6_is T V0 o 1) (fun z5 => if z5 = 0 then (pcl (f_X6_is T V0 o 2) (fun z8 => if z8 = 0 then (f_X7_clause_J40 T V0 o ((-1) : Int32)) else (f_X7_clause_J40 T V0 o (2 : Int32)))) else (f_X7_clause_J40 T V0 o (1 : Int32)))) else (f_X7_clause_J40 T V0 o (0 : Int32))))
def f_X20_clause_J188 (T : Tt) (V0 : Vt) (x0 : Nat) (x2 : Nat) : Option (((Unit ⊕ Nat) × Vt × Tt) × Nat × Nat) :=
  req (T.1 x0 = 18) (drf (V0.2.2 x0 7) (fun r55 => dcl (f_J2_add T V0 r55 x2) (fun z57 U58 T59 => some (((.inl ()), U58, T59), 0, 0))))
def f_X20_clause_J171 (T : Tt) (V0 : Vt) (x0 : Nat) (x2 : Nat) : Option (((Unit ⊕ Nat) × Vt × Tt) × Nat × Nat) :=
  req (T.1 x0 = 18) (cal (f_X6_takes T V0 x0 18) (fun z51 U52 => if z51 = 0 then (f_X20_clause_J188 T U52 x0 x2) else (dxl (f_testR fuelP T U52 x0) (fun r61 U62 T63 => req (T63.1 x2 = 16) (stp (uR U62 x2 3 (some r61)) (fun U65 => f_X20_clause_J188 T63 U65 x0 x2))))))
def f_X20_clause_J151 (T : Tt) (V0 : Vt) (x0 : Nat) (x2 : Nat) : Option (((Unit ⊕ Nat) × Vt × Tt) × Nat × Nat) :=
  req (T.1 x0 = 18) (cal (f_X6_takes T V0 x0 17) (fun z46 U47 => if z46 = 0 then (f_X20_clause_J171 T U47 x0 x2) else (dxl (f_X6_number T U47 x0 (1 : Int32) (20 : Int32)) (fun z67 U68 T69 => req (T69.1 x2 = 16) (stp (uI U68 x2 2 z67) (fun U71 => f_X20_clause_J171 T69 U71 x0 x2))))))
def f_X20_clause_J134 (T : Tt) (V0 : Vt) (x0 : Nat) (x1 : Int32) (x2 : Nat) : Option (((Unit ⊕ Nat) × Vt × Tt) × Nat × Nat) :=
  if x1 = (1 : Int32) then (req (T.1 x2 = 16) (drf (V0.2.2 x2 1) (fun r73 => req (T.1 x0 = 18) (dxl (f_X6_behind T V0 x0 16) (fun r76 U77 T78 => req (aIn T78 r73 7 (2 : Int32)) (req (stK7 T78 r76) (stp (uR U77 r73 (ixN (2 : Int32)) (some r76)) (fun U81 => f_X20_clause_J151 T78 U81 x0 x2)))))))) else (f_X20_clause_J151 T V0 x0 x2)
def f_X20_clause_J118 (T : Tt) (V0 : Vt) (x0 : Nat) (x1 : Int32) (x2 : Nat) : Option (((Unit ⊕ Nat) × Vt × Tt) × Nat × Nat) :=
  if x1 = 0 then (req (T.1 x2 = 16) (drf (V0.2.2 x2 1) (fun r83 => req (T.1 x0 = 18) (dxl (f_X6_behind T V0 x0 16) (fun r86 U87 T88 => req (aIn T88 r83 7 (1 : Int32)) (req (stK7 T88 r86) (stp (uR U87 r83 (ixN (1 : Int32)) (some r86)) (fun U91 => f_X20_clause_J134 T88 U91 x0 x1 x2)))))))) else (f_X20_clause_J134 T V0 x0 x1 x2)
def f_X20_clause_J106 (T : Tt) (V0 : Vt) (x0 : Nat) (x1 : Int32) (x2 : Nat) : Option (((Unit ⊕ Nat) × Vt × Tt) × Nat × Nat) :=
  req (T.1 x2 = 16) (drf (V0.2.2 x2 1) (fun r33 => req (T.1 x0 = 18) (dxl (f_X6_behind T V0 x0 15) (fun r36 U37 T38 => req (aIn T38 r33 7 (1 : Int32)) (req (stK7 T38 r36) (stp (uR U37 r33 (ixN (1 : Int32)) (some r36)) (fun U41 => f_X20_clause_J118 T38 U41 x0 x1 x2)))))))
def f_X20_clause_J96 (T : Tt) (V0 : Vt) (x0 : Nat) (x1 : Int32) (x2 : Nat) : Option (((Unit ⊕ Nat) × Vt × Tt) × Nat × Nat) :=
  if x1 = (1 : Int32) then (f_X20_clause_J106 T V0 x0 x1 x2) else (if x1 = (2 : Int32) then (f_X20_clause_J106 T V0 x0 x1 x2) else (f_X20_clause_J118 T V0 x0 x1 x2))
def f_X20_clause_J65 (T : Tt) (V0 : Vt) (x0 : Nat) (x1 : Int32) (s0 : Nat) (s1 : Int32) : Option (((Unit ⊕ Nat) × Vt × Tt) × Nat × Nat) :=
  req (T.1 s0 = 18) (dxl (f_X6_begins T V0 s0 s1) (fun z16 U17 T18 => req (T18.1 x0 = 18) (pcl (f_X6_next T18 U17 x0) (fun U22 => inc 1 4 (stp T18.2.2 (fun q23 => stp (zV U22 q23) (fun U24 => stp (aT T18 16 0) (fun T25 => dcv (f_X18_init T25 U24 q23 x1) (fun U28 T29 => if x1 = (3 : Int32) then (f_X20_clause_J96 T29 U28 x0 x1 q23) else (req (T29.1 q23 = 16) (drf (U28.2.2 q23 1) (fun r94 => req (T29.1 x0 = 18) (dxl (f_sumR fuelP T29 U28 x0) (fun r97 U98 T99 => req (aIn T99 r94 7 (0 : Int32)) (req (stK7 T99 r97) (stp (uR U98 r94 (ixN (0 : Int32)) (some r97)) (fun U102 => f_X20_clause_J96 T99 U102 x0 x1 q23)))))))))))))))))
def f_X20_clause_J53 (T : Tt) (V0 : Vt) (x0 : Nat) (s0 : Int32) : Option (((Unit ⊕ Nat) × Vt × Tt) × Nat × Nat) :=
  if s0 = ((-1) : Int32) then (f_X20_clause_J65 T V0 x0 s0 x0 (0 : Int32)) else (f_X20_clause_J65 T V0 x0 s0 x0 (1 : Int32))
def f_X20_clause (T : Tt) (V0 : Vt) (o : Nat) : Option (((Unit ⊕ Nat) × Vt × Tt) × Nat × Nat) :=
  req (T.1 o = 18) (pcl (f_X6_is T V0 o 11) (fun z2 => if z2 = 0 then (pcl (f_X6_is T V0 o 12) (fun z5 => if z5 = 0 then (pcl (f_X6_is T V0 o 13) (fun z8 => if z8 = 0 then (pcl (f_X6_is T V0 o 14) (fun z11 => if z11 = 0 then (f_X20_clause_J53 T V0 o ((-1) : Int32)) else (f_X20_clause_J53 T V0 o (3 : Int32)))) else (f_X20_clause_J53 T V0 o (2 : Int32)))) else (f_X20_clause_J53 T V0 o (1 : Int32)))) else (f_X20_clause_J53 T V0 o (0 : Int32))))
set_option maxHeartbeats 4000000 in
theorem ok_X6_behind {l : Launch} {G : gG} {T : Tt} {V0 : Vt} {o : Nat} {a0 : Nat} {r : (Nat ⊕ Nat)} {V' : Vt} {T' : Tt} {n k : Nat} (hf : f_X6_behind T V0 o a0 = some ((r, V', T'), n, k)) : okX l G RX8 yX6_behind cX6_behind 2 (some (.object "SoleraCellar$Sum")) 67 [.ref (gb G + o), .ref (adK G a0)] V0 T (xR G r) V' T' n k := by
  refine okX_intro (by decide) (Nat.le_of_ble_eq_true rfl) ?_
  intro p e s m below meth c ls C hr hno hw hl
  have hx := C.1
  have hb := C.2.1
  have hown := C.2.2.2.1
  have hts := C.2.2.2.2.1
  have hl : lv_has ls 2 [(0, .ref (gb G + o)), (1, .ref (adK G a0))] := hl
  unfold f_X6_behind at hf
  revert hf
  refine k_req (fun k0 hf => ?_)
  obtain ⟨mc, emc⟩ : ∃ mc, mc = n := ⟨_, rfl⟩
  obtain ⟨ms, ems⟩ : ∃ ms, ms = k := ⟨_, rfl⟩
  have hn : 0 + n = mc := by omega
  have hk : 0 + k = ms := by omega
  rw [← emc, ← ems]
  clear emc ems
  refine lv_aload_n hx hb dX6_behind_0 rfl (lv_at hl 0 rfl) ?_
  refine lv_aload_n hx hb dX6_behind_1 rfl (lv_at hl 1 rfl) ?_
  rcases of_dxl hf with ⟨z2, U3, T4, na, ka, n1, k1, h1, hf, en, ek⟩ | ⟨z2, U3, T4, h1, hf⟩
  · refine x_in hw (xu_X6_111 (As := [.ref (adK G a0)]) C hw (Nat.le_of_ble_eq_true rfl) (Nat.le_of_ble_eq_true rfl) (ok_X6_need h1) (of_req h1).1 hl.1 rfl (Nat.le_of_ble_eq_true rfl) ⟨by show _ ≤ mc; omega, by show _ ≤ ms; omega⟩ dX6_behind_2) (fun H locs hw => ?_)
    refine W.eq (g2 := F0 m 5 ls []) rfl ?_
    replace hn := add_r hn en
    replace hk := add_r hk ek
    clear en ek
    generalize n1 = n at hf hn
    generalize k1 = k at hf hk
    refine lv_aload_n hx hb dX6_behind_5 rfl (lv_at hl 0 rfl) ?_
    revert hf
    refine k_req (fun k5 hf => ?_)
    rcases of_dxl hf with ⟨r7, U8, T9, na, ka, n1, k1, h6, hf, en, ek⟩ | ⟨r7, U8, T9, h6, hf⟩
    · refine x_in hw (xu_X6_115 (As := []) C hw (Nat.le_of_ble_eq_true rfl) (Nat.le_of_ble_eq_true rfl) (ok_sumR h6) k5 hl.1 rfl (Nat.le_of_ble_eq_true rfl) ⟨by show _ ≤ mc; omega, by show _ ≤ ms; omega⟩ dX6_behind_6) (fun H locs hw => ?_)
      refine W.eq (g2 := F0 m 9 ls [.ref (gb G + r7)]) rfl ?_
      replace hn := add_r hn en
      replace hk := add_r hk ek
      clear en ek
      generalize n1 = n at hf hn
      generalize k1 = k at hf hk
      cases hf
      cases hn
      cases hk
      exact x_ret (w_aret C hr (Or.inl ⟨_, rfl⟩) (Or.inr ⟨_, rfl⟩) hw dX6_behind_9)
    · cases hf
      refine x_out hw (xu_X6_115 (As := []) C hw (Nat.le_of_ble_eq_true rfl) (Nat.le_of_ble_eq_true rfl) (ok_sumR h6) k5 hl.1 rfl (Nat.le_of_ble_eq_true rfl) ⟨by show _ ≤ mc; omega, by show _ ≤ ms; omega⟩ dX6_behind_6) (fun H locs ce hw g1 g2 g3 => ?_)
      exact x_upE C hno hw g1 g2 g3 hn hk
  · cases hf
    refine x_out hw (xu_X6_111 (As := [.ref (adK G a0)]) C hw (Nat.le_of_ble_eq_true rfl) (Nat.le_of_ble_eq_true rfl) (ok_X6_need h1) (of_req h1).1 hl.1 rfl (Nat.le_of_ble_eq_true rfl) ⟨by show _ ≤ mc; omega, by show _ ≤ ms; omega⟩ dX6_behind_2) (fun H locs ce hw g1 g2 g3 => ?_)
    exact x_upE C hno hw g1 g2 g3 hn hk
set_option maxHeartbeats 4000000 in
theorem jk_X7_clause_98 {l : Launch} {G : gG} {p : Program} {e : Env} {s : State} {m : MethodId} {args : Array Value} {below : List Frame} {meth : Method} {c : Code} {T : Tt} {V0 : Vt} {r : (Unit ⊕ Nat)} {V' : Vt} {T' : Tt} {mc ms : Nat} (C : Cx G p s m args meth c cX7_clause RX7 3) (hr : meth.sig.returnType = none) (hno : ∀ z ∈ c.exceptionTable.toList, False) {x0 : Nat} {x2 : Nat} {H : Heap} {locs : List Loc} {ls : Array Slot} {cells slots n k : Nat} (hf : f_X7_clause_J98 T V0 x0 x2 = some ((r, V', T'), n, k)) (hn : cells + n = mc) (hk : slots + k = ms) (hw : wS G V0 T H locs) (hl : lv_has ls 3 [(0, .ref (gb G + x0)), (2, .ref (gb G + x2))]) : W p l e (rmL 129 mc ms) s m args below meth c H locs cells slots (xQ G RX8 below (xV r) V' T' args s mc ms) (F0 m 98 ls []) := by
  have hx := C.1
  have hb := C.2.1
  have hown := C.2.2.2.1
  have hts := C.2.2.2.2.1
  unfold f_X7_clause_J98 at hf
  refine lv_aload_n hx hb dX7_clause_98 rfl (lv_at hl 0 rfl) ?_
  revert hf
  refine k_req (fun k32 hf => ?_)
  revert hf
  refine k_drf (fun r33 er33 hf => ?_)
  refine gf_X7_14 C hw k32 er33 dX7_clause_99 ?_
  refine lv_aload_n hx hb dX7_clause_102 rfl (lv_at hl 1 rfl) ?_
  revert hf
  refine k_dcl (fun z35 U36 T37 na ka n1 k1 h34 hf en ek => ?_)
  refine w_afi hw (w_rV (As := [.ref (gb G + x2)]) C hw (ok_J2_add h34) (cw_X7_61 hts (Nat.le_of_ble_eq_true rfl) (Nat.le_of_ble_eq_true rfl)) rfl (by decide) (of_req h34).1 rfl hl.1 rfl (Nat.le_of_ble_eq_true rfl) ⟨by show _ ≤ mc; omega, by show _ ≤ ms; omega⟩ dX7_clause_103) (fun H locs hw => ?_)
  replace hn := add_r hn en
  replace hk := add_r hk ek
  clear en ek
  generalize n1 = n at hf hn
  generalize k1 = k at hf hk
  refine lv_pop hx hb dX7_clause_106 rfl ?_
  cases hf
  cases hn
  cases hk
  exact x_ret (w_vret C hr hw dX7_clause_107)
set_option maxHeartbeats 4000000 in
theorem jk_X7_clause_81 {l : Launch} {G : gG} {p : Program} {e : Env} {s : State} {m : MethodId} {args : Array Value} {below : List Frame} {meth : Method} {c : Code} {T : Tt} {V0 : Vt} {r : (Unit ⊕ Nat)} {V' : Vt} {T' : Tt} {mc ms : Nat} (C : Cx G p s m args meth c cX7_clause RX7 3) (hr : meth.sig.returnType = none) (hno : ∀ z ∈ c.exceptionTable.toList, False) {x0 : Nat} {x2 : Nat} {H : Heap} {locs : List Loc} {ls : Array Slot} {cells slots n k : Nat} (hf : f_X7_clause_J81 T V0 x0 x2 = some ((r, V', T'), n, k)) (hn : cells + n = mc) (hk : slots + k = ms) (hw : wS G V0 T H locs) (hl : lv_has ls 3 [(0, .ref (gb G + x0)), (2, .ref (gb G + x2))]) : W p l e (rmL 129 mc ms) s m args below meth c H locs cells slots (xQ G RX8 below (xV r) V' T' args s mc ms) (F0 m 81 ls []) := by
  have hx := C.1
  have hb := C.2.1
  have hown := C.2.2.2.1
  have hts := C.2.2.2.2.1
  unfold f_X7_clause_J81 at hf
  refine lv_aload_n hx hb dX7_clause_81 rfl (lv_at hl 0 rfl) ?_
  refine w_ldcS (k := 3) C rfl dX7_clause_82 ?_
  revert hf
  refine k_req (fun k27 hf => ?_)
  revert hf
  refine k_cal (fun z29 U30 h28 hf => ?_)
  refine w_afi hw (wu_X7_50 (As := [.ref (adK G 3)]) C hw (Nat.le_of_ble_eq_true rfl) (Nat.le_of_ble_eq_true rfl) (ok_X6_takes h28) k27 hl.1 rfl (Nat.le_of_ble_eq_true rfl) ⟨by show _ + 0 ≤ mc; omega, by show _ + 0 ≤ ms; omega⟩ dX7_clause_84) (fun H locs hw => ?_)
  refine lv_if_eq (tgt := 98) hx hb dX7_clause_87 (by decide) (fun c31 => ?_) (fun c31 => ?_)
  · replace hf := ite_t c31 hf
    exact jk_X7_clause_98 C hr hno hf hn hk hw (lv_sub hl [0, 1] rfl)
  · replace hf := ite_f c31 hf
    refine lv_aload_n hx hb dX7_clause_90 rfl (lv_at hl 1 rfl) ?_
    refine lv_aload_n hx hb dX7_clause_91 rfl (lv_at hl 0 rfl) ?_
    rcases of_dxl hf with ⟨r39, U40, T41, na, ka, n1, k1, h38, hf, en, ek⟩ | ⟨r39, U40, T41, h38, hf⟩
    · refine x_in hw (xu_X7_53 (As := []) C hw (Nat.le_of_ble_eq_true rfl) (Nat.le_of_ble_eq_true rfl) (ok_testR h38) k27 hl.1 rfl (Nat.le_of_ble_eq_true rfl) ⟨by show _ ≤ mc; omega, by show _ ≤ ms; omega⟩ dX7_clause_92) (fun H locs hw => ?_)
      refine W.eq (g2 := F0 m 95 ls [.ref (gb G + r39), .ref (gb G + x2)]) rfl ?_
      replace hn := add_r hn en
      replace hk := add_r hk ek
      clear en ek
      generalize n1 = n at hf hn
      generalize k1 = k at hf hk
      revert hf
      refine k_req (fun k42 hf => ?_)
      revert hf
      refine k_stp (fun U43 eU43 hf => ?_)
      refine pf_X7_57 C hw k42 eU43 dX7_clause_95 (fun H locs hw => ?_)
      exact jk_X7_clause_98 C hr hno hf hn hk hw (lv_sub hl [0, 1] rfl)
    · cases hf
      refine x_out hw (xu_X7_53 (As := []) C hw (Nat.le_of_ble_eq_true rfl) (Nat.le_of_ble_eq_true rfl) (ok_testR h38) k27 hl.1 rfl (Nat.le_of_ble_eq_true rfl) ⟨by show _ ≤ mc; omega, by show _ ≤ ms; omega⟩ dX7_clause_92) (fun H locs ce hw g1 g2 g3 => ?_)
      exact x_upE C hno hw g1 g2 g3 hn hk
set_option maxHeartbeats 4000000 in
theorem jk_X7_clause_52 {l : Launch} {G : gG} {p : Program} {e : Env} {s : State} {m : MethodId} {args : Array Value} {below : List Frame} {meth : Method} {c : Code} {T : Tt} {V0 : Vt} {r : (Unit ⊕ Nat)} {V' : Vt} {T' : Tt} {mc ms : Nat} (C : Cx G p s m args meth c cX7_clause RX7 3) (hr : meth.sig.returnType = none) (hno : ∀ z ∈ c.exceptionTable.toList, False) {x0 : Nat} {x1 : Int32} {s0 : Nat} {s1 : Int32} {H : Heap} {locs : List Loc} {ls : Array Slot} {cells slots n k : Nat} (hf : f_X7_clause_J52 T V0 x0 x1 s0 s1 = some ((r, V', T'), n, k)) (hn : cells + n = mc) (hk : slots + k = ms) (hw : wS G V0 T H locs) (hl : lv_has ls 3 [(0, .ref (gb G + x0)), (1, .int x1)]) : W p l e (rmL 129 mc ms) s m args below meth c H locs cells slots (xQ G RX8 below (xV r) V' T' args s mc ms) (F0 m 52 ls [.int s1, .ref (gb G + s0)]) := by
  have hx := C.1
  have hb := C.2.1
  have hown := C.2.2.2.1
  have hts := C.2.2.2.2.1
  unfold f_X7_clause_J52 at hf
  revert hf
  refine k_req (fun k11 hf => ?_)
  rcases of_dxl hf with ⟨z13, U14, T15, na, ka, n1, k1, h12, hf, en, ek⟩ | ⟨z13, U14, T15, h12, hf⟩
  · refine x_in hw (xu_X7_30 (As := [.int s1]) C hw (Nat.le_of_ble_eq_true rfl) (Nat.le_of_ble_eq_true rfl) (ok_X6_begins h12) k11 hl.1 rfl (Nat.le_of_ble_eq_true rfl) ⟨by show _ ≤ mc; omega, by show _ ≤ ms; omega⟩ dX7_clause_52) (fun H locs hw => ?_)
    refine W.eq (g2 := F0 m 55 ls []) rfl ?_
    replace hn := add_r hn en
    replace hk := add_r hk ek
    clear en ek
    generalize n1 = n at hf hn
    generalize k1 = k at hf hk
    refine lv_aload_n hx hb dX7_clause_55 rfl (lv_at hl 0 rfl) ?_
    revert hf
    refine k_req (fun k16 hf => ?_)
    revert hf
    refine k_pcl (fun U19 h17 hf => ?_)
    refine w_afv hw (wu_X7_34 (As := []) C hw (Nat.le_of_ble_eq_true rfl) (Nat.le_of_ble_eq_true rfl) (ok_X6_next h17) k16 hl.1 rfl (Nat.le_of_ble_eq_true rfl) ⟨by show _ + 0 ≤ mc; omega, by show _ + 0 ≤ ms; omega⟩ dX7_clause_56) (fun H locs hw => ?_)
    revert hf
    refine k_inc (fun n1 k1 hf en ek => ?_)
    revert hf
    refine k_stp (fun q20 eq20 hf => ?_)
    revert hf
    refine k_stp (fun U21 eU21 hf => ?_)
    revert hf
    refine k_stp (fun T22 eT22 hf => ?_)
    refine nw_X9 C hw q885 (by show _ ≤ mc; omega) (by show _ ≤ ms; omega) eq20 eU21 eT22 dX7_clause_59 (fun H hw => ?_)
    replace hn := add_r hn en
    replace hk := add_r hk ek
    clear en ek
    generalize n1 = n at hf hn
    generalize k1 = k at hf hk
    refine lv_dup hx hb dX7_clause_62 rfl ?_
    refine lv_iload_n hx hb dX7_clause_63 rfl (lv_at hl 1 rfl) ?_
    revert hf
    refine k_pcl (fun U25 h23 hf => ?_)
    refine w_afv hw (w_rI (As := [.int x1]) C hw (ok_X9_init h23) (cw_X7_40 hts (Nat.le_of_ble_eq_true rfl) (Nat.le_of_ble_eq_true rfl)) rfl hl.1 rfl (Nat.le_of_ble_eq_true rfl) ⟨by show _ + 0 ≤ mc; omega, by show _ + 0 ≤ ms; omega⟩ dX7_clause_64) (fun H locs hw => ?_)
    refine lv_astore_n (lv' := [(2, .ref (gb G + q20)), (0, .ref (gb G + x0)), (1, .int x1)]) hx hb dX7_clause_67 rfl hl (by decide) rfl (fun ls hl => ?_)
    refine lv_iload_n hx hb dX7_clause_68 rfl (lv_at hl 2 rfl) ?_
    refine lv_iconst (v := (2 : Int32)) hx hb dX7_clause_69 (by decide) ?_
    refine lv_icmp_eq (tgt := 81) hx hb dX7_clause_70 (by decide) (fun c26 => ?_) (fun c26 => ?_)
    · replace hf := ite_t c26 hf
      exact jk_X7_clause_81 C hr hno hf hn hk hw (lv_sub hl [1, 0] rfl)
    · replace hf := ite_f c26 hf
      refine lv_aload_n hx hb dX7_clause_73 rfl (lv_at hl 0 rfl) ?_
      refine lv_aload_n hx hb dX7_clause_74 rfl (lv_at hl 1 rfl) ?_
      revert hf
      refine k_req (fun k44 hf => ?_)
      rcases of_dxl hf with ⟨r46, U47, T48, na, ka, n1, k1, h45, hf, en, ek⟩ | ⟨r46, U47, T48, h45, hf⟩
      · refine x_in hw (xu_X7_41 (As := []) C hw (Nat.le_of_ble_eq_true rfl) (Nat.le_of_ble_eq_true rfl) (ok_sumR h45) k44 hl.1 rfl (Nat.le_of_ble_eq_true rfl) ⟨by show _ ≤ mc; omega, by show _ ≤ ms; omega⟩ dX7_clause_75) (fun H locs hw => ?_)
        refine W.eq (g2 := F0 m 78 ls [.ref (gb G + r46), .ref (gb G + q20)]) rfl ?_
        replace hn := add_r hn en
        replace hk := add_r hk ek
        clear en ek
        generalize n1 = n at hf hn
        generalize k1 = k at hf hk
        revert hf
        refine k_req (fun k49 hf => ?_)
        revert hf
        refine k_stp (fun U50 eU50 hf => ?_)
        refine pf_X7_45 C hw k49 eU50 dX7_clause_78 (fun H locs hw => ?_)
        exact jk_X7_clause_81 C hr hno hf hn hk hw (lv_sub hl [1, 0] rfl)
      · cases hf
        refine x_out hw (xu_X7_41 (As := []) C hw (Nat.le_of_ble_eq_true rfl) (Nat.le_of_ble_eq_true rfl) (ok_sumR h45) k44 hl.1 rfl (Nat.le_of_ble_eq_true rfl) ⟨by show _ ≤ mc; omega, by show _ ≤ ms; omega⟩ dX7_clause_75) (fun H locs ce hw g1 g2 g3 => ?_)
        exact x_upE C hno hw g1 g2 g3 hn hk
  · cases hf
    refine x_out hw (xu_X7_30 (As := [.int s1]) C hw (Nat.le_of_ble_eq_true rfl) (Nat.le_of_ble_eq_true rfl) (ok_X6_begins h12) k11 hl.1 rfl (Nat.le_of_ble_eq_true rfl) ⟨by show _ ≤ mc; omega, by show _ ≤ ms; omega⟩ dX7_clause_52) (fun H locs ce hw g1 g2 g3 => ?_)
    exact x_upE C hno hw g1 g2 g3 hn hk
set_option maxHeartbeats 4000000 in
theorem jk_X7_clause_40 {l : Launch} {G : gG} {p : Program} {e : Env} {s : State} {m : MethodId} {args : Array Value} {below : List Frame} {meth : Method} {c : Code} {T : Tt} {V0 : Vt} {r : (Unit ⊕ Nat)} {V' : Vt} {T' : Tt} {mc ms : Nat} (C : Cx G p s m args meth c cX7_clause RX7 3) (hr : meth.sig.returnType = none) (hno : ∀ z ∈ c.exceptionTable.toList, False) {x0 : Nat} {s0 : Int32} {H : Heap} {locs : List Loc} {ls : Array Slot} {cells slots n k : Nat} (hf : f_X7_clause_J40 T V0 x0 s0 = some ((r, V', T'), n, k)) (hn : cells + n = mc) (hk : slots + k = ms) (hw : wS G V0 T H locs) (hl : lv_has ls 3 [(0, .ref (gb G + x0))]) : W p l e (rmL 129 mc ms) s m args below meth c H locs cells slots (xQ G RX8 below (xV r) V' T' args s mc ms) (F0 m 40 ls [.int s0]) := by
  have hx := C.1
  have hb := C.2.1
  have hown := C.2.2.2.1
  have hts := C.2.2.2.2.1
  unfold f_X7_clause_J40 at hf
  refine lv_istore_n (lv' := [(1, .int s0), (0, .ref (gb G + x0))]) hx hb dX7_clause_40 rfl hl (by decide) rfl (fun ls hl => ?_)
  refine lv_aload_n hx hb dX7_clause_41 rfl (lv_at hl 1 rfl) ?_
  refine lv_iload_n hx hb dX7_clause_42 rfl (lv_at hl 0 rfl) ?_
  refine lv_iconst (v := ((-1) : Int32)) hx hb dX7_clause_43 (by decide) ?_
  refine lv_icmp_eq (tgt := 51) hx hb dX7_clause_44 (by decide) (fun c10 => ?_) (fun c10 => ?_)
  · replace hf := ite_t c10 hf
    refine lv_iconst (v := (0 : Int32)) hx hb dX7_clause_51 (by decide) ?_
    exact jk_X7_clause_52 C hr hno hf hn hk hw (lv_sub hl [1, 0] rfl)
  · replace hf := ite_f c10 hf
    refine lv_iconst (v := (1 : Int32)) hx hb dX7_clause_47 (by decide) ?_
    refine lv_goto (tgt := 52) hx hb dX7_clause_48 (by decide) ?_
    exact jk_X7_clause_52 C hr hno hf hn hk hw (lv_sub hl [1, 0] rfl)
set_option maxHeartbeats 4000000 in
theorem ok_X7_clause {l : Launch} {G : gG} {T : Tt} {V0 : Vt} {o : Nat} {r : (Unit ⊕ Nat)} {V' : Vt} {T' : Tt} {n k : Nat} (hf : f_X7_clause T V0 o = some ((r, V', T'), n, k)) : okX l G RX8 yX7_clause cX7_clause 3 none 129 [.ref (gb G + o)] V0 T (xV r) V' T' n k := by
  refine okX_intro (by decide) (Nat.le_of_ble_eq_true rfl) ?_
  intro p e s m below meth c ls C hr hno hw hl
  have hx := C.1
  have hb := C.2.1
  have hown := C.2.2.2.1
  have hts := C.2.2.2.2.1
  have hl : lv_has ls 3 [(0, .ref (gb G + o))] := hl
  unfold f_X7_clause at hf
  revert hf
  refine k_req (fun k0 hf => ?_)
  obtain ⟨mc, emc⟩ : ∃ mc, mc = n := ⟨_, rfl⟩
  obtain ⟨ms, ems⟩ : ∃ ms, ms = k := ⟨_, rfl⟩
  have hn : 0 + n = mc := by omega
  have hk : 0 + k = ms := by omega
  rw [← emc, ← ems]
  clear emc ems
  refine lv_aload_n hx hb dX7_clause_0 rfl (lv_at hl 0 rfl) ?_
  refine w_ldcS (k := 0) C rfl dX7_clause_1 ?_
  revert hf
  refine k_pcl (fun z2 h1 hf => ?_)
  refine w_afi hw (wu_X7_22 (As := [.ref (adK G 0)]) C hw (Nat.le_of_ble_eq_true rfl) (Nat.le_of_ble_eq_true rfl) (ok_X6_is h1) k0 hl.1 rfl (Nat.le_of_ble_eq_true rfl) ⟨by show _ + 0 ≤ mc; omega, by show _ + 0 ≤ ms; omega⟩ dX7_clause_3) (fun H locs hw => ?_)
  refine lv_if_eq (tgt := 13) hx hb dX7_clause_6 (by decide) (fun c3 => ?_) (fun c3 => ?_)
  · replace hf := ite_t c3 hf
    refine lv_aload_n hx hb dX7_clause_13 rfl (lv_at hl 0 rfl) ?_
    refine w_ldcS (k := 1) C rfl dX7_clause_14 ?_
    revert hf
    refine k_pcl (fun z5 h4 hf => ?_)
    refine w_afi hw (wu_X7_22 (As := [.ref (adK G 1)]) C hw (Nat.le_of_ble_eq_true rfl) (Nat.le_of_ble_eq_true rfl) (ok_X6_is h4) k0 hl.1 rfl (Nat.le_of_ble_eq_true rfl) ⟨by show _ + 0 ≤ mc; omega, by show _ + 0 ≤ ms; omega⟩ dX7_clause_16) (fun H locs hw => ?_)
    refine lv_if_eq (tgt := 26) hx hb dX7_clause_19 (by decide) (fun c6 => ?_) (fun c6 => ?_)
    · replace hf := ite_t c6 hf
      refine lv_aload_n hx hb dX7_clause_26 rfl (lv_at hl 0 rfl) ?_
      refine w_ldcS (k := 2) C rfl dX7_clause_27 ?_
      revert hf
      refine k_pcl (fun z8 h7 hf => ?_)
      refine w_afi hw (wu_X7_22 (As := [.ref (adK G 2)]) C hw (Nat.le_of_ble_eq_true rfl) (Nat.le_of_ble_eq_true rfl) (ok_X6_is h7) k0 hl.1 rfl (Nat.le_of_ble_eq_true rfl) ⟨by show _ + 0 ≤ mc; omega, by show _ + 0 ≤ ms; omega⟩ dX7_clause_29) (fun H locs hw => ?_)
      refine lv_if_eq (tgt := 39) hx hb dX7_clause_32 (by decide) (fun c9 => ?_) (fun c9 => ?_)
      · replace hf := ite_t c9 hf
        refine lv_iconst (v := ((-1) : Int32)) hx hb dX7_clause_39 (by decide) ?_
        exact jk_X7_clause_40 C hr hno hf hn hk hw (lv_sub hl [0] rfl)
      · replace hf := ite_f c9 hf
        refine lv_iconst (v := (2 : Int32)) hx hb dX7_clause_35 (by decide) ?_
        refine lv_goto (tgt := 40) hx hb dX7_clause_36 (by decide) ?_
        exact jk_X7_clause_40 C hr hno hf hn hk hw (lv_sub hl [0] rfl)
    · replace hf := ite_f c6 hf
      refine lv_iconst (v := (1 : Int32)) hx hb dX7_clause_22 (by decide) ?_
      refine lv_goto (tgt := 40) hx hb dX7_clause_23 (by decide) ?_
      exact jk_X7_clause_40 C hr hno hf hn hk hw (lv_sub hl [0] rfl)
  · replace hf := ite_f c3 hf
    refine lv_iconst (v := (0 : Int32)) hx hb dX7_clause_9 (by decide) ?_
    refine lv_goto (tgt := 40) hx hb dX7_clause_10 (by decide) ?_
    exact jk_X7_clause_40 C hr hno hf hn hk hw (lv_sub hl [0] rfl)
set_option maxHeartbeats 4000000 in
theorem jk_X20_clause_188 {l : Launch} {G : gG} {p : Program} {e : Env} {s : State} {m : MethodId} {args : Array Value} {below : List Frame} {meth : Method} {c : Code} {T : Tt} {V0 : Vt} {r : (Unit ⊕ Nat)} {V' : Vt} {T' : Tt} {mc ms : Nat} (C : Cx G p s m args meth c cX20_clause RX20 3) (hr : meth.sig.returnType = none) (hno : ∀ z ∈ c.exceptionTable.toList, False) {x0 : Nat} {x2 : Nat} {H : Heap} {locs : List Loc} {ls : Array Slot} {cells slots n k : Nat} (hf : f_X20_clause_J188 T V0 x0 x2 = some ((r, V', T'), n, k)) (hn : cells + n = mc) (hk : slots + k = ms) (hw : wS G V0 T H locs) (hl : lv_has ls 3 [(0, .ref (gb G + x0)), (2, .ref (gb G + x2))]) : W p l e (rmL 129 mc ms) s m args below meth c H locs cells slots (xQ G RX8 below (xV r) V' T' args s mc ms) (F0 m 188 ls []) := by
  have hx := C.1
  have hb := C.2.1
  have hown := C.2.2.2.1
  have hts := C.2.2.2.2.1
  unfold f_X20_clause_J188 at hf
  refine lv_aload_n hx hb dX20_clause_188 rfl (lv_at hl 0 rfl) ?_
  revert hf
  refine k_req (fun k54 hf => ?_)
  revert hf
  refine k_drf (fun r55 er55 hf => ?_)
  refine gf_X20_14 C hw k54 er55 dX20_clause_189 ?_
  refine lv_aload_n hx hb dX20_clause_192 rfl (lv_at hl 1 rfl) ?_
  revert hf
  refine k_dcl (fun z57 U58 T59 na ka n1 k1 h56 hf en ek => ?_)
  refine w_afi hw (w_rV (As := [.ref (gb G + x2)]) C hw (ok_J2_add h56) (cw_X20_81 hts (Nat.le_of_ble_eq_true rfl) (Nat.le_of_ble_eq_true rfl)) rfl (by decide) (of_req h56).1 rfl hl.1 rfl (Nat.le_of_ble_eq_true rfl) ⟨by show _ ≤ mc; omega, by show _ ≤ ms; omega⟩ dX20_clause_193) (fun H locs hw => ?_)
  replace hn := add_r hn en
  replace hk := add_r hk ek
  clear en ek
  generalize n1 = n at hf hn
  generalize k1 = k at hf hk
  refine lv_pop hx hb dX20_clause_196 rfl ?_
  cases hf
  cases hn
  cases hk
  exact x_ret (w_vret C hr hw dX20_clause_197)
set_option maxHeartbeats 4000000 in
theorem jk_X20_clause_171 {l : Launch} {G : gG} {p : Program} {e : Env} {s : State} {m : MethodId} {args : Array Value} {below : List Frame} {meth : Method} {c : Code} {T : Tt} {V0 : Vt} {r : (Unit ⊕ Nat)} {V' : Vt} {T' : Tt} {mc ms : Nat} (C : Cx G p s m args meth c cX20_clause RX20 3) (hr : meth.sig.returnType = none) (hno : ∀ z ∈ c.exceptionTable.toList, False) {x0 : Nat} {x2 : Nat} {H : Heap} {locs : List Loc} {ls : Array Slot} {cells slots n k : Nat} (hf : f_X20_clause_J171 T V0 x0 x2 = some ((r, V', T'), n, k)) (hn : cells + n = mc) (hk : slots + k = ms) (hw : wS G V0 T H locs) (hl : lv_has ls 3 [(0, .ref (gb G + x0)), (2, .ref (gb G + x2))]) : W p l e (rmL 129 mc ms) s m args below meth c H locs cells slots (xQ G RX8 below (xV r) V' T' args s mc ms) (F0 m 171 ls []) := by
  have hx := C.1
  have hb := C.2.1
  have hown := C.2.2.2.1
  have hts := C.2.2.2.2.1
  unfold f_X20_clause_J171 at hf
  refine lv_aload_n hx hb dX20_clause_171 rfl (lv_at hl 0 rfl) ?_
  refine w_ldcS (k := 18) C rfl dX20_clause_172 ?_
  revert hf
  refine k_req (fun k49 hf => ?_)
  revert hf
  refine k_cal (fun z51 U52 h50 hf => ?_)
  refine w_afi hw (wu_X20_61 (As := [.ref (adK G 18)]) C hw (Nat.le_of_ble_eq_true rfl) (Nat.le_of_ble_eq_true rfl) (ok_X6_takes h50) k49 hl.1 rfl (Nat.le_of_ble_eq_true rfl) ⟨by show _ + 0 ≤ mc; omega, by show _ + 0 ≤ ms; omega⟩ dX20_clause_174) (fun H locs hw => ?_)
  refine lv_if_eq (tgt := 188) hx hb dX20_clause_177 (by decide) (fun c53 => ?_) (fun c53 => ?_)
  · replace hf := ite_t c53 hf
    exact jk_X20_clause_188 C hr hno hf hn hk hw (lv_sub hl [0, 1] rfl)
  · replace hf := ite_f c53 hf
    refine lv_aload_n hx hb dX20_clause_180 rfl (lv_at hl 1 rfl) ?_
    refine lv_aload_n hx hb dX20_clause_181 rfl (lv_at hl 0 rfl) ?_
    rcases of_dxl hf with ⟨r61, U62, T63, na, ka, n1, k1, h60, hf, en, ek⟩ | ⟨r61, U62, T63, h60, hf⟩
    · refine x_in hw (xu_X20_73 (As := []) C hw (Nat.le_of_ble_eq_true rfl) (Nat.le_of_ble_eq_true rfl) (ok_testR h60) k49 hl.1 rfl (Nat.le_of_ble_eq_true rfl) ⟨by show _ ≤ mc; omega, by show _ ≤ ms; omega⟩ dX20_clause_182) (fun H locs hw => ?_)
      refine W.eq (g2 := F0 m 185 ls [.ref (gb G + r61), .ref (gb G + x2)]) rfl ?_
      replace hn := add_r hn en
      replace hk := add_r hk ek
      clear en ek
      generalize n1 = n at hf hn
      generalize k1 = k at hf hk
      revert hf
      refine k_req (fun k64 hf => ?_)
      revert hf
      refine k_stp (fun U65 eU65 hf => ?_)
      refine pf_X20_77 C hw k64 eU65 dX20_clause_185 (fun H locs hw => ?_)
      exact jk_X20_clause_188 C hr hno hf hn hk hw (lv_sub hl [0, 1] rfl)
    · cases hf
      refine x_out hw (xu_X20_73 (As := []) C hw (Nat.le_of_ble_eq_true rfl) (Nat.le_of_ble_eq_true rfl) (ok_testR h60) k49 hl.1 rfl (Nat.le_of_ble_eq_true rfl) ⟨by show _ ≤ mc; omega, by show _ ≤ ms; omega⟩ dX20_clause_182) (fun H locs ce hw g1 g2 g3 => ?_)
      exact x_upE C hno hw g1 g2 g3 hn hk
set_option maxHeartbeats 4000000 in
theorem jk_X20_clause_151 {l : Launch} {G : gG} {p : Program} {e : Env} {s : State} {m : MethodId} {args : Array Value} {below : List Frame} {meth : Method} {c : Code} {T : Tt} {V0 : Vt} {r : (Unit ⊕ Nat)} {V' : Vt} {T' : Tt} {mc ms : Nat} (C : Cx G p s m args meth c cX20_clause RX20 3) (hr : meth.sig.returnType = none) (hno : ∀ z ∈ c.exceptionTable.toList, False) {x0 : Nat} {x2 : Nat} {H : Heap} {locs : List Loc} {ls : Array Slot} {cells slots n k : Nat} (hf : f_X20_clause_J151 T V0 x0 x2 = some ((r, V', T'), n, k)) (hn : cells + n = mc) (hk : slots + k = ms) (hw : wS G V0 T H locs) (hl : lv_has ls 3 [(0, .ref (gb G + x0)), (2, .ref (gb G + x2))]) : W p l e (rmL 129 mc ms) s m args below meth c H locs cells slots (xQ G RX8 below (xV r) V' T' args s mc ms) (F0 m 151 ls []) := by
  have hx := C.1
  have hb := C.2.1
  have hown := C.2.2.2.1
  have hts := C.2.2.2.2.1
  unfold f_X20_clause_J151 at hf
  refine lv_aload_n hx hb dX20_clause_151 rfl (lv_at hl 0 rfl) ?_
  refine w_ldcS (k := 17) C rfl dX20_clause_152 ?_
  revert hf
  refine k_req (fun k44 hf => ?_)
  revert hf
  refine k_cal (fun z46 U47 h45 hf => ?_)
  refine w_afi hw (wu_X20_61 (As := [.ref (adK G 17)]) C hw (Nat.le_of_ble_eq_true rfl) (Nat.le_of_ble_eq_true rfl) (ok_X6_takes h45) k44 hl.1 rfl (Nat.le_of_ble_eq_true rfl) ⟨by show _ + 0 ≤ mc; omega, by show _ + 0 ≤ ms; omega⟩ dX20_clause_154) (fun H locs hw => ?_)
  refine lv_if_eq (tgt := 171) hx hb dX20_clause_157 (by decide) (fun c48 => ?_) (fun c48 => ?_)
  · replace hf := ite_t c48 hf
    exact jk_X20_clause_171 C hr hno hf hn hk hw (lv_sub hl [0, 1] rfl)
  · replace hf := ite_f c48 hf
    refine lv_aload_n hx hb dX20_clause_160 rfl (lv_at hl 1 rfl) ?_
    refine lv_aload_n hx hb dX20_clause_161 rfl (lv_at hl 0 rfl) ?_
    refine lv_iconst (v := (1 : Int32)) hx hb dX20_clause_162 (by decide) ?_
    refine lv_bipush (v := (20 : Int32)) hx hb dX20_clause_163 (by decide) ?_
    rcases of_dxl hf with ⟨z67, U68, T69, na, ka, n1, k1, h66, hf, en, ek⟩ | ⟨z67, U68, T69, h66, hf⟩
    · refine x_in hw (xu_X20_64 (As := [.int (1 : Int32), .int (20 : Int32)]) C hw (Nat.le_of_ble_eq_true rfl) (Nat.le_of_ble_eq_true rfl) (ok_X6_number h66) k44 hl.1 rfl (Nat.le_of_ble_eq_true rfl) ⟨by show _ ≤ mc; omega, by show _ ≤ ms; omega⟩ dX20_clause_165) (fun H locs hw => ?_)
      refine W.eq (g2 := F0 m 168 ls [.int z67, .ref (gb G + x2)]) rfl ?_
      replace hn := add_r hn en
      replace hk := add_r hk ek
      clear en ek
      generalize n1 = n at hf hn
      generalize k1 = k at hf hk
      revert hf
      refine k_req (fun k70 hf => ?_)
      revert hf
      refine k_stp (fun U71 eU71 hf => ?_)
      refine pf_X20_68 C hw k70 eU71 dX20_clause_168 (fun H locs hw => ?_)
      exact jk_X20_clause_171 C hr hno hf hn hk hw (lv_sub hl [0, 1] rfl)
    · cases hf
      refine x_out hw (xu_X20_64 (As := [.int (1 : Int32), .int (20 : Int32)]) C hw (Nat.le_of_ble_eq_true rfl) (Nat.le_of_ble_eq_true rfl) (ok_X6_number h66) k44 hl.1 rfl (Nat.le_of_ble_eq_true rfl) ⟨by show _ ≤ mc; omega, by show _ ≤ ms; omega⟩ dX20_clause_165) (fun H locs ce hw g1 g2 g3 => ?_)
      exact x_upE C hno hw g1 g2 g3 hn hk
set_option maxHeartbeats 4000000 in
theorem jk_X20_clause_134 {l : Launch} {G : gG} {p : Program} {e : Env} {s : State} {m : MethodId} {args : Array Value} {below : List Frame} {meth : Method} {c : Code} {T : Tt} {V0 : Vt} {r : (Unit ⊕ Nat)} {V' : Vt} {T' : Tt} {mc ms : Nat} (C : Cx G p s m args meth c cX20_clause RX20 3) (hr : meth.sig.returnType = none) (hno : ∀ z ∈ c.exceptionTable.toList, False) {x0 : Nat} {x1 : Int32} {x2 : Nat} {H : Heap} {locs : List Loc} {ls : Array Slot} {cells slots n k : Nat} (hf : f_X20_clause_J134 T V0 x0 x1 x2 = some ((r, V', T'), n, k)) (hn : cells + n = mc) (hk : slots + k = ms) (hw : wS G V0 T H locs) (hl : lv_has ls 3 [(0, .ref (gb G + x0)), (1, .int x1), (2, .ref (gb G + x2))]) : W p l e (rmL 129 mc ms) s m args below meth c H locs cells slots (xQ G RX8 below (xV r) V' T' args s mc ms) (F0 m 134 ls []) := by
  have hx := C.1
  have hb := C.2.1
  have hown := C.2.2.2.1
  have hts := C.2.2.2.2.1
  unfold f_X20_clause_J134 at hf
  refine lv_iload_n hx hb dX20_clause_134 rfl (lv_at hl 1 rfl) ?_
  refine lv_iconst (v := (1 : Int32)) hx hb dX20_clause_135 (by decide) ?_
  refine lv_icmp_ne (tgt := 151) hx hb dX20_clause_136 (by decide) (fun c43 => ?_) (fun c43 => ?_)
  · replace hf := ite_f c43 hf
    exact jk_X20_clause_151 C hr hno hf hn hk hw (lv_sub hl [0, 2] rfl)
  · replace hf := ite_t c43 hf
    refine lv_aload_n hx hb dX20_clause_139 rfl (lv_at hl 2 rfl) ?_
    revert hf
    refine k_req (fun k72 hf => ?_)
    revert hf
    refine k_drf (fun r73 er73 hf => ?_)
    refine gf_X20_43 C hw k72 er73 dX20_clause_140 ?_
    refine lv_iconst (v := (2 : Int32)) hx hb dX20_clause_143 (by decide) ?_
    refine lv_aload_n hx hb dX20_clause_144 rfl (lv_at hl 0 rfl) ?_
    refine w_ldcS (k := 16) C rfl dX20_clause_145 ?_
    revert hf
    refine k_req (fun k74 hf => ?_)
    rcases of_dxl hf with ⟨r76, U77, T78, na, ka, n1, k1, h75, hf, en, ek⟩ | ⟨r76, U77, T78, h75, hf⟩
    · refine x_in hw (xu_X20_53 (As := [.ref (adK G 16)]) C hw (Nat.le_of_ble_eq_true rfl) (Nat.le_of_ble_eq_true rfl) (ok_X6_behind h75) k74 hl.1 rfl (Nat.le_of_ble_eq_true rfl) ⟨by show _ ≤ mc; omega, by show _ ≤ ms; omega⟩ dX20_clause_147) (fun H locs hw => ?_)
      refine W.eq (g2 := F0 m 150 ls [.ref (gb G + r76), .int (2 : Int32), .ref (gb G + r73)]) rfl ?_
      replace hn := add_r hn en
      replace hk := add_r hk ek
      clear en ek
      generalize n1 = n at hf hn
      generalize k1 = k at hf hk
      revert hf
      refine k_req (fun h79 hf => ?_)
      revert hf
      refine k_req (fun h80 hf => ?_)
      revert hf
      refine k_stp (fun U81 eU81 hf => ?_)
      refine w_aast7 C hw h79 h80 eU81 dX20_clause_150 (fun H locs hw => ?_)
      exact jk_X20_clause_151 C hr hno hf hn hk hw (lv_sub hl [0, 2] rfl)
    · cases hf
      refine x_out hw (xu_X20_53 (As := [.ref (adK G 16)]) C hw (Nat.le_of_ble_eq_true rfl) (Nat.le_of_ble_eq_true rfl) (ok_X6_behind h75) k74 hl.1 rfl (Nat.le_of_ble_eq_true rfl) ⟨by show _ ≤ mc; omega, by show _ ≤ ms; omega⟩ dX20_clause_147) (fun H locs ce hw g1 g2 g3 => ?_)
      exact x_upE C hno hw g1 g2 g3 hn hk
set_option maxHeartbeats 4000000 in
theorem jk_X20_clause_118 {l : Launch} {G : gG} {p : Program} {e : Env} {s : State} {m : MethodId} {args : Array Value} {below : List Frame} {meth : Method} {c : Code} {T : Tt} {V0 : Vt} {r : (Unit ⊕ Nat)} {V' : Vt} {T' : Tt} {mc ms : Nat} (C : Cx G p s m args meth c cX20_clause RX20 3) (hr : meth.sig.returnType = none) (hno : ∀ z ∈ c.exceptionTable.toList, False) {x0 : Nat} {x1 : Int32} {x2 : Nat} {H : Heap} {locs : List Loc} {ls : Array Slot} {cells slots n k : Nat} (hf : f_X20_clause_J118 T V0 x0 x1 x2 = some ((r, V', T'), n, k)) (hn : cells + n = mc) (hk : slots + k = ms) (hw : wS G V0 T H locs) (hl : lv_has ls 3 [(0, .ref (gb G + x0)), (1, .int x1), (2, .ref (gb G + x2))]) : W p l e (rmL 129 mc ms) s m args below meth c H locs cells slots (xQ G RX8 below (xV r) V' T' args s mc ms) (F0 m 118 ls []) := by
  have hx := C.1
  have hb := C.2.1
  have hown := C.2.2.2.1
  have hts := C.2.2.2.2.1
  unfold f_X20_clause_J118 at hf
  refine lv_iload_n hx hb dX20_clause_118 rfl (lv_at hl 1 rfl) ?_
  refine lv_if_ne (tgt := 134) hx hb dX20_clause_119 (by decide) (fun c42 => ?_) (fun c42 => ?_)
  · replace hf := ite_f c42 hf
    exact jk_X20_clause_134 C hr hno hf hn hk hw (lv_sub hl [0, 1, 2] rfl)
  · replace hf := ite_t c42 hf
    refine lv_aload_n hx hb dX20_clause_122 rfl (lv_at hl 2 rfl) ?_
    revert hf
    refine k_req (fun k82 hf => ?_)
    revert hf
    refine k_drf (fun r83 er83 hf => ?_)
    refine gf_X20_43 C hw k82 er83 dX20_clause_123 ?_
    refine lv_iconst (v := (1 : Int32)) hx hb dX20_clause_126 (by decide) ?_
    refine lv_aload_n hx hb dX20_clause_127 rfl (lv_at hl 0 rfl) ?_
    refine w_ldcS (k := 16) C rfl dX20_clause_128 ?_
    revert hf
    refine k_req (fun k84 hf => ?_)
    rcases of_dxl hf with ⟨r86, U87, T88, na, ka, n1, k1, h85, hf, en, ek⟩ | ⟨r86, U87, T88, h85, hf⟩
    · refine x_in hw (xu_X20_53 (As := [.ref (adK G 16)]) C hw (Nat.le_of_ble_eq_true rfl) (Nat.le_of_ble_eq_true rfl) (ok_X6_behind h85) k84 hl.1 rfl (Nat.le_of_ble_eq_true rfl) ⟨by show _ ≤ mc; omega, by show _ ≤ ms; omega⟩ dX20_clause_130) (fun H locs hw => ?_)
      refine W.eq (g2 := F0 m 133 ls [.ref (gb G + r86), .int (1 : Int32), .ref (gb G + r83)]) rfl ?_
      replace hn := add_r hn en
      replace hk := add_r hk ek
      clear en ek
      generalize n1 = n at hf hn
      generalize k1 = k at hf hk
      revert hf
      refine k_req (fun h89 hf => ?_)
      revert hf
      refine k_req (fun h90 hf => ?_)
      revert hf
      refine k_stp (fun U91 eU91 hf => ?_)
      refine w_aast7 C hw h89 h90 eU91 dX20_clause_133 (fun H locs hw => ?_)
      exact jk_X20_clause_134 C hr hno hf hn hk hw (lv_sub hl [0, 1, 2] rfl)
    · cases hf
      refine x_out hw (xu_X20_53 (As := [.ref (adK G 16)]) C hw (Nat.le_of_ble_eq_true rfl) (Nat.le_of_ble_eq_true rfl) (ok_X6_behind h85) k84 hl.1 rfl (Nat.le_of_ble_eq_true rfl) ⟨by show _ ≤ mc; omega, by show _ ≤ ms; omega⟩ dX20_clause_130) (fun H locs ce hw g1 g2 g3 => ?_)
      exact x_upE C hno hw g1 g2 g3 hn hk
set_option maxHeartbeats 4000000 in
theorem jk_X20_clause_106 {l : Launch} {G : gG} {p : Program} {e : Env} {s : State} {m : MethodId} {args : Array Value} {below : List Frame} {meth : Method} {c : Code} {T : Tt} {V0 : Vt} {r : (Unit ⊕ Nat)} {V' : Vt} {T' : Tt} {mc ms : Nat} (C : Cx G p s m args meth c cX20_clause RX20 3) (hr : meth.sig.returnType = none) (hno : ∀ z ∈ c.exceptionTable.toList, False) {x0 : Nat} {x1 : Int32} {x2 : Nat} {H : Heap} {locs : List Loc} {ls : Array Slot} {cells slots n k : Nat} (hf : f_X20_clause_J106 T V0 x0 x1 x2 = some ((r, V', T'), n, k)) (hn : cells + n = mc) (hk : slots + k = ms) (hw : wS G V0 T H locs) (hl : lv_has ls 3 [(0, .ref (gb G + x0)), (1, .int x1), (2, .ref (gb G + x2))]) : W p l e (rmL 129 mc ms) s m args below meth c H locs cells slots (xQ G RX8 below (xV r) V' T' args s mc ms) (F0 m 106 ls []) := by
  have hx := C.1
  have hb := C.2.1
  have hown := C.2.2.2.1
  have hts := C.2.2.2.2.1
  unfold f_X20_clause_J106 at hf
  refine lv_aload_n hx hb dX20_clause_106 rfl (lv_at hl 2 rfl) ?_
  revert hf
  refine k_req (fun k32 hf => ?_)
  revert hf
  refine k_drf (fun r33 er33 hf => ?_)
  refine gf_X20_43 C hw k32 er33 dX20_clause_107 ?_
  refine lv_iconst (v := (1 : Int32)) hx hb dX20_clause_110 (by decide) ?_
  refine lv_aload_n hx hb dX20_clause_111 rfl (lv_at hl 0 rfl) ?_
  refine w_ldcS (k := 15) C rfl dX20_clause_112 ?_
  revert hf
  refine k_req (fun k34 hf => ?_)
  rcases of_dxl hf with ⟨r36, U37, T38, na, ka, n1, k1, h35, hf, en, ek⟩ | ⟨r36, U37, T38, h35, hf⟩
  · refine x_in hw (xu_X20_53 (As := [.ref (adK G 15)]) C hw (Nat.le_of_ble_eq_true rfl) (Nat.le_of_ble_eq_true rfl) (ok_X6_behind h35) k34 hl.1 rfl (Nat.le_of_ble_eq_true rfl) ⟨by show _ ≤ mc; omega, by show _ ≤ ms; omega⟩ dX20_clause_114) (fun H locs hw => ?_)
    refine W.eq (g2 := F0 m 117 ls [.ref (gb G + r36), .int (1 : Int32), .ref (gb G + r33)]) rfl ?_
    replace hn := add_r hn en
    replace hk := add_r hk ek
    clear en ek
    generalize n1 = n at hf hn
    generalize k1 = k at hf hk
    revert hf
    refine k_req (fun h39 hf => ?_)
    revert hf
    refine k_req (fun h40 hf => ?_)
    revert hf
    refine k_stp (fun U41 eU41 hf => ?_)
    refine w_aast7 C hw h39 h40 eU41 dX20_clause_117 (fun H locs hw => ?_)
    exact jk_X20_clause_118 C hr hno hf hn hk hw (lv_sub hl [0, 1, 2] rfl)
  · cases hf
    refine x_out hw (xu_X20_53 (As := [.ref (adK G 15)]) C hw (Nat.le_of_ble_eq_true rfl) (Nat.le_of_ble_eq_true rfl) (ok_X6_behind h35) k34 hl.1 rfl (Nat.le_of_ble_eq_true rfl) ⟨by show _ ≤ mc; omega, by show _ ≤ ms; omega⟩ dX20_clause_114) (fun H locs ce hw g1 g2 g3 => ?_)
    exact x_upE C hno hw g1 g2 g3 hn hk
set_option maxHeartbeats 4000000 in
theorem jk_X20_clause_96 {l : Launch} {G : gG} {p : Program} {e : Env} {s : State} {m : MethodId} {args : Array Value} {below : List Frame} {meth : Method} {c : Code} {T : Tt} {V0 : Vt} {r : (Unit ⊕ Nat)} {V' : Vt} {T' : Tt} {mc ms : Nat} (C : Cx G p s m args meth c cX20_clause RX20 3) (hr : meth.sig.returnType = none) (hno : ∀ z ∈ c.exceptionTable.toList, False) {x0 : Nat} {x1 : Int32} {x2 : Nat} {H : Heap} {locs : List Loc} {ls : Array Slot} {cells slots n k : Nat} (hf : f_X20_clause_J96 T V0 x0 x1 x2 = some ((r, V', T'), n, k)) (hn : cells + n = mc) (hk : slots + k = ms) (hw : wS G V0 T H locs) (hl : lv_has ls 3 [(0, .ref (gb G + x0)), (1, .int x1), (2, .ref (gb G + x2))]) : W p l e (rmL 129 mc ms) s m args below meth c H locs cells slots (xQ G RX8 below (xV r) V' T' args s mc ms) (F0 m 96 ls []) := by
  have hx := C.1
  have hb := C.2.1
  have hown := C.2.2.2.1
  have hts := C.2.2.2.2.1
  unfold f_X20_clause_J96 at hf
  refine lv_iload_n hx hb dX20_clause_96 rfl (lv_at hl 1 rfl) ?_
  refine lv_iconst (v := (1 : Int32)) hx hb dX20_clause_97 (by decide) ?_
  refine lv_icmp_eq (tgt := 106) hx hb dX20_clause_98 (by decide) (fun c31 => ?_) (fun c31 => ?_)
  · replace hf := ite_t c31 hf
    exact jk_X20_clause_106 C hr hno hf hn hk hw (lv_sub hl [0, 1, 2] rfl)
  · replace hf := ite_f c31 hf
    refine lv_iload_n hx hb dX20_clause_101 rfl (lv_at hl 1 rfl) ?_
    refine lv_iconst (v := (2 : Int32)) hx hb dX20_clause_102 (by decide) ?_
    refine lv_icmp_ne (tgt := 118) hx hb dX20_clause_103 (by decide) (fun c92 => ?_) (fun c92 => ?_)
    · replace hf := ite_f c92 hf
      exact jk_X20_clause_118 C hr hno hf hn hk hw (lv_sub hl [0, 1, 2] rfl)
    · replace hf := ite_t c92 hf
      exact jk_X20_clause_106 C hr hno hf hn hk hw (lv_sub hl [0, 1, 2] rfl)
set_option maxHeartbeats 4000000 in
theorem jk_X20_clause_65 {l : Launch} {G : gG} {p : Program} {e : Env} {s : State} {m : MethodId} {args : Array Value} {below : List Frame} {meth : Method} {c : Code} {T : Tt} {V0 : Vt} {r : (Unit ⊕ Nat)} {V' : Vt} {T' : Tt} {mc ms : Nat} (C : Cx G p s m args meth c cX20_clause RX20 3) (hr : meth.sig.returnType = none) (hno : ∀ z ∈ c.exceptionTable.toList, False) {x0 : Nat} {x1 : Int32} {s0 : Nat} {s1 : Int32} {H : Heap} {locs : List Loc} {ls : Array Slot} {cells slots n k : Nat} (hf : f_X20_clause_J65 T V0 x0 x1 s0 s1 = some ((r, V', T'), n, k)) (hn : cells + n = mc) (hk : slots + k = ms) (hw : wS G V0 T H locs) (hl : lv_has ls 3 [(0, .ref (gb G + x0)), (1, .int x1)]) : W p l e (rmL 129 mc ms) s m args below meth c H locs cells slots (xQ G RX8 below (xV r) V' T' args s mc ms) (F0 m 65 ls [.int s1, .ref (gb G + s0)]) := by
  have hx := C.1
  have hb := C.2.1
  have hown := C.2.2.2.1
  have hts := C.2.2.2.2.1
  unfold f_X20_clause_J65 at hf
  revert hf
  refine k_req (fun k14 hf => ?_)
  rcases of_dxl hf with ⟨z16, U17, T18, na, ka, n1, k1, h15, hf, en, ek⟩ | ⟨z16, U17, T18, h15, hf⟩
  · refine x_in hw (xu_X20_32 (As := [.int s1]) C hw (Nat.le_of_ble_eq_true rfl) (Nat.le_of_ble_eq_true rfl) (ok_X6_begins h15) k14 hl.1 rfl (Nat.le_of_ble_eq_true rfl) ⟨by show _ ≤ mc; omega, by show _ ≤ ms; omega⟩ dX20_clause_65) (fun H locs hw => ?_)
    refine W.eq (g2 := F0 m 68 ls []) rfl ?_
    replace hn := add_r hn en
    replace hk := add_r hk ek
    clear en ek
    generalize n1 = n at hf hn
    generalize k1 = k at hf hk
    refine lv_aload_n hx hb dX20_clause_68 rfl (lv_at hl 0 rfl) ?_
    revert hf
    refine k_req (fun k19 hf => ?_)
    revert hf
    refine k_pcl (fun U22 h20 hf => ?_)
    refine w_afv hw (wu_X20_36 (As := []) C hw (Nat.le_of_ble_eq_true rfl) (Nat.le_of_ble_eq_true rfl) (ok_X6_next h20) k19 hl.1 rfl (Nat.le_of_ble_eq_true rfl) ⟨by show _ + 0 ≤ mc; omega, by show _ + 0 ≤ ms; omega⟩ dX20_clause_69) (fun H locs hw => ?_)
    revert hf
    refine k_inc (fun n1 k1 hf en ek => ?_)
    revert hf
    refine k_stp (fun q23 eq23 hf => ?_)
    revert hf
    refine k_stp (fun U24 eU24 hf => ?_)
    revert hf
    refine k_stp (fun T25 eT25 hf => ?_)
    refine nw_X18 C hw q1148 (by show _ ≤ mc; omega) (by show _ ≤ ms; omega) eq23 eU24 eT25 dX20_clause_72 (fun H hw => ?_)
    replace hn := add_r hn en
    replace hk := add_r hk ek
    clear en ek
    generalize n1 = n at hf hn
    generalize k1 = k at hf hk
    refine lv_dup hx hb dX20_clause_75 rfl ?_
    refine lv_iload_n hx hb dX20_clause_76 rfl (lv_at hl 1 rfl) ?_
    revert hf
    refine k_dcv (fun U28 T29 na ka n1 k1 h26 hf en ek => ?_)
    refine w_afv hw (w_rI (As := [.int x1]) C hw (ok_X18_init h26) (cw_X20_42 hts (Nat.le_of_ble_eq_true rfl) (Nat.le_of_ble_eq_true rfl)) rfl hl.1 rfl (Nat.le_of_ble_eq_true rfl) ⟨by show _ ≤ mc; omega, by show _ ≤ ms; omega⟩ dX20_clause_77) (fun H locs hw => ?_)
    replace hn := add_r hn en
    replace hk := add_r hk ek
    clear en ek
    generalize n1 = n at hf hn
    generalize k1 = k at hf hk
    refine lv_astore_n (lv' := [(2, .ref (gb G + q23)), (0, .ref (gb G + x0)), (1, .int x1)]) hx hb dX20_clause_80 rfl hl (by decide) rfl (fun ls hl => ?_)
    refine lv_iload_n hx hb dX20_clause_81 rfl (lv_at hl 2 rfl) ?_
    refine lv_iconst (v := (3 : Int32)) hx hb dX20_clause_82 (by decide) ?_
    refine lv_icmp_eq (tgt := 96) hx hb dX20_clause_83 (by decide) (fun c30 => ?_) (fun c30 => ?_)
    · replace hf := ite_t c30 hf
      exact jk_X20_clause_96 C hr hno hf hn hk hw (lv_sub hl [1, 2, 0] rfl)
    · replace hf := ite_f c30 hf
      refine lv_aload_n hx hb dX20_clause_86 rfl (lv_at hl 0 rfl) ?_
      revert hf
      refine k_req (fun k93 hf => ?_)
      revert hf
      refine k_drf (fun r94 er94 hf => ?_)
      refine gf_X20_43 C hw k93 er94 dX20_clause_87 ?_
      refine lv_iconst (v := (0 : Int32)) hx hb dX20_clause_90 (by decide) ?_
      refine lv_aload_n hx hb dX20_clause_91 rfl (lv_at hl 1 rfl) ?_
      revert hf
      refine k_req (fun k95 hf => ?_)
      rcases of_dxl hf with ⟨r97, U98, T99, na, ka, n1, k1, h96, hf, en, ek⟩ | ⟨r97, U98, T99, h96, hf⟩
      · refine x_in hw (xu_X20_47 (As := []) C hw (Nat.le_of_ble_eq_true rfl) (Nat.le_of_ble_eq_true rfl) (ok_sumR h96) k95 hl.1 rfl (Nat.le_of_ble_eq_true rfl) ⟨by show _ ≤ mc; omega, by show _ ≤ ms; omega⟩ dX20_clause_92) (fun H locs hw => ?_)
        refine W.eq (g2 := F0 m 95 ls [.ref (gb G + r97), .int (0 : Int32), .ref (gb G + r94)]) rfl ?_
        replace hn := add_r hn en
        replace hk := add_r hk ek
        clear en ek
        generalize n1 = n at hf hn
        generalize k1 = k at hf hk
        revert hf
        refine k_req (fun h100 hf => ?_)
        revert hf
        refine k_req (fun h101 hf => ?_)
        revert hf
        refine k_stp (fun U102 eU102 hf => ?_)
        refine w_aast7 C hw h100 h101 eU102 dX20_clause_95 (fun H locs hw => ?_)
        exact jk_X20_clause_96 C hr hno hf hn hk hw (lv_sub hl [1, 2, 0] rfl)
      · cases hf
        refine x_out hw (xu_X20_47 (As := []) C hw (Nat.le_of_ble_eq_true rfl) (Nat.le_of_ble_eq_true rfl) (ok_sumR h96) k95 hl.1 rfl (Nat.le_of_ble_eq_true rfl) ⟨by show _ ≤ mc; omega, by show _ ≤ ms; omega⟩ dX20_clause_92) (fun H locs ce hw g1 g2 g3 => ?_)
        exact x_upE C hno hw g1 g2 g3 hn hk
  · cases hf
    refine x_out hw (xu_X20_32 (As := [.int s1]) C hw (Nat.le_of_ble_eq_true rfl) (Nat.le_of_ble_eq_true rfl) (ok_X6_begins h15) k14 hl.1 rfl (Nat.le_of_ble_eq_true rfl) ⟨by show _ ≤ mc; omega, by show _ ≤ ms; omega⟩ dX20_clause_65) (fun H locs ce hw g1 g2 g3 => ?_)
    exact x_upE C hno hw g1 g2 g3 hn hk
set_option maxHeartbeats 4000000 in
theorem jk_X20_clause_53 {l : Launch} {G : gG} {p : Program} {e : Env} {s : State} {m : MethodId} {args : Array Value} {below : List Frame} {meth : Method} {c : Code} {T : Tt} {V0 : Vt} {r : (Unit ⊕ Nat)} {V' : Vt} {T' : Tt} {mc ms : Nat} (C : Cx G p s m args meth c cX20_clause RX20 3) (hr : meth.sig.returnType = none) (hno : ∀ z ∈ c.exceptionTable.toList, False) {x0 : Nat} {s0 : Int32} {H : Heap} {locs : List Loc} {ls : Array Slot} {cells slots n k : Nat} (hf : f_X20_clause_J53 T V0 x0 s0 = some ((r, V', T'), n, k)) (hn : cells + n = mc) (hk : slots + k = ms) (hw : wS G V0 T H locs) (hl : lv_has ls 3 [(0, .ref (gb G + x0))]) : W p l e (rmL 129 mc ms) s m args below meth c H locs cells slots (xQ G RX8 below (xV r) V' T' args s mc ms) (F0 m 53 ls [.int s0]) := by
  have hx := C.1
  have hb := C.2.1
  have hown := C.2.2.2.1
  have hts := C.2.2.2.2.1
  unfold f_X20_clause_J53 at hf
  refine lv_istore_n (lv' := [(1, .int s0), (0, .ref (gb G + x0))]) hx hb dX20_clause_53 rfl hl (by decide) rfl (fun ls hl => ?_)
  refine lv_aload_n hx hb dX20_clause_54 rfl (lv_at hl 1 rfl) ?_
  refine lv_iload_n hx hb dX20_clause_55 rfl (lv_at hl 0 rfl) ?_
  refine lv_iconst (v := ((-1) : Int32)) hx hb dX20_clause_56 (by decide) ?_
  refine lv_icmp_eq (tgt := 64) hx hb dX20_clause_57 (by decide) (fun c13 => ?_) (fun c13 => ?_)
  · replace hf := ite_t c13 hf
    refine lv_iconst (v := (0 : Int32)) hx hb dX20_clause_64 (by decide) ?_
    exact jk_X20_clause_65 C hr hno hf hn hk hw (lv_sub hl [1, 0] rfl)
  · replace hf := ite_f c13 hf
    refine lv_iconst (v := (1 : Int32)) hx hb dX20_clause_60 (by decide) ?_
    refine lv_goto (tgt := 65) hx hb dX20_clause_61 (by decide) ?_
    exact jk_X20_clause_65 C hr hno hf hn hk hw (lv_sub hl [1, 0] rfl)
set_option maxHeartbeats 4000000 in
theorem ok_X20_clause {l : Launch} {G : gG} {T : Tt} {V0 : Vt} {o : Nat} {r : (Unit ⊕ Nat)} {V' : Vt} {T' : Tt} {n k : Nat} (hf : f_X20_clause T V0 o = some ((r, V', T'), n, k)) : okX l G RX8 yX20_clause cX20_clause 3 none 129 [.ref (gb G + o)] V0 T (xV r) V' T' n k := by
  refine okX_intro (by decide) (Nat.le_of_ble_eq_true rfl) ?_
  intro p e s m below meth c ls C hr hno hw hl
  have hx := C.1
  have hb := C.2.1
  have hown := C.2.2.2.1
  have hts := C.2.2.2.2.1
  have hl : lv_has ls 3 [(0, .ref (gb G + o))] := hl
  unfold f_X20_clause at hf
  revert hf
  refine k_req (fun k0 hf => ?_)
  obtain ⟨mc, emc⟩ : ∃ mc, mc = n := ⟨_, rfl⟩
  obtain ⟨ms, ems⟩ : ∃ ms, ms = k := ⟨_, rfl⟩
  have hn : 0 + n = mc := by omega
  have hk : 0 + k = ms := by omega
  rw [← emc, ← ems]
  clear emc ems
  refine lv_aload_n hx hb dX20_clause_0 rfl (lv_at hl 0 rfl) ?_
  refine w_ldcS (k := 11) C rfl dX20_clause_1 ?_
  revert hf
  refine k_pcl (fun z2 h1 hf => ?_)
  refine w_afi hw (wu_X20_22 (As := [.ref (adK G 11)]) C hw (Nat.le_of_ble_eq_true rfl) (Nat.le_of_ble_eq_true rfl) (ok_X6_is h1) k0 hl.1 rfl (Nat.le_of_ble_eq_true rfl) ⟨by show _ + 0 ≤ mc; omega, by show _ + 0 ≤ ms; omega⟩ dX20_clause_3) (fun H locs hw => ?_)
  refine lv_if_eq (tgt := 13) hx hb dX20_clause_6 (by decide) (fun c3 => ?_) (fun c3 => ?_)
  · replace hf := ite_t c3 hf
    refine lv_aload_n hx hb dX20_clause_13 rfl (lv_at hl 0 rfl) ?_
    refine w_ldcS (k := 12) C rfl dX20_clause_14 ?_
    revert hf
    refine k_pcl (fun z5 h4 hf => ?_)
    refine w_afi hw (wu_X20_22 (As := [.ref (adK G 12)]) C hw (Nat.le_of_ble_eq_true rfl) (Nat.le_of_ble_eq_true rfl) (ok_X6_is h4) k0 hl.1 rfl (Nat.le_of_ble_eq_true rfl) ⟨by show _ + 0 ≤ mc; omega, by show _ + 0 ≤ ms; omega⟩ dX20_clause_16) (fun H locs hw => ?_)
    refine lv_if_eq (tgt := 26) hx hb dX20_clause_19 (by decide) (fun c6 => ?_) (fun c6 => ?_)
    · replace hf := ite_t c6 hf
      refine lv_aload_n hx hb dX20_clause_26 rfl (lv_at hl 0 rfl) ?_
      refine w_ldcS (k := 13) C rfl dX20_clause_27 ?_
      revert hf
      refine k_pcl (fun z8 h7 hf => ?_)
      refine w_afi hw (wu_X20_22 (As := [.ref (adK G 13)]) C hw (Nat.le_of_ble_eq_true rfl) (Nat.le_of_ble_eq_true rfl) (ok_X6_is h7) k0 hl.1 rfl (Nat.le_of_ble_eq_true rfl) ⟨by show _ + 0 ≤ mc; omega, by show _ + 0 ≤ ms; omega⟩ dX20_clause_29) (fun H locs hw => ?_)
      refine lv_if_eq (tgt := 39) hx hb dX20_clause_32 (by decide) (fun c9 => ?_) (fun c9 => ?_)
      · replace hf := ite_t c9 hf
        refine lv_aload_n hx hb dX20_clause_39 rfl (lv_at hl 0 rfl) ?_
        refine w_ldcS (k := 14) C rfl dX20_clause_40 ?_
        revert hf
        refine k_pcl (fun z11 h10 hf => ?_)
        refine w_afi hw (wu_X20_22 (As := [.ref (adK G 14)]) C hw (Nat.le_of_ble_eq_true rfl) (Nat.le_of_ble_eq_true rfl) (ok_X6_is h10) k0 hl.1 rfl (Nat.le_of_ble_eq_true rfl) ⟨by show _ + 0 ≤ mc; omega, by show _ + 0 ≤ ms; omega⟩ dX20_clause_42) (fun H locs hw => ?_)
        refine lv_if_eq (tgt := 52) hx hb dX20_clause_45 (by decide) (fun c12 => ?_) (fun c12 => ?_)
        · replace hf := ite_t c12 hf
          refine lv_iconst (v := ((-1) : Int32)) hx hb dX20_clause_52 (by decide) ?_
          exact jk_X20_clause_53 C hr hno hf hn hk hw (lv_sub hl [0] rfl)
        · replace hf := ite_f c12 hf
          refine lv_iconst (v := (3 : Int32)) hx hb dX20_clause_48 (by decide) ?_
          refine lv_goto (tgt := 53) hx hb dX20_clause_49 (by decide) ?_
          exact jk_X20_clause_53 C hr hno hf hn hk hw (lv_sub hl [0] rfl)
      · replace hf := ite_f c9 hf
        refine lv_iconst (v := (2 : Int32)) hx hb dX20_clause_35 (by decide) ?_
        refine lv_goto (tgt := 53) hx hb dX20_clause_36 (by decide) ?_
        exact jk_X20_clause_53 C hr hno hf hn hk hw (lv_sub hl [0] rfl)
    · replace hf := ite_f c6 hf
      refine lv_iconst (v := (1 : Int32)) hx hb dX20_clause_22 (by decide) ?_
      refine lv_goto (tgt := 53) hx hb dX20_clause_23 (by decide) ?_
      exact jk_X20_clause_53 C hr hno hf hn hk hw (lv_sub hl [0] rfl)
  · replace hf := ite_f c3 hf
    refine lv_iconst (v := (0 : Int32)) hx hb dX20_clause_9 (by decide) ?_
    refine lv_goto (tgt := 53) hx hb dX20_clause_10 (by decide) ?_
    exact jk_X20_clause_53 C hr hno hf hn hk hw (lv_sub hl [0] rfl)
def f_clause (T : Tt) (V : Vt) (a : Nat) : Option (((Unit ⊕ Nat) × Vt × Tt) × Nat × Nat) := if T.1 a = 7 then f_X7_clause T V a else if T.1 a = 18 then f_X20_clause T V a else none
theorem ok_clause {l : Launch} {G : gG} {T : Tt} {V : Vt} {a : Nat} {r : Unit ⊕ Nat} {V' : Vt} {T' : Tt} {n k : Nat} (h : f_clause T V a = some ((r, V', T'), n, k)) : vClause l G 130 T V a r V' T' n k := by
  unfold f_clause at h
  by_cases c1 : T.1 a = 7
  · exact ⟨129, by omega, Or.inl ⟨c1, ok_X7_clause (ite_t c1 h)⟩⟩
  · have h := ite_f c1 h
    by_cases c2 : T.1 a = 18
    · exact ⟨129, by omega, Or.inr ⟨c2, ok_X20_clause (ite_t c2 h)⟩⟩
    · cases ite_f c2 h
def f_X6_read_L8 (x0 : Nat) (kx8_24 : Vt → Tt → Option (((Unit ⊕ Nat) × Vt × Tt) × Nat × Nat)) : Nat → Vt → Tt → Option (((Unit ⊕ Nat) × Vt × Tt) × Nat × Nat)
  | 0, _, _ => none
  | nf + 1, V1, T1 => cal (f_X6_takes T1 V1 x0 26) (fun z9 U10 => if z9 = 0 then (kx8_24 U10 T1) else (dxl (f_clause T1 U10 x0) (fun z13 U14 T15 => (f_X6_read_L8 x0 kx8_24 nf) U14 T15)))
def f_X6_read (T : Tt) (V0 : Vt) (o : Nat) : Option (((Unit ⊕ Nat) × Vt × Tt) × Nat × Nat) :=
  req (isRd T o) (pcl (f_X6_next T V0 o) (fun U3 => dxl (f_clause T U3 o) (fun z5 U6 T7 => f_X6_read_L8 o (fun U16 T17 => req (isRd T17 o) (if (U16.1 o 1) ≤ (U16.1 o 3) then (some (((.inl ()), U16, T17), 0, 0)) else (inc 1 7 (stp T17.2.2 (fun q20 => stp (zV U16 q20) (fun U21 => stp (aT T17 8 0) (fun T22 => req (isRd T22 o) (pcl (f_X8_init T22 U21 q20 (U21.1 o 3)) (fun U26 => req (T22.1 q20 = 8) (some ((.inr q20, U26, T22), 0, 0))))))))))) fuel U6 T7)))
set_option maxHeartbeats 4000000 in
theorem lk_X6_read_8 {l : Launch} {G : gG} {p : Program} {e : Env} {s : State} {m : MethodId} {args : Array Value} {below : List Frame} {meth : Method} {c : Code} {r : (Unit ⊕ Nat)} {V' : Vt} {T' : Tt} {mc ms : Nat} (C : Cx G p s m args meth c cX6_read RX6 1) (hr : meth.sig.returnType = none) (hno : ∀ z ∈ c.exceptionTable.toList, False) {x0 : Nat} {kx8_24 : Vt → Tt → Option (((Unit ⊕ Nat) × Vt × Tt) × Nat × Nat)} (hkx8_24 : ∀ (W1 : Vt) (T1 : Tt) (H : Heap) (locs : List Loc) (ls : Array Slot) (cells slots n k : Nat), kx8_24 W1 T1 = some ((r, V', T'), n, k) → cells + n = mc → slots + k = ms → wS G W1 T1 H locs → lv_has ls 1 [(0, .ref (gb G + x0))] → W p l e (rmL 131 mc ms) s m args below meth c H locs cells slots (xQ G RX8 below (xV r) V' T' args s mc ms) (F0 m 24 ls [])) : ∀ (nf : Nat) (V1 : Vt) (T1 : Tt) (H : Heap) (locs : List Loc) (ls : Array Slot) (cells slots n k : Nat), f_X6_read_L8 x0 kx8_24 nf V1 T1 = some ((r, V', T'), n, k) → cells + n = mc → slots + k = ms → wS G V1 T1 H locs → lv_has ls 1 [(0, .ref (gb G + x0))] → W p l e (rmL 131 mc ms) s m args below meth c H locs cells slots (xQ G RX8 below (xV r) V' T' args s mc ms) (F0 m 8 ls []) := by
  have hx := C.1
  have hb := C.2.1
  have hown := C.2.2.2.1
  have hts := C.2.2.2.2.1
  intro nf
  induction nf with
  | zero =>
    intro V1 T1 H locs ls cells slots n k hf
    cases hf
  | succ nf ih =>
    intro V1 T1 H locs ls cells slots n k hf hn hk hw hl
    unfold f_X6_read_L8 at hf
    refine lv_aload_n hx hb dX6_read_8 rfl (lv_at hl 0 rfl) ?_
    refine w_ldcS (k := 26) C rfl dX6_read_9 ?_
    revert hf
    refine k_cal (fun z9 U10 h8 hf => ?_)
    refine w_afi hw (wu_X6_46 (As := [.ref (adK G 26)]) C hw (Nat.le_of_ble_eq_true rfl) (Nat.le_of_ble_eq_true rfl) (ok_X6_takes h8) (of_req h8).1 hl.1 rfl (Nat.le_of_ble_eq_true rfl) ⟨by show _ + 0 ≤ mc; omega, by show _ + 0 ≤ ms; omega⟩ dX6_read_11) (fun H locs hw => ?_)
    refine lv_if_eq (tgt := 24) hx hb dX6_read_14 (by decide) (fun c11 => ?_) (fun c11 => ?_)
    · replace hf := ite_t c11 hf
      exact hkx8_24 _ _ _ _ _ _ _ _ _ hf hn hk hw (lv_sub hl [0] rfl)
    · replace hf := ite_f c11 hf
      refine lv_aload_n hx hb dX6_read_17 rfl (lv_at hl 0 rfl) ?_
      rcases of_dxl hf with ⟨z13, U14, T15, na, ka, n1, k1, h12, hf, en, ek⟩ | ⟨z13, U14, T15, h12, hf⟩
      · refine x_in hw (xv_X6_54 C hw (Nat.le_of_ble_eq_true rfl) (Nat.le_of_ble_eq_true rfl) (fun _ _ _ _ _ _ _ _ h => ok_clause h) h12 hl.1 rfl (Nat.le_of_ble_eq_true rfl) ⟨by show _ ≤ mc; omega, by show _ ≤ ms; omega⟩ dX6_read_18) (fun H locs hw => ?_)
        refine W.eq (g2 := F0 m 21 ls []) rfl ?_
        replace hn := add_r hn en
        replace hk := add_r hk ek
        clear en ek
        generalize n1 = n at hf hn
        generalize k1 = k at hf hk
        refine lv_goto (tgt := 8) hx hb dX6_read_21 (by decide) ?_
        exact ih _ _ _ _ _ _ _ _ _ hf hn hk hw (lv_sub hl [0] rfl)
      · cases hf
        refine x_out hw (xv_X6_54 C hw (Nat.le_of_ble_eq_true rfl) (Nat.le_of_ble_eq_true rfl) (fun _ _ _ _ _ _ _ _ h => ok_clause h) h12 hl.1 rfl (Nat.le_of_ble_eq_true rfl) ⟨by show _ ≤ mc; omega, by show _ ≤ ms; omega⟩ dX6_read_18) (fun H locs ce hw g1 g2 g3 => ?_)
        exact x_upE C hno hw g1 g2 g3 hn hk
set_option maxHeartbeats 4000000 in
theorem ok_X6_read {l : Launch} {G : gG} {T : Tt} {V0 : Vt} {o : Nat} {r : (Unit ⊕ Nat)} {V' : Vt} {T' : Tt} {n k : Nat} (hf : f_X6_read T V0 o = some ((r, V', T'), n, k)) : okX l G RX8 yX6_read cX6_read 1 none 131 [.ref (gb G + o)] V0 T (xV r) V' T' n k := by
  refine okX_intro (by decide) (Nat.le_of_ble_eq_true rfl) ?_
  intro p e s m below meth c ls C hr hno hw hl
  have hx := C.1
  have hb := C.2.1
  have hown := C.2.2.2.1
  have hts := C.2.2.2.2.1
  have hl : lv_has ls 1 [(0, .ref (gb G + o))] := hl
  unfold f_X6_read at hf
  revert hf
  refine k_req (fun k0 hf => ?_)
  obtain ⟨mc, emc⟩ : ∃ mc, mc = n := ⟨_, rfl⟩
  obtain ⟨ms, ems⟩ : ∃ ms, ms = k := ⟨_, rfl⟩
  have hn : 0 + n = mc := by omega
  have hk : 0 + k = ms := by omega
  rw [← emc, ← ems]
  clear emc ems
  refine lv_aload_n hx hb dX6_read_0 rfl (lv_at hl 0 rfl) ?_
  revert hf
  refine k_pcl (fun U3 h1 hf => ?_)
  refine w_afv hw (wu_X6_43 (As := []) C hw (Nat.le_of_ble_eq_true rfl) (Nat.le_of_ble_eq_true rfl) (ok_X6_next h1) (of_req h1).1 hl.1 rfl (Nat.le_of_ble_eq_true rfl) ⟨by show _ + 0 ≤ mc; omega, by show _ + 0 ≤ ms; omega⟩ dX6_read_1) (fun H locs hw => ?_)
  refine lv_aload_n hx hb dX6_read_4 rfl (lv_at hl 0 rfl) ?_
  rcases of_dxl hf with ⟨z5, U6, T7, na, ka, n1, k1, h4, hf, en, ek⟩ | ⟨z5, U6, T7, h4, hf⟩
  · refine x_in hw (xv_X6_54 C hw (Nat.le_of_ble_eq_true rfl) (Nat.le_of_ble_eq_true rfl) (fun _ _ _ _ _ _ _ _ h => ok_clause h) h4 hl.1 rfl (Nat.le_of_ble_eq_true rfl) ⟨by show _ ≤ mc; omega, by show _ ≤ ms; omega⟩ dX6_read_5) (fun H locs hw => ?_)
    refine W.eq (g2 := F0 m 8 ls []) rfl ?_
    replace hn := add_r hn en
    replace hk := add_r hk ek
    clear en ek
    generalize n1 = n at hf hn
    generalize k1 = k at hf hk
    refine lk_X6_read_8 C hr hno (fun U16 T17 H locs ls cells slots n k hf hn hk hw hl => ?_) fuel _ _ _ _ _ _ _ _ _ hf hn hk hw (lv_sub hl [0] rfl)
    refine lv_aload_n hx hb dX6_read_24 rfl (lv_at hl 0 rfl) ?_
    revert hf
    refine k_req (fun k18 hf => ?_)
    refine gf_X6_22 C hw k18 dX6_read_25 ?_
    refine lv_aload_n hx hb dX6_read_28 rfl (lv_at hl 0 rfl) ?_
    refine gf_X6_15 C hw k18 dX6_read_29 ?_
    refine lv_icmp_ge (tgt := 47) hx hb dX6_read_32 (by decide) (fun c19 => ?_) (fun c19 => ?_)
    · replace hf := ite_t c19 hf
      cases hf
      cases hn
      cases hk
      exact x_ret (w_vret C hr hw dX6_read_47)
    · replace hf := ite_f c19 hf
      revert hf
      refine k_inc (fun n1 k1 hf en ek => ?_)
      revert hf
      refine k_stp (fun q20 eq20 hf => ?_)
      revert hf
      refine k_stp (fun U21 eU21 hf => ?_)
      revert hf
      refine k_stp (fun T22 eT22 hf => ?_)
      refine nw_X8 C hw q862 (by show _ ≤ mc; omega) (by show _ ≤ ms; omega) eq20 eU21 eT22 dX6_read_35 (fun H hw => ?_)
      replace hn := add_r hn en
      replace hk := add_r hk ek
      clear en ek
      generalize n1 = n at hf hn
      generalize k1 = k at hf hk
      refine lv_dup hx hb dX6_read_38 rfl ?_
      refine lv_aload_n hx hb dX6_read_39 rfl (lv_at hl 0 rfl) ?_
      revert hf
      refine k_req (fun k23 hf => ?_)
      refine gf_X6_22 C hw k23 dX6_read_40 ?_
      revert hf
      refine k_pcl (fun U26 h24 hf => ?_)
      refine w_afv hw (w_rI (As := [.int (U21.1 o 3)]) C hw (ok_X8_init h24) (cw_X6_51 hts (Nat.le_of_ble_eq_true rfl) (Nat.le_of_ble_eq_true rfl)) rfl hl.1 rfl (Nat.le_of_ble_eq_true rfl) ⟨by show _ + 0 ≤ mc; omega, by show _ + 0 ≤ ms; omega⟩ dX6_read_43) (fun H locs hw => ?_)
      revert hf
      refine k_req (fun k27 hf => ?_)
      cases hf
      cases hn
      cases hk
      exact x_throw (ci := 7) C hno hw rfl (by decide) k27 dX6_read_46
  · cases hf
    refine x_out hw (xv_X6_54 C hw (Nat.le_of_ble_eq_true rfl) (Nat.le_of_ble_eq_true rfl) (fun _ _ _ _ _ _ _ _ h => ok_clause h) h4 hl.1 rfl (Nat.le_of_ble_eq_true rfl) ⟨by show _ ≤ mc; omega, by show _ ≤ ms; omega⟩ dX6_read_5) (fun H locs ce hw g1 g2 g3 => ?_)
    exact x_upE C hno hw g1 g2 g3 hn hk
