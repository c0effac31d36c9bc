set_option maxRecDepth 100000
def f_X6_part (rsum : Tt → Vt → Nat → Option (((Nat ⊕ Nat) × Vt × Tt) × Nat × Nat)) (T : Tt) (V0 : Vt) (o : Nat) : Option (((Nat ⊕ Nat) × Vt × Tt) × Nat × Nat) :=
  req (isRd T o) (pcl (f_X6_is T V0 o 40) (fun z2 => if z2 = 0 then (pcl (f_X6_isIn T V0 o (V0.1 o 3) (48 : Int32) (57 : Int32)) (fun z5 => if z5 = 0 then (dxl (f_value T V0 o) (fun z8 U9 T10 => if z8 = ((-1) : Int32) then (inc 1 7 (stp T10.2.2 (fun q18 => stp (zV U9 q18) (fun U19 => stp (aT T10 8 0) (fun T20 => req (isRd T20 o) (pcl (f_X8_init T20 U19 q18 (U19.1 o 3)) (fun U24 => req (T20.1 q18 = 8) (some ((.inr q18, U24, T20), 0, 0))))))))) else (inc 1 1 (stp T10.2.2 (fun q12 => stp (zV U9 q12) (fun U13 => stp (aT T10 11 0) (fun T14 => pcl (f_X12_init T14 U13 q12 z8) (fun U17 => some (((.inl q12), U17, T14), 0, 0))))))))) else (dxl (f_X6_leaf T V0 o) (fun z27 U28 T29 => inc 1 1 (stp T29.2.2 (fun q30 => stp (zV U28 q30) (fun U31 => stp (aT T29 10 0) (fun T32 => dxl (f_X6_number T32 U31 o (0 : Int32) (1000 : Int32)) (fun z34 U35 T36 => pcl (f_X11_init T36 U35 q30 z34) (fun U39 => some (((.inl q30), U39, T36), 0, 0))))))))))) else (dxl (f_X6_opens T V0 o) (fun z41 U42 T43 => req (isRd T43 o) (dxl (rsum T43 U42 o) (fun r46 U47 T48 => dxl (f_X6_need T48 U47 o 41) (fun z50 U51 T52 => req (isRd T52 o) (stp (uI U51 o 6 ((U51.1 o 6) - (1 : Int32))) (fun U54 => some (((.inl r46), U54, T52), 0, 0))))))))))
def f_X6_term_J32 (rsum : Tt → Vt → Nat → Option (((Nat ⊕ Nat) × Vt × Tt) × Nat × Nat)) (T : Tt) (V0 : Vt) (x0 : Nat) (x1 : Nat) (kc5 : Nat → Vt → Tt → Option (((Nat ⊕ Nat) × Vt × Tt) × Nat × Nat)) (kx5_64 : Nat → Vt → Tt → Option (((Nat ⊕ Nat) × Vt × Tt) × Nat × Nat)) : Option (((Nat ⊕ Nat) × Vt × Tt) × Nat × Nat) :=
  req (isRd T x0) (drf (V0.2.2 x0 0) (fun r9 => req (aIn T r9 2 (V0.1 x0 3)) (stp (cN (V0.1 r9 (ixN (V0.1 x0 3)))) (fun z11 => pcl (f_X6_next T V0 x0) (fun U14 => inc 1 3 (stp T.2.2 (fun q15 => stp (zV U14 q15) (fun U16 => stp (aT T 12 0) (fun T17 => dxl (f_X6_part rsum T17 U16 x0) (fun r19 U20 T21 => pcl (f_X13_init T21 U20 q15 z11 x1 r19) (fun U24 => kc5 q15 U24 T21)))))))))))
def f_X6_term_L5 (rsum : Tt → Vt → Nat → Option (((Nat ⊕ Nat) × Vt × Tt) × Nat × Nat)) (x0 : Nat) (kx5_64 : Nat → Vt → Tt → Option (((Nat ⊕ Nat) × Vt × Tt) × Nat × Nat)) : Nat → Nat → Vt → Tt → Option (((Nat ⊕ Nat) × Vt × Tt) × Nat × Nat)
  | 0, _, _, _ => none
  | nf + 1, x1, V1, T1 => pcl (f_X6_is T1 V1 x0 37) (fun z6 => if z6 = 0 then (pcl (f_X6_is T1 V1 x0 38) (fun z26 => if z26 = 0 then (pcl (f_X6_is T1 V1 x0 39) (fun z29 => if z29 = 0 then (kx5_64 x1 V1 T1) else (f_X6_term_J32 rsum T1 V1 x0 x1 (f_X6_term_L5 rsum x0 kx5_64 nf) kx5_64))) else (f_X6_term_J32 rsum T1 V1 x0 x1 (f_X6_term_L5 rsum x0 kx5_64 nf) kx5_64))) else (f_X6_term_J32 rsum T1 V1 x0 x1 (f_X6_term_L5 rsum x0 kx5_64 nf) kx5_64))
def f_X6_term (rsum : Tt → Vt → Nat → Option (((Nat ⊕ Nat) × Vt × Tt) × Nat × Nat)) (T : Tt) (V0 : Vt) (o : Nat) : Option (((Nat ⊕ Nat) × Vt × Tt) × Nat × Nat) :=
  req (isRd T o) (dxl (f_X6_part rsum T V0 o) (fun r2 U3 T4 => f_X6_term_L5 rsum o (fun z31 U32 T33 => some (((.inl z31), U32, T33), 0, 0)) fuel r2 U3 T4))
def f_X6_sum_J23 (rsum : Tt → Vt → Nat → Option (((Nat ⊕ Nat) × Vt × Tt) × Nat × Nat)) (T : Tt) (V0 : Vt) (x0 : Nat) (x1 : Nat) (kc5 : Nat → Vt → Tt → Option (((Nat ⊕ Nat) × Vt × Tt) × Nat × Nat)) (kx5_55 : Nat → Vt → Tt → Option (((Nat ⊕ Nat) × Vt × Tt) × Nat × Nat)) : Option (((Nat ⊕ Nat) × Vt × Tt) × Nat × Nat) :=
  req (isRd T x0) (drf (V0.2.2 x0 0) (fun r9 => req (aIn T r9 2 (V0.1 x0 3)) (stp (cN (V0.1 r9 (ixN (V0.1 x0 3)))) (fun z11 => pcl (f_X6_next T V0 x0) (fun U14 => inc 1 3 (stp T.2.2 (fun q15 => stp (zV U14 q15) (fun U16 => stp (aT T 12 0) (fun T17 => dxl (f_X6_term rsum T17 U16 x0) (fun r19 U20 T21 => pcl (f_X13_init T21 U20 q15 z11 x1 r19) (fun U24 => kc5 q15 U24 T21)))))))))))
def f_X6_sum_L5 (rsum : Tt → Vt → Nat → Option (((Nat ⊕ Nat) × Vt × Tt) × Nat × Nat)) (x0 : Nat) (kx5_55 : Nat → Vt → Tt → Option (((Nat ⊕ Nat) × Vt × Tt) × Nat × Nat)) : Nat → Nat → Vt → Tt → Option (((Nat ⊕ Nat) × Vt × Tt) × Nat × Nat)
  | 0, _, _, _ => none
  | nf + 1, x1, V1, T1 => pcl (f_X6_is T1 V1 x0 35) (fun z6 => if z6 = 0 then (pcl (f_X6_is T1 V1 x0 36) (fun z26 => if z26 = 0 then (kx5_55 x1 V1 T1) else (f_X6_sum_J23 rsum T1 V1 x0 x1 (f_X6_sum_L5 rsum x0 kx5_55 nf) kx5_55))) else (f_X6_sum_J23 rsum T1 V1 x0 x1 (f_X6_sum_L5 rsum x0 kx5_55 nf) kx5_55))
def f_X6_sum (rsum : Tt → Vt → Nat → Option (((Nat ⊕ Nat) × Vt × Tt) × Nat × Nat)) (T : Tt) (V0 : Vt) (o : Nat) : Option (((Nat ⊕ Nat) × Vt × Tt) × Nat × Nat) :=
  req (isRd T o) (dxl (f_X6_term rsum T V0 o) (fun r2 U3 T4 => f_X6_sum_L5 rsum o (fun z28 U29 T30 => some (((.inl z28), U29, T30), 0, 0)) fuel r2 U3 T4))
set_option maxHeartbeats 4000000 in
theorem ok_X6_part {l : Launch} {G : gG} {T : Tt} {V0 : Vt} {o : Nat} {r : (Nat ⊕ Nat)} {V' : Vt} {T' : Tt} {n k : Nat} {rsum : Tt → Vt → Nat → Option (((Nat ⊕ Nat) × Vt × Tt) × Nat × Nat)} {lv : Nat} (hlv : 30 ≤ lv) (hrsum : ∀ (T : Tt) (V : Vt) (o : Nat) (r : Nat ⊕ Nat) (V' : Vt) (T' : Tt) (n k : Nat), rsum T V o = some ((r, V', T'), n, k) → okX l G RX8 yX6_sum cX6_sum 3 (some (.object "SoleraCellar$Sum")) lv [.ref (gb G + o)] V T (xR G r) V' T' n k) (hf : f_X6_part rsum T V0 o = some ((r, V', T'), n, k)) : okX l G RX8 yX6_part cX6_part 2 (some (.object "SoleraCellar$Sum")) (lv + 1) [.ref (gb G + o)] V0 T (xR G r) V' T' n k := by
  refine okX_intro (by decide) (Nat.le_of_ble_eq_true rfl) ?_
  intro p e s m below meth c ls C hr hno hw hl
  have hx := C.1
  have hb := C.2.1
  have hown := C.2.2.2.1
  have hts := C.2.2.2.2.1
  have hl : lv_has ls 2 [(0, .ref (gb G + o))] := hl
  unfold f_X6_part at hf
  revert hf
  refine k_req (fun k0 hf => ?_)
  obtain ⟨mc, emc⟩ : ∃ mc, mc = n := ⟨_, rfl⟩
  obtain ⟨ms, ems⟩ : ∃ ms, ms = k := ⟨_, rfl⟩
  have hn : 0 + n = mc := by omega
  have hk : 0 + k = ms := by omega
  rw [← emc, ← ems]
  clear emc ems
  refine lv_aload_n hx hb dX6_part_0 rfl (lv_at hl 0 rfl) ?_
  refine w_ldcS (k := 40) C rfl dX6_part_1 ?_
  revert hf
  refine k_pcl (fun z2 h1 hf => ?_)
  refine w_afi hw (wu_X6_39 (As := [.ref (adK G 40)]) C hw (by show _ ≤ (lv + 1); omega) (by show _ ≤ 64 * (lv + 1); omega) (ok_X6_is h1) (of_req h1).1 hl.1 rfl (Nat.le_of_ble_eq_true rfl) ⟨by show _ + 0 ≤ mc; omega, by show _ + 0 ≤ ms; omega⟩ dX6_part_3) (fun H locs hw => ?_)
  refine lv_if_eq (tgt := 36) hx hb dX6_part_6 (by decide) (fun c3 => ?_) (fun c3 => ?_)
  · replace hf := ite_t c3 hf
    refine lv_aload_n hx hb dX6_part_36 rfl (lv_at hl 0 rfl) ?_
    refine lv_aload_n hx hb dX6_part_37 rfl (lv_at hl 0 rfl) ?_
    refine gf_X6_22 C hw k0 dX6_part_38 ?_
    refine lv_bipush (v := (48 : Int32)) hx hb dX6_part_41 (by decide) ?_
    refine lv_bipush (v := (57 : Int32)) hx hb dX6_part_43 (by decide) ?_
    revert hf
    refine k_pcl (fun z5 h4 hf => ?_)
    refine w_afi hw (wu_X6_25 (As := [.int (V0.1 o 3), .int (48 : Int32), .int (57 : Int32)]) C hw (by show _ ≤ (lv + 1); omega) (by show _ ≤ 64 * (lv + 1); omega) (ok_X6_isIn h4) (of_req h4).1 hl.1 rfl (Nat.le_of_ble_eq_true rfl) ⟨by show _ + 0 ≤ mc; omega, by show _ + 0 ≤ ms; omega⟩ dX6_part_45) (fun H locs hw => ?_)
    refine lv_if_eq (tgt := 71) hx hb dX6_part_48 (by decide) (fun c6 => ?_) (fun c6 => ?_)
    · replace hf := ite_t c6 hf
      refine lv_aload_n hx hb dX6_part_71 rfl (lv_at hl 0 rfl) ?_
      rcases of_dxl hf with ⟨z8, U9, T10, na, ka, n1, k1, h7, hf, en, ek⟩ | ⟨z8, U9, T10, h7, hf⟩
      · refine x_in hw (xv_X6_166 C hw (by show _ ≤ (lv + 1); omega) (by show _ ≤ 64 * (lv + 1); omega) (fun _ _ _ _ _ _ _ _ h => ok_value h) h7 hl.1 rfl (Nat.le_of_ble_eq_true rfl) ⟨by show _ ≤ mc; omega, by show _ ≤ ms; omega⟩ dX6_part_72) (fun H locs hw => ?_)
        refine W.eq (g2 := F0 m 75 ls [.int z8]) rfl ?_
        replace hn := add_r hn en
        replace hk := add_r hk ek
        clear en ek
        generalize n1 = n at hf hn
        generalize k1 = k at hf hk
        refine lv_istore_n (lv' := [(1, .int z8), (0, .ref (gb G + o))]) hx hb dX6_part_75 rfl hl (by decide) rfl (fun ls hl => ?_)
        refine lv_iload_n hx hb dX6_part_76 rfl (lv_at hl 0 rfl) ?_
        refine lv_iconst (v := ((-1) : Int32)) hx hb dX6_part_77 (by decide) ?_
        refine lv_icmp_ne (tgt := 93) hx hb dX6_part_78 (by decide) (fun c11 => ?_) (fun c11 => ?_)
        · replace hf := ite_f c11 hf
          revert hf
          refine k_inc (fun n1 k1 hf en ek => ?_)
          revert hf
          refine k_stp (fun q12 eq12 hf => ?_)
          revert hf
          refine k_stp (fun U13 eU13 hf => ?_)
          revert hf
          refine k_stp (fun T14 eT14 hf => ?_)
          refine nw_X12 C hw q1005 (by show _ ≤ mc; omega) (by show _ ≤ ms; omega) eq12 eU13 eT14 dX6_part_93 (fun H hw => ?_)
          replace hn := add_r hn en
          replace hk := add_r hk ek
          clear en ek
          generalize n1 = n at hf hn
          generalize k1 = k at hf hk
          refine lv_dup hx hb dX6_part_96 rfl ?_
          refine lv_iload_n hx hb dX6_part_97 rfl (lv_at hl 0 rfl) ?_
          revert hf
          refine k_pcl (fun U17 h15 hf => ?_)
          refine w_afv hw (w_rI (As := [.int z8]) C hw (ok_X12_init h15) (cw_X6_171 hts (by show _ ≤ (lv + 1); omega) (by show _ ≤ 64 * (lv + 1); omega)) rfl hl.1 rfl (Nat.le_of_ble_eq_true rfl) ⟨by show _ + 0 ≤ mc; omega, by show _ + 0 ≤ ms; omega⟩ dX6_part_98) (fun H locs hw => ?_)
          cases hf
          cases hn
          cases hk
          exact x_ret (w_aret C hr (Or.inl ⟨_, rfl⟩) (Or.inr ⟨_, rfl⟩) hw dX6_part_101)
        · replace hf := ite_t c11 hf
          revert hf
          refine k_inc (fun n1 k1 hf en ek => ?_)
          revert hf
          refine k_stp (fun q18 eq18 hf => ?_)
          revert hf
          refine k_stp (fun U19 eU19 hf => ?_)
          revert hf
          refine k_stp (fun T20 eT20 hf => ?_)
          refine nw_X8 C hw q862 (by show _ ≤ mc; omega) (by show _ ≤ ms; omega) eq18 eU19 eT20 dX6_part_81 (fun H hw => ?_)
          replace hn := add_r hn en
          replace hk := add_r hk ek
          clear en ek
          generalize n1 = n at hf hn
          generalize k1 = k at hf hk
          refine lv_dup hx hb dX6_part_84 rfl ?_
          refine lv_aload_n hx hb dX6_part_85 rfl (lv_at hl 1 rfl) ?_
          revert hf
          refine k_req (fun k21 hf => ?_)
          refine gf_X6_22 C hw k21 dX6_part_86 ?_
          revert hf
          refine k_pcl (fun U24 h22 hf => ?_)
          refine w_afv hw (w_rI (As := [.int (U19.1 o 3)]) C hw (ok_X8_init h22) (cw_X6_51 hts (by show _ ≤ (lv + 1); omega) (by show _ ≤ 64 * (lv + 1); omega)) rfl hl.1 rfl (Nat.le_of_ble_eq_true rfl) ⟨by show _ + 0 ≤ mc; omega, by show _ + 0 ≤ ms; omega⟩ dX6_part_89) (fun H locs hw => ?_)
          revert hf
          refine k_req (fun k25 hf => ?_)
          cases hf
          cases hn
          cases hk
          exact x_throw (ci := 7) C hno hw rfl (by decide) k25 dX6_part_92
      · cases hf
        refine x_out hw (xv_X6_166 C hw (by show _ ≤ (lv + 1); omega) (by show _ ≤ 64 * (lv + 1); omega) (fun _ _ _ _ _ _ _ _ h => ok_value h) h7 hl.1 rfl (Nat.le_of_ble_eq_true rfl) ⟨by show _ ≤ mc; omega, by show _ ≤ ms; omega⟩ dX6_part_72) (fun H locs ce hw g1 g2 g3 => ?_)
        exact x_upE C hno hw g1 g2 g3 hn hk
    · replace hf := ite_f c6 hf
      refine lv_aload_n hx hb dX6_part_51 rfl (lv_at hl 0 rfl) ?_
      rcases of_dxl hf with ⟨z27, U28, T29, na, ka, n1, k1, h26, hf, en, ek⟩ | ⟨z27, U28, T29, h26, hf⟩
      · refine x_in hw (xu_X6_156 (As := []) C hw (by show _ ≤ (lv + 1); omega) (by show _ ≤ 64 * (lv + 1); omega) (ok_X6_leaf h26) (of_req h26).1 hl.1 rfl (Nat.le_of_ble_eq_true rfl) ⟨by show _ ≤ mc; omega, by show _ ≤ ms; omega⟩ dX6_part_52) (fun H locs hw => ?_)
        refine W.eq (g2 := F0 m 55 ls []) rfl ?_
        replace hn := add_r hn en
        replace hk := add_r hk ek
        clear en ek
        generalize n1 = n at hf hn
        generalize k1 = k at hf hk
        revert hf
        refine k_inc (fun n1 k1 hf en ek => ?_)
        revert hf
        refine k_stp (fun q30 eq30 hf => ?_)
        revert hf
        refine k_stp (fun U31 eU31 hf => ?_)
        revert hf
        refine k_stp (fun T32 eT32 hf => ?_)
        refine nw_X11 C hw q950 (by show _ ≤ mc; omega) (by show _ ≤ ms; omega) eq30 eU31 eT32 dX6_part_55 (fun H hw => ?_)
        replace hn := add_r hn en
        replace hk := add_r hk ek
        clear en ek
        generalize n1 = n at hf hn
        generalize k1 = k at hf hk
        refine lv_dup hx hb dX6_part_58 rfl ?_
        refine lv_aload_n hx hb dX6_part_59 rfl (lv_at hl 0 rfl) ?_
        refine lv_iconst (v := (0 : Int32)) hx hb dX6_part_60 (by decide) ?_
        refine lv_sipush (v := (1000 : Int32)) hx hb dX6_part_61 (by decide) ?_
        rcases of_dxl hf with ⟨z34, U35, T36, na, ka, n1, k1, h33, hf, en, ek⟩ | ⟨z34, U35, T36, h33, hf⟩
        · refine x_in hw (xu_X6_161 (As := [.int (0 : Int32), .int (1000 : Int32)]) C hw (by show _ ≤ (lv + 1); omega) (by show _ ≤ 64 * (lv + 1); omega) (ok_X6_number h33) (of_req h33).1 hl.1 rfl (Nat.le_of_ble_eq_true rfl) ⟨by show _ ≤ mc; omega, by show _ ≤ ms; omega⟩ dX6_part_64) (fun H locs hw => ?_)
          refine W.eq (g2 := F0 m 67 ls [.int z34, .ref (gb G + q30), .ref (gb G + q30)]) rfl ?_
          replace hn := add_r hn en
          replace hk := add_r hk ek
          clear en ek
          generalize n1 = n at hf hn
          generalize k1 = k at hf hk
          revert hf
          refine k_pcl (fun U39 h37 hf => ?_)
          refine w_afv hw (w_rI (As := [.int z34]) C hw (ok_X11_init h37) (cw_X6_165 hts (by show _ ≤ (lv + 1); omega) (by show _ ≤ 64 * (lv + 1); omega)) rfl hl.1 rfl (Nat.le_of_ble_eq_true rfl) ⟨by show _ + 0 ≤ mc; omega, by show _ + 0 ≤ ms; omega⟩ dX6_part_67) (fun H locs hw => ?_)
          cases hf
          cases hn
          cases hk
          exact x_ret (w_aret C hr (Or.inl ⟨_, rfl⟩) (Or.inr ⟨_, rfl⟩) hw dX6_part_70)
        · cases hf
          refine x_out hw (xu_X6_161 (As := [.int (0 : Int32), .int (1000 : Int32)]) C hw (by show _ ≤ (lv + 1); omega) (by show _ ≤ 64 * (lv + 1); omega) (ok_X6_number h33) (of_req h33).1 hl.1 rfl (Nat.le_of_ble_eq_true rfl) ⟨by show _ ≤ mc; omega, by show _ ≤ ms; omega⟩ dX6_part_64) (fun H locs ce hw g1 g2 g3 => ?_)
          exact x_upE C hno hw g1 g2 g3 hn hk
      · cases hf
        refine x_out hw (xu_X6_156 (As := []) C hw (by show _ ≤ (lv + 1); omega) (by show _ ≤ 64 * (lv + 1); omega) (ok_X6_leaf h26) (of_req h26).1 hl.1 rfl (Nat.le_of_ble_eq_true rfl) ⟨by show _ ≤ mc; omega, by show _ ≤ ms; omega⟩ dX6_part_52) (fun H locs ce hw g1 g2 g3 => ?_)
        exact x_upE C hno hw g1 g2 g3 hn hk
  · replace hf := ite_f c3 hf
    refine lv_aload_n hx hb dX6_part_9 rfl (lv_at hl 0 rfl) ?_
    rcases of_dxl hf with ⟨z41, U42, T43, na, ka, n1, k1, h40, hf, en, ek⟩ | ⟨z41, U42, T43, h40, hf⟩
    · refine x_in hw (xu_X6_103 (As := []) C hw (by show _ ≤ (lv + 1); omega) (by show _ ≤ 64 * (lv + 1); omega) (ok_X6_opens h40) (of_req h40).1 hl.1 rfl (Nat.le_of_ble_eq_true rfl) ⟨by show _ ≤ mc; omega, by show _ ≤ ms; omega⟩ dX6_part_10) (fun H locs hw => ?_)
      refine W.eq (g2 := F0 m 13 ls []) rfl ?_
      replace hn := add_r hn en
      replace hk := add_r hk ek
      clear en ek
      generalize n1 = n at hf hn
      generalize k1 = k at hf hk
      refine lv_aload_n hx hb dX6_part_13 rfl (lv_at hl 0 rfl) ?_
      revert hf
      refine k_req (fun k44 hf => ?_)
      rcases of_dxl hf with ⟨r46, U47, T48, na, ka, n1, k1, h45, hf, en, ek⟩ | ⟨r46, U47, T48, h45, hf⟩
      · refine x_in hw (xu_X6_115 (As := []) C hw (by show _ ≤ (lv + 1); omega) (by show _ ≤ 64 * (lv + 1); omega) (hrsum _ _ _ _ _ _ _ _ h45) k44 hl.1 rfl (Nat.le_of_ble_eq_true rfl) ⟨by show _ ≤ mc; omega, by show _ ≤ ms; omega⟩ dX6_part_14) (fun H locs hw => ?_)
        refine W.eq (g2 := F0 m 17 ls [.ref (gb G + r46)]) rfl ?_
        replace hn := add_r hn en
        replace hk := add_r hk ek
        clear en ek
        generalize n1 = n at hf hn
        generalize k1 = k at hf hk
        refine lv_astore_n (lv' := [(1, .ref (gb G + r46)), (0, .ref (gb G + o))]) hx hb dX6_part_17 rfl hl (by decide) rfl (fun ls hl => ?_)
        refine lv_aload_n hx hb dX6_part_18 rfl (lv_at hl 1 rfl) ?_
        refine w_ldcS (k := 41) C rfl dX6_part_19 ?_
        rcases of_dxl hf with ⟨z50, U51, T52, na, ka, n1, k1, h49, hf, en, ek⟩ | ⟨z50, U51, T52, h49, hf⟩
        · refine x_in hw (xu_X6_111 (As := [.ref (adK G 41)]) C hw (by show _ ≤ (lv + 1); omega) (by show _ ≤ 64 * (lv + 1); omega) (ok_X6_need h49) (of_req h49).1 hl.1 rfl (Nat.le_of_ble_eq_true rfl) ⟨by show _ ≤ mc; omega, by show _ ≤ ms; omega⟩ dX6_part_21) (fun H locs hw => ?_)
          refine W.eq (g2 := F0 m 24 ls []) rfl ?_
          replace hn := add_r hn en
          replace hk := add_r hk ek
          clear en ek
          generalize n1 = n at hf hn
          generalize k1 = k at hf hk
          refine lv_aload_n hx hb dX6_part_24 rfl (lv_at hl 1 rfl) ?_
          refine lv_dup hx hb dX6_part_25 rfl ?_
          revert hf
          refine k_req (fun k53 hf => ?_)
          refine gf_X6_88 C hw k53 dX6_part_26 ?_
          refine lv_iconst (v := (1 : Int32)) hx hb dX6_part_29 (by decide) ?_
          refine lv_isub hx hb dX6_part_30 ?_
          revert hf
          refine k_stp (fun U54 eU54 hf => ?_)
          refine pf_X6_88 C hw k53 eU54 dX6_part_31 (fun H locs hw => ?_)
          refine lv_aload_n hx hb dX6_part_34 rfl (lv_at hl 0 rfl) ?_
          cases hf
          cases hn
          cases hk
          exact x_ret (w_aret C hr (Or.inl ⟨_, rfl⟩) (Or.inr ⟨_, rfl⟩) hw dX6_part_35)
        · cases hf
          refine x_out hw (xu_X6_111 (As := [.ref (adK G 41)]) C hw (by show _ ≤ (lv + 1); omega) (by show _ ≤ 64 * (lv + 1); omega) (ok_X6_need h49) (of_req h49).1 hl.1 rfl (Nat.le_of_ble_eq_true rfl) ⟨by show _ ≤ mc; omega, by show _ ≤ ms; omega⟩ dX6_part_21) (fun H locs ce hw g1 g2 g3 => ?_)
          exact x_upE C hno hw g1 g2 g3 hn hk
      · cases hf
        refine x_out hw (xu_X6_115 (As := []) C hw (by show _ ≤ (lv + 1); omega) (by show _ ≤ 64 * (lv + 1); omega) (hrsum _ _ _ _ _ _ _ _ h45) k44 hl.1 rfl (Nat.le_of_ble_eq_true rfl) ⟨by show _ ≤ mc; omega, by show _ ≤ ms; omega⟩ dX6_part_14) (fun H locs ce hw g1 g2 g3 => ?_)
        exact x_upE C hno hw g1 g2 g3 hn hk
    · cases hf
      refine x_out hw (xu_X6_103 (As := []) C hw (by show _ ≤ (lv + 1); omega) (by show _ ≤ 64 * (lv + 1); omega) (ok_X6_opens h40) (of_req h40).1 hl.1 rfl (Nat.le_of_ble_eq_true rfl) ⟨by show _ ≤ mc; omega, by show _ ≤ ms; omega⟩ dX6_part_10) (fun H locs ce hw g1 g2 g3 => ?_)
      exact x_upE C hno hw g1 g2 g3 hn hk
set_option maxHeartbeats 4000000 in
theorem jk_X6_term_32 {l : Launch} {G : gG} {p : Program} {e : Env} {s : State} {m : MethodId} {args : Array Value} {below : List Frame} {meth : Method} {c : Code} {T : Tt} {V0 : Vt} {r : (Nat ⊕ Nat)} {V' : Vt} {T' : Tt} {mc ms : Nat} {rsum : Tt → Vt → Nat → Option (((Nat ⊕ Nat) × Vt × Tt) × Nat × Nat)} (C : Cx G p s m args meth c cX6_term RX6 3) (hr : meth.sig.returnType = (some (.object "SoleraCellar$Sum"))) (hno : ∀ z ∈ c.exceptionTable.toList, False) {lv : Nat} (hlv : 30 ≤ lv) (hrsum : ∀ (T : Tt) (V : Vt) (o : Nat) (r : Nat ⊕ Nat) (V' : Vt) (T' : Tt) (n k : Nat), rsum T V o = some ((r, V', T'), n, k) → okX l G RX8 yX6_sum cX6_sum 3 (some (.object "SoleraCellar$Sum")) lv [.ref (gb G + o)] V T (xR G r) V' T' n k) {x0 : Nat} {x1 : Nat} {kc5 : Nat → Vt → Tt → Option (((Nat ⊕ Nat) × Vt × Tt) × Nat × Nat)} {kx5_64 : Nat → Vt → Tt → Option (((Nat ⊕ Nat) × Vt × Tt) × Nat × Nat)} {H : Heap} {locs : List Loc} {ls : Array Slot} {cells slots n k : Nat} (hf : f_X6_term_J32 rsum T V0 x0 x1 kc5 kx5_64 = some ((r, V', T'), n, k)) (hn : cells + n = mc) (hk : slots + k = ms) (hw : wS G V0 T H locs) (hl : lv_has ls 3 [(0, .ref (gb G + x0)), (1, .ref (gb G + x1))]) (hkc5 : ∀ (y1 : Nat) (W1 : Vt) (T1 : Tt) (H : Heap) (locs : List Loc) (ls : Array Slot) (cells slots n k : Nat), kc5 y1 W1 T1 = some ((r, V', T'), n, k) → cells + n = mc → slots + k = ms → wS G W1 T1 H locs → lv_has ls 3 [(0, .ref (gb G + x0)), (1, .ref (gb G + y1))] → W p l e (rmL (lv + 2) mc ms) s m args below meth c H locs cells slots (xQ G RX8 below (xR G r) V' T' args s mc ms) (F0 m 5 ls [])) (hkx5_64 : ∀ (y1 : Nat) (W1 : Vt) (T1 : Tt) (H : Heap) (locs : List Loc) (ls : Array Slot) (cells slots n k : Nat), kx5_64 y1 W1 T1 = some ((r, V', T'), n, k) → cells + n = mc → slots + k = ms → wS G W1 T1 H locs → lv_has ls 3 [(1, .ref (gb G + y1))] → W p l e (rmL (lv + 2) mc ms) s m args below meth c H locs cells slots (xQ G RX8 below (xR G r) V' T' args s mc ms) (F0 m 64 ls [])) : W p l e (rmL (lv + 2) mc ms) s m args below meth c H locs cells slots (xQ G RX8 below (xR G r) V' T' args s mc ms) (F0 m 32 ls []) := by
  have hx := C.1
  have hb := C.2.1
  have hown := C.2.2.2.1
  have hts := C.2.2.2.2.1
  unfold f_X6_term_J32 at hf
  refine lv_aload_n hx hb dX6_term_32 rfl (lv_at hl 0 rfl) ?_
  revert hf
  refine k_req (fun k8 hf => ?_)
  revert hf
  refine k_drf (fun r9 er9 hf => ?_)
  refine gf_X6_9 C hw k8 er9 dX6_term_33 ?_
  refine lv_aload_n hx hb dX6_term_36 rfl (lv_at hl 0 rfl) ?_
  refine gf_X6_22 C hw k8 dX6_term_37 ?_
  revert hf
  refine k_req (fun h10 hf => ?_)
  refine w_bald C hw h10 rfl dX6_term_40 ?_
  refine lv_i2c hx hb dX6_term_41 rfl ?_
  revert hf
  refine k_stp (fun z11 ez11 hf => ?_)
  refine w_nmI ez11 ?_
  refine lv_istore_n (lv' := [(2, .int z11), (0, .ref (gb G + x0)), (1, .ref (gb G + x1))]) hx hb dX6_term_42 rfl hl (by decide) rfl (fun ls hl => ?_)
  refine lv_aload_n hx hb dX6_term_43 rfl (lv_at hl 1 rfl) ?_
  revert hf
  refine k_pcl (fun U14 h12 hf => ?_)
  refine w_afv hw (wu_X6_43 (As := []) C hw (by show _ ≤ (lv + 2); omega) (by show _ ≤ 64 * (lv + 2); omega) (ok_X6_next h12) (of_req h12).1 hl.1 rfl (Nat.le_of_ble_eq_true rfl) ⟨by show _ + 0 ≤ mc; omega, by show _ + 0 ≤ ms; omega⟩ dX6_term_44) (fun H locs hw => ?_)
  revert hf
  refine k_inc (fun n1 k1 hf en ek => ?_)
  revert hf
  refine k_stp (fun q15 eq15 hf => ?_)
  revert hf
  refine k_stp (fun U16 eU16 hf => ?_)
  revert hf
  refine k_stp (fun T17 eT17 hf => ?_)
  refine nw_X13 C hw q1018 (by show _ ≤ mc; omega) (by show _ ≤ ms; omega) eq15 eU16 eT17 dX6_term_47 (fun H hw => ?_)
  replace hn := add_r hn en
  replace hk := add_r hk ek
  clear en ek
  generalize n1 = n at hf hn
  generalize k1 = k at hf hk
  refine lv_dup hx hb dX6_term_50 rfl ?_
  refine lv_iload_n hx hb dX6_term_51 rfl (lv_at hl 0 rfl) ?_
  refine lv_aload_n hx hb dX6_term_52 rfl (lv_at hl 2 rfl) ?_
  refine lv_aload_n hx hb dX6_term_53 rfl (lv_at hl 1 rfl) ?_
  rcases of_dxl hf with ⟨r19, U20, T21, na, ka, n1, k1, h18, hf, en, ek⟩ | ⟨r19, U20, T21, h18, hf⟩
  · refine x_in hw (xu_X6_140 (As := []) C hw (by show _ ≤ (lv + 2); omega) (by show _ ≤ 64 * (lv + 2); omega) (ok_X6_part hlv hrsum h18) (of_req h18).1 hl.1 rfl (Nat.le_of_ble_eq_true rfl) ⟨by show _ ≤ mc; omega, by show _ ≤ ms; omega⟩ dX6_term_54) (fun H locs hw => ?_)
    refine W.eq (g2 := F0 m 57 ls [.ref (gb G + r19), .ref (gb G + x1), .int z11, .ref (gb G + q15), .ref (gb G + q15)]) rfl ?_
    replace hn := add_r hn en
    replace hk := add_r hk ek
    clear en ek
    generalize n1 = n at hf hn
    generalize k1 = k at hf hk
    revert hf
    refine k_pcl (fun U24 h22 hf => ?_)
    refine w_afv hw (w_rI (As := [.int z11, .ref (gb G + x1), .ref (gb G + r19)]) C hw (ok_X13_init h22) (cw_X6_139 hts (by show _ ≤ (lv + 2); omega) (by show _ ≤ 64 * (lv + 2); omega)) rfl hl.1 rfl (Nat.le_of_ble_eq_true rfl) ⟨by show _ + 0 ≤ mc; omega, by show _ + 0 ≤ ms; omega⟩ dX6_term_57) (fun H locs hw => ?_)
    refine lv_astore_n (lv' := [(1, .ref (gb G + q15)), (2, .int z11), (0, .ref (gb G + x0))]) hx hb dX6_term_60 rfl hl (by decide) rfl (fun ls hl => ?_)
    refine lv_goto (tgt := 5) hx hb dX6_term_61 (by decide) ?_
    exact hkc5 _ _ _ _ _ _ _ _ _ _ hf hn hk hw (lv_sub hl [2, 0] rfl)
  · cases hf
    refine x_out hw (xu_X6_140 (As := []) C hw (by show _ ≤ (lv + 2); omega) (by show _ ≤ 64 * (lv + 2); omega) (ok_X6_part hlv hrsum h18) (of_req h18).1 hl.1 rfl (Nat.le_of_ble_eq_true rfl) ⟨by show _ ≤ mc; omega, by show _ ≤ ms; omega⟩ dX6_term_54) (fun H locs ce hw g1 g2 g3 => ?_)
    exact x_upE C hno hw g1 g2 g3 hn hk
set_option maxHeartbeats 4000000 in
theorem lk_X6_term_5 {l : Launch} {G : gG} {p : Program} {e : Env} {s : State} {m : MethodId} {args : Array Value} {below : List Frame} {meth : Method} {c : Code} {r : (Nat ⊕ Nat)} {V' : Vt} {T' : Tt} {mc ms : Nat} {rsum : Tt → Vt → Nat → Option (((Nat ⊕ Nat) × Vt × Tt) × Nat × Nat)} (C : Cx G p s m args meth c cX6_term RX6 3) (hr : meth.sig.returnType = (some (.object "SoleraCellar$Sum"))) (hno : ∀ z ∈ c.exceptionTable.toList, False) {lv : Nat} (hlv : 30 ≤ lv) (hrsum : ∀ (T : Tt) (V : Vt) (o : Nat) (r : Nat ⊕ Nat) (V' : Vt) (T' : Tt) (n k : Nat), rsum T V o = some ((r, V', T'), n, k) → okX l G RX8 yX6_sum cX6_sum 3 (some (.object "SoleraCellar$Sum")) lv [.ref (gb G + o)] V T (xR G r) V' T' n k) {x0 : Nat} {kx5_64 : Nat → Vt → Tt → Option (((Nat ⊕ Nat) × Vt × Tt) × Nat × Nat)} (hkx5_64 : ∀ (y1 : Nat) (W1 : Vt) (T1 : Tt) (H : Heap) (locs : List Loc) (ls : Array Slot) (cells slots n k : Nat), kx5_64 y1 W1 T1 = some ((r, V', T'), n, k) → cells + n = mc → slots + k = ms → wS G W1 T1 H locs → lv_has ls 3 [(1, .ref (gb G + y1))] → W p l e (rmL (lv + 2) mc ms) s m args below meth c H locs cells slots (xQ G RX8 below (xR G r) V' T' args s mc ms) (F0 m 64 ls [])) : ∀ (nf : Nat) (x1 : Nat) (V1 : Vt) (T1 : Tt) (H : Heap) (locs : List Loc) (ls : Array Slot) (cells slots n k : Nat), f_X6_term_L5 rsum x0 kx5_64 nf x1 V1 T1 = some ((r, V', T'), n, k) → cells + n = mc → slots + k = ms → wS G V1 T1 H locs → lv_has ls 3 [(0, .ref (gb G + x0)), (1, .ref (gb G + x1))] → W p l e (rmL (lv + 2) mc ms) s m args below meth c H locs cells slots (xQ G RX8 below (xR G r) V' T' args s mc ms) (F0 m 5 ls []) := by
  have hx := C.1
  have hb := C.2.1
  have hown := C.2.2.2.1
  have hts := C.2.2.2.2.1
  intro nf
  induction nf with
  | zero =>
    intro x1 V1 T1 H locs ls cells slots n k hf
    cases hf
  | succ nf ih =>
    intro x1 V1 T1 H locs ls cells slots n k hf hn hk hw hl
    unfold f_X6_term_L5 at hf
    refine lv_aload_n hx hb dX6_term_5 rfl (lv_at hl 0 rfl) ?_
    refine w_ldcS (k := 37) C rfl dX6_term_6 ?_
    revert hf
    refine k_pcl (fun z6 h5 hf => ?_)
    refine w_afi hw (wu_X6_39 (As := [.ref (adK G 37)]) C hw (by show _ ≤ (lv + 2); omega) (by show _ ≤ 64 * (lv + 2); omega) (ok_X6_is h5) (of_req h5).1 hl.1 rfl (Nat.le_of_ble_eq_true rfl) ⟨by show _ + 0 ≤ mc; omega, by show _ + 0 ≤ ms; omega⟩ dX6_term_8) (fun H locs hw => ?_)
    refine lv_if_ne (tgt := 32) hx hb dX6_term_11 (by decide) (fun c7 => ?_) (fun c7 => ?_)
    · replace hf := ite_f c7 hf
      exact jk_X6_term_32 C hr hno hlv hrsum hf hn hk hw (lv_sub hl [0, 1] rfl) ih hkx5_64
    · replace hf := ite_t c7 hf
      refine lv_aload_n hx hb dX6_term_14 rfl (lv_at hl 0 rfl) ?_
      refine w_ldcS (k := 38) C rfl dX6_term_15 ?_
      revert hf
      refine k_pcl (fun z26 h25 hf => ?_)
      refine w_afi hw (wu_X6_39 (As := [.ref (adK G 38)]) C hw (by show _ ≤ (lv + 2); omega) (by show _ ≤ 64 * (lv + 2); omega) (ok_X6_is h25) (of_req h25).1 hl.1 rfl (Nat.le_of_ble_eq_true rfl) ⟨by show _ + 0 ≤ mc; omega, by show _ + 0 ≤ ms; omega⟩ dX6_term_17) (fun H locs hw => ?_)
      refine lv_if_ne (tgt := 32) hx hb dX6_term_20 (by decide) (fun c27 => ?_) (fun c27 => ?_)
      · replace hf := ite_f c27 hf
        exact jk_X6_term_32 C hr hno hlv hrsum hf hn hk hw (lv_sub hl [0, 1] rfl) ih hkx5_64
      · replace hf := ite_t c27 hf
        refine lv_aload_n hx hb dX6_term_23 rfl (lv_at hl 0 rfl) ?_
        refine w_ldcS (k := 39) C rfl dX6_term_24 ?_
        revert hf
        refine k_pcl (fun z29 h28 hf => ?_)
        refine w_afi hw (wu_X6_39 (As := [.ref (adK G 39)]) C hw (by show _ ≤ (lv + 2); omega) (by show _ ≤ 64 * (lv + 2); omega) (ok_X6_is h28) (of_req h28).1 hl.1 rfl (Nat.le_of_ble_eq_true rfl) ⟨by show _ + 0 ≤ mc; omega, by show _ + 0 ≤ ms; omega⟩ dX6_term_26) (fun H locs hw => ?_)
        refine lv_if_eq (tgt := 64) hx hb dX6_term_29 (by decide) (fun c30 => ?_) (fun c30 => ?_)
        · replace hf := ite_t c30 hf
          exact hkx5_64 _ _ _ _ _ _ _ _ _ _ hf hn hk hw (lv_sub hl [1] rfl)
        · replace hf := ite_f c30 hf
          exact jk_X6_term_32 C hr hno hlv hrsum hf hn hk hw (lv_sub hl [0, 1] rfl) ih hkx5_64
set_option maxHeartbeats 4000000 in
theorem ok_X6_term {l : Launch} {G : gG} {T : Tt} {V0 : Vt} {o : Nat} {r : (Nat ⊕ Nat)} {V' : Vt} {T' : Tt} {n k : Nat} {rsum : Tt → Vt → Nat → Option (((Nat ⊕ Nat) × Vt × Tt) × Nat × Nat)} {lv : Nat} (hlv : 30 ≤ lv) (hrsum : ∀ (T : Tt) (V : Vt) (o : Nat) (r : Nat ⊕ Nat) (V' : Vt) (T' : Tt) (n k : Nat), rsum T V o = some ((r, V', T'), n, k) → okX l G RX8 yX6_sum cX6_sum 3 (some (.object "SoleraCellar$Sum")) lv [.ref (gb G + o)] V T (xR G r) V' T' n k) (hf : f_X6_term rsum T V0 o = some ((r, V', T'), n, k)) : okX l G RX8 yX6_term cX6_term 3 (some (.object "SoleraCellar$Sum")) (lv + 2) [.ref (gb G + o)] V0 T (xR G r) V' T' n k := by
  refine okX_intro (by decide) (Nat.le_of_ble_eq_true rfl) ?_
  intro p e s m below meth c ls C hr hno hw hl
  have hx := C.1
  have hb := C.2.1
  have hown := C.2.2.2.1
  have hts := C.2.2.2.2.1
  have hl : lv_has ls 3 [(0, .ref (gb G + o))] := hl
  unfold f_X6_term at hf
  revert hf
  refine k_req (fun k0 hf => ?_)
  obtain ⟨mc, emc⟩ : ∃ mc, mc = n := ⟨_, rfl⟩
  obtain ⟨ms, ems⟩ : ∃ ms, ms = k := ⟨_, rfl⟩
  have hn : 0 + n = mc := by omega
  have hk : 0 + k = ms := by omega
  rw [← emc, ← ems]
  clear emc ems
  refine lv_aload_n hx hb dX6_term_0 rfl (lv_at hl 0 rfl) ?_
  rcases of_dxl hf with ⟨r2, U3, T4, na, ka, n1, k1, h1, hf, en, ek⟩ | ⟨r2, U3, T4, h1, hf⟩
  · refine x_in hw (xu_X6_140 (As := []) C hw (by show _ ≤ (lv + 2); omega) (by show _ ≤ 64 * (lv + 2); omega) (ok_X6_part hlv hrsum h1) (of_req h1).1 hl.1 rfl (Nat.le_of_ble_eq_true rfl) ⟨by show _ ≤ mc; omega, by show _ ≤ ms; omega⟩ dX6_term_1) (fun H locs hw => ?_)
    refine W.eq (g2 := F0 m 4 ls [.ref (gb G + r2)]) rfl ?_
    replace hn := add_r hn en
    replace hk := add_r hk ek
    clear en ek
    generalize n1 = n at hf hn
    generalize k1 = k at hf hk
    refine lv_astore_n (lv' := [(1, .ref (gb G + r2)), (0, .ref (gb G + o))]) hx hb dX6_term_4 rfl hl (by decide) rfl (fun ls hl => ?_)
    refine lk_X6_term_5 C hr hno hlv hrsum (fun z31 U32 T33 H locs ls cells slots n k hf hn hk hw hl => ?_) fuel _ _ _ _ _ _ _ _ _ _ hf hn hk hw (lv_sub hl [1, 0] rfl)
    refine lv_aload_n hx hb dX6_term_64 rfl (lv_at hl 0 rfl) ?_
    cases hf
    cases hn
    cases hk
    exact x_ret (w_aret C hr (Or.inl ⟨_, rfl⟩) (Or.inr ⟨_, rfl⟩) hw dX6_term_65)
  · cases hf
    refine x_out hw (xu_X6_140 (As := []) C hw (by show _ ≤ (lv + 2); omega) (by show _ ≤ 64 * (lv + 2); omega) (ok_X6_part hlv hrsum h1) (of_req h1).1 hl.1 rfl (Nat.le_of_ble_eq_true rfl) ⟨by show _ ≤ mc; omega, by show _ ≤ ms; omega⟩ dX6_term_1) (fun H locs ce hw g1 g2 g3 => ?_)
    exact x_upE C hno hw g1 g2 g3 hn hk
set_option maxHeartbeats 4000000 in
theorem jk_X6_sum_23 {l : Launch} {G : gG} {p : Program} {e : Env} {s : State} {m : MethodId} {args : Array Value} {below : List Frame} {meth : Method} {c : Code} {T : Tt} {V0 : Vt} {r : (Nat ⊕ Nat)} {V' : Vt} {T' : Tt} {mc ms : Nat} {rsum : Tt → Vt → Nat → Option (((Nat ⊕ Nat) × Vt × Tt) × Nat × Nat)} (C : Cx G p s m args meth c cX6_sum RX6 3) (hr : meth.sig.returnType = (some (.object "SoleraCellar$Sum"))) (hno : ∀ z ∈ c.exceptionTable.toList, False) {lv : Nat} (hlv : 30 ≤ lv) (hrsum : ∀ (T : Tt) (V : Vt) (o : Nat) (r : Nat ⊕ Nat) (V' : Vt) (T' : Tt) (n k : Nat), rsum T V o = some ((r, V', T'), n, k) → okX l G RX8 yX6_sum cX6_sum 3 (some (.object "SoleraCellar$Sum")) lv [.ref (gb G + o)] V T (xR G r) V' T' n k) {x0 : Nat} {x1 : Nat} {kc5 : Nat → Vt → Tt → Option (((Nat ⊕ Nat) × Vt × Tt) × Nat × Nat)} {kx5_55 : Nat → Vt → Tt → Option (((Nat ⊕ Nat) × Vt × Tt) × Nat × Nat)} {H : Heap} {locs : List Loc} {ls : Array Slot} {cells slots n k : Nat} (hf : f_X6_sum_J23 rsum T V0 x0 x1 kc5 kx5_55 = some ((r, V', T'), n, k)) (hn : cells + n = mc) (hk : slots + k = ms) (hw : wS G V0 T H locs) (hl : lv_has ls 3 [(0, .ref (gb G + x0)), (1, .ref (gb G + x1))]) (hkc5 : ∀ (y1 : Nat) (W1 : Vt) (T1 : Tt) (H : Heap) (locs : List Loc) (ls : Array Slot) (cells slots n k : Nat), kc5 y1 W1 T1 = some ((r, V', T'), n, k) → cells + n = mc → slots + k = ms → wS G W1 T1 H locs → lv_has ls 3 [(0, .ref (gb G + x0)), (1, .ref (gb G + y1))] → W p l e (rmL (lv + 3) mc ms) s m args below meth c H locs cells slots (xQ G RX8 below (xR G r) V' T' args s mc ms) (F0 m 5 ls [])) (hkx5_55 : ∀ (y1 : Nat) (W1 : Vt) (T1 : Tt) (H : Heap) (locs : List Loc) (ls : Array Slot) (cells slots n k : Nat), kx5_55 y1 W1 T1 = some ((r, V', T'), n, k) → cells + n = mc → slots + k = ms → wS G W1 T1 H locs → lv_has ls 3 [(1, .ref (gb G + y1))] → W p l e (rmL (lv + 3) mc ms) s m args below meth c H locs cells slots (xQ G RX8 below (xR G r) V' T' args s mc ms) (F0 m 55 ls [])) : W p l e (rmL (lv + 3) mc ms) s m args below meth c H locs cells slots (xQ G RX8 below (xR G r) V' T' args s mc ms) (F0 m 23 ls []) := by
  have hx := C.1
  have hb := C.2.1
  have hown := C.2.2.2.1
  have hts := C.2.2.2.2.1
  unfold f_X6_sum_J23 at hf
  refine lv_aload_n hx hb dX6_sum_23 rfl (lv_at hl 0 rfl) ?_
  revert hf
  refine k_req (fun k8 hf => ?_)
  revert hf
  refine k_drf (fun r9 er9 hf => ?_)
  refine gf_X6_9 C hw k8 er9 dX6_sum_24 ?_
  refine lv_aload_n hx hb dX6_sum_27 rfl (lv_at hl 0 rfl) ?_
  refine gf_X6_22 C hw k8 dX6_sum_28 ?_
  revert hf
  refine k_req (fun h10 hf => ?_)
  refine w_bald C hw h10 rfl dX6_sum_31 ?_
  refine lv_i2c hx hb dX6_sum_32 rfl ?_
  revert hf
  refine k_stp (fun z11 ez11 hf => ?_)
  refine w_nmI ez11 ?_
  refine lv_istore_n (lv' := [(2, .int z11), (0, .ref (gb G + x0)), (1, .ref (gb G + x1))]) hx hb dX6_sum_33 rfl hl (by decide) rfl (fun ls hl => ?_)
  refine lv_aload_n hx hb dX6_sum_34 rfl (lv_at hl 1 rfl) ?_
  revert hf
  refine k_pcl (fun U14 h12 hf => ?_)
  refine w_afv hw (wu_X6_43 (As := []) C hw (by show _ ≤ (lv + 3); omega) (by show _ ≤ 64 * (lv + 3); omega) (ok_X6_next h12) (of_req h12).1 hl.1 rfl (Nat.le_of_ble_eq_true rfl) ⟨by show _ + 0 ≤ mc; omega, by show _ + 0 ≤ ms; omega⟩ dX6_sum_35) (fun H locs hw => ?_)
  revert hf
  refine k_inc (fun n1 k1 hf en ek => ?_)
  revert hf
  refine k_stp (fun q15 eq15 hf => ?_)
  revert hf
  refine k_stp (fun U16 eU16 hf => ?_)
  revert hf
  refine k_stp (fun T17 eT17 hf => ?_)
  refine nw_X13 C hw q1018 (by show _ ≤ mc; omega) (by show _ ≤ ms; omega) eq15 eU16 eT17 dX6_sum_38 (fun H hw => ?_)
  replace hn := add_r hn en
  replace hk := add_r hk ek
  clear en ek
  generalize n1 = n at hf hn
  generalize k1 = k at hf hk
  refine lv_dup hx hb dX6_sum_41 rfl ?_
  refine lv_iload_n hx hb dX6_sum_42 rfl (lv_at hl 0 rfl) ?_
  refine lv_aload_n hx hb dX6_sum_43 rfl (lv_at hl 2 rfl) ?_
  refine lv_aload_n hx hb dX6_sum_44 rfl (lv_at hl 1 rfl) ?_
  rcases of_dxl hf with ⟨r19, U20, T21, na, ka, n1, k1, h18, hf, en, ek⟩ | ⟨r19, U20, T21, h18, hf⟩
  · refine x_in hw (xu_X6_130 (As := []) C hw (by show _ ≤ (lv + 3); omega) (by show _ ≤ 64 * (lv + 3); omega) (ok_X6_term hlv hrsum h18) (of_req h18).1 hl.1 rfl (Nat.le_of_ble_eq_true rfl) ⟨by show _ ≤ mc; omega, by show _ ≤ ms; omega⟩ dX6_sum_45) (fun H locs hw => ?_)
    refine W.eq (g2 := F0 m 48 ls [.ref (gb G + r19), .ref (gb G + x1), .int z11, .ref (gb G + q15), .ref (gb G + q15)]) rfl ?_
    replace hn := add_r hn en
    replace hk := add_r hk ek
    clear en ek
    generalize n1 = n at hf hn
    generalize k1 = k at hf hk
    revert hf
    refine k_pcl (fun U24 h22 hf => ?_)
    refine w_afv hw (w_rI (As := [.int z11, .ref (gb G + x1), .ref (gb G + r19)]) C hw (ok_X13_init h22) (cw_X6_139 hts (by show _ ≤ (lv + 3); omega) (by show _ ≤ 64 * (lv + 3); omega)) rfl hl.1 rfl (Nat.le_of_ble_eq_true rfl) ⟨by show _ + 0 ≤ mc; omega, by show _ + 0 ≤ ms; omega⟩ dX6_sum_48) (fun H locs hw => ?_)
    refine lv_astore_n (lv' := [(1, .ref (gb G + q15)), (2, .int z11), (0, .ref (gb G + x0))]) hx hb dX6_sum_51 rfl hl (by decide) rfl (fun ls hl => ?_)
    refine lv_goto (tgt := 5) hx hb dX6_sum_52 (by decide) ?_
    exact hkc5 _ _ _ _ _ _ _ _ _ _ hf hn hk hw (lv_sub hl [2, 0] rfl)
  · cases hf
    refine x_out hw (xu_X6_130 (As := []) C hw (by show _ ≤ (lv + 3); omega) (by show _ ≤ 64 * (lv + 3); omega) (ok_X6_term hlv hrsum h18) (of_req h18).1 hl.1 rfl (Nat.le_of_ble_eq_true rfl) ⟨by show _ ≤ mc; omega, by show _ ≤ ms; omega⟩ dX6_sum_45) (fun H locs ce hw g1 g2 g3 => ?_)
    exact x_upE C hno hw g1 g2 g3 hn hk
set_option maxHeartbeats 4000000 in
theorem lk_X6_sum_5 {l : Launch} {G : gG} {p : Program} {e : Env} {s : State} {m : MethodId} {args : Array Value} {below : List Frame} {meth : Method} {c : Code} {r : (Nat ⊕ Nat)} {V' : Vt} {T' : Tt} {mc ms : Nat} {rsum : Tt → Vt → Nat → Option (((Nat ⊕ Nat) × Vt × Tt) × Nat × Nat)} (C : Cx G p s m args meth c cX6_sum RX6 3) (hr : meth.sig.returnType = (some (.object "SoleraCellar$Sum"))) (hno : ∀ z ∈ c.exceptionTable.toList, False) {lv : Nat} (hlv : 30 ≤ lv) (hrsum : ∀ (T : Tt) (V : Vt) (o : Nat) (r : Nat ⊕ Nat) (V' : Vt) (T' : Tt) (n k : Nat), rsum T V o = some ((r, V', T'), n, k) → okX l G RX8 yX6_sum cX6_sum 3 (some (.object "SoleraCellar$Sum")) lv [.ref (gb G + o)] V T (xR G r) V' T' n k) {x0 : Nat} {kx5_55 : Nat → Vt → Tt → Option (((Nat ⊕ Nat) × Vt × Tt) × Nat × Nat)} (hkx5_55 : ∀ (y1 : Nat) (W1 : Vt) (T1 : Tt) (H : Heap) (locs : List Loc) (ls : Array Slot) (cells slots n k : Nat), kx5_55 y1 W1 T1 = some ((r, V', T'), n, k) → cells + n = mc → slots + k = ms → wS G W1 T1 H locs → lv_has ls 3 [(1, .ref (gb G + y1))] → W p l e (rmL (lv + 3) mc ms) s m args below meth c H locs cells slots (xQ G RX8 below (xR G r) V' T' args s mc ms) (F0 m 55 ls [])) : ∀ (nf : Nat) (x1 : Nat) (V1 : Vt) (T1 : Tt) (H : Heap) (locs : List Loc) (ls : Array Slot) (cells slots n k : Nat), f_X6_sum_L5 rsum x0 kx5_55 nf x1 V1 T1 = some ((r, V', T'), n, k) → cells + n = mc → slots + k = ms → wS G V1 T1 H locs → lv_has ls 3 [(0, .ref (gb G + x0)), (1, .ref (gb G + x1))] → W p l e (rmL (lv + 3) mc ms) s m args below meth c H locs cells slots (xQ G RX8 below (xR G r) V' T' args s mc ms) (F0 m 5 ls []) := by
  have hx := C.1
  have hb := C.2.1
  have hown := C.2.2.2.1
  have hts := C.2.2.2.2.1
  intro nf
  induction nf with
  | zero =>
    intro x1 V1 T1 H locs ls cells slots n k hf
    cases hf
  | succ nf ih =>
    intro x1 V1 T1 H locs ls cells slots n k hf hn hk hw hl
    unfold f_X6_sum_L5 at hf
    refine lv_aload_n hx hb dX6_sum_5 rfl (lv_at hl 0 rfl) ?_
    refine w_ldcS (k := 35) C rfl dX6_sum_6 ?_
    revert hf
    refine k_pcl (fun z6 h5 hf => ?_)
    refine w_afi hw (wu_X6_39 (As := [.ref (adK G 35)]) C hw (by show _ ≤ (lv + 3); omega) (by show _ ≤ 64 * (lv + 3); omega) (ok_X6_is h5) (of_req h5).1 hl.1 rfl (Nat.le_of_ble_eq_true rfl) ⟨by show _ + 0 ≤ mc; omega, by show _ + 0 ≤ ms; omega⟩ dX6_sum_8) (fun H locs hw => ?_)
    refine lv_if_ne (tgt := 23) hx hb dX6_sum_11 (by decide) (fun c7 => ?_) (fun c7 => ?_)
    · replace hf := ite_f c7 hf
      exact jk_X6_sum_23 C hr hno hlv hrsum hf hn hk hw (lv_sub hl [0, 1] rfl) ih hkx5_55
    · replace hf := ite_t c7 hf
      refine lv_aload_n hx hb dX6_sum_14 rfl (lv_at hl 0 rfl) ?_
      refine w_ldcS (k := 36) C rfl dX6_sum_15 ?_
      revert hf
      refine k_pcl (fun z26 h25 hf => ?_)
      refine w_afi hw (wu_X6_39 (As := [.ref (adK G 36)]) C hw (by show _ ≤ (lv + 3); omega) (by show _ ≤ 64 * (lv + 3); omega) (ok_X6_is h25) (of_req h25).1 hl.1 rfl (Nat.le_of_ble_eq_true rfl) ⟨by show _ + 0 ≤ mc; omega, by show _ + 0 ≤ ms; omega⟩ dX6_sum_17) (fun H locs hw => ?_)
      refine lv_if_eq (tgt := 55) hx hb dX6_sum_20 (by decide) (fun c27 => ?_) (fun c27 => ?_)
      · replace hf := ite_t c27 hf
        exact hkx5_55 _ _ _ _ _ _ _ _ _ _ hf hn hk hw (lv_sub hl [1] rfl)
      · replace hf := ite_f c27 hf
        exact jk_X6_sum_23 C hr hno hlv hrsum hf hn hk hw (lv_sub hl [0, 1] rfl) ih hkx5_55
set_option maxHeartbeats 4000000 in
theorem ok_X6_sum {l : Launch} {G : gG} {T : Tt} {V0 : Vt} {o : Nat} {r : (Nat ⊕ Nat)} {V' : Vt} {T' : Tt} {n k : Nat} {rsum : Tt → Vt → Nat → Option (((Nat ⊕ Nat) × Vt × Tt) × Nat × Nat)} {lv : Nat} (hlv : 30 ≤ lv) (hrsum : ∀ (T : Tt) (V : Vt) (o : Nat) (r : Nat ⊕ Nat) (V' : Vt) (T' : Tt) (n k : Nat), rsum T V o = some ((r, V', T'), n, k) → okX l G RX8 yX6_sum cX6_sum 3 (some (.object "SoleraCellar$Sum")) lv [.ref (gb G + o)] V T (xR G r) V' T' n k) (hf : f_X6_sum rsum T V0 o = some ((r, V', T'), n, k)) : okX l G RX8 yX6_sum cX6_sum 3 (some (.object "SoleraCellar$Sum")) (lv + 3) [.ref (gb G + o)] V0 T (xR G r) V' T' n k := by
  refine okX_intro (by decide) (Nat.le_of_ble_eq_true rfl) ?_
  intro p e s m below meth c ls C hr hno hw hl
  have hx := C.1
  have hb := C.2.1
  have hown := C.2.2.2.1
  have hts := C.2.2.2.2.1
  have hl : lv_has ls 3 [(0, .ref (gb G + o))] := hl
  unfold f_X6_sum at hf
  revert hf
  refine k_req (fun k0 hf => ?_)
  obtain ⟨mc, emc⟩ : ∃ mc, mc = n := ⟨_, rfl⟩
  obtain ⟨ms, ems⟩ : ∃ ms, ms = k := ⟨_, rfl⟩
  have hn : 0 + n = mc := by omega
  have hk : 0 + k = ms := by omega
  rw [← emc, ← ems]
  clear emc ems
  refine lv_aload_n hx hb dX6_sum_0 rfl (lv_at hl 0 rfl) ?_
  rcases of_dxl hf with ⟨r2, U3, T4, na, ka, n1, k1, h1, hf, en, ek⟩ | ⟨r2, U3, T4, h1, hf⟩
  · refine x_in hw (xu_X6_130 (As := []) C hw (by show _ ≤ (lv + 3); omega) (by show _ ≤ 64 * (lv + 3); omega) (ok_X6_term hlv hrsum h1) (of_req h1).1 hl.1 rfl (Nat.le_of_ble_eq_true rfl) ⟨by show _ ≤ mc; omega, by show _ ≤ ms; omega⟩ dX6_sum_1) (fun H locs hw => ?_)
    refine W.eq (g2 := F0 m 4 ls [.ref (gb G + r2)]) rfl ?_
    replace hn := add_r hn en
    replace hk := add_r hk ek
    clear en ek
    generalize n1 = n at hf hn
    generalize k1 = k at hf hk
    refine lv_astore_n (lv' := [(1, .ref (gb G + r2)), (0, .ref (gb G + o))]) hx hb dX6_sum_4 rfl hl (by decide) rfl (fun ls hl => ?_)
    refine lk_X6_sum_5 C hr hno hlv hrsum (fun z28 U29 T30 H locs ls cells slots n k hf hn hk hw hl => ?_) fuel _ _ _ _ _ _ _ _ _ _ hf hn hk hw (lv_sub hl [1, 0] rfl)
    refine lv_aload_n hx hb dX6_sum_55 rfl (lv_at hl 0 rfl) ?_
    cases hf
    cases hn
    cases hk
    exact x_ret (w_aret C hr (Or.inl ⟨_, rfl⟩) (Or.inr ⟨_, rfl⟩) hw dX6_sum_56)
  · cases hf
    refine x_out hw (xu_X6_130 (As := []) C hw (by show _ ≤ (lv + 3); omega) (by show _ ≤ 64 * (lv + 3); omega) (ok_X6_term hlv hrsum h1) (of_req h1).1 hl.1 rfl (Nat.le_of_ble_eq_true rfl) ⟨by show _ ≤ mc; omega, by show _ ≤ ms; omega⟩ dX6_sum_1) (fun H locs ce hw g1 g2 g3 => ?_)
    exact x_upE C hno hw g1 g2 g3 hn hk
def f_sumR : Nat → Tt → Vt → Nat → Option (((Nat ⊕ Nat) × Vt × Tt) × Nat × Nat)
  | 0, _, _, _ => none
  | d + 1, T, V, o => f_X6_sum (f_sumR d) T V o
theorem sumR_d {l : Launch} {G : gG} : ∀ (d : Nat) (T : Tt) (V : Vt) (o : Nat) (r : Nat ⊕ Nat) (V' : Vt) (T' : Tt) (n k : Nat), f_sumR d T V o = some ((r, V', T'), n, k) → okX l G RX8 yX6_sum cX6_sum 3 (some (.object "SoleraCellar$Sum")) (30 + 3 * d) [.ref (gb G + o)] V T (xR G r) V' T' n k := by
  intro d
  induction d with
  | zero => intro T V o r V' T' n k h; cases h
  | succ d ih =>
    intro T V o r V' T' n k h
    have g := ok_X6_sum (lv := 30 + 3 * d) (by omega) ih h
    exact g
theorem ok_sumR {l : Launch} {G : gG} {T : Tt} {V : Vt} {o : Nat} {r : Nat ⊕ Nat} {V' : Vt} {T' : Tt} {n k : Nat} (h : f_sumR fuelP T V o = some ((r, V', T'), n, k)) : okX l G RX8 yX6_sum cX6_sum 3 (some (.object "SoleraCellar$Sum")) 66 [.ref (gb G + o)] V T (xR G r) V' T' n k := sumR_d fuelP T V o r V' T' n k h
def f_X6_positive_J80 (rtest : Tt → Vt → Nat → Option (((Nat ⊕ Nat) × Vt × Tt) × Nat × Nat)) (T : Tt) (V0 : Vt) (x0 : Nat) (x1 : Nat) : Option (((Nat ⊕ Nat) × Vt × Tt) × Nat × Nat) :=
  req (isRd T x0) (drf (V0.2.2 x0 0) (fun r12 => req (aIn T r12 2 (V0.1 x0 3)) (stp (cN (V0.1 r12 (ixN (V0.1 x0 3)))) (fun z14 => pcl (f_X6_next T V0 x0) (fun U17 => inc 1 3 (stp T.2.2 (fun q18 => stp (zV U17 q18) (fun U19 => stp (aT T 13 0) (fun T20 => req (isRd T20 x0) (dxl (f_sumR fuelP T20 U19 x0) (fun r23 U24 T25 => pcl (f_X15_init T25 U24 q18 z14 x1 r23) (fun U28 => some (((.inl q18), U28, T25), 0, 0)))))))))))))
def f_X6_positive (rtest : Tt → Vt → Nat → Option (((Nat ⊕ Nat) × Vt × Tt) × Nat × Nat)) (T : Tt) (V0 : Vt) (o : Nat) : Option (((Nat ⊕ Nat) × Vt × Tt) × Nat × Nat) :=
  req (isRd T o) (pcl (f_X6_is T V0 o 30) (fun z2 => if z2 = 0 then (dxl (f_sumR fuelP T V0 o) (fun r5 U6 T7 => pcl (f_X6_is T7 U6 o 32) (fun z9 => if z9 = 0 then (pcl (f_X6_is T7 U6 o 33) (fun z30 => if z30 = 0 then (pcl (f_X6_is T7 U6 o 34) (fun z33 => if z33 = 0 then (inc 1 7 (stp T7.2.2 (fun q35 => stp (zV U6 q35) (fun U36 => stp (aT T7 8 0) (fun T37 => req (isRd T37 o) (pcl (f_X8_init T37 U36 q35 (U36.1 o 3)) (fun U41 => req (T37.1 q35 = 8) (some ((.inr q35, U41, T37), 0, 0))))))))) else (f_X6_positive_J80 rtest T7 U6 o r5))) else (f_X6_positive_J80 rtest T7 U6 o r5))) else (f_X6_positive_J80 rtest T7 U6 o r5)))) else (dxl (f_X6_opens T V0 o) (fun z44 U45 T46 => req (isRd T46 o) (dxl (rtest T46 U45 o) (fun r49 U50 T51 => dxl (f_X6_need T51 U50 o 31) (fun z53 U54 T55 => req (isRd T55 o) (stp (uI U54 o 6 ((U54.1 o 6) - (1 : Int32))) (fun U57 => some (((.inl r49), U57, T55), 0, 0))))))))))
def f_X6_plain_J20 (rtest : Tt → Vt → Nat → Option (((Nat ⊕ Nat) × Vt × Tt) × Nat × Nat)) (T : Tt) (V0 : Vt) (x0 : Nat) (s0 : Int32) (kc2 : Int32 → Vt → Option (((Nat ⊕ Nat) × Vt × Tt) × Nat × Nat)) (kx2_24 : Int32 → Vt → Option (((Nat ⊕ Nat) × Vt × Tt) × Nat × Nat)) : Option (((Nat ⊕ Nat) × Vt × Tt) × Nat × Nat) :=
  kc2 s0 V0
def f_X6_plain_L2 (rtest : Tt → Vt → Nat → Option (((Nat ⊕ Nat) × Vt × Tt) × Nat × Nat)) (T : Tt) (x0 : Nat) (kx2_24 : Int32 → Vt → Option (((Nat ⊕ Nat) × Vt × Tt) × Nat × Nat)) : Nat → Int32 → Vt → Option (((Nat ⊕ Nat) × Vt × Tt) × Nat × Nat)
  | 0, _, _ => none
  | nf + 1, x1, V1 => cal (f_X6_takes T V1 x0 29) (fun z2 U3 => if z2 = 0 then (kx2_24 x1 U3) else (if x1 = 0 then (f_X6_plain_J20 rtest T U3 x0 (1 : Int32) (f_X6_plain_L2 rtest T x0 kx2_24 nf) kx2_24) else (f_X6_plain_J20 rtest T U3 x0 (0 : Int32) (f_X6_plain_L2 rtest T x0 kx2_24 nf) kx2_24)))
def f_X6_plain (rtest : Tt → Vt → Nat → Option (((Nat ⊕ Nat) × Vt × Tt) × Nat × Nat)) (T : Tt) (V0 : Vt) (o : Nat) : Option (((Nat ⊕ Nat) × Vt × Tt) × Nat × Nat) :=
  req (isRd T o) (f_X6_plain_L2 rtest T o (fun z6 U7 => dxl (f_X6_positive rtest T U7 o) (fun r9 U10 T11 => if z6 = 0 then (some (((.inl r9), U10, T11), 0, 0)) else (inc 1 1 (stp T11.2.2 (fun q13 => stp (zV U10 q13) (fun U14 => stp (aT T11 14 0) (fun T15 => pcl (f_X16_init T15 U14 q13 r9) (fun U18 => some (((.inl q13), U18, T15), 0, 0))))))))) fuel (0 : Int32) V0)
def f_X6_both_L34 (rtest : Tt → Vt → Nat → Option (((Nat ⊕ Nat) × Vt × Tt) × Nat × Nat)) (x0 : Nat) (x2 : Nat) (kx34_58 : Vt → Tt → Option (((Nat ⊕ Nat) × Vt × Tt) × Nat × Nat)) : Nat → Vt → Tt → Option (((Nat ⊕ Nat) × Vt × Tt) × Nat × Nat)
  | 0, _, _ => none
  | nf + 1, V1, T1 => cal (f_X6_takes T1 V1 x0 28) (fun z22 U23 => if z22 = 0 then (kx34_58 U23 T1) else (req (T1.1 x2 = 15) (drf (U23.2.2 x2 1) (fun r26 => dxl (f_X6_plain rtest T1 U23 x0) (fun r28 U29 T30 => dcl (f_J2_add T30 U29 r26 r28) (fun z32 U33 T34 => (f_X6_both_L34 rtest x0 x2 kx34_58 nf) U33 T34))))))
def f_X6_both (rtest : Tt → Vt → Nat → Option (((Nat ⊕ Nat) × Vt × Tt) × Nat × Nat)) (T : Tt) (V0 : Vt) (o : Nat) : Option (((Nat ⊕ Nat) × Vt × Tt) × Nat × Nat) :=
  req (isRd T o) (dxl (f_X6_plain rtest T V0 o) (fun r2 U3 T4 => pcl (f_X6_is T4 U3 o 28) (fun z6 => if z6 = 0 then (some (((.inl r2), U3, T4), 0, 0)) else (inc 1 2 (stp T4.2.2 (fun q8 => stp (zV U3 q8) (fun U9 => stp (aT T4 15 0) (fun T10 => dcv (f_X17_init T10 U9 q8 (1 : Int32)) (fun U13 T14 => req (T14.1 q8 = 15) (drf (U13.2.2 q8 1) (fun r16 => dcl (f_J2_add T14 U13 r16 r2) (fun z18 U19 T20 => f_X6_both_L34 rtest o q8 (fun U35 T36 => some (((.inl q8), U35, T36), 0, 0)) fuel U19 T20))))))))))))
def f_X6_test_L34 (rtest : Tt → Vt → Nat → Option (((Nat ⊕ Nat) × Vt × Tt) × Nat × Nat)) (x0 : Nat) (x2 : Nat) (kx34_58 : Vt → Tt → Option (((Nat ⊕ Nat) × Vt × Tt) × Nat × Nat)) : Nat → Vt → Tt → Option (((Nat ⊕ Nat) × Vt × Tt) × Nat × Nat)
  | 0, _, _ => none
  | nf + 1, V1, T1 => cal (f_X6_takes T1 V1 x0 27) (fun z22 U23 => if z22 = 0 then (kx34_58 U23 T1) else (req (T1.1 x2 = 15) (drf (U23.2.2 x2 1) (fun r26 => dxl (f_X6_both rtest T1 U23 x0) (fun r28 U29 T30 => dcl (f_J2_add T30 U29 r26 r28) (fun z32 U33 T34 => (f_X6_test_L34 rtest x0 x2 kx34_58 nf) U33 T34))))))
def f_X6_test (rtest : Tt → Vt → Nat → Option (((Nat ⊕ Nat) × Vt × Tt) × Nat × Nat)) (T : Tt) (V0 : Vt) (o : Nat) : Option (((Nat ⊕ Nat) × Vt × Tt) × Nat × Nat) :=
  req (isRd T o) (dxl (f_X6_both rtest T V0 o) (fun r2 U3 T4 => pcl (f_X6_is T4 U3 o 27) (fun z6 => if z6 = 0 then (some (((.inl r2), U3, T4), 0, 0)) else (inc 1 2 (stp T4.2.2 (fun q8 => stp (zV U3 q8) (fun U9 => stp (aT T4 15 0) (fun T10 => dcv (f_X17_init T10 U9 q8 (0 : Int32)) (fun U13 T14 => req (T14.1 q8 = 15) (drf (U13.2.2 q8 1) (fun r16 => dcl (f_J2_add T14 U13 r16 r2) (fun z18 U19 T20 => f_X6_test_L34 rtest o q8 (fun U35 T36 => some (((.inl q8), U35, T36), 0, 0)) fuel U19 T20))))))))))))
set_option maxHeartbeats 4000000 in
theorem jk_X6_positive_80 {l : Launch} {G : gG} {p : Program} {e : Env} {s : State} {m : MethodId} {args : Array Value} {below : List Frame} {meth : Method} {c : Code} {T : Tt} {V0 : Vt} {r : (Nat ⊕ Nat)} {V' : Vt} {T' : Tt} {mc ms : Nat} {rtest : Tt → Vt → Nat → Option (((Nat ⊕ Nat) × Vt × Tt) × Nat × Nat)} (C : Cx G p s m args meth c cX6_positive RX6 3) (hr : meth.sig.returnType = (some (.object "SoleraCellar$Test"))) (hno : ∀ z ∈ c.exceptionTable.toList, False) {lv : Nat} (hlv : 80 ≤ lv) (hrtest : ∀ (T : Tt) (V : Vt) (o : Nat) (r : Nat ⊕ Nat) (V' : Vt) (T' : Tt) (n k : Nat), rtest T V o = some ((r, V', T'), n, k) → okX l G RX8 yX6_test cX6_test 3 (some (.object "SoleraCellar$Test")) lv [.ref (gb G + o)] V T (xR G r) V' T' n k) {x0 : Nat} {x1 : Nat} {H : Heap} {locs : List Loc} {ls : Array Slot} {cells slots n k : Nat} (hf : f_X6_positive_J80 rtest T V0 x0 x1 = some ((r, V', T'), n, k)) (hn : cells + n = mc) (hk : slots + k = ms) (hw : wS G V0 T H locs) (hl : lv_has ls 3 [(0, .ref (gb G + x0)), (1, .ref (gb G + x1))]) : W p l e (rmL (lv + 1) mc ms) s m args below meth c H locs cells slots (xQ G RX8 below (xR G r) V' T' args s mc ms) (F0 m 80 ls []) := by
  have hx := C.1
  have hb := C.2.1
  have hown := C.2.2.2.1
  have hts := C.2.2.2.2.1
  unfold f_X6_positive_J80 at hf
  refine lv_aload_n hx hb dX6_positive_80 rfl (lv_at hl 0 rfl) ?_
  revert hf
  refine k_req (fun k11 hf => ?_)
  revert hf
  refine k_drf (fun r12 er12 hf => ?_)
  refine gf_X6_9 C hw k11 er12 dX6_positive_81 ?_
  refine lv_aload_n hx hb dX6_positive_84 rfl (lv_at hl 0 rfl) ?_
  refine gf_X6_22 C hw k11 dX6_positive_85 ?_
  revert hf
  refine k_req (fun h13 hf => ?_)
  refine w_bald C hw h13 rfl dX6_positive_88 ?_
  refine lv_i2c hx hb dX6_positive_89 rfl ?_
  revert hf
  refine k_stp (fun z14 ez14 hf => ?_)
  refine w_nmI ez14 ?_
  refine lv_istore_n (lv' := [(2, .int z14), (0, .ref (gb G + x0)), (1, .ref (gb G + x1))]) hx hb dX6_positive_90 rfl hl (by decide) rfl (fun ls hl => ?_)
  refine lv_aload_n hx hb dX6_positive_91 rfl (lv_at hl 1 rfl) ?_
  revert hf
  refine k_pcl (fun U17 h15 hf => ?_)
  refine w_afv hw (wu_X6_43 (As := []) C hw (by show _ ≤ (lv + 1); omega) (by show _ ≤ 64 * (lv + 1); omega) (ok_X6_next h15) (of_req h15).1 hl.1 rfl (Nat.le_of_ble_eq_true rfl) ⟨by show _ + 0 ≤ mc; omega, by show _ + 0 ≤ ms; omega⟩ dX6_positive_92) (fun H locs hw => ?_)
  revert hf
  refine k_inc (fun n1 k1 hf en ek => ?_)
  revert hf
  refine k_stp (fun q18 eq18 hf => ?_)
  revert hf
  refine k_stp (fun U19 eU19 hf => ?_)
  revert hf
  refine k_stp (fun T20 eT20 hf => ?_)
  refine nw_X15 C hw q1072 (by show _ ≤ mc; omega) (by show _ ≤ ms; omega) eq18 eU19 eT20 dX6_positive_95 (fun H hw => ?_)
  replace hn := add_r hn en
  replace hk := add_r hk ek
  clear en ek
  generalize n1 = n at hf hn
  generalize k1 = k at hf hk
  refine lv_dup hx hb dX6_positive_98 rfl ?_
  refine lv_iload_n hx hb dX6_positive_99 rfl (lv_at hl 0 rfl) ?_
  refine lv_aload_n hx hb dX6_positive_100 rfl (lv_at hl 2 rfl) ?_
  refine lv_aload_n hx hb dX6_positive_101 rfl (lv_at hl 1 rfl) ?_
  revert hf
  refine k_req (fun k21 hf => ?_)
  rcases of_dxl hf with ⟨r23, U24, T25, na, ka, n1, k1, h22, hf, en, ek⟩ | ⟨r23, U24, T25, h22, hf⟩
  · refine x_in hw (xu_X6_115 (As := []) C hw (by show _ ≤ (lv + 1); omega) (by show _ ≤ 64 * (lv + 1); omega) (ok_sumR h22) k21 hl.1 rfl (Nat.le_of_ble_eq_true rfl) ⟨by show _ ≤ mc; omega, by show _ ≤ ms; omega⟩ dX6_positive_102) (fun H locs hw => ?_)
    refine W.eq (g2 := F0 m 105 ls [.ref (gb G + r23), .ref (gb G + x1), .int z14, .ref (gb G + q18), .ref (gb G + q18)]) rfl ?_
    replace hn := add_r hn en
    replace hk := add_r hk ek
    clear en ek
    generalize n1 = n at hf hn
    generalize k1 = k at hf hk
    revert hf
    refine k_pcl (fun U28 h26 hf => ?_)
    refine w_afv hw (w_rI (As := [.int z14, .ref (gb G + x1), .ref (gb G + r23)]) C hw (ok_X15_init h26) (cw_X6_127 hts (by show _ ≤ (lv + 1); omega) (by show _ ≤ 64 * (lv + 1); omega)) rfl hl.1 rfl (Nat.le_of_ble_eq_true rfl) ⟨by show _ + 0 ≤ mc; omega, by show _ + 0 ≤ ms; omega⟩ dX6_positive_105) (fun H locs hw => ?_)
    cases hf
    cases hn
    cases hk
    exact x_ret (w_aret C hr (Or.inl ⟨_, rfl⟩) (Or.inr ⟨_, rfl⟩) hw dX6_positive_108)
  · cases hf
    refine x_out hw (xu_X6_115 (As := []) C hw (by show _ ≤ (lv + 1); omega) (by show _ ≤ 64 * (lv + 1); omega) (ok_sumR h22) k21 hl.1 rfl (Nat.le_of_ble_eq_true rfl) ⟨by show _ ≤ mc; omega, by show _ ≤ ms; omega⟩ dX6_positive_102) (fun H locs ce hw g1 g2 g3 => ?_)
    exact x_upE C hno hw g1 g2 g3 hn hk
set_option maxHeartbeats 4000000 in
theorem ok_X6_positive {l : Launch} {G : gG} {T : Tt} {V0 : Vt} {o : Nat} {r : (Nat ⊕ Nat)} {V' : Vt} {T' : Tt} {n k : Nat} {rtest : Tt → Vt → Nat → Option (((Nat ⊕ Nat) × Vt × Tt) × Nat × Nat)} {lv : Nat} (hlv : 80 ≤ lv) (hrtest : ∀ (T : Tt) (V : Vt) (o : Nat) (r : Nat ⊕ Nat) (V' : Vt) (T' : Tt) (n k : Nat), rtest T V o = some ((r, V', T'), n, k) → okX l G RX8 yX6_test cX6_test 3 (some (.object "SoleraCellar$Test")) lv [.ref (gb G + o)] V T (xR G r) V' T' n k) (hf : f_X6_positive rtest T V0 o = some ((r, V', T'), n, k)) : okX l G RX8 yX6_positive cX6_positive 3 (some (.object "SoleraCellar$Test")) (lv + 1) [.ref (gb G + o)] V0 T (xR G r) V' T' n k := by
  refine okX_intro (by decide) (Nat.le_of_ble_eq_true rfl) ?_
  intro p e s m below meth c ls C hr hno hw hl
  have hx := C.1
  have hb := C.2.1
  have hown := C.2.2.2.1
  have hts := C.2.2.2.2.1
  have hl : lv_has ls 3 [(0, .ref (gb G + o))] := hl
  unfold f_X6_positive at hf
  revert hf
  refine k_req (fun k0 hf => ?_)
  obtain ⟨mc, emc⟩ : ∃ mc, mc = n := ⟨_, rfl⟩
  obtain ⟨ms, ems⟩ : ∃ ms, ms = k := ⟨_, rfl⟩
  have hn : 0 + n = mc := by omega
  have hk : 0 + k = ms := by omega
  rw [← emc, ← ems]
  clear emc ems
  refine lv_aload_n hx hb dX6_positive_0 rfl (lv_at hl 0 rfl) ?_
  refine w_ldcS (k := 30) C rfl dX6_positive_1 ?_
  revert hf
  refine k_pcl (fun z2 h1 hf => ?_)
  refine w_afi hw (wu_X6_39 (As := [.ref (adK G 30)]) C hw (by show _ ≤ (lv + 1); omega) (by show _ ≤ 64 * (lv + 1); omega) (ok_X6_is h1) (of_req h1).1 hl.1 rfl (Nat.le_of_ble_eq_true rfl) ⟨by show _ + 0 ≤ mc; omega, by show _ + 0 ≤ ms; omega⟩ dX6_positive_3) (fun H locs hw => ?_)
  refine lv_if_eq (tgt := 36) hx hb dX6_positive_6 (by decide) (fun c3 => ?_) (fun c3 => ?_)
  · replace hf := ite_t c3 hf
    refine lv_aload_n hx hb dX6_positive_36 rfl (lv_at hl 0 rfl) ?_
    rcases of_dxl hf with ⟨r5, U6, T7, na, ka, n1, k1, h4, hf, en, ek⟩ | ⟨r5, U6, T7, h4, hf⟩
    · refine x_in hw (xu_X6_115 (As := []) C hw (by show _ ≤ (lv + 1); omega) (by show _ ≤ 64 * (lv + 1); omega) (ok_sumR h4) k0 hl.1 rfl (Nat.le_of_ble_eq_true rfl) ⟨by show _ ≤ mc; omega, by show _ ≤ ms; omega⟩ dX6_positive_37) (fun H locs hw => ?_)
      refine W.eq (g2 := F0 m 40 ls [.ref (gb G + r5)]) rfl ?_
      replace hn := add_r hn en
      replace hk := add_r hk ek
      clear en ek
      generalize n1 = n at hf hn
      generalize k1 = k at hf hk
      refine lv_astore_n (lv' := [(1, .ref (gb G + r5)), (0, .ref (gb G + o))]) hx hb dX6_positive_40 rfl hl (by decide) rfl (fun ls hl => ?_)
      refine lv_aload_n hx hb dX6_positive_41 rfl (lv_at hl 1 rfl) ?_
      refine w_ldcS (k := 32) C rfl dX6_positive_42 ?_
      revert hf
      refine k_pcl (fun z9 h8 hf => ?_)
      refine w_afi hw (wu_X6_39 (As := [.ref (adK G 32)]) C hw (by show _ ≤ (lv + 1); omega) (by show _ ≤ 64 * (lv + 1); omega) (ok_X6_is h8) (of_req h8).1 hl.1 rfl (Nat.le_of_ble_eq_true rfl) ⟨by show _ + 0 ≤ mc; omega, by show _ + 0 ≤ ms; omega⟩ dX6_positive_44) (fun H locs hw => ?_)
      refine lv_if_ne (tgt := 80) hx hb dX6_positive_47 (by decide) (fun c10 => ?_) (fun c10 => ?_)
      · replace hf := ite_f c10 hf
        exact jk_X6_positive_80 C hr hno hlv hrtest hf hn hk hw (lv_sub hl [1, 0] rfl)
      · replace hf := ite_t c10 hf
        refine lv_aload_n hx hb dX6_positive_50 rfl (lv_at hl 1 rfl) ?_
        refine w_ldcS (k := 33) C rfl dX6_positive_51 ?_
        revert hf
        refine k_pcl (fun z30 h29 hf => ?_)
        refine w_afi hw (wu_X6_39 (As := [.ref (adK G 33)]) C hw (by show _ ≤ (lv + 1); omega) (by show _ ≤ 64 * (lv + 1); omega) (ok_X6_is h29) (of_req h29).1 hl.1 rfl (Nat.le_of_ble_eq_true rfl) ⟨by show _ + 0 ≤ mc; omega, by show _ + 0 ≤ ms; omega⟩ dX6_positive_53) (fun H locs hw => ?_)
        refine lv_if_ne (tgt := 80) hx hb dX6_positive_56 (by decide) (fun c31 => ?_) (fun c31 => ?_)
        · replace hf := ite_f c31 hf
          exact jk_X6_positive_80 C hr hno hlv hrtest hf hn hk hw (lv_sub hl [1, 0] rfl)
        · replace hf := ite_t c31 hf
          refine lv_aload_n hx hb dX6_positive_59 rfl (lv_at hl 1 rfl) ?_
          refine w_ldcS (k := 34) C rfl dX6_positive_60 ?_
          revert hf
          refine k_pcl (fun z33 h32 hf => ?_)
          refine w_afi hw (wu_X6_39 (As := [.ref (adK G 34)]) C hw (by show _ ≤ (lv + 1); omega) (by show _ ≤ 64 * (lv + 1); omega) (ok_X6_is h32) (of_req h32).1 hl.1 rfl (Nat.le_of_ble_eq_true rfl) ⟨by show _ + 0 ≤ mc; omega, by show _ + 0 ≤ ms; omega⟩ dX6_positive_62) (fun H locs hw => ?_)
          refine lv_if_ne (tgt := 80) hx hb dX6_positive_65 (by decide) (fun c34 => ?_) (fun c34 => ?_)
          · replace hf := ite_f c34 hf
            exact jk_X6_positive_80 C hr hno hlv hrtest hf hn hk hw (lv_sub hl [1, 0] rfl)
          · replace hf := ite_t c34 hf
            revert hf
            refine k_inc (fun n1 k1 hf en ek => ?_)
            revert hf
            refine k_stp (fun q35 eq35 hf => ?_)
            revert hf
            refine k_stp (fun U36 eU36 hf => ?_)
            revert hf
            refine k_stp (fun T37 eT37 hf => ?_)
            refine nw_X8 C hw q862 (by show _ ≤ mc; omega) (by show _ ≤ ms; omega) eq35 eU36 eT37 dX6_positive_68 (fun H hw => ?_)
            replace hn := add_r hn en
            replace hk := add_r hk ek
            clear en ek
            generalize n1 = n at hf hn
            generalize k1 = k at hf hk
            refine lv_dup hx hb dX6_positive_71 rfl ?_
            refine lv_aload_n hx hb dX6_positive_72 rfl (lv_at hl 1 rfl) ?_
            revert hf
            refine k_req (fun k38 hf => ?_)
            refine gf_X6_22 C hw k38 dX6_positive_73 ?_
            revert hf
            refine k_pcl (fun U41 h39 hf => ?_)
            refine w_afv hw (w_rI (As := [.int (U36.1 o 3)]) C hw (ok_X8_init h39) (cw_X6_51 hts (by show _ ≤ (lv + 1); omega) (by show _ ≤ 64 * (lv + 1); omega)) rfl hl.1 rfl (Nat.le_of_ble_eq_true rfl) ⟨by show _ + 0 ≤ mc; omega, by show _ + 0 ≤ ms; omega⟩ dX6_positive_76) (fun H locs hw => ?_)
            revert hf
            refine k_req (fun k42 hf => ?_)
            cases hf
            cases hn
            cases hk
            exact x_throw (ci := 7) C hno hw rfl (by decide) k42 dX6_positive_79
    · cases hf
      refine x_out hw (xu_X6_115 (As := []) C hw (by show _ ≤ (lv + 1); omega) (by show _ ≤ 64 * (lv + 1); omega) (ok_sumR h4) k0 hl.1 rfl (Nat.le_of_ble_eq_true rfl) ⟨by show _ ≤ mc; omega, by show _ ≤ ms; omega⟩ dX6_positive_37) (fun H locs ce hw g1 g2 g3 => ?_)
      exact x_upE C hno hw g1 g2 g3 hn hk
  · replace hf := ite_f c3 hf
    refine lv_aload_n hx hb dX6_positive_9 rfl (lv_at hl 0 rfl) ?_
    rcases of_dxl hf with ⟨z44, U45, T46, na, ka, n1, k1, h43, hf, en, ek⟩ | ⟨z44, U45, T46, h43, hf⟩
    · refine x_in hw (xu_X6_103 (As := []) C hw (by show _ ≤ (lv + 1); omega) (by show _ ≤ 64 * (lv + 1); omega) (ok_X6_opens h43) (of_req h43).1 hl.1 rfl (Nat.le_of_ble_eq_true rfl) ⟨by show _ ≤ mc; omega, by show _ ≤ ms; omega⟩ dX6_positive_10) (fun H locs hw => ?_)
      refine W.eq (g2 := F0 m 13 ls []) rfl ?_
      replace hn := add_r hn en
      replace hk := add_r hk ek
      clear en ek
      generalize n1 = n at hf hn
      generalize k1 = k at hf hk
      refine lv_aload_n hx hb dX6_positive_13 rfl (lv_at hl 0 rfl) ?_
      revert hf
      refine k_req (fun k47 hf => ?_)
      rcases of_dxl hf with ⟨r49, U50, T51, na, ka, n1, k1, h48, hf, en, ek⟩ | ⟨r49, U50, T51, h48, hf⟩
      · refine x_in hw (xu_X6_106 (As := []) C hw (by show _ ≤ (lv + 1); omega) (by show _ ≤ 64 * (lv + 1); omega) (hrtest _ _ _ _ _ _ _ _ h48) k47 hl.1 rfl (Nat.le_of_ble_eq_true rfl) ⟨by show _ ≤ mc; omega, by show _ ≤ ms; omega⟩ dX6_positive_14) (fun H locs hw => ?_)
        refine W.eq (g2 := F0 m 17 ls [.ref (gb G + r49)]) rfl ?_
        replace hn := add_r hn en
        replace hk := add_r hk ek
        clear en ek
        generalize n1 = n at hf hn
        generalize k1 = k at hf hk
        refine lv_astore_n (lv' := [(1, .ref (gb G + r49)), (0, .ref (gb G + o))]) hx hb dX6_positive_17 rfl hl (by decide) rfl (fun ls hl => ?_)
        refine lv_aload_n hx hb dX6_positive_18 rfl (lv_at hl 1 rfl) ?_
        refine w_ldcS (k := 31) C rfl dX6_positive_19 ?_
        rcases of_dxl hf with ⟨z53, U54, T55, na, ka, n1, k1, h52, hf, en, ek⟩ | ⟨z53, U54, T55, h52, hf⟩
        · refine x_in hw (xu_X6_111 (As := [.ref (adK G 31)]) C hw (by show _ ≤ (lv + 1); omega) (by show _ ≤ 64 * (lv + 1); omega) (ok_X6_need h52) (of_req h52).1 hl.1 rfl (Nat.le_of_ble_eq_true rfl) ⟨by show _ ≤ mc; omega, by show _ ≤ ms; omega⟩ dX6_positive_21) (fun H locs hw => ?_)
          refine W.eq (g2 := F0 m 24 ls []) rfl ?_
          replace hn := add_r hn en
          replace hk := add_r hk ek
          clear en ek
          generalize n1 = n at hf hn
          generalize k1 = k at hf hk
          refine lv_aload_n hx hb dX6_positive_24 rfl (lv_at hl 1 rfl) ?_
          refine lv_dup hx hb dX6_positive_25 rfl ?_
          revert hf
          refine k_req (fun k56 hf => ?_)
          refine gf_X6_88 C hw k56 dX6_positive_26 ?_
          refine lv_iconst (v := (1 : Int32)) hx hb dX6_positive_29 (by decide) ?_
          refine lv_isub hx hb dX6_positive_30 ?_
          revert hf
          refine k_stp (fun U57 eU57 hf => ?_)
          refine pf_X6_88 C hw k56 eU57 dX6_positive_31 (fun H locs hw => ?_)
          refine lv_aload_n hx hb dX6_positive_34 rfl (lv_at hl 0 rfl) ?_
          cases hf
          cases hn
          cases hk
          exact x_ret (w_aret C hr (Or.inl ⟨_, rfl⟩) (Or.inr ⟨_, rfl⟩) hw dX6_positive_35)
        · cases hf
          refine x_out hw (xu_X6_111 (As := [.ref (adK G 31)]) C hw (by show _ ≤ (lv + 1); omega) (by show _ ≤ 64 * (lv + 1); omega) (ok_X6_need h52) (of_req h52).1 hl.1 rfl (Nat.le_of_ble_eq_true rfl) ⟨by show _ ≤ mc; omega, by show _ ≤ ms; omega⟩ dX6_positive_21) (fun H locs ce hw g1 g2 g3 => ?_)
          exact x_upE C hno hw g1 g2 g3 hn hk
      · cases hf
        refine x_out hw (xu_X6_106 (As := []) C hw (by show _ ≤ (lv + 1); omega) (by show _ ≤ 64 * (lv + 1); omega) (hrtest _ _ _ _ _ _ _ _ h48) k47 hl.1 rfl (Nat.le_of_ble_eq_true rfl) ⟨by show _ ≤ mc; omega, by show _ ≤ ms; omega⟩ dX6_positive_14) (fun H locs ce hw g1 g2 g3 => ?_)
        exact x_upE C hno hw g1 g2 g3 hn hk
    · cases hf
      refine x_out hw (xu_X6_103 (As := []) C hw (by show _ ≤ (lv + 1); omega) (by show _ ≤ 64 * (lv + 1); omega) (ok_X6_opens h43) (of_req h43).1 hl.1 rfl (Nat.le_of_ble_eq_true rfl) ⟨by show _ ≤ mc; omega, by show _ ≤ ms; omega⟩ dX6_positive_10) (fun H locs ce hw g1 g2 g3 => ?_)
      exact x_upE C hno hw g1 g2 g3 hn hk
set_option maxHeartbeats 4000000 in
theorem jk_X6_plain_20 {l : Launch} {G : gG} {p : Program} {e : Env} {s : State} {m : MethodId} {args : Array Value} {below : List Frame} {meth : Method} {c : Code} {T : Tt} {V0 : Vt} {r : (Nat ⊕ Nat)} {V' : Vt} {T' : Tt} {mc ms : Nat} {rtest : Tt → Vt → Nat → Option (((Nat ⊕ Nat) × Vt × Tt) × Nat × Nat)} (C : Cx G p s m args meth c cX6_plain RX6 3) (hr : meth.sig.returnType = (some (.object "SoleraCellar$Test"))) (hno : ∀ z ∈ c.exceptionTable.toList, False) {lv : Nat} (hlv : 80 ≤ lv) (hrtest : ∀ (T : Tt) (V : Vt) (o : Nat) (r : Nat ⊕ Nat) (V' : Vt) (T' : Tt) (n k : Nat), rtest T V o = some ((r, V', T'), n, k) → okX l G RX8 yX6_test cX6_test 3 (some (.object "SoleraCellar$Test")) lv [.ref (gb G + o)] V T (xR G r) V' T' n k) {x0 : Nat} {s0 : Int32} {kc2 : Int32 → Vt → Option (((Nat ⊕ Nat) × Vt × Tt) × Nat × Nat)} {kx2_24 : Int32 → Vt → Option (((Nat ⊕ Nat) × Vt × Tt) × Nat × Nat)} {H : Heap} {locs : List Loc} {ls : Array Slot} {cells slots n k : Nat} (hf : f_X6_plain_J20 rtest T V0 x0 s0 kc2 kx2_24 = some ((r, V', T'), n, k)) (hn : cells + n = mc) (hk : slots + k = ms) (hw : wS G V0 T H locs) (hl : lv_has ls 3 [(0, .ref (gb G + x0))]) (hkc2 : ∀ (y1 : Int32) (W1 : Vt) (H : Heap) (locs : List Loc) (ls : Array Slot) (cells slots n k : Nat), kc2 y1 W1 = some ((r, V', T'), n, k) → cells + n = mc → slots + k = ms → wS G W1 T H locs → lv_has ls 3 [(0, .ref (gb G + x0)), (1, .int y1)] → W p l e (rmL (lv + 2) mc ms) s m args below meth c H locs cells slots (xQ G RX8 below (xR G r) V' T' args s mc ms) (F0 m 2 ls [])) (hkx2_24 : ∀ (y1 : Int32) (W1 : Vt) (H : Heap) (locs : List Loc) (ls : Array Slot) (cells slots n k : Nat), kx2_24 y1 W1 = some ((r, V', T'), n, k) → cells + n = mc → slots + k = ms → wS G W1 T H locs → lv_has ls 3 [(0, .ref (gb G + x0)), (1, .int y1)] → W p l e (rmL (lv + 2) mc ms) s m args below meth c H locs cells slots (xQ G RX8 below (xR G r) V' T' args s mc ms) (F0 m 24 ls [])) : W p l e (rmL (lv + 2) mc ms) s m args below meth c H locs cells slots (xQ G RX8 below (xR G r) V' T' args s mc ms) (F0 m 20 ls [.int s0]) := by
  have hx := C.1
  have hb := C.2.1
  have hown := C.2.2.2.1
  have hts := C.2.2.2.2.1
  unfold f_X6_plain_J20 at hf
  refine lv_istore_n (lv' := [(1, .int s0), (0, .ref (gb G + x0))]) hx hb dX6_plain_20 rfl hl (by decide) rfl (fun ls hl => ?_)
  refine lv_goto (tgt := 2) hx hb dX6_plain_21 (by decide) ?_
  exact hkc2 _ _ _ _ _ _ _ _ _ hf hn hk hw (lv_sub hl [1, 0] rfl)
set_option maxHeartbeats 4000000 in
theorem lk_X6_plain_2 {l : Launch} {G : gG} {p : Program} {e : Env} {s : State} {m : MethodId} {args : Array Value} {below : List Frame} {meth : Method} {c : Code} {T : Tt} {r : (Nat ⊕ Nat)} {V' : Vt} {T' : Tt} {mc ms : Nat} {rtest : Tt → Vt → Nat → Option (((Nat ⊕ Nat) × Vt × Tt) × Nat × Nat)} (C : Cx G p s m args meth c cX6_plain RX6 3) (hr : meth.sig.returnType = (some (.object "SoleraCellar$Test"))) (hno : ∀ z ∈ c.exceptionTable.toList, False) {lv : Nat} (hlv : 80 ≤ lv) (hrtest : ∀ (T : Tt) (V : Vt) (o : Nat) (r : Nat ⊕ Nat) (V' : Vt) (T' : Tt) (n k : Nat), rtest T V o = some ((r, V', T'), n, k) → okX l G RX8 yX6_test cX6_test 3 (some (.object "SoleraCellar$Test")) lv [.ref (gb G + o)] V T (xR G r) V' T' n k) {x0 : Nat} {kx2_24 : Int32 → Vt → Option (((Nat ⊕ Nat) × Vt × Tt) × Nat × Nat)} (hkx2_24 : ∀ (y1 : Int32) (W1 : Vt) (H : Heap) (locs : List Loc) (ls : Array Slot) (cells slots n k : Nat), kx2_24 y1 W1 = some ((r, V', T'), n, k) → cells + n = mc → slots + k = ms → wS G W1 T H locs → lv_has ls 3 [(0, .ref (gb G + x0)), (1, .int y1)] → W p l e (rmL (lv + 2) mc ms) s m args below meth c H locs cells slots (xQ G RX8 below (xR G r) V' T' args s mc ms) (F0 m 24 ls [])) : ∀ (nf : Nat) (x1 : Int32) (V1 : Vt) (H : Heap) (locs : List Loc) (ls : Array Slot) (cells slots n k : Nat), f_X6_plain_L2 rtest T x0 kx2_24 nf x1 V1 = some ((r, V', T'), n, k) → cells + n = mc → slots + k = ms → wS G V1 T H locs → lv_has ls 3 [(0, .ref (gb G + x0)), (1, .int x1)] → W p l e (rmL (lv + 2) mc ms) s m args below meth c H locs cells slots (xQ G RX8 below (xR G r) V' T' args s mc ms) (F0 m 2 ls []) := by
  have hx := C.1
  have hb := C.2.1
  have hown := C.2.2.2.1
  have hts := C.2.2.2.2.1
  intro nf
  induction nf with
  | zero =>
    intro x1 V1 H locs ls cells slots n k hf
    cases hf
  | succ nf ih =>
    intro x1 V1 H locs ls cells slots n k hf hn hk hw hl
    unfold f_X6_plain_L2 at hf
    refine lv_aload_n hx hb dX6_plain_2 rfl (lv_at hl 0 rfl) ?_
    refine w_ldcS (k := 29) C rfl dX6_plain_3 ?_
    revert hf
    refine k_cal (fun z2 U3 h1 hf => ?_)
    refine w_afi hw (wu_X6_46 (As := [.ref (adK G 29)]) C hw (by show _ ≤ (lv + 2); omega) (by show _ ≤ 64 * (lv + 2); omega) (ok_X6_takes h1) (of_req h1).1 hl.1 rfl (Nat.le_of_ble_eq_true rfl) ⟨by show _ + 0 ≤ mc; omega, by show _ + 0 ≤ ms; omega⟩ dX6_plain_5) (fun H locs hw => ?_)
    refine lv_if_eq (tgt := 24) hx hb dX6_plain_8 (by decide) (fun c4 => ?_) (fun c4 => ?_)
    · replace hf := ite_t c4 hf
      exact hkx2_24 _ _ _ _ _ _ _ _ _ hf hn hk hw (lv_sub hl [0, 1] rfl)
    · replace hf := ite_f c4 hf
      refine lv_iload_n hx hb dX6_plain_11 rfl (lv_at hl 1 rfl) ?_
      refine lv_if_ne (tgt := 19) hx hb dX6_plain_12 (by decide) (fun c5 => ?_) (fun c5 => ?_)
      · replace hf := ite_f c5 hf
        refine lv_iconst (v := (0 : Int32)) hx hb dX6_plain_19 (by decide) ?_
        exact jk_X6_plain_20 C hr hno hlv hrtest hf hn hk hw (lv_sub hl [0] rfl) ih hkx2_24
      · replace hf := ite_t c5 hf
        refine lv_iconst (v := (1 : Int32)) hx hb dX6_plain_15 (by decide) ?_
        refine lv_goto (tgt := 20) hx hb dX6_plain_16 (by decide) ?_
        exact jk_X6_plain_20 C hr hno hlv hrtest hf hn hk hw (lv_sub hl [0] rfl) ih hkx2_24
set_option maxHeartbeats 4000000 in
theorem ok_X6_plain {l : Launch} {G : gG} {T : Tt} {V0 : Vt} {o : Nat} {r : (Nat ⊕ Nat)} {V' : Vt} {T' : Tt} {n k : Nat} {rtest : Tt → Vt → Nat → Option (((Nat ⊕ Nat) × Vt × Tt) × Nat × Nat)} {lv : Nat} (hlv : 80 ≤ lv) (hrtest : ∀ (T : Tt) (V : Vt) (o : Nat) (r : Nat ⊕ Nat) (V' : Vt) (T' : Tt) (n k : Nat), rtest T V o = some ((r, V', T'), n, k) → okX l G RX8 yX6_test cX6_test 3 (some (.object "SoleraCellar$Test")) lv [.ref (gb G + o)] V T (xR G r) V' T' n k) (hf : f_X6_plain rtest T V0 o = some ((r, V', T'), n, k)) : okX l G RX8 yX6_plain cX6_plain 3 (some (.object "SoleraCellar$Test")) (lv + 2) [.ref (gb G + o)] V0 T (xR G r) V' T' n k := by
  refine okX_intro (by decide) (Nat.le_of_ble_eq_true rfl) ?_
  intro p e s m below meth c ls C hr hno hw hl
  have hx := C.1
  have hb := C.2.1
  have hown := C.2.2.2.1
  have hts := C.2.2.2.2.1
  have hl : lv_has ls 3 [(0, .ref (gb G + o))] := hl
  unfold f_X6_plain at hf
  revert hf
  refine k_req (fun k0 hf => ?_)
  obtain ⟨mc, emc⟩ : ∃ mc, mc = n := ⟨_, rfl⟩
  obtain ⟨ms, ems⟩ : ∃ ms, ms = k := ⟨_, rfl⟩
  have hn : 0 + n = mc := by omega
  have hk : 0 + k = ms := by omega
  rw [← emc, ← ems]
  clear emc ems
  refine lv_iconst (v := (0 : Int32)) hx hb dX6_plain_0 (by decide) ?_
  refine lv_istore_n (lv' := [(1, .int (0 : Int32)), (0, .ref (gb G + o))]) hx hb dX6_plain_1 rfl hl (by decide) rfl (fun ls hl => ?_)
  refine lk_X6_plain_2 C hr hno hlv hrtest (fun z6 U7 H locs ls cells slots n k hf hn hk hw hl => ?_) fuel _ _ _ _ _ _ _ _ _ hf hn hk hw (lv_sub hl [1, 0] rfl)
  refine lv_aload_n hx hb dX6_plain_24 rfl (lv_at hl 0 rfl) ?_
  rcases of_dxl hf with ⟨r9, U10, T11, na, ka, n1, k1, h8, hf, en, ek⟩ | ⟨r9, U10, T11, h8, hf⟩
  · refine x_in hw (xu_X6_93 (As := []) C hw (by show _ ≤ (lv + 2); omega) (by show _ ≤ 64 * (lv + 2); omega) (ok_X6_positive hlv hrtest h8) (of_req h8).1 hl.1 rfl (Nat.le_of_ble_eq_true rfl) ⟨by show _ ≤ mc; omega, by show _ ≤ ms; omega⟩ dX6_plain_25) (fun H locs hw => ?_)
    refine W.eq (g2 := F0 m 28 ls [.ref (gb G + r9)]) rfl ?_
    replace hn := add_r hn en
    replace hk := add_r hk ek
    clear en ek
    generalize n1 = n at hf hn
    generalize k1 = k at hf hk
    refine lv_astore_n (lv' := [(2, .ref (gb G + r9)), (0, .ref (gb G + o)), (1, .int z6)]) hx hb dX6_plain_28 rfl hl (by decide) rfl (fun ls hl => ?_)
    refine lv_iload_n hx hb dX6_plain_29 rfl (lv_at hl 2 rfl) ?_
    refine lv_if_eq (tgt := 44) hx hb dX6_plain_30 (by decide) (fun c12 => ?_) (fun c12 => ?_)
    · replace hf := ite_t c12 hf
      refine lv_aload_n hx hb dX6_plain_44 rfl (lv_at hl 0 rfl) ?_
      cases hf
      cases hn
      cases hk
      exact x_ret (w_aret C hr (Or.inl ⟨_, rfl⟩) (Or.inr ⟨_, rfl⟩) hw dX6_plain_45)
    · replace hf := ite_f c12 hf
      revert hf
      refine k_inc (fun n1 k1 hf en ek => ?_)
      revert hf
      refine k_stp (fun q13 eq13 hf => ?_)
      revert hf
      refine k_stp (fun U14 eU14 hf => ?_)
      revert hf
      refine k_stp (fun T15 eT15 hf => ?_)
      refine nw_X16 C hw q1091 (by show _ ≤ mc; omega) (by show _ ≤ ms; omega) eq13 eU14 eT15 dX6_plain_33 (fun H hw => ?_)
      replace hn := add_r hn en
      replace hk := add_r hk ek
      clear en ek
      generalize n1 = n at hf hn
      generalize k1 = k at hf hk
      refine lv_dup hx hb dX6_plain_36 rfl ?_
      refine lv_aload_n hx hb dX6_plain_37 rfl (lv_at hl 0 rfl) ?_
      revert hf
      refine k_pcl (fun U18 h16 hf => ?_)
      refine w_afv hw (w_rI (As := [.ref (gb G + r9)]) C hw (ok_X16_init h16) (cw_X6_98 hts (by show _ ≤ (lv + 2); omega) (by show _ ≤ 64 * (lv + 2); omega)) rfl hl.1 rfl (Nat.le_of_ble_eq_true rfl) ⟨by show _ + 0 ≤ mc; omega, by show _ + 0 ≤ ms; omega⟩ dX6_plain_38) (fun H locs hw => ?_)
      refine lv_goto (tgt := 45) hx hb dX6_plain_41 (by decide) ?_
      cases hf
      cases hn
      cases hk
      exact x_ret (w_aret C hr (Or.inl ⟨_, rfl⟩) (Or.inr ⟨_, rfl⟩) hw dX6_plain_45)
  · cases hf
    refine x_out hw (xu_X6_93 (As := []) C hw (by show _ ≤ (lv + 2); omega) (by show _ ≤ 64 * (lv + 2); omega) (ok_X6_positive hlv hrtest h8) (of_req h8).1 hl.1 rfl (Nat.le_of_ble_eq_true rfl) ⟨by show _ ≤ mc; omega, by show _ ≤ ms; omega⟩ dX6_plain_25) (fun H locs ce hw g1 g2 g3 => ?_)
    exact x_upE C hno hw g1 g2 g3 hn hk
set_option maxHeartbeats 4000000 in
theorem lk_X6_both_34 {l : Launch} {G : gG} {p : Program} {e : Env} {s : State} {m : MethodId} {args : Array Value} {below : List Frame} {meth : Method} {c : Code} {r : (Nat ⊕ Nat)} {V' : Vt} {T' : Tt} {mc ms : Nat} {rtest : Tt → Vt → Nat → Option (((Nat ⊕ Nat) × Vt × Tt) × Nat × Nat)} (C : Cx G p s m args meth c cX6_both RX6 3) (hr : meth.sig.returnType = (some (.object "SoleraCellar$Test"))) (hno : ∀ z ∈ c.exceptionTable.toList, False) {lv : Nat} (hlv : 80 ≤ lv) (hrtest : ∀ (T : Tt) (V : Vt) (o : Nat) (r : Nat ⊕ Nat) (V' : Vt) (T' : Tt) (n k : Nat), rtest T V o = some ((r, V', T'), n, k) → okX l G RX8 yX6_test cX6_test 3 (some (.object "SoleraCellar$Test")) lv [.ref (gb G + o)] V T (xR G r) V' T' n k) {x0 : Nat} {x2 : Nat} {kx34_58 : Vt → Tt → Option (((Nat ⊕ Nat) × Vt × Tt) × Nat × Nat)} (hkx34_58 : ∀ (W1 : Vt) (T1 : Tt) (H : Heap) (locs : List Loc) (ls : Array Slot) (cells slots n k : Nat), kx34_58 W1 T1 = some ((r, V', T'), n, k) → cells + n = mc → slots + k = ms → wS G W1 T1 H locs → lv_has ls 3 [(2, .ref (gb G + x2))] → W p l e (rmL (lv + 3) mc ms) s m args below meth c H locs cells slots (xQ G RX8 below (xR G r) V' T' args s mc ms) (F0 m 58 ls [])) : ∀ (nf : Nat) (V1 : Vt) (T1 : Tt) (H : Heap) (locs : List Loc) (ls : Array Slot) (cells slots n k : Nat), f_X6_both_L34 rtest x0 x2 kx34_58 nf V1 T1 = some ((r, V', T'), n, k) → cells + n = mc → slots + k = ms → wS G V1 T1 H locs → lv_has ls 3 [(0, .ref (gb G + x0)), (2, .ref (gb G + x2))] → W p l e (rmL (lv + 3) mc ms) s m args below meth c H locs cells slots (xQ G RX8 below (xR G r) V' T' args s mc ms) (F0 m 34 ls []) := by
  have hx := C.1
  have hb := C.2.1
  have hown := C.2.2.2.1
  have hts := C.2.2.2.2.1
  intro nf
  induction nf with
  | zero =>
    intro V1 T1 H locs ls cells slots n k hf
    cases hf
  | succ nf ih =>
    intro V1 T1 H locs ls cells slots n k hf hn hk hw hl
    unfold f_X6_both_L34 at hf
    refine lv_aload_n hx hb dX6_both_34 rfl (lv_at hl 0 rfl) ?_
    refine w_ldcS (k := 28) C rfl dX6_both_35 ?_
    revert hf
    refine k_cal (fun z22 U23 h21 hf => ?_)
    refine w_afi hw (wu_X6_46 (As := [.ref (adK G 28)]) C hw (by show _ ≤ (lv + 3); omega) (by show _ ≤ 64 * (lv + 3); omega) (ok_X6_takes h21) (of_req h21).1 hl.1 rfl (Nat.le_of_ble_eq_true rfl) ⟨by show _ + 0 ≤ mc; omega, by show _ + 0 ≤ ms; omega⟩ dX6_both_37) (fun H locs hw => ?_)
    refine lv_if_eq (tgt := 58) hx hb dX6_both_40 (by decide) (fun c24 => ?_) (fun c24 => ?_)
    · replace hf := ite_t c24 hf
      exact hkx34_58 _ _ _ _ _ _ _ _ _ hf hn hk hw (lv_sub hl [1] rfl)
    · replace hf := ite_f c24 hf
      refine lv_aload_n hx hb dX6_both_43 rfl (lv_at hl 1 rfl) ?_
      revert hf
      refine k_req (fun k25 hf => ?_)
      revert hf
      refine k_drf (fun r26 er26 hf => ?_)
      refine gf_X6_73 C hw k25 er26 dX6_both_44 ?_
      refine lv_aload_n hx hb dX6_both_47 rfl (lv_at hl 0 rfl) ?_
      rcases of_dxl hf with ⟨r28, U29, T30, na, ka, n1, k1, h27, hf, en, ek⟩ | ⟨r28, U29, T30, h27, hf⟩
      · refine x_in hw (xu_X6_83 (As := []) C hw (by show _ ≤ (lv + 3); omega) (by show _ ≤ 64 * (lv + 3); omega) (ok_X6_plain hlv hrtest h27) (of_req h27).1 hl.1 rfl (Nat.le_of_ble_eq_true rfl) ⟨by show _ ≤ mc; omega, by show _ ≤ ms; omega⟩ dX6_both_48) (fun H locs hw => ?_)
        refine W.eq (g2 := F0 m 51 ls [.ref (gb G + r28), .ref (gb G + r26)]) rfl ?_
        replace hn := add_r hn en
        replace hk := add_r hk ek
        clear en ek
        generalize n1 = n at hf hn
        generalize k1 = k at hf hk
        revert hf
        refine k_dcl (fun z32 U33 T34 na ka n1 k1 h31 hf en ek => ?_)
        refine w_afi hw (w_rV (As := [.ref (gb G + r28)]) C hw (ok_J2_add h31) (cw_X6_77 hts (by show _ ≤ (lv + 3); omega) (by show _ ≤ 64 * (lv + 3); omega)) rfl (by decide) (of_req h31).1 rfl hl.1 rfl (Nat.le_of_ble_eq_true rfl) ⟨by show _ ≤ mc; omega, by show _ ≤ ms; omega⟩ dX6_both_51) (fun H locs hw => ?_)
        replace hn := add_r hn en
        replace hk := add_r hk ek
        clear en ek
        generalize n1 = n at hf hn
        generalize k1 = k at hf hk
        refine lv_pop hx hb dX6_both_54 rfl ?_
        refine lv_goto (tgt := 34) hx hb dX6_both_55 (by decide) ?_
        exact ih _ _ _ _ _ _ _ _ _ hf hn hk hw (lv_sub hl [0, 1] rfl)
      · cases hf
        refine x_out hw (xu_X6_83 (As := []) C hw (by show _ ≤ (lv + 3); omega) (by show _ ≤ 64 * (lv + 3); omega) (ok_X6_plain hlv hrtest h27) (of_req h27).1 hl.1 rfl (Nat.le_of_ble_eq_true rfl) ⟨by show _ ≤ mc; omega, by show _ ≤ ms; omega⟩ dX6_both_48) (fun H locs ce hw g1 g2 g3 => ?_)
        exact x_upE C hno hw g1 g2 g3 hn hk
set_option maxHeartbeats 4000000 in
theorem ok_X6_both {l : Launch} {G : gG} {T : Tt} {V0 : Vt} {o : Nat} {r : (Nat ⊕ Nat)} {V' : Vt} {T' : Tt} {n k : Nat} {rtest : Tt → Vt → Nat → Option (((Nat ⊕ Nat) × Vt × Tt) × Nat × Nat)} {lv : Nat} (hlv : 80 ≤ lv) (hrtest : ∀ (T : Tt) (V : Vt) (o : Nat) (r : Nat ⊕ Nat) (V' : Vt) (T' : Tt) (n k : Nat), rtest T V o = some ((r, V', T'), n, k) → okX l G RX8 yX6_test cX6_test 3 (some (.object "SoleraCellar$Test")) lv [.ref (gb G + o)] V T (xR G r) V' T' n k) (hf : f_X6_both rtest T V0 o = some ((r, V', T'), n, k)) : okX l G RX8 yX6_both cX6_both 3 (some (.object "SoleraCellar$Test")) (lv + 3) [.ref (gb G + o)] V0 T (xR G r) V' T' n k := by
  refine okX_intro (by decide) (Nat.le_of_ble_eq_true rfl) ?_
  intro p e s m below meth c ls C hr hno hw hl
  have hx := C.1
  have hb := C.2.1
  have hown := C.2.2.2.1
  have hts := C.2.2.2.2.1
  have hl : lv_has ls 3 [(0, .ref (gb G + o))] := hl
  unfold f_X6_both at hf
  revert hf
  refine k_req (fun k0 hf => ?_)
  obtain ⟨mc, emc⟩ : ∃ mc, mc = n := ⟨_, rfl⟩
  obtain ⟨ms, ems⟩ : ∃ ms, ms = k := ⟨_, rfl⟩
  have hn : 0 + n = mc := by omega
  have hk : 0 + k = ms := by omega
  rw [← emc, ← ems]
  clear emc ems
  refine lv_aload_n hx hb dX6_both_0 rfl (lv_at hl 0 rfl) ?_
  rcases of_dxl hf with ⟨r2, U3, T4, na, ka, n1, k1, h1, hf, en, ek⟩ | ⟨r2, U3, T4, h1, hf⟩
  · refine x_in hw (xu_X6_83 (As := []) C hw (by show _ ≤ (lv + 3); omega) (by show _ ≤ 64 * (lv + 3); omega) (ok_X6_plain hlv hrtest h1) (of_req h1).1 hl.1 rfl (Nat.le_of_ble_eq_true rfl) ⟨by show _ ≤ mc; omega, by show _ ≤ ms; omega⟩ dX6_both_1) (fun H locs hw => ?_)
    refine W.eq (g2 := F0 m 4 ls [.ref (gb G + r2)]) rfl ?_
    replace hn := add_r hn en
    replace hk := add_r hk ek
    clear en ek
    generalize n1 = n at hf hn
    generalize k1 = k at hf hk
    refine lv_astore_n (lv' := [(1, .ref (gb G + r2)), (0, .ref (gb G + o))]) hx hb dX6_both_4 rfl hl (by decide) rfl (fun ls hl => ?_)
    refine lv_aload_n hx hb dX6_both_5 rfl (lv_at hl 1 rfl) ?_
    refine w_ldcS (k := 28) C rfl dX6_both_6 ?_
    revert hf
    refine k_pcl (fun z6 h5 hf => ?_)
    refine w_afi hw (wu_X6_39 (As := [.ref (adK G 28)]) C hw (by show _ ≤ (lv + 3); omega) (by show _ ≤ 64 * (lv + 3); omega) (ok_X6_is h5) (of_req h5).1 hl.1 rfl (Nat.le_of_ble_eq_true rfl) ⟨by show _ + 0 ≤ mc; omega, by show _ + 0 ≤ ms; omega⟩ dX6_both_8) (fun H locs hw => ?_)
    refine lv_if_ne (tgt := 16) hx hb dX6_both_11 (by decide) (fun c7 => ?_) (fun c7 => ?_)
    · replace hf := ite_f c7 hf
      revert hf
      refine k_inc (fun n1 k1 hf en ek => ?_)
      revert hf
      refine k_stp (fun q8 eq8 hf => ?_)
      revert hf
      refine k_stp (fun U9 eU9 hf => ?_)
      revert hf
      refine k_stp (fun T10 eT10 hf => ?_)
      refine nw_X17 C hw q1102 (by show _ ≤ mc; omega) (by show _ ≤ ms; omega) eq8 eU9 eT10 dX6_both_16 (fun H hw => ?_)
      replace hn := add_r hn en
      replace hk := add_r hk ek
      clear en ek
      generalize n1 = n at hf hn
      generalize k1 = k at hf hk
      refine lv_dup hx hb dX6_both_19 rfl ?_
      refine lv_iconst (v := (1 : Int32)) hx hb dX6_both_20 (by decide) ?_
      revert hf
      refine k_dcv (fun U13 T14 na ka n1 k1 h11 hf en ek => ?_)
      refine w_afv hw (w_rI (As := [.int (1 : Int32)]) C hw (ok_X17_init h11) (cw_X6_70 hts (by show _ ≤ (lv + 3); omega) (by show _ ≤ 64 * (lv + 3); omega)) rfl hl.1 rfl (Nat.le_of_ble_eq_true rfl) ⟨by show _ ≤ mc; omega, by show _ ≤ ms; omega⟩ dX6_both_21) (fun H locs hw => ?_)
      replace hn := add_r hn en
      replace hk := add_r hk ek
      clear en ek
      generalize n1 = n at hf hn
      generalize k1 = k at hf hk
      refine lv_astore_n (lv' := [(2, .ref (gb G + q8)), (1, .ref (gb G + r2)), (0, .ref (gb G + o))]) hx hb dX6_both_24 rfl hl (by decide) rfl (fun ls hl => ?_)
      refine lv_aload_n hx hb dX6_both_25 rfl (lv_at hl 0 rfl) ?_
      revert hf
      refine k_req (fun k15 hf => ?_)
      revert hf
      refine k_drf (fun r16 er16 hf => ?_)
      refine gf_X6_73 C hw k15 er16 dX6_both_26 ?_
      refine lv_aload_n hx hb dX6_both_29 rfl (lv_at hl 1 rfl) ?_
      revert hf
      refine k_dcl (fun z18 U19 T20 na ka n1 k1 h17 hf en ek => ?_)
      refine w_afi hw (w_rV (As := [.ref (gb G + r2)]) C hw (ok_J2_add h17) (cw_X6_77 hts (by show _ ≤ (lv + 3); omega) (by show _ ≤ 64 * (lv + 3); omega)) rfl (by decide) (of_req h17).1 rfl hl.1 rfl (Nat.le_of_ble_eq_true rfl) ⟨by show _ ≤ mc; omega, by show _ ≤ ms; omega⟩ dX6_both_30) (fun H locs hw => ?_)
      replace hn := add_r hn en
      replace hk := add_r hk ek
      clear en ek
      generalize n1 = n at hf hn
      generalize k1 = k at hf hk
      refine lv_pop hx hb dX6_both_33 rfl ?_
      refine lk_X6_both_34 C hr hno hlv hrtest (fun U35 T36 H locs ls cells slots n k hf hn hk hw hl => ?_) fuel _ _ _ _ _ _ _ _ _ hf hn hk hw (lv_sub hl [2, 0] rfl)
      refine lv_aload_n hx hb dX6_both_58 rfl (lv_at hl 0 rfl) ?_
      cases hf
      cases hn
      cases hk
      exact x_ret (w_aret C hr (Or.inl ⟨_, rfl⟩) (Or.inr ⟨_, rfl⟩) hw dX6_both_59)
    · replace hf := ite_t c7 hf
      refine lv_aload_n hx hb dX6_both_14 rfl (lv_at hl 0 rfl) ?_
      cases hf
      cases hn
      cases hk
      exact x_ret (w_aret C hr (Or.inl ⟨_, rfl⟩) (Or.inr ⟨_, rfl⟩) hw dX6_both_15)
  · cases hf
    refine x_out hw (xu_X6_83 (As := []) C hw (by show _ ≤ (lv + 3); omega) (by show _ ≤ 64 * (lv + 3); omega) (ok_X6_plain hlv hrtest h1) (of_req h1).1 hl.1 rfl (Nat.le_of_ble_eq_true rfl) ⟨by show _ ≤ mc; omega, by show _ ≤ ms; omega⟩ dX6_both_1) (fun H locs ce hw g1 g2 g3 => ?_)
    exact x_upE C hno hw g1 g2 g3 hn hk
set_option maxHeartbeats 4000000 in
theorem lk_X6_test_34 {l : Launch} {G : gG} {p : Program} {e : Env} {s : State} {m : MethodId} {args : Array Value} {below : List Frame} {meth : Method} {c : Code} {r : (Nat ⊕ Nat)} {V' : Vt} {T' : Tt} {mc ms : Nat} {rtest : Tt → Vt → Nat → Option (((Nat ⊕ Nat) × Vt × Tt) × Nat × Nat)} (C : Cx G p s m args meth c cX6_test RX6 3) (hr : meth.sig.returnType = (some (.object "SoleraCellar$Test"))) (hno : ∀ z ∈ c.exceptionTable.toList, False) {lv : Nat} (hlv : 80 ≤ lv) (hrtest : ∀ (T : Tt) (V : Vt) (o : Nat) (r : Nat ⊕ Nat) (V' : Vt) (T' : Tt) (n k : Nat), rtest T V o = some ((r, V', T'), n, k) → okX l G RX8 yX6_test cX6_test 3 (some (.object "SoleraCellar$Test")) lv [.ref (gb G + o)] V T (xR G r) V' T' n k) {x0 : Nat} {x2 : Nat} {kx34_58 : Vt → Tt → Option (((Nat ⊕ Nat) × Vt × Tt) × Nat × Nat)} (hkx34_58 : ∀ (W1 : Vt) (T1 : Tt) (H : Heap) (locs : List Loc) (ls : Array Slot) (cells slots n k : Nat), kx34_58 W1 T1 = some ((r, V', T'), n, k) → cells + n = mc → slots + k = ms → wS G W1 T1 H locs → lv_has ls 3 [(2, .ref (gb G + x2))] → W p l e (rmL (lv + 4) mc ms) s m args below meth c H locs cells slots (xQ G RX8 below (xR G r) V' T' args s mc ms) (F0 m 58 ls [])) : ∀ (nf : Nat) (V1 : Vt) (T1 : Tt) (H : Heap) (locs : List Loc) (ls : Array Slot) (cells slots n k : Nat), f_X6_test_L34 rtest x0 x2 kx34_58 nf V1 T1 = some ((r, V', T'), n, k) → cells + n = mc → slots + k = ms → wS G V1 T1 H locs → lv_has ls 3 [(0, .ref (gb G + x0)), (2, .ref (gb G + x2))] → W p l e (rmL (lv + 4) mc ms) s m args below meth c H locs cells slots (xQ G RX8 below (xR G r) V' T' args s mc ms) (F0 m 34 ls []) := by
  have hx := C.1
  have hb := C.2.1
  have hown := C.2.2.2.1
  have hts := C.2.2.2.2.1
  intro nf
  induction nf with
  | zero =>
    intro V1 T1 H locs ls cells slots n k hf
    cases hf
  | succ nf ih =>
    intro V1 T1 H locs ls cells slots n k hf hn hk hw hl
    unfold f_X6_test_L34 at hf
    refine lv_aload_n hx hb dX6_test_34 rfl (lv_at hl 0 rfl) ?_
    refine w_ldcS (k := 27) C rfl dX6_test_35 ?_
    revert hf
    refine k_cal (fun z22 U23 h21 hf => ?_)
    refine w_afi hw (wu_X6_46 (As := [.ref (adK G 27)]) C hw (by show _ ≤ (lv + 4); omega) (by show _ ≤ 64 * (lv + 4); omega) (ok_X6_takes h21) (of_req h21).1 hl.1 rfl (Nat.le_of_ble_eq_true rfl) ⟨by show _ + 0 ≤ mc; omega, by show _ + 0 ≤ ms; omega⟩ dX6_test_37) (fun H locs hw => ?_)
    refine lv_if_eq (tgt := 58) hx hb dX6_test_40 (by decide) (fun c24 => ?_) (fun c24 => ?_)
    · replace hf := ite_t c24 hf
      exact hkx34_58 _ _ _ _ _ _ _ _ _ hf hn hk hw (lv_sub hl [1] rfl)
    · replace hf := ite_f c24 hf
      refine lv_aload_n hx hb dX6_test_43 rfl (lv_at hl 1 rfl) ?_
      revert hf
      refine k_req (fun k25 hf => ?_)
      revert hf
      refine k_drf (fun r26 er26 hf => ?_)
      refine gf_X6_73 C hw k25 er26 dX6_test_44 ?_
      refine lv_aload_n hx hb dX6_test_47 rfl (lv_at hl 0 rfl) ?_
      rcases of_dxl hf with ⟨r28, U29, T30, na, ka, n1, k1, h27, hf, en, ek⟩ | ⟨r28, U29, T30, h27, hf⟩
      · refine x_in hw (xu_X6_62 (As := []) C hw (by show _ ≤ (lv + 4); omega) (by show _ ≤ 64 * (lv + 4); omega) (ok_X6_both hlv hrtest h27) (of_req h27).1 hl.1 rfl (Nat.le_of_ble_eq_true rfl) ⟨by show _ ≤ mc; omega, by show _ ≤ ms; omega⟩ dX6_test_48) (fun H locs hw => ?_)
        refine W.eq (g2 := F0 m 51 ls [.ref (gb G + r28), .ref (gb G + r26)]) rfl ?_
        replace hn := add_r hn en
        replace hk := add_r hk ek
        clear en ek
        generalize n1 = n at hf hn
        generalize k1 = k at hf hk
        revert hf
        refine k_dcl (fun z32 U33 T34 na ka n1 k1 h31 hf en ek => ?_)
        refine w_afi hw (w_rV (As := [.ref (gb G + r28)]) C hw (ok_J2_add h31) (cw_X6_77 hts (by show _ ≤ (lv + 4); omega) (by show _ ≤ 64 * (lv + 4); omega)) rfl (by decide) (of_req h31).1 rfl hl.1 rfl (Nat.le_of_ble_eq_true rfl) ⟨by show _ ≤ mc; omega, by show _ ≤ ms; omega⟩ dX6_test_51) (fun H locs hw => ?_)
        replace hn := add_r hn en
        replace hk := add_r hk ek
        clear en ek
        generalize n1 = n at hf hn
        generalize k1 = k at hf hk
        refine lv_pop hx hb dX6_test_54 rfl ?_
        refine lv_goto (tgt := 34) hx hb dX6_test_55 (by decide) ?_
        exact ih _ _ _ _ _ _ _ _ _ hf hn hk hw (lv_sub hl [0, 1] rfl)
      · cases hf
        refine x_out hw (xu_X6_62 (As := []) C hw (by show _ ≤ (lv + 4); omega) (by show _ ≤ 64 * (lv + 4); omega) (ok_X6_both hlv hrtest h27) (of_req h27).1 hl.1 rfl (Nat.le_of_ble_eq_true rfl) ⟨by show _ ≤ mc; omega, by show _ ≤ ms; omega⟩ dX6_test_48) (fun H locs ce hw g1 g2 g3 => ?_)
        exact x_upE C hno hw g1 g2 g3 hn hk
set_option maxHeartbeats 4000000 in
theorem ok_X6_test {l : Launch} {G : gG} {T : Tt} {V0 : Vt} {o : Nat} {r : (Nat ⊕ Nat)} {V' : Vt} {T' : Tt} {n k : Nat} {rtest : Tt → Vt → Nat → Option (((Nat ⊕ Nat) × Vt × Tt) × Nat × Nat)} {lv : Nat} (hlv : 80 ≤ lv) (hrtest : ∀ (T : Tt) (V : Vt) (o : Nat) (r : Nat ⊕ Nat) (V' : Vt) (T' : Tt) (n k : Nat), rtest T V o = some ((r, V', T'), n, k) → okX l G RX8 yX6_test cX6_test 3 (some (.object "SoleraCellar$Test")) lv [.ref (gb G + o)] V T (xR G r) V' T' n k) (hf : f_X6_test rtest T V0 o = some ((r, V', T'), n, k)) : okX l G RX8 yX6_test cX6_test 3 (some (.object "SoleraCellar$Test")) (lv + 4) [.ref (gb G + o)] V0 T (xR G r) V' T' n k := by
  refine okX_intro (by decide) (Nat.le_of_ble_eq_true rfl) ?_
  intro p e s m below meth c ls C hr hno hw hl
  have hx := C.1
  have hb := C.2.1
  have hown := C.2.2.2.1
  have hts := C.2.2.2.2.1
  have hl : lv_has ls 3 [(0, .ref (gb G + o))] := hl
  unfold f_X6_test at hf
  revert hf
  refine k_req (fun k0 hf => ?_)
  obtain ⟨mc, emc⟩ : ∃ mc, mc = n := ⟨_, rfl⟩
  obtain ⟨ms, ems⟩ : ∃ ms, ms = k := ⟨_, rfl⟩
  have hn : 0 + n = mc := by omega
  have hk : 0 + k = ms := by omega
  rw [← emc, ← ems]
  clear emc ems
  refine lv_aload_n hx hb dX6_test_0 rfl (lv_at hl 0 rfl) ?_
  rcases of_dxl hf with ⟨r2, U3, T4, na, ka, n1, k1, h1, hf, en, ek⟩ | ⟨r2, U3, T4, h1, hf⟩
  · refine x_in hw (xu_X6_62 (As := []) C hw (by show _ ≤ (lv + 4); omega) (by show _ ≤ 64 * (lv + 4); omega) (ok_X6_both hlv hrtest h1) (of_req h1).1 hl.1 rfl (Nat.le_of_ble_eq_true rfl) ⟨by show _ ≤ mc; omega, by show _ ≤ ms; omega⟩ dX6_test_1) (fun H locs hw => ?_)
    refine W.eq (g2 := F0 m 4 ls [.ref (gb G + r2)]) rfl ?_
    replace hn := add_r hn en
    replace hk := add_r hk ek
    clear en ek
    generalize n1 = n at hf hn
    generalize k1 = k at hf hk
    refine lv_astore_n (lv' := [(1, .ref (gb G + r2)), (0, .ref (gb G + o))]) hx hb dX6_test_4 rfl hl (by decide) rfl (fun ls hl => ?_)
    refine lv_aload_n hx hb dX6_test_5 rfl (lv_at hl 1 rfl) ?_
    refine w_ldcS (k := 27) C rfl dX6_test_6 ?_
    revert hf
    refine k_pcl (fun z6 h5 hf => ?_)
    refine w_afi hw (wu_X6_39 (As := [.ref (adK G 27)]) C hw (by show _ ≤ (lv + 4); omega) (by show _ ≤ 64 * (lv + 4); omega) (ok_X6_is h5) (of_req h5).1 hl.1 rfl (Nat.le_of_ble_eq_true rfl) ⟨by show _ + 0 ≤ mc; omega, by show _ + 0 ≤ ms; omega⟩ dX6_test_8) (fun H locs hw => ?_)
    refine lv_if_ne (tgt := 16) hx hb dX6_test_11 (by decide) (fun c7 => ?_) (fun c7 => ?_)
    · replace hf := ite_f c7 hf
      revert hf
      refine k_inc (fun n1 k1 hf en ek => ?_)
      revert hf
      refine k_stp (fun q8 eq8 hf => ?_)
      revert hf
      refine k_stp (fun U9 eU9 hf => ?_)
      revert hf
      refine k_stp (fun T10 eT10 hf => ?_)
      refine nw_X17 C hw q1102 (by show _ ≤ mc; omega) (by show _ ≤ ms; omega) eq8 eU9 eT10 dX6_test_16 (fun H hw => ?_)
      replace hn := add_r hn en
      replace hk := add_r hk ek
      clear en ek
      generalize n1 = n at hf hn
      generalize k1 = k at hf hk
      refine lv_dup hx hb dX6_test_19 rfl ?_
      refine lv_iconst (v := (0 : Int32)) hx hb dX6_test_20 (by decide) ?_
      revert hf
      refine k_dcv (fun U13 T14 na ka n1 k1 h11 hf en ek => ?_)
      refine w_afv hw (w_rI (As := [.int (0 : Int32)]) C hw (ok_X17_init h11) (cw_X6_70 hts (by show _ ≤ (lv + 4); omega) (by show _ ≤ 64 * (lv + 4); omega)) rfl hl.1 rfl (Nat.le_of_ble_eq_true rfl) ⟨by show _ ≤ mc; omega, by show _ ≤ ms; omega⟩ dX6_test_21) (fun H locs hw => ?_)
      replace hn := add_r hn en
      replace hk := add_r hk ek
      clear en ek
      generalize n1 = n at hf hn
      generalize k1 = k at hf hk
      refine lv_astore_n (lv' := [(2, .ref (gb G + q8)), (1, .ref (gb G + r2)), (0, .ref (gb G + o))]) hx hb dX6_test_24 rfl hl (by decide) rfl (fun ls hl => ?_)
      refine lv_aload_n hx hb dX6_test_25 rfl (lv_at hl 0 rfl) ?_
      revert hf
      refine k_req (fun k15 hf => ?_)
      revert hf
      refine k_drf (fun r16 er16 hf => ?_)
      refine gf_X6_73 C hw k15 er16 dX6_test_26 ?_
      refine lv_aload_n hx hb dX6_test_29 rfl (lv_at hl 1 rfl) ?_
      revert hf
      refine k_dcl (fun z18 U19 T20 na ka n1 k1 h17 hf en ek => ?_)
      refine w_afi hw (w_rV (As := [.ref (gb G + r2)]) C hw (ok_J2_add h17) (cw_X6_77 hts (by show _ ≤ (lv + 4); omega) (by show _ ≤ 64 * (lv + 4); omega)) rfl (by decide) (of_req h17).1 rfl hl.1 rfl (Nat.le_of_ble_eq_true rfl) ⟨by show _ ≤ mc; omega, by show _ ≤ ms; omega⟩ dX6_test_30) (fun H locs hw => ?_)
      replace hn := add_r hn en
      replace hk := add_r hk ek
      clear en ek
      generalize n1 = n at hf hn
      generalize k1 = k at hf hk
      refine lv_pop hx hb dX6_test_33 rfl ?_
      refine lk_X6_test_34 C hr hno hlv hrtest (fun U35 T36 H locs ls cells slots n k hf hn hk hw hl => ?_) fuel _ _ _ _ _ _ _ _ _ hf hn hk hw (lv_sub hl [2, 0] rfl)
      refine lv_aload_n hx hb dX6_test_58 rfl (lv_at hl 0 rfl) ?_
      cases hf
      cases hn
      cases hk
      exact x_ret (w_aret C hr (Or.inl ⟨_, rfl⟩) (Or.inr ⟨_, rfl⟩) hw dX6_test_59)
    · replace hf := ite_t c7 hf
      refine lv_aload_n hx hb dX6_test_14 rfl (lv_at hl 0 rfl) ?_
      cases hf
      cases hn
      cases hk
      exact x_ret (w_aret C hr (Or.inl ⟨_, rfl⟩) (Or.inr ⟨_, rfl⟩) hw dX6_test_15)
  · cases hf
    refine x_out hw (xu_X6_62 (As := []) C hw (by show _ ≤ (lv + 4); omega) (by show _ ≤ 64 * (lv + 4); omega) (ok_X6_both hlv hrtest h1) (of_req h1).1 hl.1 rfl (Nat.le_of_ble_eq_true rfl) ⟨by show _ ≤ mc; omega, by show _ ≤ ms; omega⟩ dX6_test_1) (fun H locs ce hw g1 g2 g3 => ?_)
    exact x_upE C hno hw g1 g2 g3 hn hk
def f_testR : Nat → Tt → Vt → Nat → Option (((Nat ⊕ Nat) × Vt × Tt) × Nat × Nat)
  | 0, _, _, _ => none
  | d + 1, T, V, o => f_X6_test (f_testR d) T V o
theorem testR_d {l : Launch} {G : gG} : ∀ (d : Nat) (T : Tt) (V : Vt) (o : Nat) (r : Nat ⊕ Nat) (V' : Vt) (T' : Tt) (n k : Nat), f_testR d T V o = some ((r, V', T'), n, k) → okX l G RX8 yX6_test cX6_test 3 (some (.object "SoleraCellar$Test")) (80 + 4 * d) [.ref (gb G + o)] V T (xR G r) V' T' n k := by
  intro d
  induction d with
  | zero => intro T V o r V' T' n k h; cases h
  | succ d ih =>
    intro T V o r V' T' n k h
    have g := ok_X6_test (lv := 80 + 4 * d) (by omega) ih h
    exact g
theorem ok_testR {l : Launch} {G : gG} {T : Tt} {V : Vt} {o : Nat} {r : Nat ⊕ Nat} {V' : Vt} {T' : Tt} {n k : Nat} (h : f_testR fuelP T V o = some ((r, V', T'), n, k)) : okX l G RX8 yX6_test cX6_test 3 (some (.object "SoleraCellar$Test")) 128 [.ref (gb G + o)] V T (xR G r) V' T' n k := testR_d fuelP T V o r V' T' n k h
