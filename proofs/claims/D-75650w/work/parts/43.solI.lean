set_option maxRecDepth 100000
set_option maxHeartbeats 4000000 in
theorem lk_X0_init_159 {l : Launch} {G : gG} {p : Program} {e : Env} {s : State} {m : MethodId} {args : Array Value} {below : List Frame} {meth : Method} {c : Code} {V' : Vt} {T' : Tt} {mc ms : Nat} (C : Cx G p s m args meth c cX0_init RX0 2) (hr : meth.sig.returnType = none) (hnm : meth.name = "<init>") {x0 : Nat} {kx159_197 : Vt → Tt → Option ((Vt × Tt) × Nat × Nat)} (hkx159_197 : ∀ (W1 : Vt) (T1 : Tt) (H : Heap) (locs : List Loc) (ls : Array Slot) (cells slots n k : Nat), kx159_197 W1 T1 = some ((V', T'), n, k) → cells + n = mc → slots + k = ms → wS G W1 T1 H locs → lv_has ls 2 [] → W p l e (rmL 6 mc ms) s m args below meth c H locs cells slots (eQ G below none V' T' args s mc ms) (F0 m 197 ls [])) : ∀ (nf : Nat) (x1 : Int32) (V1 : Vt) (T1 : Tt) (H : Heap) (locs : List Loc) (ls : Array Slot) (cells slots n k : Nat), f_X0_init_L159 x0 kx159_197 nf x1 V1 T1 = some ((V', T'), n, k) → cells + n = mc → slots + k = ms → wS G V1 T1 H locs → lv_has ls 2 [(0, .ref (gb G + x0)), (1, .int x1)] → W p l e (rmL 6 mc ms) s m args below meth c H locs cells slots (eQ G below none V' T' args s mc ms) (F0 m 159 ls []) := by
  have hx := C.1
  have hb := C.2.1
  have hown := C.2.2.2.1
  have hts := C.2.2.2.2.1
  intro nf
  induction nf with
  | zero =>
    intro x1 V1 T1 H locs ls cells slots n k hf
    cases hf
  | succ nf ih =>
    intro x1 V1 T1 H locs ls cells slots n k hf hn hk hw hl
    unfold f_X0_init_L159 at hf
    refine lv_iload_n hx hb dX0_init_159 rfl (lv_at hl 1 rfl) ?_
    refine lv_bipush (v := (16 : Int32)) hx hb dX0_init_160 (by decide) ?_
    refine lv_icmp_ge (tgt := 197) hx hb dX0_init_162 (by decide) (fun c109 => ?_) (fun c109 => ?_)
    · replace hf := ite_t c109 hf
      exact hkx159_197 _ _ _ _ _ _ _ _ _ hf hn hk hw (lv_sub hl [] rfl)
    · replace hf := ite_f c109 hf
      refine lv_aload_n hx hb dX0_init_165 rfl (lv_at hl 0 rfl) ?_
      revert hf
      refine k_req (fun k110 hf => ?_)
      revert hf
      refine k_drf (fun r111 er111 hf => ?_)
      refine gf_X0_41 C hw k110 er111 dX0_init_166 ?_
      refine lv_iload_n hx hb dX0_init_169 rfl (lv_at hl 1 rfl) ?_
      revert hf
      refine k_inc (fun n1 k1 hf en ek => ?_)
      revert hf
      refine k_stp (fun q112 eq112 hf => ?_)
      revert hf
      refine k_stp (fun U113 eU113 hf => ?_)
      revert hf
      refine k_stp (fun T114 eT114 hf => ?_)
      refine nw_X2 C hw q280 (by show _ ≤ mc; omega) (by show _ ≤ ms; omega) eq112 eU113 eT114 dX0_init_170 (fun H hw => ?_)
      replace hn := add_r hn en
      replace hk := add_r hk ek
      clear en ek
      generalize n1 = n at hf hn
      generalize k1 = k at hf hk
      refine lv_dup hx hb dX0_init_173 rfl ?_
      revert hf
      refine k_dcv (fun U117 T118 na ka n1 k1 h115 hf en ek => ?_)
      refine w_afv hw (w_rIN (As := []) C hw (ok_X2_init h115) (cw_X0_54 C (Nat.le_of_ble_eq_true rfl) (Nat.le_of_ble_eq_true rfl)) rfl hl.1 rfl (Nat.le_of_ble_eq_true rfl) ⟨by show _ ≤ mc; omega, by show _ ≤ ms; omega⟩ dX0_init_174) (fun H locs hw => ?_)
      replace hn := add_r hn en
      replace hk := add_r hk ek
      clear en ek
      generalize n1 = n at hf hn
      generalize k1 = k at hf hk
      revert hf
      refine k_req (fun h119 hf => ?_)
      revert hf
      refine k_req (fun h120 hf => ?_)
      revert hf
      refine k_stp (fun U121 eU121 hf => ?_)
      refine w_aast5 C hw h119 h120 eU121 dX0_init_177 (fun H locs hw => ?_)
      refine lv_aload_n hx hb dX0_init_178 rfl (lv_at hl 0 rfl) ?_
      revert hf
      refine k_req (fun k122 hf => ?_)
      revert hf
      refine k_drf (fun r123 er123 hf => ?_)
      refine gf_X0_45 C hw k122 er123 dX0_init_179 ?_
      refine lv_iload_n hx hb dX0_init_182 rfl (lv_at hl 1 rfl) ?_
      revert hf
      refine k_inc (fun n1 k1 hf en ek => ?_)
      revert hf
      refine k_stp (fun q124 eq124 hf => ?_)
      revert hf
      refine k_stp (fun U125 eU125 hf => ?_)
      revert hf
      refine k_stp (fun T126 eT126 hf => ?_)
      refine nw_X2 C hw q280 (by show _ ≤ mc; omega) (by show _ ≤ ms; omega) eq124 eU125 eT126 dX0_init_183 (fun H hw => ?_)
      replace hn := add_r hn en
      replace hk := add_r hk ek
      clear en ek
      generalize n1 = n at hf hn
      generalize k1 = k at hf hk
      refine lv_dup hx hb dX0_init_186 rfl ?_
      revert hf
      refine k_dcv (fun U129 T130 na ka n1 k1 h127 hf en ek => ?_)
      refine w_afv hw (w_rIN (As := []) C hw (ok_X2_init h127) (cw_X0_54 C (Nat.le_of_ble_eq_true rfl) (Nat.le_of_ble_eq_true rfl)) rfl hl.1 rfl (Nat.le_of_ble_eq_true rfl) ⟨by show _ ≤ mc; omega, by show _ ≤ ms; omega⟩ dX0_init_187) (fun H locs hw => ?_)
      replace hn := add_r hn en
      replace hk := add_r hk ek
      clear en ek
      generalize n1 = n at hf hn
      generalize k1 = k at hf hk
      revert hf
      refine k_req (fun h131 hf => ?_)
      revert hf
      refine k_req (fun h132 hf => ?_)
      revert hf
      refine k_stp (fun U133 eU133 hf => ?_)
      refine w_aast5 C hw h131 h132 eU133 dX0_init_190 (fun H locs hw => ?_)
      revert hf
      refine k_stp (fun z134 ez134 hf => ?_)
      refine lv_iinc (k := 1) (lv' := [(1, .int z134), (0, .ref (gb G + x0))]) hx hb dX0_init_191 hl rfl (inc_e (by decide) ez134) (by decide) rfl (fun ls hl => ?_)
      refine lv_goto (tgt := 159) hx hb dX0_init_194 (by decide) ?_
      exact ih _ _ _ _ _ _ _ _ _ _ hf hn hk hw (lv_sub hl [1, 0] rfl)
set_option maxHeartbeats 4000000 in
theorem ok_X0_init {l : Launch} {G : gG} {T : Tt} {V0 : Vt} {o : Nat} {V' : Vt} {T' : Tt} {n k : Nat} (hf : f_X0_init T V0 o = some ((V', T'), n, k)) : okM l G yX0_init cX0_init 2 none 6 [.ref (gb G + o)] V0 T none V' T' n k := by
  refine ok_intro (by decide) (Nat.le_of_ble_eq_true rfl) ?_
  intro p e s m below meth c ls C hr hnm hw hl
  have hx := C.1
  have hb := C.2.1
  have hown := C.2.2.2.1
  have hts := C.2.2.2.2.1
  have hl : lv_has ls 2 [(0, .ref (gb G + o))] := hl
  unfold f_X0_init at hf
  revert hf
  refine k_req (fun k0 hf => ?_)
  obtain ⟨mc, emc⟩ : ∃ mc, mc = n := ⟨_, rfl⟩
  obtain ⟨ms, ems⟩ : ∃ ms, ms = k := ⟨_, rfl⟩
  have hn : 0 + n = mc := by omega
  have hk : 0 + k = ms := by omega
  rw [← emc, ← ems]
  clear emc ems
  refine lv_aload_n hx hb dX0_init_0 rfl (lv_at hl 0 rfl) ?_
  refine W.objInit hx hb hown (hts _ q173) (hts _ q174) (hts _ q175) rfl (by rw [C.2.2.1]; exact hl.1) rfl dX0_init_1 (Nat.le_of_ble_eq_true rfl) (Nat.le_of_ble_eq_true rfl) ?_
  refine W.eq (g2 := F0 m 4 ls []) rfl ?_
  refine lv_aload_n hx hb dX0_init_4 rfl (lv_at hl 0 rfl) ?_
  refine lv_bipush (v := (7 : Int32)) hx hb dX0_init_5 (by decide) ?_
  revert hf
  refine k_req (fun h1 hf => ?_)
  revert hf
  refine k_inc (fun n1 k1 hf en ek => ?_)
  revert hf
  refine k_stp (fun q2 eq2 hf => ?_)
  revert hf
  refine k_stp (fun U3 eU3 hf => ?_)
  revert hf
  refine k_stp (fun T4 eT4 hf => ?_)
  refine w_newa (t := 0) (atype := .int) C hw (by decide) rfl q201 h1.1 h1.2 (by show _ ≤ mc; omega) (by show _ ≤ ms; omega) eq2 eU3 eT4 dX0_init_7 (fun H hw => ?_)
  replace hn := add_r hn en
  replace hk := add_r hk ek
  clear en ek
  generalize n1 = n at hf hn
  generalize k1 = k at hf hk
  revert hf
  refine k_req (fun k5 hf => ?_)
  revert hf
  refine k_stp (fun U6 eU6 hf => ?_)
  refine pf_X0_7 C hw k5 hnm eU6 dX0_init_9 (fun H locs hw => ?_)
  refine lv_aload_n hx hb dX0_init_12 rfl (lv_at hl 0 rfl) ?_
  revert hf
  refine k_inc (fun n1 k1 hf en ek => ?_)
  revert hf
  refine k_stp (fun q7 eq7 hf => ?_)
  revert hf
  refine k_stp (fun U8 eU8 hf => ?_)
  revert hf
  refine k_stp (fun T9 eT9 hf => ?_)
  refine nw_X1 C hw q176 (by show _ ≤ mc; omega) (by show _ ≤ ms; omega) eq7 eU8 eT9 dX0_init_13 (fun H hw => ?_)
  replace hn := add_r hn en
  replace hk := add_r hk ek
  clear en ek
  generalize n1 = n at hf hn
  generalize k1 = k at hf hk
  refine lv_dup hx hb dX0_init_16 rfl ?_
  revert hf
  refine k_dcv (fun U12 T13 na ka n1 k1 h10 hf en ek => ?_)
  refine w_afv hw (w_rIN (As := []) C hw (ok_X1_init h10) (cw_X0_30 C (Nat.le_of_ble_eq_true rfl) (Nat.le_of_ble_eq_true rfl)) rfl hl.1 rfl (Nat.le_of_ble_eq_true rfl) ⟨by show _ ≤ mc; omega, by show _ ≤ ms; omega⟩ dX0_init_17) (fun H locs hw => ?_)
  replace hn := add_r hn en
  replace hk := add_r hk ek
  clear en ek
  generalize n1 = n at hf hn
  generalize k1 = k at hf hk
  revert hf
  refine k_req (fun k14 hf => ?_)
  revert hf
  refine k_stp (fun U15 eU15 hf => ?_)
  refine pf_X0_31 C hw k14 hnm eU15 dX0_init_20 (fun H locs hw => ?_)
  refine lv_aload_n hx hb dX0_init_23 rfl (lv_at hl 0 rfl) ?_
  refine lv_iconst (v := (2 : Int32)) hx hb dX0_init_24 (by decide) ?_
  revert hf
  refine k_req (fun h16 hf => ?_)
  revert hf
  refine k_inc (fun n1 k1 hf en ek => ?_)
  revert hf
  refine k_stp (fun q17 eq17 hf => ?_)
  revert hf
  refine k_stp (fun U18 eU18 hf => ?_)
  revert hf
  refine k_stp (fun T19 eT19 hf => ?_)
  refine w_anew (t := 6) C hw (by decide) (by decide) rfl q176 q279 h16.1 h16.2 (by show _ ≤ mc; omega) (by show _ ≤ ms; omega) eq17 eU18 eT19 dX0_init_25 (fun H hw => ?_)
  replace hn := add_r hn en
  replace hk := add_r hk ek
  clear en ek
  generalize n1 = n at hf hn
  generalize k1 = k at hf hk
  revert hf
  refine k_req (fun k20 hf => ?_)
  revert hf
  refine k_stp (fun U21 eU21 hf => ?_)
  refine pf_X0_35 C hw k20 hnm eU21 dX0_init_28 (fun H locs hw => ?_)
  refine lv_aload_n hx hb dX0_init_31 rfl (lv_at hl 0 rfl) ?_
  refine lv_bipush (v := (16 : Int32)) hx hb dX0_init_32 (by decide) ?_
  revert hf
  refine k_req (fun h22 hf => ?_)
  revert hf
  refine k_inc (fun n1 k1 hf en ek => ?_)
  revert hf
  refine k_stp (fun q23 eq23 hf => ?_)
  revert hf
  refine k_stp (fun U24 eU24 hf => ?_)
  revert hf
  refine k_stp (fun T25 eT25 hf => ?_)
  refine w_anew (t := 5) C hw (by decide) (by decide) rfl q280 q281 h22.1 h22.2 (by show _ ≤ mc; omega) (by show _ ≤ ms; omega) eq23 eU24 eT25 dX0_init_34 (fun H hw => ?_)
  replace hn := add_r hn en
  replace hk := add_r hk ek
  clear en ek
  generalize n1 = n at hf hn
  generalize k1 = k at hf hk
  revert hf
  refine k_req (fun k26 hf => ?_)
  revert hf
  refine k_stp (fun U27 eU27 hf => ?_)
  refine pf_X0_41 C hw k26 hnm eU27 dX0_init_37 (fun H locs hw => ?_)
  refine lv_aload_n hx hb dX0_init_40 rfl (lv_at hl 0 rfl) ?_
  refine lv_bipush (v := (16 : Int32)) hx hb dX0_init_41 (by decide) ?_
  revert hf
  refine k_req (fun h28 hf => ?_)
  revert hf
  refine k_inc (fun n1 k1 hf en ek => ?_)
  revert hf
  refine k_stp (fun q29 eq29 hf => ?_)
  revert hf
  refine k_stp (fun U30 eU30 hf => ?_)
  revert hf
  refine k_stp (fun T31 eT31 hf => ?_)
  refine w_anew (t := 5) C hw (by decide) (by decide) rfl q280 q281 h28.1 h28.2 (by show _ ≤ mc; omega) (by show _ ≤ ms; omega) eq29 eU30 eT31 dX0_init_43 (fun H hw => ?_)
  replace hn := add_r hn en
  replace hk := add_r hk ek
  clear en ek
  generalize n1 = n at hf hn
  generalize k1 = k at hf hk
  revert hf
  refine k_req (fun k32 hf => ?_)
  revert hf
  refine k_stp (fun U33 eU33 hf => ?_)
  refine pf_X0_45 C hw k32 hnm eU33 dX0_init_46 (fun H locs hw => ?_)
  refine lv_aload_n hx hb dX0_init_49 rfl (lv_at hl 0 rfl) ?_
  refine lv_bipush (v := (16 : Int32)) hx hb dX0_init_50 (by decide) ?_
  revert hf
  refine k_req (fun h34 hf => ?_)
  revert hf
  refine k_inc (fun n1 k1 hf en ek => ?_)
  revert hf
  refine k_stp (fun q35 eq35 hf => ?_)
  revert hf
  refine k_stp (fun U36 eU36 hf => ?_)
  revert hf
  refine k_stp (fun T37 eT37 hf => ?_)
  refine w_newa (t := 0) (atype := .int) C hw (by decide) rfl q201 h34.1 h34.2 (by show _ ≤ mc; omega) (by show _ ≤ ms; omega) eq35 eU36 eT37 dX0_init_52 (fun H hw => ?_)
  replace hn := add_r hn en
  replace hk := add_r hk ek
  clear en ek
  generalize n1 = n at hf hn
  generalize k1 = k at hf hk
  revert hf
  refine k_req (fun k38 hf => ?_)
  revert hf
  refine k_stp (fun U39 eU39 hf => ?_)
  refine pf_X0_48 C hw k38 hnm eU39 dX0_init_54 (fun H locs hw => ?_)
  refine lv_aload_n hx hb dX0_init_57 rfl (lv_at hl 0 rfl) ?_
  refine lv_bipush (v := (16 : Int32)) hx hb dX0_init_58 (by decide) ?_
  revert hf
  refine k_req (fun h40 hf => ?_)
  revert hf
  refine k_inc (fun n1 k1 hf en ek => ?_)
  revert hf
  refine k_stp (fun q41 eq41 hf => ?_)
  revert hf
  refine k_stp (fun U42 eU42 hf => ?_)
  revert hf
  refine k_stp (fun T43 eT43 hf => ?_)
  refine w_newa (t := 0) (atype := .int) C hw (by decide) rfl q201 h40.1 h40.2 (by show _ ≤ mc; omega) (by show _ ≤ ms; omega) eq41 eU42 eT43 dX0_init_60 (fun H hw => ?_)
  replace hn := add_r hn en
  replace hk := add_r hk ek
  clear en ek
  generalize n1 = n at hf hn
  generalize k1 = k at hf hk
  revert hf
  refine k_req (fun k44 hf => ?_)
  revert hf
  refine k_stp (fun U45 eU45 hf => ?_)
  refine pf_X0_51 C hw k44 hnm eU45 dX0_init_62 (fun H locs hw => ?_)
  refine lv_aload_n hx hb dX0_init_65 rfl (lv_at hl 0 rfl) ?_
  revert hf
  refine k_inc (fun n1 k1 hf en ek => ?_)
  revert hf
  refine k_stp (fun q46 eq46 hf => ?_)
  revert hf
  refine k_stp (fun U47 eU47 hf => ?_)
  revert hf
  refine k_stp (fun T48 eT48 hf => ?_)
  refine nw_X2 C hw q280 (by show _ ≤ mc; omega) (by show _ ≤ ms; omega) eq46 eU47 eT48 dX0_init_66 (fun H hw => ?_)
  replace hn := add_r hn en
  replace hk := add_r hk ek
  clear en ek
  generalize n1 = n at hf hn
  generalize k1 = k at hf hk
  refine lv_dup hx hb dX0_init_69 rfl ?_
  revert hf
  refine k_dcv (fun U51 T52 na ka n1 k1 h49 hf en ek => ?_)
  refine w_afv hw (w_rIN (As := []) C hw (ok_X2_init h49) (cw_X0_54 C (Nat.le_of_ble_eq_true rfl) (Nat.le_of_ble_eq_true rfl)) rfl hl.1 rfl (Nat.le_of_ble_eq_true rfl) ⟨by show _ ≤ mc; omega, by show _ ≤ ms; omega⟩ dX0_init_70) (fun H locs hw => ?_)
  replace hn := add_r hn en
  replace hk := add_r hk ek
  clear en ek
  generalize n1 = n at hf hn
  generalize k1 = k at hf hk
  revert hf
  refine k_req (fun k53 hf => ?_)
  revert hf
  refine k_stp (fun U54 eU54 hf => ?_)
  refine pf_X0_55 C hw k53 hnm eU54 dX0_init_73 (fun H locs hw => ?_)
  refine lv_aload_n hx hb dX0_init_76 rfl (lv_at hl 0 rfl) ?_
  revert hf
  refine k_inc (fun n1 k1 hf en ek => ?_)
  revert hf
  refine k_stp (fun q55 eq55 hf => ?_)
  revert hf
  refine k_stp (fun U56 eU56 hf => ?_)
  revert hf
  refine k_stp (fun T57 eT57 hf => ?_)
  refine nw_X2 C hw q280 (by show _ ≤ mc; omega) (by show _ ≤ ms; omega) eq55 eU56 eT57 dX0_init_77 (fun H hw => ?_)
  replace hn := add_r hn en
  replace hk := add_r hk ek
  clear en ek
  generalize n1 = n at hf hn
  generalize k1 = k at hf hk
  refine lv_dup hx hb dX0_init_80 rfl ?_
  revert hf
  refine k_dcv (fun U60 T61 na ka n1 k1 h58 hf en ek => ?_)
  refine w_afv hw (w_rIN (As := []) C hw (ok_X2_init h58) (cw_X0_54 C (Nat.le_of_ble_eq_true rfl) (Nat.le_of_ble_eq_true rfl)) rfl hl.1 rfl (Nat.le_of_ble_eq_true rfl) ⟨by show _ ≤ mc; omega, by show _ ≤ ms; omega⟩ dX0_init_81) (fun H locs hw => ?_)
  replace hn := add_r hn en
  replace hk := add_r hk ek
  clear en ek
  generalize n1 = n at hf hn
  generalize k1 = k at hf hk
  revert hf
  refine k_req (fun k62 hf => ?_)
  revert hf
  refine k_stp (fun U63 eU63 hf => ?_)
  refine pf_X0_59 C hw k62 hnm eU63 dX0_init_84 (fun H locs hw => ?_)
  refine lv_aload_n hx hb dX0_init_87 rfl (lv_at hl 0 rfl) ?_
  refine lv_sipush (v := (400 : Int32)) hx hb dX0_init_88 (by decide) ?_
  revert hf
  refine k_req (fun h64 hf => ?_)
  revert hf
  refine k_inc (fun n1 k1 hf en ek => ?_)
  revert hf
  refine k_stp (fun q65 eq65 hf => ?_)
  revert hf
  refine k_stp (fun U66 eU66 hf => ?_)
  revert hf
  refine k_stp (fun T67 eT67 hf => ?_)
  refine w_newa (t := 2) (atype := .byte) C hw (by decide) rfl q349 h64.1 h64.2 (by show _ ≤ mc; omega) (by show _ ≤ ms; omega) eq65 eU66 eT67 dX0_init_91 (fun H hw => ?_)
  replace hn := add_r hn en
  replace hk := add_r hk ek
  clear en ek
  generalize n1 = n at hf hn
  generalize k1 = k at hf hk
  revert hf
  refine k_req (fun k68 hf => ?_)
  revert hf
  refine k_stp (fun U69 eU69 hf => ?_)
  refine pf_X0_62 C hw k68 hnm eU69 dX0_init_93 (fun H locs hw => ?_)
  refine lv_aload_n hx hb dX0_init_96 rfl (lv_at hl 0 rfl) ?_
  refine lv_iconst (v := ((-1) : Int32)) hx hb dX0_init_97 (by decide) ?_
  revert hf
  refine k_stp (fun U70 eU70 hf => ?_)
  refine pf_X0_66 C hw k68 eU70 dX0_init_98 (fun H locs hw => ?_)
  refine lv_aload_n hx hb dX0_init_101 rfl (lv_at hl 0 rfl) ?_
  refine lv_iconst (v := ((-1) : Int32)) hx hb dX0_init_102 (by decide) ?_
  revert hf
  refine k_stp (fun U71 eU71 hf => ?_)
  refine pf_X0_69 C hw k68 eU71 dX0_init_103 (fun H locs hw => ?_)
  refine lv_aload_n hx hb dX0_init_106 rfl (lv_at hl 0 rfl) ?_
  revert hf
  refine k_inc (fun n1 k1 hf en ek => ?_)
  revert hf
  refine k_stp (fun q72 eq72 hf => ?_)
  revert hf
  refine k_stp (fun U73 eU73 hf => ?_)
  revert hf
  refine k_stp (fun T74 eT74 hf => ?_)
  refine nw_X3 C hw q283 (by show _ ≤ mc; omega) (by show _ ≤ ms; omega) eq72 eU73 eT74 dX0_init_107 (fun H hw => ?_)
  replace hn := add_r hn en
  replace hk := add_r hk ek
  clear en ek
  generalize n1 = n at hf hn
  generalize k1 = k at hf hk
  refine lv_dup hx hb dX0_init_110 rfl ?_
  revert hf
  refine k_dcv (fun U77 T78 na ka n1 k1 h75 hf en ek => ?_)
  refine w_afv hw (w_rIN (As := []) C hw (ok_X3_init h75) (cw_X0_74 C (Nat.le_of_ble_eq_true rfl) (Nat.le_of_ble_eq_true rfl)) rfl hl.1 rfl (Nat.le_of_ble_eq_true rfl) ⟨by show _ ≤ mc; omega, by show _ ≤ ms; omega⟩ dX0_init_111) (fun H locs hw => ?_)
  replace hn := add_r hn en
  replace hk := add_r hk ek
  clear en ek
  generalize n1 = n at hf hn
  generalize k1 = k at hf hk
  revert hf
  refine k_req (fun k79 hf => ?_)
  revert hf
  refine k_stp (fun U80 eU80 hf => ?_)
  refine pf_X0_75 C hw k79 hnm eU80 dX0_init_114 (fun H locs hw => ?_)
  refine lv_aload_n hx hb dX0_init_117 rfl (lv_at hl 0 rfl) ?_
  refine lv_bipush (v := (20 : Int32)) hx hb dX0_init_118 (by decide) ?_
  revert hf
  refine k_req (fun h81 hf => ?_)
  revert hf
  refine k_inc (fun n1 k1 hf en ek => ?_)
  revert hf
  refine k_stp (fun q82 eq82 hf => ?_)
  revert hf
  refine k_stp (fun U83 eU83 hf => ?_)
  revert hf
  refine k_stp (fun T84 eT84 hf => ?_)
  refine w_newa (t := 0) (atype := .int) C hw (by decide) rfl q201 h81.1 h81.2 (by show _ ≤ mc; omega) (by show _ ≤ ms; omega) eq82 eU83 eT84 dX0_init_120 (fun H hw => ?_)
  replace hn := add_r hn en
  replace hk := add_r hk ek
  clear en ek
  generalize n1 = n at hf hn
  generalize k1 = k at hf hk
  revert hf
  refine k_req (fun k85 hf => ?_)
  revert hf
  refine k_stp (fun U86 eU86 hf => ?_)
  refine pf_X0_79 C hw k85 hnm eU86 dX0_init_122 (fun H locs hw => ?_)
  refine lv_aload_n hx hb dX0_init_125 rfl (lv_at hl 0 rfl) ?_
  refine lv_bipush (v := (8 : Int32)) hx hb dX0_init_126 (by decide) ?_
  revert hf
  refine k_req (fun h87 hf => ?_)
  revert hf
  refine k_inc (fun n1 k1 hf en ek => ?_)
  revert hf
  refine k_stp (fun q88 eq88 hf => ?_)
  revert hf
  refine k_stp (fun U89 eU89 hf => ?_)
  revert hf
  refine k_stp (fun T90 eT90 hf => ?_)
  refine w_newa (t := 0) (atype := .int) C hw (by decide) rfl q201 h87.1 h87.2 (by show _ ≤ mc; omega) (by show _ ≤ ms; omega) eq88 eU89 eT90 dX0_init_128 (fun H hw => ?_)
  replace hn := add_r hn en
  replace hk := add_r hk ek
  clear en ek
  generalize n1 = n at hf hn
  generalize k1 = k at hf hk
  revert hf
  refine k_req (fun k91 hf => ?_)
  revert hf
  refine k_stp (fun U92 eU92 hf => ?_)
  refine pf_X0_82 C hw k91 hnm eU92 dX0_init_130 (fun H locs hw => ?_)
  refine lv_aload_n hx hb dX0_init_133 rfl (lv_at hl 0 rfl) ?_
  refine lv_bipush (v := (21 : Int32)) hx hb dX0_init_134 (by decide) ?_
  revert hf
  refine k_req (fun h93 hf => ?_)
  revert hf
  refine k_inc (fun n1 k1 hf en ek => ?_)
  revert hf
  refine k_stp (fun q94 eq94 hf => ?_)
  revert hf
  refine k_stp (fun U95 eU95 hf => ?_)
  revert hf
  refine k_stp (fun T96 eT96 hf => ?_)
  refine w_newa (t := 1) (atype := .long) C hw (by decide) rfl q360 h93.1 h93.2 (by show _ ≤ mc; omega) (by show _ ≤ ms; omega) eq94 eU95 eT96 dX0_init_136 (fun H hw => ?_)
  replace hn := add_r hn en
  replace hk := add_r hk ek
  clear en ek
  generalize n1 = n at hf hn
  generalize k1 = k at hf hk
  revert hf
  refine k_req (fun k97 hf => ?_)
  revert hf
  refine k_stp (fun U98 eU98 hf => ?_)
  refine pf_X0_85 C hw k97 hnm eU98 dX0_init_138 (fun H locs hw => ?_)
  refine lv_aload_n hx hb dX0_init_141 rfl (lv_at hl 0 rfl) ?_
  revert hf
  refine k_inc (fun n1 k1 hf en ek => ?_)
  revert hf
  refine k_stp (fun q99 eq99 hf => ?_)
  revert hf
  refine k_stp (fun U100 eU100 hf => ?_)
  revert hf
  refine k_stp (fun T101 eT101 hf => ?_)
  refine nw_X2 C hw q280 (by show _ ≤ mc; omega) (by show _ ≤ ms; omega) eq99 eU100 eT101 dX0_init_142 (fun H hw => ?_)
  replace hn := add_r hn en
  replace hk := add_r hk ek
  clear en ek
  generalize n1 = n at hf hn
  generalize k1 = k at hf hk
  refine lv_dup hx hb dX0_init_145 rfl ?_
  revert hf
  refine k_dcv (fun U104 T105 na ka n1 k1 h102 hf en ek => ?_)
  refine w_afv hw (w_rIN (As := []) C hw (ok_X2_init h102) (cw_X0_54 C (Nat.le_of_ble_eq_true rfl) (Nat.le_of_ble_eq_true rfl)) rfl hl.1 rfl (Nat.le_of_ble_eq_true rfl) ⟨by show _ ≤ mc; omega, by show _ ≤ ms; omega⟩ dX0_init_146) (fun H locs hw => ?_)
  replace hn := add_r hn en
  replace hk := add_r hk ek
  clear en ek
  generalize n1 = n at hf hn
  generalize k1 = k at hf hk
  revert hf
  refine k_req (fun k106 hf => ?_)
  revert hf
  refine k_stp (fun U107 eU107 hf => ?_)
  refine pf_X0_89 C hw k106 hnm eU107 dX0_init_149 (fun H locs hw => ?_)
  refine lv_aload_n hx hb dX0_init_152 rfl (lv_at hl 0 rfl) ?_
  refine lv_iconst (v := ((-1) : Int32)) hx hb dX0_init_153 (by decide) ?_
  revert hf
  refine k_stp (fun U108 eU108 hf => ?_)
  refine pf_X0_92 C hw k106 eU108 dX0_init_154 (fun H locs hw => ?_)
  refine lv_iconst (v := (0 : Int32)) hx hb dX0_init_157 (by decide) ?_
  refine lv_istore_n (lv' := [(1, .int (0 : Int32)), (0, .ref (gb G + o))]) hx hb dX0_init_158 rfl hl (by decide) rfl (fun ls hl => ?_)
  refine lk_X0_init_159 C hr hnm (fun U135 T136 H locs ls cells slots n k hf hn hk hw hl => ?_) fuel _ _ _ _ _ _ _ _ _ _ hf hn hk hw (lv_sub hl [1, 0] rfl)
  cases hf
  cases hn
  cases hk
  exact w_vret C hr hw dX0_init_197
