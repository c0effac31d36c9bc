set_option maxRecDepth 100000
set_option maxHeartbeats 4000000 in
theorem ok_X5_init {l : Launch} {G : gG} {T : Tt} {V0 : Vt} {o : Nat} {V' : Vt} {T' : Tt} {n k : Nat} (hf : f_X5_init T V0 o = some ((V', T'), n, k)) : okM l G yX5_init cX5_init 1 none 1 [.ref (gb G + o)] V0 T none V' T' n k := by
  refine ok_intro (by decide) (Nat.le_of_ble_eq_true rfl) ?_
  intro p e s m below meth c ls C hr hnm hw hl
  have hx := C.1
  have hb := C.2.1
  have hown := C.2.2.2.1
  have hts := C.2.2.2.2.1
  have hl : lv_has ls 1 [(0, .ref (gb G + o))] := hl
  unfold f_X5_init at hf
  revert hf
  refine k_req (fun k0 hf => ?_)
  obtain ⟨mc, emc⟩ : ∃ mc, mc = n := ⟨_, rfl⟩
  obtain ⟨ms, ems⟩ : ∃ ms, ms = k := ⟨_, rfl⟩
  have hn : 0 + n = mc := by omega
  have hk : 0 + k = ms := by omega
  rw [← emc, ← ems]
  clear emc ems
  refine lv_aload_n hx hb dX5_init_0 rfl (lv_at hl 0 rfl) ?_
  refine W.objInit hx hb hown (hts _ q1507) (hts _ q174) (hts _ q175) rfl (by rw [C.2.2.1]; exact hl.1) rfl dX5_init_1 (Nat.le_of_ble_eq_true rfl) (Nat.le_of_ble_eq_true rfl) ?_
  refine W.eq (g2 := F0 m 4 ls []) rfl ?_
  refine lv_aload_n hx hb dX5_init_4 rfl (lv_at hl 0 rfl) ?_
  refine lv_bipush (v := (7 : Int32)) hx hb dX5_init_5 (by decide) ?_
  revert hf
  refine k_req (fun h1 hf => ?_)
  revert hf
  refine k_inc (fun n1 k1 hf en ek => ?_)
  revert hf
  refine k_stp (fun q2 eq2 hf => ?_)
  revert hf
  refine k_stp (fun U3 eU3 hf => ?_)
  revert hf
  refine k_stp (fun T4 eT4 hf => ?_)
  refine w_newa (t := 0) (atype := .int) C hw (by decide) rfl q201 h1.1 h1.2 (by show _ ≤ mc; omega) (by show _ ≤ ms; omega) eq2 eU3 eT4 dX5_init_7 (fun H hw => ?_)
  replace hn := add_r hn en
  replace hk := add_r hk ek
  clear en ek
  generalize n1 = n at hf hn
  generalize k1 = k at hf hk
  revert hf
  refine k_req (fun k5 hf => ?_)
  revert hf
  refine k_stp (fun U6 eU6 hf => ?_)
  refine pf_X5_7 C hw k5 hnm eU6 dX5_init_9 (fun H locs hw => ?_)
  refine lv_aload_n hx hb dX5_init_12 rfl (lv_at hl 0 rfl) ?_
  refine lv_sipush (v := (9390 : Int32)) hx hb dX5_init_13 (by decide) ?_
  revert hf
  refine k_req (fun h7 hf => ?_)
  revert hf
  refine k_inc (fun n1 k1 hf en ek => ?_)
  revert hf
  refine k_stp (fun q8 eq8 hf => ?_)
  revert hf
  refine k_stp (fun U9 eU9 hf => ?_)
  revert hf
  refine k_stp (fun T10 eT10 hf => ?_)
  refine w_newa (t := 0) (atype := .int) C hw (by decide) rfl q201 h7.1 h7.2 (by show _ ≤ mc; omega) (by show _ ≤ ms; omega) eq8 eU9 eT10 dX5_init_16 (fun H hw => ?_)
  replace hn := add_r hn en
  replace hk := add_r hk ek
  clear en ek
  generalize n1 = n at hf hn
  generalize k1 = k at hf hk
  revert hf
  refine k_req (fun k11 hf => ?_)
  revert hf
  refine k_stp (fun U12 eU12 hf => ?_)
  refine pf_X5_13 C hw k11 hnm eU12 dX5_init_18 (fun H locs hw => ?_)
  refine lv_aload_n hx hb dX5_init_21 rfl (lv_at hl 0 rfl) ?_
  refine lv_sipush (v := (18780 : Int32)) hx hb dX5_init_22 (by decide) ?_
  revert hf
  refine k_req (fun h13 hf => ?_)
  revert hf
  refine k_inc (fun n1 k1 hf en ek => ?_)
  revert hf
  refine k_stp (fun q14 eq14 hf => ?_)
  revert hf
  refine k_stp (fun U15 eU15 hf => ?_)
  revert hf
  refine k_stp (fun T16 eT16 hf => ?_)
  refine w_newa (t := 0) (atype := .int) C hw (by decide) rfl q201 h13.1 h13.2 (by show _ ≤ mc; omega) (by show _ ≤ ms; omega) eq14 eU15 eT16 dX5_init_25 (fun H hw => ?_)
  replace hn := add_r hn en
  replace hk := add_r hk ek
  clear en ek
  generalize n1 = n at hf hn
  generalize k1 = k at hf hk
  revert hf
  refine k_req (fun k17 hf => ?_)
  revert hf
  refine k_stp (fun U18 eU18 hf => ?_)
  refine pf_X5_16 C hw k17 hnm eU18 dX5_init_27 (fun H locs hw => ?_)
  refine lv_aload_n hx hb dX5_init_30 rfl (lv_at hl 0 rfl) ?_
  refine lv_iconst (v := (2 : Int32)) hx hb dX5_init_31 (by decide) ?_
  revert hf
  refine k_req (fun h19 hf => ?_)
  revert hf
  refine k_inc (fun n1 k1 hf en ek => ?_)
  revert hf
  refine k_stp (fun q20 eq20 hf => ?_)
  revert hf
  refine k_stp (fun U21 eU21 hf => ?_)
  revert hf
  refine k_stp (fun T22 eT22 hf => ?_)
  refine w_newa (t := 3) (atype := .boolean) C hw (by decide) rfl q1692 h19.1 h19.2 (by show _ ≤ mc; omega) (by show _ ≤ ms; omega) eq20 eU21 eT22 dX5_init_32 (fun H hw => ?_)
  replace hn := add_r hn en
  replace hk := add_r hk ek
  clear en ek
  generalize n1 = n at hf hn
  generalize k1 = k at hf hk
  revert hf
  refine k_req (fun k23 hf => ?_)
  revert hf
  refine k_stp (fun U24 eU24 hf => ?_)
  refine pf_X5_19 C hw k23 hnm eU24 dX5_init_34 (fun H locs hw => ?_)
  refine lv_aload_n hx hb dX5_init_37 rfl (lv_at hl 0 rfl) ?_
  refine lv_sipush (v := (2970 : Int32)) hx hb dX5_init_38 (by decide) ?_
  revert hf
  refine k_req (fun h25 hf => ?_)
  revert hf
  refine k_inc (fun n1 k1 hf en ek => ?_)
  revert hf
  refine k_stp (fun q26 eq26 hf => ?_)
  revert hf
  refine k_stp (fun U27 eU27 hf => ?_)
  revert hf
  refine k_stp (fun T28 eT28 hf => ?_)
  refine w_newa (t := 0) (atype := .int) C hw (by decide) rfl q201 h25.1 h25.2 (by show _ ≤ mc; omega) (by show _ ≤ ms; omega) eq26 eU27 eT28 dX5_init_41 (fun H hw => ?_)
  replace hn := add_r hn en
  replace hk := add_r hk ek
  clear en ek
  generalize n1 = n at hf hn
  generalize k1 = k at hf hk
  revert hf
  refine k_req (fun k29 hf => ?_)
  revert hf
  refine k_stp (fun U30 eU30 hf => ?_)
  refine pf_X5_23 C hw k29 hnm eU30 dX5_init_43 (fun H locs hw => ?_)
  refine lv_aload_n hx hb dX5_init_46 rfl (lv_at hl 0 rfl) ?_
  refine lv_bipush (v := (16 : Int32)) hx hb dX5_init_47 (by decide) ?_
  revert hf
  refine k_req (fun h31 hf => ?_)
  revert hf
  refine k_inc (fun n1 k1 hf en ek => ?_)
  revert hf
  refine k_stp (fun q32 eq32 hf => ?_)
  revert hf
  refine k_stp (fun U33 eU33 hf => ?_)
  revert hf
  refine k_stp (fun T34 eT34 hf => ?_)
  refine w_newa (t := 0) (atype := .int) C hw (by decide) rfl q201 h31.1 h31.2 (by show _ ≤ mc; omega) (by show _ ≤ ms; omega) eq32 eU33 eT34 dX5_init_49 (fun H hw => ?_)
  replace hn := add_r hn en
  replace hk := add_r hk ek
  clear en ek
  generalize n1 = n at hf hn
  generalize k1 = k at hf hk
  revert hf
  refine k_req (fun k35 hf => ?_)
  revert hf
  refine k_stp (fun U36 eU36 hf => ?_)
  refine pf_X5_26 C hw k35 hnm eU36 dX5_init_51 (fun H locs hw => ?_)
  refine lv_aload_n hx hb dX5_init_54 rfl (lv_at hl 0 rfl) ?_
  refine lv_sipush (v := (2640 : Int32)) hx hb dX5_init_55 (by decide) ?_
  revert hf
  refine k_req (fun h37 hf => ?_)
  revert hf
  refine k_inc (fun n1 k1 hf en ek => ?_)
  revert hf
  refine k_stp (fun q38 eq38 hf => ?_)
  revert hf
  refine k_stp (fun U39 eU39 hf => ?_)
  revert hf
  refine k_stp (fun T40 eT40 hf => ?_)
  refine w_newa (t := 0) (atype := .int) C hw (by decide) rfl q201 h37.1 h37.2 (by show _ ≤ mc; omega) (by show _ ≤ ms; omega) eq38 eU39 eT40 dX5_init_58 (fun H hw => ?_)
  replace hn := add_r hn en
  replace hk := add_r hk ek
  clear en ek
  generalize n1 = n at hf hn
  generalize k1 = k at hf hk
  revert hf
  refine k_req (fun k41 hf => ?_)
  revert hf
  refine k_stp (fun U42 eU42 hf => ?_)
  refine pf_X5_29 C hw k41 hnm eU42 dX5_init_60 (fun H locs hw => ?_)
  refine lv_aload_n hx hb dX5_init_63 rfl (lv_at hl 0 rfl) ?_
  refine lv_bipush (v := (16 : Int32)) hx hb dX5_init_64 (by decide) ?_
  revert hf
  refine k_req (fun h43 hf => ?_)
  revert hf
  refine k_inc (fun n1 k1 hf en ek => ?_)
  revert hf
  refine k_stp (fun q44 eq44 hf => ?_)
  revert hf
  refine k_stp (fun U45 eU45 hf => ?_)
  revert hf
  refine k_stp (fun T46 eT46 hf => ?_)
  refine w_newa (t := 0) (atype := .int) C hw (by decide) rfl q201 h43.1 h43.2 (by show _ ≤ mc; omega) (by show _ ≤ ms; omega) eq44 eU45 eT46 dX5_init_66 (fun H hw => ?_)
  replace hn := add_r hn en
  replace hk := add_r hk ek
  clear en ek
  generalize n1 = n at hf hn
  generalize k1 = k at hf hk
  revert hf
  refine k_req (fun k47 hf => ?_)
  revert hf
  refine k_stp (fun U48 eU48 hf => ?_)
  refine pf_X5_32 C hw k47 hnm eU48 dX5_init_68 (fun H locs hw => ?_)
  refine lv_aload_n hx hb dX5_init_71 rfl (lv_at hl 0 rfl) ?_
  refine lv_sipush (v := (400 : Int32)) hx hb dX5_init_72 (by decide) ?_
  revert hf
  refine k_req (fun h49 hf => ?_)
  revert hf
  refine k_inc (fun n1 k1 hf en ek => ?_)
  revert hf
  refine k_stp (fun q50 eq50 hf => ?_)
  revert hf
  refine k_stp (fun U51 eU51 hf => ?_)
  revert hf
  refine k_stp (fun T52 eT52 hf => ?_)
  refine w_newa (t := 0) (atype := .int) C hw (by decide) rfl q201 h49.1 h49.2 (by show _ ≤ mc; omega) (by show _ ≤ ms; omega) eq50 eU51 eT52 dX5_init_75 (fun H hw => ?_)
  replace hn := add_r hn en
  replace hk := add_r hk ek
  clear en ek
  generalize n1 = n at hf hn
  generalize k1 = k at hf hk
  revert hf
  refine k_req (fun k53 hf => ?_)
  revert hf
  refine k_stp (fun U54 eU54 hf => ?_)
  refine pf_X5_35 C hw k53 hnm eU54 dX5_init_77 (fun H locs hw => ?_)
  refine lv_aload_n hx hb dX5_init_80 rfl (lv_at hl 0 rfl) ?_
  refine lv_iconst (v := ((-1) : Int32)) hx hb dX5_init_81 (by decide) ?_
  revert hf
  refine k_stp (fun U55 eU55 hf => ?_)
  refine pf_X5_38 C hw k53 eU55 dX5_init_82 (fun H locs hw => ?_)
  refine lv_aload_n hx hb dX5_init_85 rfl (lv_at hl 0 rfl) ?_
  refine lv_bipush (v := (96 : Int32)) hx hb dX5_init_86 (by decide) ?_
  revert hf
  refine k_req (fun h56 hf => ?_)
  revert hf
  refine k_inc (fun n1 k1 hf en ek => ?_)
  revert hf
  refine k_stp (fun q57 eq57 hf => ?_)
  revert hf
  refine k_stp (fun U58 eU58 hf => ?_)
  revert hf
  refine k_stp (fun T59 eT59 hf => ?_)
  refine w_newa (t := 0) (atype := .int) C hw (by decide) rfl q201 h56.1 h56.2 (by show _ ≤ mc; omega) (by show _ ≤ ms; omega) eq57 eU58 eT59 dX5_init_88 (fun H hw => ?_)
  replace hn := add_r hn en
  replace hk := add_r hk ek
  clear en ek
  generalize n1 = n at hf hn
  generalize k1 = k at hf hk
  revert hf
  refine k_req (fun k60 hf => ?_)
  revert hf
  refine k_stp (fun U61 eU61 hf => ?_)
  refine pf_X5_42 C hw k60 hnm eU61 dX5_init_90 (fun H locs hw => ?_)
  refine lv_aload_n hx hb dX5_init_93 rfl (lv_at hl 0 rfl) ?_
  refine lv_sipush (v := (400 : Int32)) hx hb dX5_init_94 (by decide) ?_
  revert hf
  refine k_req (fun h62 hf => ?_)
  revert hf
  refine k_inc (fun n1 k1 hf en ek => ?_)
  revert hf
  refine k_stp (fun q63 eq63 hf => ?_)
  revert hf
  refine k_stp (fun U64 eU64 hf => ?_)
  revert hf
  refine k_stp (fun T65 eT65 hf => ?_)
  refine w_newa (t := 0) (atype := .int) C hw (by decide) rfl q201 h62.1 h62.2 (by show _ ≤ mc; omega) (by show _ ≤ ms; omega) eq63 eU64 eT65 dX5_init_97 (fun H hw => ?_)
  replace hn := add_r hn en
  replace hk := add_r hk ek
  clear en ek
  generalize n1 = n at hf hn
  generalize k1 = k at hf hk
  revert hf
  refine k_req (fun k66 hf => ?_)
  revert hf
  refine k_stp (fun U67 eU67 hf => ?_)
  refine pf_X5_45 C hw k66 hnm eU67 dX5_init_99 (fun H locs hw => ?_)
  refine lv_aload_n hx hb dX5_init_102 rfl (lv_at hl 0 rfl) ?_
  refine lv_sipush (v := (400 : Int32)) hx hb dX5_init_103 (by decide) ?_
  revert hf
  refine k_req (fun h68 hf => ?_)
  revert hf
  refine k_inc (fun n1 k1 hf en ek => ?_)
  revert hf
  refine k_stp (fun q69 eq69 hf => ?_)
  revert hf
  refine k_stp (fun U70 eU70 hf => ?_)
  revert hf
  refine k_stp (fun T71 eT71 hf => ?_)
  refine w_newa (t := 0) (atype := .int) C hw (by decide) rfl q201 h68.1 h68.2 (by show _ ≤ mc; omega) (by show _ ≤ ms; omega) eq69 eU70 eT71 dX5_init_106 (fun H hw => ?_)
  replace hn := add_r hn en
  replace hk := add_r hk ek
  clear en ek
  generalize n1 = n at hf hn
  generalize k1 = k at hf hk
  revert hf
  refine k_req (fun k72 hf => ?_)
  revert hf
  refine k_stp (fun U73 eU73 hf => ?_)
  refine pf_X5_48 C hw k72 hnm eU73 dX5_init_108 (fun H locs hw => ?_)
  refine lv_aload_n hx hb dX5_init_111 rfl (lv_at hl 0 rfl) ?_
  refine lv_sipush (v := (400 : Int32)) hx hb dX5_init_112 (by decide) ?_
  revert hf
  refine k_req (fun h74 hf => ?_)
  revert hf
  refine k_inc (fun n1 k1 hf en ek => ?_)
  revert hf
  refine k_stp (fun q75 eq75 hf => ?_)
  revert hf
  refine k_stp (fun U76 eU76 hf => ?_)
  revert hf
  refine k_stp (fun T77 eT77 hf => ?_)
  refine w_newa (t := 0) (atype := .int) C hw (by decide) rfl q201 h74.1 h74.2 (by show _ ≤ mc; omega) (by show _ ≤ ms; omega) eq75 eU76 eT77 dX5_init_115 (fun H hw => ?_)
  replace hn := add_r hn en
  replace hk := add_r hk ek
  clear en ek
  generalize n1 = n at hf hn
  generalize k1 = k at hf hk
  revert hf
  refine k_req (fun k78 hf => ?_)
  revert hf
  refine k_stp (fun U79 eU79 hf => ?_)
  refine pf_X5_51 C hw k78 hnm eU79 dX5_init_117 (fun H locs hw => ?_)
  refine lv_aload_n hx hb dX5_init_120 rfl (lv_at hl 0 rfl) ?_
  refine lv_sipush (v := (400 : Int32)) hx hb dX5_init_121 (by decide) ?_
  revert hf
  refine k_req (fun h80 hf => ?_)
  revert hf
  refine k_inc (fun n1 k1 hf en ek => ?_)
  revert hf
  refine k_stp (fun q81 eq81 hf => ?_)
  revert hf
  refine k_stp (fun U82 eU82 hf => ?_)
  revert hf
  refine k_stp (fun T83 eT83 hf => ?_)
  refine w_newa (t := 0) (atype := .int) C hw (by decide) rfl q201 h80.1 h80.2 (by show _ ≤ mc; omega) (by show _ ≤ ms; omega) eq81 eU82 eT83 dX5_init_124 (fun H hw => ?_)
  replace hn := add_r hn en
  replace hk := add_r hk ek
  clear en ek
  generalize n1 = n at hf hn
  generalize k1 = k at hf hk
  revert hf
  refine k_req (fun k84 hf => ?_)
  revert hf
  refine k_stp (fun U85 eU85 hf => ?_)
  refine pf_X5_54 C hw k84 hnm eU85 dX5_init_126 (fun H locs hw => ?_)
  refine lv_aload_n hx hb dX5_init_129 rfl (lv_at hl 0 rfl) ?_
  refine lv_bipush (v := (7 : Int32)) hx hb dX5_init_130 (by decide) ?_
  revert hf
  refine k_req (fun h86 hf => ?_)
  revert hf
  refine k_inc (fun n1 k1 hf en ek => ?_)
  revert hf
  refine k_stp (fun q87 eq87 hf => ?_)
  revert hf
  refine k_stp (fun U88 eU88 hf => ?_)
  revert hf
  refine k_stp (fun T89 eT89 hf => ?_)
  refine w_newa (t := 1) (atype := .long) C hw (by decide) rfl q360 h86.1 h86.2 (by show _ ≤ mc; omega) (by show _ ≤ ms; omega) eq87 eU88 eT89 dX5_init_132 (fun H hw => ?_)
  replace hn := add_r hn en
  replace hk := add_r hk ek
  clear en ek
  generalize n1 = n at hf hn
  generalize k1 = k at hf hk
  refine lv_dup hx hb dX5_init_134 rfl ?_
  refine lv_iconst (v := (0 : Int32)) hx hb dX5_init_135 (by decide) ?_
  refine lv_ldc2 (v := (99947 : Int64)) hx hb hown (hts _ q1508) dX5_init_136 ?_
  revert hf
  refine k_req (fun h90 hf => ?_)
  revert hf
  refine k_stp (fun U91 eU91 hf => ?_)
  refine w_last C hw h90 eU91 dX5_init_139 (fun H locs hw => ?_)
  refine lv_dup hx hb dX5_init_140 rfl ?_
  refine lv_iconst (v := (1 : Int32)) hx hb dX5_init_141 (by decide) ?_
  refine lv_ldc2 (v := (664754 : Int64)) hx hb hown (hts _ q1509) dX5_init_142 ?_
  revert hf
  refine k_req (fun h92 hf => ?_)
  revert hf
  refine k_stp (fun U93 eU93 hf => ?_)
  refine w_last C hw h92 eU93 dX5_init_145 (fun H locs hw => ?_)
  refine lv_dup hx hb dX5_init_146 rfl ?_
  refine lv_iconst (v := (2 : Int32)) hx hb dX5_init_147 (by decide) ?_
  refine lv_ldc2 (v := (632645 : Int64)) hx hb hown (hts _ q1510) dX5_init_148 ?_
  revert hf
  refine k_req (fun h94 hf => ?_)
  revert hf
  refine k_stp (fun U95 eU95 hf => ?_)
  refine w_last C hw h94 eU95 dX5_init_151 (fun H locs hw => ?_)
  refine lv_dup hx hb dX5_init_152 rfl ?_
  refine lv_iconst (v := (3 : Int32)) hx hb dX5_init_153 (by decide) ?_
  refine lv_ldc2 (v := (218508 : Int64)) hx hb hown (hts _ q1511) dX5_init_154 ?_
  revert hf
  refine k_req (fun h96 hf => ?_)
  revert hf
  refine k_stp (fun U97 eU97 hf => ?_)
  refine w_last C hw h96 eU97 dX5_init_157 (fun H locs hw => ?_)
  refine lv_dup hx hb dX5_init_158 rfl ?_
  refine lv_iconst (v := (4 : Int32)) hx hb dX5_init_159 (by decide) ?_
  refine lv_ldc2 (v := (431150 : Int64)) hx hb hown (hts _ q1512) dX5_init_160 ?_
  revert hf
  refine k_req (fun h98 hf => ?_)
  revert hf
  refine k_stp (fun U99 eU99 hf => ?_)
  refine w_last C hw h98 eU99 dX5_init_163 (fun H locs hw => ?_)
  refine lv_dup hx hb dX5_init_164 rfl ?_
  refine lv_iconst (v := (5 : Int32)) hx hb dX5_init_165 (by decide) ?_
  refine lv_ldc2 (v := (824370 : Int64)) hx hb hown (hts _ q1513) dX5_init_166 ?_
  revert hf
  refine k_req (fun h100 hf => ?_)
  revert hf
  refine k_stp (fun U101 eU101 hf => ?_)
  refine w_last C hw h100 eU101 dX5_init_169 (fun H locs hw => ?_)
  refine lv_dup hx hb dX5_init_170 rfl ?_
  refine lv_bipush (v := (6 : Int32)) hx hb dX5_init_171 (by decide) ?_
  refine lv_ldc2 (v := (441828 : Int64)) hx hb hown (hts _ q1514) dX5_init_173 ?_
  revert hf
  refine k_req (fun h102 hf => ?_)
  revert hf
  refine k_stp (fun U103 eU103 hf => ?_)
  refine w_last C hw h102 eU103 dX5_init_176 (fun H locs hw => ?_)
  revert hf
  refine k_req (fun k104 hf => ?_)
  revert hf
  refine k_stp (fun U105 eU105 hf => ?_)
  refine pf_X5_71 C hw k104 hnm eU105 dX5_init_177 (fun H locs hw => ?_)
  refine lv_aload_n hx hb dX5_init_180 rfl (lv_at hl 0 rfl) ?_
  refine lv_bipush (v := (7 : Int32)) hx hb dX5_init_181 (by decide) ?_
  revert hf
  refine k_req (fun h106 hf => ?_)
  revert hf
  refine k_inc (fun n1 k1 hf en ek => ?_)
  revert hf
  refine k_stp (fun q107 eq107 hf => ?_)
  revert hf
  refine k_stp (fun U108 eU108 hf => ?_)
  revert hf
  refine k_stp (fun T109 eT109 hf => ?_)
  refine w_newa (t := 1) (atype := .long) C hw (by decide) rfl q360 h106.1 h106.2 (by show _ ≤ mc; omega) (by show _ ≤ ms; omega) eq107 eU108 eT109 dX5_init_183 (fun H hw => ?_)
  replace hn := add_r hn en
  replace hk := add_r hk ek
  clear en ek
  generalize n1 = n at hf hn
  generalize k1 = k at hf hk
  refine lv_dup hx hb dX5_init_185 rfl ?_
  refine lv_iconst (v := (0 : Int32)) hx hb dX5_init_186 (by decide) ?_
  refine lv_ldc2 (v := (824370 : Int64)) hx hb hown (hts _ q1513) dX5_init_187 ?_
  revert hf
  refine k_req (fun h110 hf => ?_)
  revert hf
  refine k_stp (fun U111 eU111 hf => ?_)
  refine w_last C hw h110 eU111 dX5_init_190 (fun H locs hw => ?_)
  refine lv_dup hx hb dX5_init_191 rfl ?_
  refine lv_iconst (v := (1 : Int32)) hx hb dX5_init_192 (by decide) ?_
  refine lv_ldc2 (v := (146885 : Int64)) hx hb hown (hts _ q1515) dX5_init_193 ?_
  revert hf
  refine k_req (fun h112 hf => ?_)
  revert hf
  refine k_stp (fun U113 eU113 hf => ?_)
  refine w_last C hw h112 eU113 dX5_init_196 (fun H locs hw => ?_)
  refine lv_dup hx hb dX5_init_197 rfl ?_
  refine lv_iconst (v := (2 : Int32)) hx hb dX5_init_198 (by decide) ?_
  refine lv_ldc2 (v := (404362868 : Int64)) hx hb hown (hts _ q1516) dX5_init_199 ?_
  revert hf
  refine k_req (fun h114 hf => ?_)
  revert hf
  refine k_stp (fun U115 eU115 hf => ?_)
  refine w_last C hw h114 eU115 dX5_init_202 (fun H locs hw => ?_)
  refine lv_dup hx hb dX5_init_203 rfl ?_
  refine lv_iconst (v := (3 : Int32)) hx hb dX5_init_204 (by decide) ?_
  refine lv_ldc2 (v := (2672439460 : Int64)) hx hb hown (hts _ q1517) dX5_init_205 ?_
  revert hf
  refine k_req (fun h116 hf => ?_)
  revert hf
  refine k_stp (fun U117 eU117 hf => ?_)
  refine w_last C hw h116 eU117 dX5_init_208 (fun H locs hw => ?_)
  refine lv_dup hx hb dX5_init_209 rfl ?_
  refine lv_iconst (v := (4 : Int32)) hx hb dX5_init_210 (by decide) ?_
  refine lv_ldc2 (v := (218508 : Int64)) hx hb hown (hts _ q1511) dX5_init_211 ?_
  revert hf
  refine k_req (fun h118 hf => ?_)
  revert hf
  refine k_stp (fun U119 eU119 hf => ?_)
  refine w_last C hw h118 eU119 dX5_init_214 (fun H locs hw => ?_)
  refine lv_dup hx hb dX5_init_215 rfl ?_
  refine lv_iconst (v := (5 : Int32)) hx hb dX5_init_216 (by decide) ?_
  refine lv_ldc2 (v := (605677 : Int64)) hx hb hown (hts _ q1518) dX5_init_217 ?_
  revert hf
  refine k_req (fun h120 hf => ?_)
  revert hf
  refine k_stp (fun U121 eU121 hf => ?_)
  refine w_last C hw h120 eU121 dX5_init_220 (fun H locs hw => ?_)
  refine lv_dup hx hb dX5_init_221 rfl ?_
  refine lv_bipush (v := (6 : Int32)) hx hb dX5_init_222 (by decide) ?_
  refine lv_ldc2 (v := (431150 : Int64)) hx hb hown (hts _ q1512) dX5_init_224 ?_
  revert hf
  refine k_req (fun h122 hf => ?_)
  revert hf
  refine k_stp (fun U123 eU123 hf => ?_)
  refine w_last C hw h122 eU123 dX5_init_227 (fun H locs hw => ?_)
  revert hf
  refine k_req (fun k124 hf => ?_)
  revert hf
  refine k_stp (fun U125 eU125 hf => ?_)
  refine pf_X5_83 C hw k124 hnm eU125 dX5_init_228 (fun H locs hw => ?_)
  refine lv_aload_n hx hb dX5_init_231 rfl (lv_at hl 0 rfl) ?_
  refine lv_iconst (v := (3 : Int32)) hx hb dX5_init_232 (by decide) ?_
  revert hf
  refine k_req (fun h126 hf => ?_)
  revert hf
  refine k_inc (fun n1 k1 hf en ek => ?_)
  revert hf
  refine k_stp (fun q127 eq127 hf => ?_)
  revert hf
  refine k_stp (fun U128 eU128 hf => ?_)
  revert hf
  refine k_stp (fun T129 eT129 hf => ?_)
  refine w_newa (t := 1) (atype := .long) C hw (by decide) rfl q360 h126.1 h126.2 (by show _ ≤ mc; omega) (by show _ ≤ ms; omega) eq127 eU128 eT129 dX5_init_233 (fun H hw => ?_)
  replace hn := add_r hn en
  replace hk := add_r hk ek
  clear en ek
  generalize n1 = n at hf hn
  generalize k1 = k at hf hk
  refine lv_dup hx hb dX5_init_235 rfl ?_
  refine lv_iconst (v := (0 : Int32)) hx hb dX5_init_236 (by decide) ?_
  refine lv_ldc2 (v := (13094067 : Int64)) hx hb hown (hts _ q1519) dX5_init_237 ?_
  revert hf
  refine k_req (fun h130 hf => ?_)
  revert hf
  refine k_stp (fun U131 eU131 hf => ?_)
  refine w_last C hw h130 eU131 dX5_init_240 (fun H locs hw => ?_)
  refine lv_dup hx hb dX5_init_241 rfl ?_
  refine lv_iconst (v := (1 : Int32)) hx hb dX5_init_242 (by decide) ?_
  refine lv_ldc2 (v := (848474259 : Int64)) hx hb hown (hts _ q1520) dX5_init_243 ?_
  revert hf
  refine k_req (fun h132 hf => ?_)
  revert hf
  refine k_stp (fun U133 eU133 hf => ?_)
  refine w_last C hw h132 eU133 dX5_init_246 (fun H locs hw => ?_)
  refine lv_dup hx hb dX5_init_247 rfl ?_
  refine lv_iconst (v := (2 : Int32)) hx hb dX5_init_248 (by decide) ?_
  refine lv_ldc2 (v := (67155 : Int64)) hx hb hown (hts _ q1521) dX5_init_249 ?_
  revert hf
  refine k_req (fun h134 hf => ?_)
  revert hf
  refine k_stp (fun U135 eU135 hf => ?_)
  refine w_last C hw h134 eU135 dX5_init_252 (fun H locs hw => ?_)
  revert hf
  refine k_req (fun k136 hf => ?_)
  revert hf
  refine k_stp (fun U137 eU137 hf => ?_)
  refine pf_X5_92 C hw k136 hnm eU137 dX5_init_253 (fun H locs hw => ?_)
  refine lv_aload_n hx hb dX5_init_256 rfl (lv_at hl 0 rfl) ?_
  refine lv_bipush (v := (13 : Int32)) hx hb dX5_init_257 (by decide) ?_
  revert hf
  refine k_req (fun h138 hf => ?_)
  revert hf
  refine k_inc (fun n1 k1 hf en ek => ?_)
  revert hf
  refine k_stp (fun q139 eq139 hf => ?_)
  revert hf
  refine k_stp (fun U140 eU140 hf => ?_)
  revert hf
  refine k_stp (fun T141 eT141 hf => ?_)
  refine w_newa (t := 1) (atype := .long) C hw (by decide) rfl q360 h138.1 h138.2 (by show _ ≤ mc; omega) (by show _ ≤ ms; omega) eq139 eU140 eT141 dX5_init_259 (fun H hw => ?_)
  replace hn := add_r hn en
  replace hk := add_r hk ek
  clear en ek
  generalize n1 = n at hf hn
  generalize k1 = k at hf hk
  revert hf
  refine k_req (fun k142 hf => ?_)
  revert hf
  refine k_stp (fun U143 eU143 hf => ?_)
  refine pf_X5_95 C hw k142 hnm eU143 dX5_init_261 (fun H locs hw => ?_)
  refine lv_aload_n hx hb dX5_init_264 rfl (lv_at hl 0 rfl) ?_
  refine lv_bipush (v := (13 : Int32)) hx hb dX5_init_265 (by decide) ?_
  revert hf
  refine k_req (fun h144 hf => ?_)
  revert hf
  refine k_inc (fun n1 k1 hf en ek => ?_)
  revert hf
  refine k_stp (fun q145 eq145 hf => ?_)
  revert hf
  refine k_stp (fun U146 eU146 hf => ?_)
  revert hf
  refine k_stp (fun T147 eT147 hf => ?_)
  refine w_newa (t := 1) (atype := .long) C hw (by decide) rfl q360 h144.1 h144.2 (by show _ ≤ mc; omega) (by show _ ≤ ms; omega) eq145 eU146 eT147 dX5_init_267 (fun H hw => ?_)
  replace hn := add_r hn en
  replace hk := add_r hk ek
  clear en ek
  generalize n1 = n at hf hn
  generalize k1 = k at hf hk
  revert hf
  refine k_req (fun k148 hf => ?_)
  revert hf
  refine k_stp (fun U149 eU149 hf => ?_)
  refine pf_X5_98 C hw k148 hnm eU149 dX5_init_269 (fun H locs hw => ?_)
  refine lv_aload_n hx hb dX5_init_272 rfl (lv_at hl 0 rfl) ?_
  refine lv_sipush (v := (400 : Int32)) hx hb dX5_init_273 (by decide) ?_
  revert hf
  refine k_req (fun h150 hf => ?_)
  revert hf
  refine k_inc (fun n1 k1 hf en ek => ?_)
  revert hf
  refine k_stp (fun q151 eq151 hf => ?_)
  revert hf
  refine k_stp (fun U152 eU152 hf => ?_)
  revert hf
  refine k_stp (fun T153 eT153 hf => ?_)
  refine w_newa (t := 1) (atype := .long) C hw (by decide) rfl q360 h150.1 h150.2 (by show _ ≤ mc; omega) (by show _ ≤ ms; omega) eq151 eU152 eT153 dX5_init_276 (fun H hw => ?_)
  replace hn := add_r hn en
  replace hk := add_r hk ek
  clear en ek
  generalize n1 = n at hf hn
  generalize k1 = k at hf hk
  revert hf
  refine k_req (fun k154 hf => ?_)
  revert hf
  refine k_stp (fun U155 eU155 hf => ?_)
  refine pf_X5_101 C hw k154 hnm eU155 dX5_init_278 (fun H locs hw => ?_)
  refine lv_aload_n hx hb dX5_init_281 rfl (lv_at hl 0 rfl) ?_
  refine lv_bipush (v := (20 : Int32)) hx hb dX5_init_282 (by decide) ?_
  revert hf
  refine k_req (fun h156 hf => ?_)
  revert hf
  refine k_inc (fun n1 k1 hf en ek => ?_)
  revert hf
  refine k_stp (fun q157 eq157 hf => ?_)
  revert hf
  refine k_stp (fun U158 eU158 hf => ?_)
  revert hf
  refine k_stp (fun T159 eT159 hf => ?_)
  refine w_newa (t := 0) (atype := .int) C hw (by decide) rfl q201 h156.1 h156.2 (by show _ ≤ mc; omega) (by show _ ≤ ms; omega) eq157 eU158 eT159 dX5_init_284 (fun H hw => ?_)
  replace hn := add_r hn en
  replace hk := add_r hk ek
  clear en ek
  generalize n1 = n at hf hn
  generalize k1 = k at hf hk
  revert hf
  refine k_req (fun k160 hf => ?_)
  revert hf
  refine k_stp (fun U161 eU161 hf => ?_)
  refine pf_X5_104 C hw k160 hnm eU161 dX5_init_286 (fun H locs hw => ?_)
  refine lv_aload_n hx hb dX5_init_289 rfl (lv_at hl 0 rfl) ?_
  refine lv_iconst (v := (4 : Int32)) hx hb dX5_init_290 (by decide) ?_
  revert hf
  refine k_req (fun h162 hf => ?_)
  revert hf
  refine k_inc (fun n1 k1 hf en ek => ?_)
  revert hf
  refine k_stp (fun q163 eq163 hf => ?_)
  revert hf
  refine k_stp (fun U164 eU164 hf => ?_)
  revert hf
  refine k_stp (fun T165 eT165 hf => ?_)
  refine w_newa (t := 1) (atype := .long) C hw (by decide) rfl q360 h162.1 h162.2 (by show _ ≤ mc; omega) (by show _ ≤ ms; omega) eq163 eU164 eT165 dX5_init_291 (fun H hw => ?_)
  replace hn := add_r hn en
  replace hk := add_r hk ek
  clear en ek
  generalize n1 = n at hf hn
  generalize k1 = k at hf hk
  refine lv_dup hx hb dX5_init_293 rfl ?_
  refine lv_iconst (v := (0 : Int32)) hx hb dX5_init_294 (by decide) ?_
  refine lv_ldc2 (v := (540338 : Int64)) hx hb hown (hts _ q1522) dX5_init_295 ?_
  revert hf
  refine k_req (fun h166 hf => ?_)
  revert hf
  refine k_stp (fun U167 eU167 hf => ?_)
  refine w_last C hw h166 eU167 dX5_init_298 (fun H locs hw => ?_)
  refine lv_dup hx hb dX5_init_299 rfl ?_
  refine lv_iconst (v := (1 : Int32)) hx hb dX5_init_300 (by decide) ?_
  refine lv_ldc2 (v := (590955 : Int64)) hx hb hown (hts _ q1523) dX5_init_301 ?_
  revert hf
  refine k_req (fun h168 hf => ?_)
  revert hf
  refine k_stp (fun U169 eU169 hf => ?_)
  refine w_last C hw h168 eU169 dX5_init_304 (fun H locs hw => ?_)
  refine lv_dup hx hb dX5_init_305 rfl ?_
  refine lv_iconst (v := (2 : Int32)) hx hb dX5_init_306 (by decide) ?_
  refine lv_ldc2 (v := (83513733 : Int64)) hx hb hown (hts _ q1524) dX5_init_307 ?_
  revert hf
  refine k_req (fun h170 hf => ?_)
  revert hf
  refine k_stp (fun U171 eU171 hf => ?_)
  refine w_last C hw h170 eU171 dX5_init_310 (fun H locs hw => ?_)
  refine lv_dup hx hb dX5_init_311 rfl ?_
  refine lv_iconst (v := (3 : Int32)) hx hb dX5_init_312 (by decide) ?_
  refine lv_ldc2 (v := (525939 : Int64)) hx hb hown (hts _ q1525) dX5_init_313 ?_
  revert hf
  refine k_req (fun h172 hf => ?_)
  revert hf
  refine k_stp (fun U173 eU173 hf => ?_)
  refine w_last C hw h172 eU173 dX5_init_316 (fun H locs hw => ?_)
  revert hf
  refine k_req (fun k174 hf => ?_)
  revert hf
  refine k_stp (fun U175 eU175 hf => ?_)
  refine pf_X5_115 C hw k174 hnm eU175 dX5_init_317 (fun H locs hw => ?_)
  refine lv_aload_n hx hb dX5_init_320 rfl (lv_at hl 0 rfl) ?_
  refine lv_bipush (v := (120 : Int32)) hx hb dX5_init_321 (by decide) ?_
  revert hf
  refine k_req (fun h176 hf => ?_)
  revert hf
  refine k_inc (fun n1 k1 hf en ek => ?_)
  revert hf
  refine k_stp (fun q177 eq177 hf => ?_)
  revert hf
  refine k_stp (fun U178 eU178 hf => ?_)
  revert hf
  refine k_stp (fun T179 eT179 hf => ?_)
  refine w_newa (t := 0) (atype := .int) C hw (by decide) rfl q201 h176.1 h176.2 (by show _ ≤ mc; omega) (by show _ ≤ ms; omega) eq177 eU178 eT179 dX5_init_323 (fun H hw => ?_)
  replace hn := add_r hn en
  replace hk := add_r hk ek
  clear en ek
  generalize n1 = n at hf hn
  generalize k1 = k at hf hk
  revert hf
  refine k_req (fun k180 hf => ?_)
  revert hf
  refine k_stp (fun U181 eU181 hf => ?_)
  refine pf_X5_118 C hw k180 hnm eU181 dX5_init_325 (fun H locs hw => ?_)
  refine lv_aload_n hx hb dX5_init_328 rfl (lv_at hl 0 rfl) ?_
  refine lv_iconst (v := ((-1) : Int32)) hx hb dX5_init_329 (by decide) ?_
  revert hf
  refine k_stp (fun U182 eU182 hf => ?_)
  refine pf_X5_121 C hw k180 eU182 dX5_init_330 (fun H locs hw => ?_)
  refine lv_aload_n hx hb dX5_init_333 rfl (lv_at hl 0 rfl) ?_
  refine lv_bipush (v := (21 : Int32)) hx hb dX5_init_334 (by decide) ?_
  revert hf
  refine k_req (fun h183 hf => ?_)
  revert hf
  refine k_inc (fun n1 k1 hf en ek => ?_)
  revert hf
  refine k_stp (fun q184 eq184 hf => ?_)
  revert hf
  refine k_stp (fun U185 eU185 hf => ?_)
  revert hf
  refine k_stp (fun T186 eT186 hf => ?_)
  refine w_newa (t := 1) (atype := .long) C hw (by decide) rfl q360 h183.1 h183.2 (by show _ ≤ mc; omega) (by show _ ≤ ms; omega) eq184 eU185 eT186 dX5_init_336 (fun H hw => ?_)
  replace hn := add_r hn en
  replace hk := add_r hk ek
  clear en ek
  generalize n1 = n at hf hn
  generalize k1 = k at hf hk
  revert hf
  refine k_req (fun k187 hf => ?_)
  revert hf
  refine k_stp (fun U188 eU188 hf => ?_)
  refine pf_X5_124 C hw k187 hnm eU188 dX5_init_338 (fun H locs hw => ?_)
  refine lv_aload_n hx hb dX5_init_341 rfl (lv_at hl 0 rfl) ?_
  refine lv_sipush (v := (160 : Int32)) hx hb dX5_init_342 (by decide) ?_
  revert hf
  refine k_req (fun h189 hf => ?_)
  revert hf
  refine k_inc (fun n1 k1 hf en ek => ?_)
  revert hf
  refine k_stp (fun q190 eq190 hf => ?_)
  revert hf
  refine k_stp (fun U191 eU191 hf => ?_)
  revert hf
  refine k_stp (fun T192 eT192 hf => ?_)
  refine w_newa (t := 0) (atype := .int) C hw (by decide) rfl q201 h189.1 h189.2 (by show _ ≤ mc; omega) (by show _ ≤ ms; omega) eq190 eU191 eT192 dX5_init_345 (fun H hw => ?_)
  replace hn := add_r hn en
  replace hk := add_r hk ek
  clear en ek
  generalize n1 = n at hf hn
  generalize k1 = k at hf hk
  revert hf
  refine k_req (fun k193 hf => ?_)
  revert hf
  refine k_stp (fun U194 eU194 hf => ?_)
  refine pf_X5_127 C hw k193 hnm eU194 dX5_init_347 (fun H locs hw => ?_)
  refine lv_aload_n hx hb dX5_init_350 rfl (lv_at hl 0 rfl) ?_
  refine lv_iconst (v := ((-1) : Int32)) hx hb dX5_init_351 (by decide) ?_
  revert hf
  refine k_stp (fun U195 eU195 hf => ?_)
  refine pf_X5_130 C hw k193 eU195 dX5_init_352 (fun H locs hw => ?_)
  refine lv_aload_n hx hb dX5_init_355 rfl (lv_at hl 0 rfl) ?_
  revert hf
  refine k_drf (fun r196 er196 hf => ?_)
  refine gf_X5_13 C hw k193 er196 dX5_init_356 ?_
  refine lv_iconst (v := (4 : Int32)) hx hb dX5_init_359 (by decide) ?_
  refine lv_iconst (v := ((-1) : Int32)) hx hb dX5_init_360 (by decide) ?_
  revert hf
  refine k_req (fun h197 hf => ?_)
  revert hf
  refine k_stp (fun U198 eU198 hf => ?_)
  refine w_iast C hw h197 eU198 dX5_init_361 (fun H locs hw => ?_)
  refine lv_aload_n hx hb dX5_init_362 rfl (lv_at hl 0 rfl) ?_
  revert hf
  refine k_drf (fun r199 er199 hf => ?_)
  refine gf_X5_13 C hw k193 er199 dX5_init_363 ?_
  refine lv_bipush (v := (6 : Int32)) hx hb dX5_init_366 (by decide) ?_
  refine lv_iconst (v := (1 : Int32)) hx hb dX5_init_368 (by decide) ?_
  revert hf
  refine k_req (fun h200 hf => ?_)
  revert hf
  refine k_stp (fun U201 eU201 hf => ?_)
  refine w_iast C hw h200 eU201 dX5_init_369 (fun H locs hw => ?_)
  refine lv_aload_n hx hb dX5_init_370 rfl (lv_at hl 0 rfl) ?_
  revert hf
  refine k_drf (fun r202 er202 hf => ?_)
  refine gf_X5_13 C hw k193 er202 dX5_init_371 ?_
  refine lv_bipush (v := (8 : Int32)) hx hb dX5_init_374 (by decide) ?_
  refine lv_bipush (v := (85 : Int32)) hx hb dX5_init_376 (by decide) ?_
  revert hf
  refine k_req (fun h203 hf => ?_)
  revert hf
  refine k_stp (fun U204 eU204 hf => ?_)
  refine w_iast C hw h203 eU204 dX5_init_378 (fun H locs hw => ?_)
  cases hf
  cases hn
  cases hk
  exact w_vret C hr hw dX5_init_379
set_option maxHeartbeats 4000000 in
theorem jk_X5_tell_10 {l : Launch} {G : gG} {p : Program} {e : Env} {s : State} {m : MethodId} {args : Array Value} {below : List Frame} {meth : Method} {c : Code} {T : Tt} {V0 : Vt} {r : Int32} {V' : Vt} (C : Cx G p s m args meth c cX5_tell RX5 2) (hr : meth.sig.returnType = (some .int)) {x0 : Nat} {x1 : Int32} {s0 : Nat} {s1 : Int32} {H : Heap} {locs : List Loc} {ls : Array Slot} (k0 : T.1 x0 = 6) (hf : f_X5_tell_J10 T V0 x0 x1 s0 s1 = some (r, V')) (hw : wS G V0 T H locs) (hl : lv_has ls 2 [(0, .ref (gb G + x0)), (1, .int x1)]) : W p l e (rmL 0 0 0) s m args below meth c H locs 0 0 (eQ G below (some (.int r)) V' T args s 0 0) (F0 m 10 ls [.int s1, .ref (gb G + s0)]) := by
  have hx := C.1
  have hb := C.2.1
  have hown := C.2.2.2.1
  have hts := C.2.2.2.2.1
  unfold f_X5_tell_J10 at hf
  revert hf
  refine k_req (fun k2 hf => ?_)
  revert hf
  refine k_stp (fun U3 eU3 hf => ?_)
  refine pf_X5_136 C hw k2 eU3 dX5_tell_10 (fun H locs hw => ?_)
  refine lv_iload_n hx hb dX5_tell_13 rfl (lv_at hl 1 rfl) ?_
  refine lv_if_ge (tgt := 28) hx hb dX5_tell_14 (by decide) (fun c4 => ?_) (fun c4 => ?_)
  · replace hf := ite_t c4 hf
    refine lv_iload_n hx hb dX5_tell_28 rfl (lv_at hl 1 rfl) ?_
    cases hf
    exact w_iret C hr hw dX5_tell_29
  · replace hf := ite_f c4 hf
    refine lv_aload_n hx hb dX5_tell_17 rfl (lv_at hl 0 rfl) ?_
    revert hf
    refine k_drf (fun r5 er5 hf => ?_)
    refine gf_X5_7 C hw k0 er5 dX5_tell_18 ?_
    refine lv_iload_n hx hb dX5_tell_21 rfl (lv_at hl 1 rfl) ?_
    refine lv_ineg hx hb dX5_tell_22 ?_
    refine lv_dup2_11 hx hb dX5_tell_23 rfl rfl ?_
    revert hf
    refine k_req (fun h6 hf => ?_)
    refine w_iald C hw h6 rfl dX5_tell_24 ?_
    refine lv_iconst (v := (1 : Int32)) hx hb dX5_tell_25 (by decide) ?_
    refine lv_iadd hx hb dX5_tell_26 ?_
    revert hf
    refine k_req (fun h7 hf => ?_)
    revert hf
    refine k_stp (fun U8 eU8 hf => ?_)
    refine w_iast C hw h7 eU8 dX5_tell_27 (fun H locs hw => ?_)
    refine lv_iload_n hx hb dX5_tell_28 rfl (lv_at hl 1 rfl) ?_
    cases hf
    exact w_iret C hr hw dX5_tell_29
set_option maxHeartbeats 4000000 in
theorem ok_X5_tell {l : Launch} {G : gG} {T : Tt} {V0 : Vt} {o : Nat} {a0 : Int32} {r : Int32} {V' : Vt} (hf : f_X5_tell T V0 o a0 = some (r, V')) : okM l G yX5_tell cX5_tell 2 (some .int) 0 [.ref (gb G + o), .int a0] V0 T (some (.int r)) V' T 0 0 := by
  refine ok_intro (by decide) (Nat.le_of_ble_eq_true rfl) ?_
  intro p e s m below meth c ls C hr hnm hw hl
  have hx := C.1
  have hb := C.2.1
  have hown := C.2.2.2.1
  have hts := C.2.2.2.2.1
  have hl : lv_has ls 2 [(0, .ref (gb G + o)), (1, .int a0)] := hl
  unfold f_X5_tell at hf
  revert hf
  refine k_req (fun k0 hf => ?_)
  refine lv_aload_n hx hb dX5_tell_0 rfl (lv_at hl 0 rfl) ?_
  refine lv_iload_n hx hb dX5_tell_1 rfl (lv_at hl 1 rfl) ?_
  refine lv_if_ge (tgt := 9) hx hb dX5_tell_2 (by decide) (fun c1 => ?_) (fun c1 => ?_)
  · replace hf := ite_t c1 hf
    refine lv_iconst (v := (0 : Int32)) hx hb dX5_tell_9 (by decide) ?_
    exact jk_X5_tell_10 C hr k0 hf hw (lv_sub hl [0, 1] rfl)
  · replace hf := ite_f c1 hf
    refine lv_iload_n hx hb dX5_tell_5 rfl (lv_at hl 1 rfl) ?_
    refine lv_goto (tgt := 10) hx hb dX5_tell_6 (by decide) ?_
    exact jk_X5_tell_10 C hr k0 hf hw (lv_sub hl [0, 1] rfl)
set_option maxHeartbeats 4000000 in
theorem lk_X5_putBack_2 {l : Launch} {G : gG} {p : Program} {e : Env} {s : State} {m : MethodId} {args : Array Value} {below : List Frame} {meth : Method} {c : Code} {T : Tt} {V' : Vt} (C : Cx G p s m args meth c cX5_putBack RX5 3) (hr : meth.sig.returnType = none) {x0 : Nat} {x1 : Int32} {kx2_35 : Vt → Option (Vt)} (k0 : T.1 x0 = 6) (hkx2_35 : ∀ (W1 : Vt) (H : Heap) (locs : List Loc) (ls : Array Slot), kx2_35 W1 = some V' → wS G W1 T H locs → lv_has ls 3 [] → W p l e (rmL 0 0 0) s m args below meth c H locs 0 0 (eQ G below none V' T args s 0 0) (F0 m 35 ls [])) : ∀ (n : Nat) (x2 : Int32) (V1 : Vt) (H : Heap) (locs : List Loc) (ls : Array Slot), f_X5_putBack_L2 T x0 x1 kx2_35 n x2 V1 = some V' → wS G V1 T H locs → lv_has ls 3 [(0, .ref (gb G + x0)), (1, .int x1), (2, .int x2)] → W p l e (rmL 0 0 0) s m args below meth c H locs 0 0 (eQ G below none V' T args s 0 0) (F0 m 2 ls []) := by
  have hx := C.1
  have hb := C.2.1
  have hown := C.2.2.2.1
  have hts := C.2.2.2.2.1
  intro n
  induction n with
  | zero =>
    intro x2 V1 H locs ls hf
    cases hf
  | succ n ih =>
    intro x2 V1 H locs ls hf hw hl
    unfold f_X5_putBack_L2 at hf
    refine lv_iload_n hx hb dX5_putBack_2 rfl (lv_at hl 2 rfl) ?_
    refine lv_sipush (v := (165 : Int32)) hx hb dX5_putBack_3 (by decide) ?_
    refine lv_icmp_ge (tgt := 35) hx hb dX5_putBack_6 (by decide) (fun c1 => ?_) (fun c1 => ?_)
    · replace hf := ite_t c1 hf
      exact hkx2_35 _ _ _ _ hf hw (lv_sub hl [] rfl)
    · replace hf := ite_f c1 hf
      refine lv_aload_n hx hb dX5_putBack_9 rfl (lv_at hl 0 rfl) ?_
      revert hf
      refine k_drf (fun r2 er2 hf => ?_)
      refine gf_X5_13 C hw k0 er2 dX5_putBack_10 ?_
      refine lv_iconst (v := (5 : Int32)) hx hb dX5_putBack_13 (by decide) ?_
      refine lv_iload_n hx hb dX5_putBack_14 rfl (lv_at hl 2 rfl) ?_
      refine lv_iadd hx hb dX5_putBack_15 ?_
      refine lv_aload_n hx hb dX5_putBack_16 rfl (lv_at hl 0 rfl) ?_
      revert hf
      refine k_drf (fun r3 er3 hf => ?_)
      refine gf_X5_23 C hw k0 er3 dX5_putBack_17 ?_
      refine lv_sipush (v := (165 : Int32)) hx hb dX5_putBack_20 (by decide) ?_
      refine lv_iload_n hx hb dX5_putBack_23 rfl (lv_at hl 1 rfl) ?_
      refine lv_imul hx hb dX5_putBack_24 ?_
      refine lv_iload_n hx hb dX5_putBack_25 rfl (lv_at hl 2 rfl) ?_
      refine lv_iadd hx hb dX5_putBack_26 ?_
      revert hf
      refine k_req (fun h4 hf => ?_)
      refine w_iald C hw h4 rfl dX5_putBack_27 ?_
      revert hf
      refine k_req (fun h5 hf => ?_)
      revert hf
      refine k_stp (fun U6 eU6 hf => ?_)
      refine w_iast C hw h5 eU6 dX5_putBack_28 (fun H locs hw => ?_)
      revert hf
      refine k_stp (fun z7 ez7 hf => ?_)
      refine lv_iinc (k := 2) (lv' := [(2, .int z7), (0, .ref (gb G + x0)), (1, .int x1)]) hx hb dX5_putBack_29 hl rfl (inc_e (by decide) ez7) (by decide) rfl (fun ls hl => ?_)
      refine lv_goto (tgt := 2) hx hb dX5_putBack_32 (by decide) ?_
      exact ih _ _ _ _ _ hf hw (lv_sub hl [1, 2, 0] rfl)
set_option maxHeartbeats 4000000 in
theorem ok_X5_putBack {l : Launch} {G : gG} {T : Tt} {V0 : Vt} {o : Nat} {a0 : Int32} {V' : Vt} (hf : f_X5_putBack T V0 o a0 = some V') : okM l G yX5_putBack cX5_putBack 3 none 0 [.ref (gb G + o), .int a0] V0 T none V' T 0 0 := by
  refine ok_intro (by decide) (Nat.le_of_ble_eq_true rfl) ?_
  intro p e s m below meth c ls C hr hnm hw hl
  have hx := C.1
  have hb := C.2.1
  have hown := C.2.2.2.1
  have hts := C.2.2.2.2.1
  have hl : lv_has ls 3 [(0, .ref (gb G + o)), (1, .int a0)] := hl
  unfold f_X5_putBack at hf
  revert hf
  refine k_req (fun k0 hf => ?_)
  refine lv_iconst (v := (0 : Int32)) hx hb dX5_putBack_0 (by decide) ?_
  refine lv_istore_n (lv' := [(2, .int (0 : Int32)), (0, .ref (gb G + o)), (1, .int a0)]) hx hb dX5_putBack_1 rfl hl (by decide) rfl (fun ls hl => ?_)
  refine lk_X5_putBack_2 C hr k0 (fun U8 H locs ls hf hw hl => ?_) fuel _ _ _ _ _ hf hw (lv_sub hl [1, 2, 0] rfl)
  cases hf
  exact w_vret C hr hw dX5_putBack_35
set_option maxHeartbeats 4000000 in
theorem ok_X5_undo {l : Launch} {G : gG} {T : Tt} {V0 : Vt} {o : Nat} {r : Int32} {V' : Vt} (hf : f_X5_undo T V0 o = some (r, V')) : okM l G yX5_undo cX5_undo 1 (some .int) 1 [.ref (gb G + o)] V0 T (some (.int r)) V' T 0 0 := by
  refine ok_intro (by decide) (Nat.le_of_ble_eq_true rfl) ?_
  intro p e s m below meth c ls C hr hnm hw hl
  have hx := C.1
  have hb := C.2.1
  have hown := C.2.2.2.1
  have hts := C.2.2.2.2.1
  have hl : lv_has ls 1 [(0, .ref (gb G + o))] := hl
  unfold f_X5_undo at hf
  revert hf
  refine k_req (fun k0 hf => ?_)
  refine lv_aload_n hx hb dX5_undo_0 rfl (lv_at hl 0 rfl) ?_
  refine lv_iconst (v := (0 : Int32)) hx hb dX5_undo_1 (by decide) ?_
  revert hf
  refine k_stp (fun U1 eU1 hf => ?_)
  refine pf_X5_133 C hw k0 eU1 dX5_undo_2 (fun H locs hw => ?_)
  refine lv_aload_n hx hb dX5_undo_5 rfl (lv_at hl 0 rfl) ?_
  refine gf_X5_139 C hw k0 dX5_undo_6 ?_
  refine lv_if_ne (tgt := 19) hx hb dX5_undo_9 (by decide) (fun c2 => ?_) (fun c2 => ?_)
  · replace hf := ite_f c2 hf
    refine lv_aload_n hx hb dX5_undo_19 rfl (lv_at hl 0 rfl) ?_
    refine lv_dup hx hb dX5_undo_20 rfl ?_
    refine gf_X5_139 C hw k0 dX5_undo_21 ?_
    refine lv_iconst (v := (1 : Int32)) hx hb dX5_undo_24 (by decide) ?_
    refine lv_isub hx hb dX5_undo_25 ?_
    revert hf
    refine k_stp (fun U3 eU3 hf => ?_)
    refine pf_X5_139 C hw k0 eU3 dX5_undo_26 (fun H locs hw => ?_)
    refine lv_aload_n hx hb dX5_undo_29 rfl (lv_at hl 0 rfl) ?_
    refine lv_aload_n hx hb dX5_undo_30 rfl (lv_at hl 0 rfl) ?_
    refine gf_X5_139 C hw k0 dX5_undo_31 ?_
    revert hf
    refine k_pcl (fun U6 h4 hf => ?_)
    refine w_afv hw (w_rV (As := [.int (U3.1 o 8)]) C hw (ok_X5_putBack h4) (cw_X5_150 hts (Nat.le_of_ble_eq_true rfl) (Nat.le_of_ble_eq_true rfl)) rfl (by decide) (of_req h4).1 rfl hl.1 rfl (Nat.le_of_ble_eq_true rfl) ⟨Nat.zero_le _, Nat.zero_le _⟩ dX5_undo_34) (fun H locs hw => ?_)
    refine lv_aload_n hx hb dX5_undo_37 rfl (lv_at hl 0 rfl) ?_
    refine lv_aload_n hx hb dX5_undo_38 rfl (lv_at hl 0 rfl) ?_
    revert hf
    refine k_drf (fun r7 er7 hf => ?_)
    refine gf_X5_26 C hw k0 er7 dX5_undo_39 ?_
    refine lv_aload_n hx hb dX5_undo_42 rfl (lv_at hl 0 rfl) ?_
    refine gf_X5_139 C hw k0 dX5_undo_43 ?_
    revert hf
    refine k_req (fun h8 hf => ?_)
    refine w_iald C hw h8 rfl dX5_undo_46 ?_
    revert hf
    refine k_cal (fun z10 U11 h9 hf => ?_)
    refine w_afi hw (w_rV (As := [.int (U6.1 r7 (ixN (U6.1 o 8)))]) C hw (ok_X5_tell h9) (cw_X5_142 hts (Nat.le_of_ble_eq_true rfl) (Nat.le_of_ble_eq_true rfl)) rfl (by decide) (of_req h9).1 rfl hl.1 rfl (Nat.le_of_ble_eq_true rfl) ⟨Nat.zero_le _, Nat.zero_le _⟩ dX5_undo_47) (fun H locs hw => ?_)
    cases hf
    exact w_iret C hr hw dX5_undo_50
  · replace hf := ite_t c2 hf
    refine lv_aload_n hx hb dX5_undo_12 rfl (lv_at hl 0 rfl) ?_
    refine lv_bipush (v := ((-3) : Int32)) hx hb dX5_undo_13 (by decide) ?_
    revert hf
    refine k_cal (fun z13 U14 h12 hf => ?_)
    refine w_afi hw (w_rV (As := [.int ((-3) : Int32)]) C hw (ok_X5_tell h12) (cw_X5_142 hts (Nat.le_of_ble_eq_true rfl) (Nat.le_of_ble_eq_true rfl)) rfl (by decide) (of_req h12).1 rfl hl.1 rfl (Nat.le_of_ble_eq_true rfl) ⟨Nat.zero_le _, Nat.zero_le _⟩ dX5_undo_15) (fun H locs hw => ?_)
    cases hf
    exact w_iret C hr hw dX5_undo_18
set_option maxHeartbeats 4000000 in
theorem ok_X5_in {l : Launch} {G : gG} {T : Tt} {V0 : Vt} {a0 : Int64} {a1 : Int64} {a2 : Int64} {r : Int32} (hf : f_X5_in T V0 a0 a1 a2 = some r) : okM l G yX5_in cX5_in 6 (some .boolean) 0 [.long a0, .long a1, .long a2] V0 T (some (.int r)) V0 T 0 0 := by
  refine ok_intro (by decide) (Nat.le_of_ble_eq_true rfl) ?_
  intro p e s m below meth c ls C hr hnm hw hl
  have hx := C.1
  have hb := C.2.1
  have hown := C.2.2.2.1
  have hts := C.2.2.2.2.1
  have hl : lv_has ls 6 [(0, .long a0), (2, .long a1), (4, .long a2)] := hl
  unfold f_X5_in at hf
  refine lv_lload_n hx hb dX5_in_0 rfl (lv_at hl 0 rfl) ?_
  refine lv_lload_n hx hb dX5_in_1 rfl (lv_at hl 1 rfl) ?_
  refine W.lcmp hx hb dX5_in_2 ?_
  refine lv_if_lt (tgt := 17) hx hb dX5_in_3 (by decide) (fun c1 => ?_) (fun c1 => ?_)
  · replace hf := ite_t c1 hf
    refine lv_iconst (v := (0 : Int32)) hx hb dX5_in_17 (by decide) ?_
    cases hf
    exact w_zret C hr hw (by decide) dX5_in_18
  · replace hf := ite_f c1 hf
    refine lv_lload_n hx hb dX5_in_6 rfl (lv_at hl 0 rfl) ?_
    refine lv_lload hx hb dX5_in_7 (lv_at hl 2 rfl) ?_
    refine W.lcmp hx hb dX5_in_9 ?_
    refine lv_if_gt (tgt := 17) hx hb dX5_in_10 (by decide) (fun c2 => ?_) (fun c2 => ?_)
    · replace hf := ite_t c2 hf
      refine lv_iconst (v := (0 : Int32)) hx hb dX5_in_17 (by decide) ?_
      cases hf
      exact w_zret C hr hw (by decide) dX5_in_18
    · replace hf := ite_f c2 hf
      refine lv_iconst (v := (1 : Int32)) hx hb dX5_in_13 (by decide) ?_
      refine lv_goto (tgt := 18) hx hb dX5_in_14 (by decide) ?_
      cases hf
      exact w_zret C hr hw (by decide) dX5_in_18
set_option maxHeartbeats 4000000 in
theorem lk_X5_image_23 {l : Launch} {G : gG} {p : Program} {e : Env} {s : State} {m : MethodId} {args : Array Value} {below : List Frame} {meth : Method} {c : Code} {T : Tt} {r : Int32} {V' : Vt} (C : Cx G p s m args meth c cX5_image RX5 3) (hr : meth.sig.returnType = (some .int)) {x0 : Nat} {x1 : Int32} {kx23_54 : Vt → Option (Int32 × Vt)} (k0 : T.1 x0 = 6) (hkx23_54 : ∀ (W1 : Vt) (H : Heap) (locs : List Loc) (ls : Array Slot), kx23_54 W1 = some (r, V') → wS G W1 T H locs → lv_has ls 3 [(0, .ref (gb G + x0)), (1, .int x1)] → W p l e (rmL 1 0 0) s m args below meth c H locs 0 0 (eQ G below (some (.int r)) V' T args s 0 0) (F0 m 54 ls [])) : ∀ (n : Nat) (x2 : Int32) (V1 : Vt) (H : Heap) (locs : List Loc) (ls : Array Slot), f_X5_image_L23 T x0 x1 kx23_54 n x2 V1 = some (r, V') → wS G V1 T H locs → lv_has ls 3 [(0, .ref (gb G + x0)), (1, .int x1), (2, .int x2)] → W p l e (rmL 1 0 0) s m args below meth c H locs 0 0 (eQ G below (some (.int r)) V' T args s 0 0) (F0 m 23 ls []) := by
  have hx := C.1
  have hb := C.2.1
  have hown := C.2.2.2.1
  have hts := C.2.2.2.2.1
  intro n
  induction n with
  | zero =>
    intro x2 V1 H locs ls hf
    cases hf
  | succ n ih =>
    intro x2 V1 H locs ls hf hw hl
    unfold f_X5_image_L23 at hf
    refine lv_iload_n hx hb dX5_image_23 rfl (lv_at hl 2 rfl) ?_
    refine lv_sipush (v := (9390 : Int32)) hx hb dX5_image_24 (by decide) ?_
    refine lv_icmp_ge (tgt := 54) hx hb dX5_image_27 (by decide) (fun c5 => ?_) (fun c5 => ?_)
    · replace hf := ite_t c5 hf
      exact hkx23_54 _ _ _ _ hf hw (lv_sub hl [0, 1] rfl)
    · replace hf := ite_f c5 hf
      refine lv_aload_n hx hb dX5_image_30 rfl (lv_at hl 0 rfl) ?_
      revert hf
      refine k_drf (fun r6 er6 hf => ?_)
      refine gf_X5_16 C hw k0 er6 dX5_image_31 ?_
      refine lv_sipush (v := (9390 : Int32)) hx hb dX5_image_34 (by decide) ?_
      refine lv_iload_n hx hb dX5_image_37 rfl (lv_at hl 1 rfl) ?_
      refine lv_imul hx hb dX5_image_38 ?_
      refine lv_iload_n hx hb dX5_image_39 rfl (lv_at hl 2 rfl) ?_
      refine lv_iadd hx hb dX5_image_40 ?_
      refine lv_aload_n hx hb dX5_image_41 rfl (lv_at hl 0 rfl) ?_
      revert hf
      refine k_drf (fun r7 er7 hf => ?_)
      refine gf_X5_13 C hw k0 er7 dX5_image_42 ?_
      refine lv_iload_n hx hb dX5_image_45 rfl (lv_at hl 2 rfl) ?_
      revert hf
      refine k_req (fun h8 hf => ?_)
      refine w_iald C hw h8 rfl dX5_image_46 ?_
      revert hf
      refine k_req (fun h9 hf => ?_)
      revert hf
      refine k_stp (fun U10 eU10 hf => ?_)
      refine w_iast C hw h9 eU10 dX5_image_47 (fun H locs hw => ?_)
      revert hf
      refine k_stp (fun z11 ez11 hf => ?_)
      refine lv_iinc (k := 2) (lv' := [(2, .int z11), (0, .ref (gb G + x0)), (1, .int x1)]) hx hb dX5_image_48 hl rfl (inc_e (by decide) ez11) (by decide) rfl (fun ls hl => ?_)
      refine lv_goto (tgt := 23) hx hb dX5_image_51 (by decide) ?_
      exact ih _ _ _ _ _ hf hw (lv_sub hl [1, 2, 0] rfl)
set_option maxHeartbeats 4000000 in
theorem ok_X5_image {l : Launch} {G : gG} {T : Tt} {V0 : Vt} {o : Nat} {a0 : Int32} {r : Int32} {V' : Vt} (hf : f_X5_image T V0 o a0 = some (r, V')) : okM l G yX5_image cX5_image 3 (some .int) 1 [.ref (gb G + o), .int a0] V0 T (some (.int r)) V' T 0 0 := by
  refine ok_intro (by decide) (Nat.le_of_ble_eq_true rfl) ?_
  intro p e s m below meth c ls C hr hnm hw hl
  have hx := C.1
  have hb := C.2.1
  have hown := C.2.2.2.1
  have hts := C.2.2.2.2.1
  have hl : lv_has ls 3 [(0, .ref (gb G + o)), (1, .int a0)] := hl
  unfold f_X5_image at hf
  revert hf
  refine k_req (fun k0 hf => ?_)
  refine lv_aload_n hx hb dX5_image_0 rfl (lv_at hl 0 rfl) ?_
  refine lv_iconst (v := (0 : Int32)) hx hb dX5_image_1 (by decide) ?_
  revert hf
  refine k_stp (fun U1 eU1 hf => ?_)
  refine pf_X5_133 C hw k0 eU1 dX5_image_2 (fun H locs hw => ?_)
  refine lv_iload_n hx hb dX5_image_5 rfl (lv_at hl 1 rfl) ?_
  refine lv_i2l hx hb dX5_image_6 rfl ?_
  refine lv_lconst (v := (0 : Int64)) hx hb dX5_image_7 (by decide) ?_
  refine lv_lconst (v := (1 : Int64)) hx hb dX5_image_8 (by decide) ?_
  revert hf
  refine k_pcl (fun z3 h2 hf => ?_)
  refine w_afi hw (w_rS (As := [.long (Int32.toInt64 a0), .long (0 : Int64), .long (1 : Int64)]) C hw (ok_X5_in h2) (cw_X5_153 hts (Nat.le_of_ble_eq_true rfl) (Nat.le_of_ble_eq_true rfl)) rfl hl.1 rfl (Nat.le_of_ble_eq_true rfl) ⟨Nat.zero_le _, Nat.zero_le _⟩ dX5_image_9) (fun H locs hw => ?_)
  refine lv_if_ne (tgt := 21) hx hb dX5_image_12 (by decide) (fun c4 => ?_) (fun c4 => ?_)
  · replace hf := ite_f c4 hf
    refine lv_iconst (v := (0 : Int32)) hx hb dX5_image_21 (by decide) ?_
    refine lv_istore_n (lv' := [(2, .int (0 : Int32)), (0, .ref (gb G + o)), (1, .int a0)]) hx hb dX5_image_22 rfl hl (by decide) rfl (fun ls hl => ?_)
    refine lk_X5_image_23 C hr k0 (fun U12 H locs ls hf hw hl => ?_) fuel _ _ _ _ _ hf hw (lv_sub hl [1, 2, 0] rfl)
    refine lv_aload_n hx hb dX5_image_54 rfl (lv_at hl 0 rfl) ?_
    revert hf
    refine k_drf (fun r13 er13 hf => ?_)
    refine gf_X5_19 C hw k0 er13 dX5_image_55 ?_
    refine lv_iload_n hx hb dX5_image_58 rfl (lv_at hl 1 rfl) ?_
    refine lv_iconst (v := (1 : Int32)) hx hb dX5_image_59 (by decide) ?_
    revert hf
    refine k_req (fun h14 hf => ?_)
    revert hf
    refine k_req (fun h15 hf => ?_)
    revert hf
    refine k_stp (fun U16 eU16 hf => ?_)
    refine w_zast C hw h14 h15 eU16 dX5_image_60 (fun H locs hw => ?_)
    refine lv_aload_n hx hb dX5_image_61 rfl (lv_at hl 0 rfl) ?_
    refine lv_iconst (v := (0 : Int32)) hx hb dX5_image_62 (by decide) ?_
    revert hf
    refine k_cal (fun z18 U19 h17 hf => ?_)
    refine w_afi hw (w_rV (As := [.int (0 : Int32)]) C hw (ok_X5_tell h17) (cw_X5_142 hts (Nat.le_of_ble_eq_true rfl) (Nat.le_of_ble_eq_true rfl)) rfl (by decide) (of_req h17).1 rfl hl.1 rfl (Nat.le_of_ble_eq_true rfl) ⟨Nat.zero_le _, Nat.zero_le _⟩ dX5_image_63) (fun H locs hw => ?_)
    cases hf
    exact w_iret C hr hw dX5_image_66
  · replace hf := ite_t c4 hf
    refine lv_aload_n hx hb dX5_image_15 rfl (lv_at hl 0 rfl) ?_
    refine lv_iconst (v := ((-1) : Int32)) hx hb dX5_image_16 (by decide) ?_
    revert hf
    refine k_cal (fun z21 U22 h20 hf => ?_)
    refine w_afi hw (w_rV (As := [.int ((-1) : Int32)]) C hw (ok_X5_tell h20) (cw_X5_142 hts (Nat.le_of_ble_eq_true rfl) (Nat.le_of_ble_eq_true rfl)) rfl (by decide) (of_req h20).1 rfl hl.1 rfl (Nat.le_of_ble_eq_true rfl) ⟨Nat.zero_le _, Nat.zero_le _⟩ dX5_image_17) (fun H locs hw => ?_)
    cases hf
    exact w_iret C hr hw dX5_image_20
set_option maxHeartbeats 4000000 in
theorem jk_X5_lasting_13 {l : Launch} {G : gG} {p : Program} {e : Env} {s : State} {m : MethodId} {args : Array Value} {below : List Frame} {meth : Method} {c : Code} {T : Tt} {V0 : Vt} {r : Int32} {V' : Vt} (C : Cx G p s m args meth c cX5_lasting RX5 2) (hr : meth.sig.returnType = (some .int)) {x0 : Nat} {x1 : Int32} {s0 : Nat} {s1 : Int32} {H : Heap} {locs : List Loc} {ls : Array Slot} (k0 : T.1 x0 = 6) (hf : f_X5_lasting_J13 T V0 x0 x1 s0 s1 = some (r, V')) (hw : wS G V0 T H locs) (hl : lv_has ls 2 [(0, .ref (gb G + x0)), (1, .int x1)]) : W p l e (rmL 1 0 0) s m args below meth c H locs 0 0 (eQ G below (some (.int r)) V' T args s 0 0) (F0 m 13 ls [.int s1, .ref (gb G + s0)]) := by
  have hx := C.1
  have hb := C.2.1
  have hown := C.2.2.2.1
  have hts := C.2.2.2.2.1
  unfold f_X5_lasting_J13 at hf
  revert hf
  refine k_req (fun k2 hf => ?_)
  revert hf
  refine k_stp (fun U3 eU3 hf => ?_)
  refine pf_X5_139 C hw k2 eU3 dX5_lasting_13 (fun H locs hw => ?_)
  refine lv_aload_n hx hb dX5_lasting_16 rfl (lv_at hl 0 rfl) ?_
  refine lv_iload_n hx hb dX5_lasting_17 rfl (lv_at hl 1 rfl) ?_
  revert hf
  refine k_cal (fun z5 U6 h4 hf => ?_)
  refine w_afi hw (w_rV (As := [.int x1]) C hw (ok_X5_tell h4) (cw_X5_142 hts (Nat.le_of_ble_eq_true rfl) (Nat.le_of_ble_eq_true rfl)) rfl (by decide) (of_req h4).1 rfl hl.1 rfl (Nat.le_of_ble_eq_true rfl) ⟨Nat.zero_le _, Nat.zero_le _⟩ dX5_lasting_18) (fun H locs hw => ?_)
  cases hf
  exact w_iret C hr hw dX5_lasting_21
set_option maxHeartbeats 4000000 in
theorem ok_X5_lasting {l : Launch} {G : gG} {T : Tt} {V0 : Vt} {o : Nat} {a0 : Int32} {r : Int32} {V' : Vt} (hf : f_X5_lasting T V0 o a0 = some (r, V')) : okM l G yX5_lasting cX5_lasting 2 (some .int) 1 [.ref (gb G + o), .int a0] V0 T (some (.int r)) V' T 0 0 := by
  refine ok_intro (by decide) (Nat.le_of_ble_eq_true rfl) ?_
  intro p e s m below meth c ls C hr hnm hw hl
  have hx := C.1
  have hb := C.2.1
  have hown := C.2.2.2.1
  have hts := C.2.2.2.2.1
  have hl : lv_has ls 2 [(0, .ref (gb G + o)), (1, .int a0)] := hl
  unfold f_X5_lasting at hf
  revert hf
  refine k_req (fun k0 hf => ?_)
  refine lv_aload_n hx hb dX5_lasting_0 rfl (lv_at hl 0 rfl) ?_
  refine lv_iload_n hx hb dX5_lasting_1 rfl (lv_at hl 1 rfl) ?_
  refine lv_if_ge (tgt := 12) hx hb dX5_lasting_2 (by decide) (fun c1 => ?_) (fun c1 => ?_)
  · replace hf := ite_t c1 hf
    refine lv_iconst (v := (0 : Int32)) hx hb dX5_lasting_12 (by decide) ?_
    exact jk_X5_lasting_13 C hr k0 hf hw (lv_sub hl [0, 1] rfl)
  · replace hf := ite_f c1 hf
    refine lv_aload_n hx hb dX5_lasting_5 rfl (lv_at hl 0 rfl) ?_
    refine gf_X5_139 C hw k0 dX5_lasting_6 ?_
    refine lv_goto (tgt := 13) hx hb dX5_lasting_9 (by decide) ?_
    exact jk_X5_lasting_13 C hr k0 hf hw (lv_sub hl [0, 1] rfl)
set_option maxHeartbeats 4000000 in
theorem lk_X5_back_39 {l : Launch} {G : gG} {p : Program} {e : Env} {s : State} {m : MethodId} {args : Array Value} {below : List Frame} {meth : Method} {c : Code} {T : Tt} {r : Int32} {V' : Vt} (C : Cx G p s m args meth c cX5_back RX5 3) (hr : meth.sig.returnType = (some .int)) {x0 : Nat} {x1 : Int32} {kx39_70 : Vt → Option (Int32 × Vt)} (k0 : T.1 x0 = 6) (hkx39_70 : ∀ (W1 : Vt) (H : Heap) (locs : List Loc) (ls : Array Slot), kx39_70 W1 = some (r, V') → wS G W1 T H locs → lv_has ls 3 [(0, .ref (gb G + x0))] → W p l e (rmL 2 0 0) s m args below meth c H locs 0 0 (eQ G below (some (.int r)) V' T args s 0 0) (F0 m 70 ls [])) : ∀ (n : Nat) (x2 : Int32) (V1 : Vt) (H : Heap) (locs : List Loc) (ls : Array Slot), f_X5_back_L39 T x0 x1 kx39_70 n x2 V1 = some (r, V') → wS G V1 T H locs → lv_has ls 3 [(0, .ref (gb G + x0)), (1, .int x1), (2, .int x2)] → W p l e (rmL 2 0 0) s m args below meth c H locs 0 0 (eQ G below (some (.int r)) V' T args s 0 0) (F0 m 39 ls []) := by
  have hx := C.1
  have hb := C.2.1
  have hown := C.2.2.2.1
  have hts := C.2.2.2.2.1
  intro n
  induction n with
  | zero =>
    intro x2 V1 H locs ls hf
    cases hf
  | succ n ih =>
    intro x2 V1 H locs ls hf hw hl
    unfold f_X5_back_L39 at hf
    refine lv_iload_n hx hb dX5_back_39 rfl (lv_at hl 2 rfl) ?_
    refine lv_sipush (v := (9390 : Int32)) hx hb dX5_back_40 (by decide) ?_
    refine lv_icmp_ge (tgt := 70) hx hb dX5_back_43 (by decide) (fun c8 => ?_) (fun c8 => ?_)
    · replace hf := ite_t c8 hf
      exact hkx39_70 _ _ _ _ hf hw (lv_sub hl [0] rfl)
    · replace hf := ite_f c8 hf
      refine lv_aload_n hx hb dX5_back_46 rfl (lv_at hl 0 rfl) ?_
      revert hf
      refine k_drf (fun r9 er9 hf => ?_)
      refine gf_X5_13 C hw k0 er9 dX5_back_47 ?_
      refine lv_iload_n hx hb dX5_back_50 rfl (lv_at hl 2 rfl) ?_
      refine lv_aload_n hx hb dX5_back_51 rfl (lv_at hl 0 rfl) ?_
      revert hf
      refine k_drf (fun r10 er10 hf => ?_)
      refine gf_X5_16 C hw k0 er10 dX5_back_52 ?_
      refine lv_sipush (v := (9390 : Int32)) hx hb dX5_back_55 (by decide) ?_
      refine lv_iload_n hx hb dX5_back_58 rfl (lv_at hl 1 rfl) ?_
      refine lv_imul hx hb dX5_back_59 ?_
      refine lv_iload_n hx hb dX5_back_60 rfl (lv_at hl 2 rfl) ?_
      refine lv_iadd hx hb dX5_back_61 ?_
      revert hf
      refine k_req (fun h11 hf => ?_)
      refine w_iald C hw h11 rfl dX5_back_62 ?_
      revert hf
      refine k_req (fun h12 hf => ?_)
      revert hf
      refine k_stp (fun U13 eU13 hf => ?_)
      refine w_iast C hw h12 eU13 dX5_back_63 (fun H locs hw => ?_)
      revert hf
      refine k_stp (fun z14 ez14 hf => ?_)
      refine lv_iinc (k := 2) (lv' := [(2, .int z14), (0, .ref (gb G + x0)), (1, .int x1)]) hx hb dX5_back_64 hl rfl (inc_e (by decide) ez14) (by decide) rfl (fun ls hl => ?_)
      refine lv_goto (tgt := 39) hx hb dX5_back_67 (by decide) ?_
      exact ih _ _ _ _ _ hf hw (lv_sub hl [1, 2, 0] rfl)
set_option maxHeartbeats 4000000 in
theorem ok_X5_back {l : Launch} {G : gG} {T : Tt} {V0 : Vt} {o : Nat} {a0 : Int32} {r : Int32} {V' : Vt} (hf : f_X5_back T V0 o a0 = some (r, V')) : okM l G yX5_back cX5_back 3 (some .int) 2 [.ref (gb G + o), .int a0] V0 T (some (.int r)) V' T 0 0 := by
  refine ok_intro (by decide) (Nat.le_of_ble_eq_true rfl) ?_
  intro p e s m below meth c ls C hr hnm hw hl
  have hx := C.1
  have hb := C.2.1
  have hown := C.2.2.2.1
  have hts := C.2.2.2.2.1
  have hl : lv_has ls 3 [(0, .ref (gb G + o)), (1, .int a0)] := hl
  unfold f_X5_back at hf
  revert hf
  refine k_req (fun k0 hf => ?_)
  refine lv_aload_n hx hb dX5_back_0 rfl (lv_at hl 0 rfl) ?_
  refine lv_iconst (v := (0 : Int32)) hx hb dX5_back_1 (by decide) ?_
  revert hf
  refine k_stp (fun U1 eU1 hf => ?_)
  refine pf_X5_133 C hw k0 eU1 dX5_back_2 (fun H locs hw => ?_)
  refine lv_iload_n hx hb dX5_back_5 rfl (lv_at hl 1 rfl) ?_
  refine lv_i2l hx hb dX5_back_6 rfl ?_
  refine lv_lconst (v := (0 : Int64)) hx hb dX5_back_7 (by decide) ?_
  refine lv_lconst (v := (1 : Int64)) hx hb dX5_back_8 (by decide) ?_
  revert hf
  refine k_pcl (fun z3 h2 hf => ?_)
  refine w_afi hw (w_rS (As := [.long (Int32.toInt64 a0), .long (0 : Int64), .long (1 : Int64)]) C hw (ok_X5_in h2) (cw_X5_153 hts (Nat.le_of_ble_eq_true rfl) (Nat.le_of_ble_eq_true rfl)) rfl hl.1 rfl (Nat.le_of_ble_eq_true rfl) ⟨Nat.zero_le _, Nat.zero_le _⟩ dX5_back_9) (fun H locs hw => ?_)
  refine lv_if_ne (tgt := 21) hx hb dX5_back_12 (by decide) (fun c4 => ?_) (fun c4 => ?_)
  · replace hf := ite_f c4 hf
    refine lv_aload_n hx hb dX5_back_21 rfl (lv_at hl 0 rfl) ?_
    revert hf
    refine k_drf (fun r5 er5 hf => ?_)
    refine gf_X5_19 C hw k0 er5 dX5_back_22 ?_
    refine lv_iload_n hx hb dX5_back_25 rfl (lv_at hl 1 rfl) ?_
    revert hf
    refine k_req (fun h6 hf => ?_)
    refine w_zald C hw h6 rfl dX5_back_26 ?_
    refine lv_if_ne (tgt := 37) hx hb dX5_back_27 (by decide) (fun c7 => ?_) (fun c7 => ?_)
    · replace hf := ite_f c7 hf
      refine lv_iconst (v := (0 : Int32)) hx hb dX5_back_37 (by decide) ?_
      refine lv_istore_n (lv' := [(2, .int (0 : Int32)), (0, .ref (gb G + o)), (1, .int a0)]) hx hb dX5_back_38 rfl hl (by decide) rfl (fun ls hl => ?_)
      refine lk_X5_back_39 C hr k0 (fun U15 H locs ls hf hw hl => ?_) fuel _ _ _ _ _ hf hw (lv_sub hl [1, 2, 0] rfl)
      refine lv_aload_n hx hb dX5_back_70 rfl (lv_at hl 0 rfl) ?_
      refine lv_iconst (v := (0 : Int32)) hx hb dX5_back_71 (by decide) ?_
      revert hf
      refine k_cal (fun z17 U18 h16 hf => ?_)
      refine w_afi hw (w_rV (As := [.int (0 : Int32)]) C hw (ok_X5_lasting h16) (cw_X5_157 hts (Nat.le_of_ble_eq_true rfl) (Nat.le_of_ble_eq_true rfl)) rfl (by decide) (of_req h16).1 rfl hl.1 rfl (Nat.le_of_ble_eq_true rfl) ⟨Nat.zero_le _, Nat.zero_le _⟩ dX5_back_72) (fun H locs hw => ?_)
      cases hf
      exact w_iret C hr hw dX5_back_75
    · replace hf := ite_t c7 hf
      refine lv_aload_n hx hb dX5_back_30 rfl (lv_at hl 0 rfl) ?_
      refine lv_bipush (v := ((-2) : Int32)) hx hb dX5_back_31 (by decide) ?_
      revert hf
      refine k_cal (fun z20 U21 h19 hf => ?_)
      refine w_afi hw (w_rV (As := [.int ((-2) : Int32)]) C hw (ok_X5_tell h19) (cw_X5_142 hts (Nat.le_of_ble_eq_true rfl) (Nat.le_of_ble_eq_true rfl)) rfl (by decide) (of_req h19).1 rfl hl.1 rfl (Nat.le_of_ble_eq_true rfl) ⟨Nat.zero_le _, Nat.zero_le _⟩ dX5_back_33) (fun H locs hw => ?_)
      cases hf
      exact w_iret C hr hw dX5_back_36
  · replace hf := ite_t c4 hf
    refine lv_aload_n hx hb dX5_back_15 rfl (lv_at hl 0 rfl) ?_
    refine lv_iconst (v := ((-1) : Int32)) hx hb dX5_back_16 (by decide) ?_
    revert hf
    refine k_cal (fun z23 U24 h22 hf => ?_)
    refine w_afi hw (w_rV (As := [.int ((-1) : Int32)]) C hw (ok_X5_tell h22) (cw_X5_142 hts (Nat.le_of_ble_eq_true rfl) (Nat.le_of_ble_eq_true rfl)) rfl (by decide) (of_req h22).1 rfl hl.1 rfl (Nat.le_of_ble_eq_true rfl) ⟨Nat.zero_le _, Nat.zero_le _⟩ dX5_back_17) (fun H locs hw => ?_)
    cases hf
    exact w_iret C hr hw dX5_back_20
set_option maxHeartbeats 4000000 in
theorem lk_X5_comes_67 {l : Launch} {G : gG} {p : Program} {e : Env} {s : State} {m : MethodId} {args : Array Value} {below : List Frame} {meth : Method} {c : Code} {T : Tt} {r : Int32} {V' : Vt} (C : Cx G p s m args meth c cX5_comes RX5 5) (hr : meth.sig.returnType = (some .int)) {x0 : Nat} {x3 : Int32} {kx67_96 : Vt → Option (Int32 × Vt)} (k0 : T.1 x0 = 6) (hkx67_96 : ∀ (W1 : Vt) (H : Heap) (locs : List Loc) (ls : Array Slot), kx67_96 W1 = some (r, V') → wS G W1 T H locs → lv_has ls 5 [(0, .ref (gb G + x0)), (3, .int x3)] → W p l e (rmL 1 0 0) s m args below meth c H locs 0 0 (eQ G below (some (.int r)) V' T args s 0 0) (F0 m 96 ls [])) : ∀ (n : Nat) (x4 : Int32) (V1 : Vt) (H : Heap) (locs : List Loc) (ls : Array Slot), f_X5_comes_L67 T x0 x3 kx67_96 n x4 V1 = some (r, V') → wS G V1 T H locs → lv_has ls 5 [(0, .ref (gb G + x0)), (3, .int x3), (4, .int x4)] → W p l e (rmL 1 0 0) s m args below meth c H locs 0 0 (eQ G below (some (.int r)) V' T args s 0 0) (F0 m 67 ls []) := by
  have hx := C.1
  have hb := C.2.1
  have hown := C.2.2.2.1
  have hts := C.2.2.2.2.1
  intro n
  induction n with
  | zero =>
    intro x4 V1 H locs ls hf
    cases hf
  | succ n ih =>
    intro x4 V1 H locs ls hf hw hl
    unfold f_X5_comes_L67 at hf
    refine lv_iload hx hb dX5_comes_67 (lv_at hl 2 rfl) ?_
    refine lv_bipush (v := (20 : Int32)) hx hb dX5_comes_69 (by decide) ?_
    refine lv_icmp_ge (tgt := 96) hx hb dX5_comes_71 (by decide) (fun c17 => ?_) (fun c17 => ?_)
    · replace hf := ite_t c17 hf
      exact hkx67_96 _ _ _ _ hf hw (lv_sub hl [0, 1] rfl)
    · replace hf := ite_f c17 hf
      refine lv_aload_n hx hb dX5_comes_74 rfl (lv_at hl 0 rfl) ?_
      revert hf
      refine k_drf (fun r18 er18 hf => ?_)
      refine gf_X5_13 C hw k0 er18 dX5_comes_75 ?_
      refine lv_bipush (v := (10 : Int32)) hx hb dX5_comes_78 (by decide) ?_
      refine lv_bipush (v := (20 : Int32)) hx hb dX5_comes_80 (by decide) ?_
      refine lv_iload_n hx hb dX5_comes_82 rfl (lv_at hl 1 rfl) ?_
      refine lv_imul hx hb dX5_comes_83 ?_
      refine lv_iadd hx hb dX5_comes_84 ?_
      refine lv_iload hx hb dX5_comes_85 (lv_at hl 2 rfl) ?_
      refine lv_iadd hx hb dX5_comes_87 ?_
      refine lv_iconst (v := (0 : Int32)) hx hb dX5_comes_88 (by decide) ?_
      revert hf
      refine k_req (fun h19 hf => ?_)
      revert hf
      refine k_stp (fun U20 eU20 hf => ?_)
      refine w_iast C hw h19 eU20 dX5_comes_89 (fun H locs hw => ?_)
      revert hf
      refine k_stp (fun z21 ez21 hf => ?_)
      refine lv_iinc (k := 2) (lv' := [(4, .int z21), (0, .ref (gb G + x0)), (3, .int x3)]) hx hb dX5_comes_90 hl rfl (inc_e (by decide) ez21) (by decide) rfl (fun ls hl => ?_)
      refine lv_goto (tgt := 67) hx hb dX5_comes_93 (by decide) ?_
      exact ih _ _ _ _ _ hf hw (lv_sub hl [1, 2, 0] rfl)
set_option maxHeartbeats 4000000 in
theorem ok_X5_comes {l : Launch} {G : gG} {T : Tt} {V0 : Vt} {o : Nat} {a0 : Int32} {a1 : Int32} {r : Int32} {V' : Vt} (hf : f_X5_comes T V0 o a0 a1 = some (r, V')) : okM l G yX5_comes cX5_comes 5 (some .int) 1 [.ref (gb G + o), .int a0, .int a1] V0 T (some (.int r)) V' T 0 0 := by
  refine ok_intro (by decide) (Nat.le_of_ble_eq_true rfl) ?_
  intro p e s m below meth c ls C hr hnm hw hl
  have hx := C.1
  have hb := C.2.1
  have hown := C.2.2.2.1
  have hts := C.2.2.2.2.1
  have hl : lv_has ls 5 [(0, .ref (gb G + o)), (1, .int a0), (2, .int a1)] := hl
  unfold f_X5_comes at hf
  revert hf
  refine k_req (fun k0 hf => ?_)
  refine lv_iload_n hx hb dX5_comes_0 rfl (lv_at hl 1 rfl) ?_
  refine lv_i2l hx hb dX5_comes_1 rfl ?_
  refine lv_lconst (v := (0 : Int64)) hx hb dX5_comes_2 (by decide) ?_
  refine lv_ldc2 (v := (4 : Int64)) hx hb hown (hts _ q1728) dX5_comes_3 ?_
  revert hf
  refine k_pcl (fun z2 h1 hf => ?_)
  refine w_afi hw (w_rS (As := [.long (Int32.toInt64 a0), .long (0 : Int64), .long (4 : Int64)]) C hw (ok_X5_in h1) (cw_X5_153 hts (Nat.le_of_ble_eq_true rfl) (Nat.le_of_ble_eq_true rfl)) rfl hl.1 rfl (Nat.le_of_ble_eq_true rfl) ⟨Nat.zero_le _, Nat.zero_le _⟩ dX5_comes_6) (fun H locs hw => ?_)
  refine lv_if_eq (tgt := 24) hx hb dX5_comes_9 (by decide) (fun c3 => ?_) (fun c3 => ?_)
  · replace hf := ite_t c3 hf
    refine lv_iconst (v := ((-1) : Int32)) hx hb dX5_comes_24 (by decide) ?_
    cases hf
    exact w_iret C hr hw dX5_comes_25
  · replace hf := ite_f c3 hf
    refine lv_iload_n hx hb dX5_comes_12 rfl (lv_at hl 2 rfl) ?_
    refine lv_i2l hx hb dX5_comes_13 rfl ?_
    refine lv_lconst (v := (1 : Int64)) hx hb dX5_comes_14 (by decide) ?_
    refine lv_ldc2 (v := (999 : Int64)) hx hb hown (hts _ q1729) dX5_comes_15 ?_
    revert hf
    refine k_pcl (fun z5 h4 hf => ?_)
    refine w_afi hw (w_rS (As := [.long (Int32.toInt64 a1), .long (1 : Int64), .long (999 : Int64)]) C hw (ok_X5_in h4) (cw_X5_153 hts (Nat.le_of_ble_eq_true rfl) (Nat.le_of_ble_eq_true rfl)) rfl hl.1 rfl (Nat.le_of_ble_eq_true rfl) ⟨Nat.zero_le _, Nat.zero_le _⟩ dX5_comes_18) (fun H locs hw => ?_)
    refine lv_if_ne (tgt := 26) hx hb dX5_comes_21 (by decide) (fun c6 => ?_) (fun c6 => ?_)
    · replace hf := ite_f c6 hf
      refine lv_aload_n hx hb dX5_comes_26 rfl (lv_at hl 0 rfl) ?_
      revert hf
      refine k_drf (fun r7 er7 hf => ?_)
      refine gf_X5_13 C hw k0 er7 dX5_comes_27 ?_
      refine lv_iconst (v := (0 : Int32)) hx hb dX5_comes_30 (by decide) ?_
      revert hf
      refine k_req (fun h8 hf => ?_)
      refine w_iald C hw h8 rfl dX5_comes_31 ?_
      revert hf
      refine k_stp (fun z9 ez9 hf => ?_)
      refine w_nmI ez9 ?_
      refine lv_istore_n (lv' := [(3, .int z9), (0, .ref (gb G + o)), (1, .int a0), (2, .int a1)]) hx hb dX5_comes_32 rfl hl (by decide) rfl (fun ls hl => ?_)
      refine lv_iload_n hx hb dX5_comes_33 rfl (lv_at hl 0 rfl) ?_
      refine lv_bipush (v := (8 : Int32)) hx hb dX5_comes_34 (by decide) ?_
      refine lv_icmp_ne (tgt := 42) hx hb dX5_comes_36 (by decide) (fun c10 => ?_) (fun c10 => ?_)
      · replace hf := ite_f c10 hf
        refine lv_aload_n hx hb dX5_comes_42 rfl (lv_at hl 1 rfl) ?_
        revert hf
        refine k_drf (fun r11 er11 hf => ?_)
        refine gf_X5_13 C hw k0 er11 dX5_comes_43 ?_
        refine lv_sipush (v := (170 : Int32)) hx hb dX5_comes_46 (by decide) ?_
        refine lv_iload_n hx hb dX5_comes_49 rfl (lv_at hl 0 rfl) ?_
        refine lv_iadd hx hb dX5_comes_50 ?_
        refine lv_iload_n hx hb dX5_comes_51 rfl (lv_at hl 2 rfl) ?_
        revert hf
        refine k_req (fun h12 hf => ?_)
        revert hf
        refine k_stp (fun U13 eU13 hf => ?_)
        refine w_iast C hw h12 eU13 dX5_comes_52 (fun H locs hw => ?_)
        refine lv_aload_n hx hb dX5_comes_53 rfl (lv_at hl 1 rfl) ?_
        revert hf
        refine k_drf (fun r14 er14 hf => ?_)
        refine gf_X5_13 C hw k0 er14 dX5_comes_54 ?_
        refine lv_sipush (v := (178 : Int32)) hx hb dX5_comes_57 (by decide) ?_
        refine lv_iload_n hx hb dX5_comes_60 rfl (lv_at hl 0 rfl) ?_
        refine lv_iadd hx hb dX5_comes_61 ?_
        refine lv_iload_n hx hb dX5_comes_62 rfl (lv_at hl 3 rfl) ?_
        revert hf
        refine k_req (fun h15 hf => ?_)
        revert hf
        refine k_stp (fun U16 eU16 hf => ?_)
        refine w_iast C hw h15 eU16 dX5_comes_63 (fun H locs hw => ?_)
        refine lv_iconst (v := (0 : Int32)) hx hb dX5_comes_64 (by decide) ?_
        refine lv_istore (lv' := [(4, .int (0 : Int32)), (3, .int z9), (0, .ref (gb G + o)), (1, .int a0), (2, .int a1)]) hx hb dX5_comes_65 hl (by decide) rfl (fun ls hl => ?_)
        refine lk_X5_comes_67 C hr k0 (fun U22 H locs ls hf hw hl => ?_) fuel _ _ _ _ _ hf hw (lv_sub hl [2, 1, 0] rfl)
        refine lv_aload_n hx hb dX5_comes_96 rfl (lv_at hl 0 rfl) ?_
        revert hf
        refine k_drf (fun r23 er23 hf => ?_)
        refine gf_X5_13 C hw k0 er23 dX5_comes_97 ?_
        refine lv_iconst (v := (0 : Int32)) hx hb dX5_comes_100 (by decide) ?_
        refine lv_dup2_11 hx hb dX5_comes_101 rfl rfl ?_
        revert hf
        refine k_req (fun h24 hf => ?_)
        refine w_iald C hw h24 rfl dX5_comes_102 ?_
        refine lv_iconst (v := (1 : Int32)) hx hb dX5_comes_103 (by decide) ?_
        refine lv_iadd hx hb dX5_comes_104 ?_
        revert hf
        refine k_req (fun h25 hf => ?_)
        revert hf
        refine k_stp (fun U26 eU26 hf => ?_)
        refine w_iast C hw h25 eU26 dX5_comes_105 (fun H locs hw => ?_)
        refine lv_iload_n hx hb dX5_comes_106 rfl (lv_at hl 1 rfl) ?_
        cases hf
        exact w_iret C hr hw dX5_comes_107
      · replace hf := ite_t c10 hf
        refine lv_bipush (v := ((-5) : Int32)) hx hb dX5_comes_39 (by decide) ?_
        cases hf
        exact w_iret C hr hw dX5_comes_41
    · replace hf := ite_t c6 hf
      refine lv_iconst (v := ((-1) : Int32)) hx hb dX5_comes_24 (by decide) ?_
      cases hf
      exact w_iret C hr hw dX5_comes_25
set_option maxHeartbeats 4000000 in
theorem ok_X5_cask {l : Launch} {G : gG} {T : Tt} {V0 : Vt} {o : Nat} {a0 : Int32} {a1 : Int32} {r : Int32} {V' : Vt} (hf : f_X5_cask T V0 o a0 a1 = some (r, V')) : okM l G yX5_cask cX5_cask 3 (some .int) 2 [.ref (gb G + o), .int a0, .int a1] V0 T (some (.int r)) V' T 0 0 := by
  refine ok_intro (by decide) (Nat.le_of_ble_eq_true rfl) ?_
  intro p e s m below meth c ls C hr hnm hw hl
  have hx := C.1
  have hb := C.2.1
  have hown := C.2.2.2.1
  have hts := C.2.2.2.2.1
  have hl : lv_has ls 3 [(0, .ref (gb G + o)), (1, .int a0), (2, .int a1)] := hl
  unfold f_X5_cask at hf
  revert hf
  refine k_req (fun k0 hf => ?_)
  refine lv_aload_n hx hb dX5_cask_0 rfl (lv_at hl 0 rfl) ?_
  refine lv_iconst (v := (0 : Int32)) hx hb dX5_cask_1 (by decide) ?_
  revert hf
  refine k_stp (fun U1 eU1 hf => ?_)
  refine pf_X5_133 C hw k0 eU1 dX5_cask_2 (fun H locs hw => ?_)
  refine lv_aload_n hx hb dX5_cask_5 rfl (lv_at hl 0 rfl) ?_
  refine lv_aload_n hx hb dX5_cask_6 rfl (lv_at hl 0 rfl) ?_
  refine lv_iload_n hx hb dX5_cask_7 rfl (lv_at hl 1 rfl) ?_
  refine lv_iload_n hx hb dX5_cask_8 rfl (lv_at hl 2 rfl) ?_
  revert hf
  refine k_cal (fun z3 U4 h2 hf => ?_)
  refine w_afi hw (w_rV (As := [.int a0, .int a1]) C hw (ok_X5_comes h2) (cw_X5_181 hts (Nat.le_of_ble_eq_true rfl) (Nat.le_of_ble_eq_true rfl)) rfl (by decide) (of_req h2).1 rfl hl.1 rfl (Nat.le_of_ble_eq_true rfl) ⟨Nat.zero_le _, Nat.zero_le _⟩ dX5_cask_9) (fun H locs hw => ?_)
  revert hf
  refine k_cal (fun z6 U7 h5 hf => ?_)
  refine w_afi hw (w_rV (As := [.int z3]) C hw (ok_X5_lasting h5) (cw_X5_157 hts (Nat.le_of_ble_eq_true rfl) (Nat.le_of_ble_eq_true rfl)) rfl (by decide) (of_req h5).1 rfl hl.1 rfl (Nat.le_of_ble_eq_true rfl) ⟨Nat.zero_le _, Nat.zero_le _⟩ dX5_cask_12) (fun H locs hw => ?_)
  cases hf
  exact w_iret C hr hw dX5_cask_15
set_option maxHeartbeats 4000000 in
theorem ok_X5_isCask {l : Launch} {G : gG} {T : Tt} {V0 : Vt} {o : Nat} {a0 : Int32} {r : Int32} (hf : f_X5_isCask T V0 o a0 = some r) : okM l G yX5_isCask cX5_isCask 2 (some .boolean) 1 [.ref (gb G + o), .int a0] V0 T (some (.int r)) V0 T 0 0 := by
  refine ok_intro (by decide) (Nat.le_of_ble_eq_true rfl) ?_
  intro p e s m below meth c ls C hr hnm hw hl
  have hx := C.1
  have hb := C.2.1
  have hown := C.2.2.2.1
  have hts := C.2.2.2.2.1
  have hl : lv_has ls 2 [(0, .ref (gb G + o)), (1, .int a0)] := hl
  unfold f_X5_isCask at hf
  revert hf
  refine k_req (fun k0 hf => ?_)
  refine lv_iload_n hx hb dX5_isCask_0 rfl (lv_at hl 1 rfl) ?_
  refine lv_i2l hx hb dX5_isCask_1 rfl ?_
  refine lv_lconst (v := (0 : Int64)) hx hb dX5_isCask_2 (by decide) ?_
  refine lv_aload_n hx hb dX5_isCask_3 rfl (lv_at hl 0 rfl) ?_
  revert hf
  refine k_drf (fun r1 er1 hf => ?_)
  refine gf_X5_13 C hw k0 er1 dX5_isCask_4 ?_
  refine lv_iconst (v := (0 : Int32)) hx hb dX5_isCask_7 (by decide) ?_
  revert hf
  refine k_req (fun h2 hf => ?_)
  refine w_iald C hw h2 rfl dX5_isCask_8 ?_
  refine lv_i2l hx hb dX5_isCask_9 rfl ?_
  refine lv_lconst (v := (1 : Int64)) hx hb dX5_isCask_10 (by decide) ?_
  refine lv_lsub hx hb dX5_isCask_11 ?_
  revert hf
  refine k_pcl (fun z4 h3 hf => ?_)
  refine w_afi hw (w_rS (As := [.long (Int32.toInt64 a0), .long (0 : Int64), .long ((Int32.toInt64 (V0.1 r1 (ixN (0 : Int32)))) - (1 : Int64))]) C hw (ok_X5_in h3) (cw_X5_153 hts (Nat.le_of_ble_eq_true rfl) (Nat.le_of_ble_eq_true rfl)) rfl hl.1 rfl (Nat.le_of_ble_eq_true rfl) ⟨Nat.zero_le _, Nat.zero_le _⟩ dX5_isCask_12) (fun H locs hw => ?_)
  revert hf
  refine k_req (fun h5 hf => ?_)
  cases hf
  exact w_zret C hr hw h5 dX5_isCask_15
set_option maxHeartbeats 4000000 in
theorem ok_X5_dropsOf {l : Launch} {G : gG} {T : Tt} {V0 : Vt} {o : Nat} {a0 : Int32} {a1 : Int32} {r : Int32} (hf : f_X5_dropsOf T V0 o a0 a1 = some r) : okM l G yX5_dropsOf cX5_dropsOf 3 (some .int) 0 [.ref (gb G + o), .int a0, .int a1] V0 T (some (.int r)) V0 T 0 0 := by
  refine ok_intro (by decide) (Nat.le_of_ble_eq_true rfl) ?_
  intro p e s m below meth c ls C hr hnm hw hl
  have hx := C.1
  have hb := C.2.1
  have hown := C.2.2.2.1
  have hts := C.2.2.2.2.1
  have hl : lv_has ls 3 [(0, .ref (gb G + o)), (1, .int a0), (2, .int a1)] := hl
  unfold f_X5_dropsOf at hf
  revert hf
  refine k_req (fun k0 hf => ?_)
  refine lv_aload_n hx hb dX5_dropsOf_0 rfl (lv_at hl 0 rfl) ?_
  revert hf
  refine k_drf (fun r1 er1 hf => ?_)
  refine gf_X5_13 C hw k0 er1 dX5_dropsOf_1 ?_
  refine lv_bipush (v := (10 : Int32)) hx hb dX5_dropsOf_4 (by decide) ?_
  refine lv_bipush (v := (20 : Int32)) hx hb dX5_dropsOf_6 (by decide) ?_
  refine lv_iload_n hx hb dX5_dropsOf_8 rfl (lv_at hl 1 rfl) ?_
  refine lv_imul hx hb dX5_dropsOf_9 ?_
  refine lv_iadd hx hb dX5_dropsOf_10 ?_
  refine lv_iload_n hx hb dX5_dropsOf_11 rfl (lv_at hl 2 rfl) ?_
  refine lv_iadd hx hb dX5_dropsOf_12 ?_
  revert hf
  refine k_req (fun h2 hf => ?_)
  refine w_iald C hw h2 rfl dX5_dropsOf_13 ?_
  cases hf
  exact w_iret C hr hw dX5_dropsOf_14
set_option maxHeartbeats 4000000 in
theorem lk_X5_allOf_4 {l : Launch} {G : gG} {p : Program} {e : Env} {s : State} {m : MethodId} {args : Array Value} {below : List Frame} {meth : Method} {c : Code} {T : Tt} {V0 : Vt} {r : Int32} (C : Cx G p s m args meth c cX5_allOf RX5 4) (hr : meth.sig.returnType = (some .int)) {x0 : Nat} {x1 : Int32} {kx4_25 : Int32 → Option (Int32)} (k0 : T.1 x0 = 6) (hkx4_25 : ∀ (y2 : Int32) (H : Heap) (locs : List Loc) (ls : Array Slot), kx4_25 y2 = some r → wS G V0 T H locs → lv_has ls 4 [(2, .int y2)] → W p l e (rmL 1 0 0) s m args below meth c H locs 0 0 (eQ G below (some (.int r)) V0 T args s 0 0) (F0 m 25 ls [])) : ∀ (n : Nat) (x2 : Int32) (x3 : Int32) (H : Heap) (locs : List Loc) (ls : Array Slot), f_X5_allOf_L4 T V0 x0 x1 kx4_25 n x2 x3 = some r → wS G V0 T H locs → lv_has ls 4 [(0, .ref (gb G + x0)), (1, .int x1), (2, .int x2), (3, .int x3)] → W p l e (rmL 1 0 0) s m args below meth c H locs 0 0 (eQ G below (some (.int r)) V0 T args s 0 0) (F0 m 4 ls []) := by
  have hx := C.1
  have hb := C.2.1
  have hown := C.2.2.2.1
  have hts := C.2.2.2.2.1
  intro n
  induction n with
  | zero =>
    intro x2 x3 H locs ls hf
    cases hf
  | succ n ih =>
    intro x2 x3 H locs ls hf hw hl
    unfold f_X5_allOf_L4 at hf
    refine lv_iload_n hx hb dX5_allOf_4 rfl (lv_at hl 3 rfl) ?_
    refine lv_bipush (v := (20 : Int32)) hx hb dX5_allOf_5 (by decide) ?_
    refine lv_icmp_ge (tgt := 25) hx hb dX5_allOf_7 (by decide) (fun c1 => ?_) (fun c1 => ?_)
    · replace hf := ite_t c1 hf
      exact hkx4_25 _ _ _ _ hf hw (lv_sub hl [2] rfl)
    · replace hf := ite_f c1 hf
      refine lv_iload_n hx hb dX5_allOf_10 rfl (lv_at hl 2 rfl) ?_
      refine lv_aload_n hx hb dX5_allOf_11 rfl (lv_at hl 0 rfl) ?_
      refine lv_iload_n hx hb dX5_allOf_12 rfl (lv_at hl 1 rfl) ?_
      refine lv_iload_n hx hb dX5_allOf_13 rfl (lv_at hl 3 rfl) ?_
      revert hf
      refine k_pcl (fun z3 h2 hf => ?_)
      refine w_afi hw (w_rV (As := [.int x1, .int x3]) C hw (ok_X5_dropsOf h2) (cw_X5_160 hts (Nat.le_of_ble_eq_true rfl) (Nat.le_of_ble_eq_true rfl)) rfl (by decide) (of_req h2).1 rfl hl.1 rfl (Nat.le_of_ble_eq_true rfl) ⟨Nat.zero_le _, Nat.zero_le _⟩ dX5_allOf_14) (fun H locs hw => ?_)
      refine lv_iadd hx hb dX5_allOf_17 ?_
      revert hf
      refine k_stp (fun z4 ez4 hf => ?_)
      refine w_nmI ez4 ?_
      refine lv_istore_n (lv' := [(2, .int z4), (0, .ref (gb G + x0)), (1, .int x1), (3, .int x3)]) hx hb dX5_allOf_18 rfl hl (by decide) rfl (fun ls hl => ?_)
      revert hf
      refine k_stp (fun z5 ez5 hf => ?_)
      refine lv_iinc (k := 3) (lv' := [(3, .int z5), (2, .int z4), (0, .ref (gb G + x0)), (1, .int x1)]) hx hb dX5_allOf_19 hl rfl (inc_e (by decide) ez5) (by decide) rfl (fun ls hl => ?_)
      refine lv_goto (tgt := 4) hx hb dX5_allOf_22 (by decide) ?_
      exact ih _ _ _ _ _ hf hw (lv_sub hl [2, 3, 1, 0] rfl)
set_option maxHeartbeats 4000000 in
theorem ok_X5_allOf {l : Launch} {G : gG} {T : Tt} {V0 : Vt} {o : Nat} {a0 : Int32} {r : Int32} (hf : f_X5_allOf T V0 o a0 = some r) : okM l G yX5_allOf cX5_allOf 4 (some .int) 1 [.ref (gb G + o), .int a0] V0 T (some (.int r)) V0 T 0 0 := by
  refine ok_intro (by decide) (Nat.le_of_ble_eq_true rfl) ?_
  intro p e s m below meth c ls C hr hnm hw hl
  have hx := C.1
  have hb := C.2.1
  have hown := C.2.2.2.1
  have hts := C.2.2.2.2.1
  have hl : lv_has ls 4 [(0, .ref (gb G + o)), (1, .int a0)] := hl
  unfold f_X5_allOf at hf
  revert hf
  refine k_req (fun k0 hf => ?_)
  refine lv_iconst (v := (0 : Int32)) hx hb dX5_allOf_0 (by decide) ?_
  refine lv_istore_n (lv' := [(2, .int (0 : Int32)), (0, .ref (gb G + o)), (1, .int a0)]) hx hb dX5_allOf_1 rfl hl (by decide) rfl (fun ls hl => ?_)
  refine lv_iconst (v := (0 : Int32)) hx hb dX5_allOf_2 (by decide) ?_
  refine lv_istore_n (lv' := [(3, .int (0 : Int32)), (2, .int (0 : Int32)), (0, .ref (gb G + o)), (1, .int a0)]) hx hb dX5_allOf_3 rfl hl (by decide) rfl (fun ls hl => ?_)
  refine lk_X5_allOf_4 C hr k0 (fun z6 H locs ls hf hw hl => ?_) fuel _ _ _ _ _ hf hw (lv_sub hl [2, 3, 1, 0] rfl)
  refine lv_iload_n hx hb dX5_allOf_25 rfl (lv_at hl 0 rfl) ?_
  cases hf
  exact w_iret C hr hw dX5_allOf_26
set_option maxHeartbeats 4000000 in
theorem lk_X5_meanOf_5 {l : Launch} {G : gG} {p : Program} {e : Env} {s : State} {m : MethodId} {args : Array Value} {below : List Frame} {meth : Method} {c : Code} {T : Tt} {V0 : Vt} {r : Int32} (C : Cx G p s m args meth c cX5_meanOf RX5 5) (hr : meth.sig.returnType = (some .int)) {x0 : Nat} {x1 : Int32} {kx5_37 : Int64 → Option (Int32)} (k0 : T.1 x0 = 6) (hkx5_37 : ∀ (y2 : Int64) (H : Heap) (locs : List Loc) (ls : Array Slot), kx5_37 y2 = some r → wS G V0 T H locs → lv_has ls 5 [(0, .ref (gb G + x0)), (1, .int x1), (2, .long y2)] → W p l e (rmL 2 0 0) s m args below meth c H locs 0 0 (eQ G below (some (.int r)) V0 T args s 0 0) (F0 m 37 ls [])) : ∀ (n : Nat) (x2 : Int64) (x4 : Int32) (H : Heap) (locs : List Loc) (ls : Array Slot), f_X5_meanOf_L5 T V0 x0 x1 kx5_37 n x2 x4 = some r → wS G V0 T H locs → lv_has ls 5 [(0, .ref (gb G + x0)), (1, .int x1), (2, .long x2), (4, .int x4)] → W p l e (rmL 2 0 0) s m args below meth c H locs 0 0 (eQ G below (some (.int r)) V0 T args s 0 0) (F0 m 5 ls []) := by
  have hx := C.1
  have hb := C.2.1
  have hown := C.2.2.2.1
  have hts := C.2.2.2.2.1
  intro n
  induction n with
  | zero =>
    intro x2 x4 H locs ls hf
    cases hf
  | succ n ih =>
    intro x2 x4 H locs ls hf hw hl
    unfold f_X5_meanOf_L5 at hf
    refine lv_iload hx hb dX5_meanOf_5 (lv_at hl 3 rfl) ?_
    refine lv_bipush (v := (20 : Int32)) hx hb dX5_meanOf_7 (by decide) ?_
    refine lv_icmp_ge (tgt := 37) hx hb dX5_meanOf_9 (by decide) (fun c1 => ?_) (fun c1 => ?_)
    · replace hf := ite_t c1 hf
      exact hkx5_37 _ _ _ _ hf hw (lv_sub hl [0, 1, 2] rfl)
    · replace hf := ite_f c1 hf
      refine lv_lload_n hx hb dX5_meanOf_12 rfl (lv_at hl 2 rfl) ?_
      refine lv_ldc2 (v := (1000 : Int64)) hx hb hown (hts _ q1750) dX5_meanOf_13 ?_
      refine lv_iload hx hb dX5_meanOf_16 (lv_at hl 3 rfl) ?_
      refine lv_i2l hx hb dX5_meanOf_18 rfl ?_
      refine lv_lmul hx hb dX5_meanOf_19 ?_
      refine lv_aload_n hx hb dX5_meanOf_20 rfl (lv_at hl 0 rfl) ?_
      refine lv_iload_n hx hb dX5_meanOf_21 rfl (lv_at hl 1 rfl) ?_
      refine lv_iload hx hb dX5_meanOf_22 (lv_at hl 3 rfl) ?_
      revert hf
      refine k_pcl (fun z3 h2 hf => ?_)
      refine w_afi hw (w_rV (As := [.int x1, .int x4]) C hw (ok_X5_dropsOf h2) (cw_X5_160 hts (Nat.le_of_ble_eq_true rfl) (Nat.le_of_ble_eq_true rfl)) rfl (by decide) (of_req h2).1 rfl hl.1 rfl (Nat.le_of_ble_eq_true rfl) ⟨Nat.zero_le _, Nat.zero_le _⟩ dX5_meanOf_24) (fun H locs hw => ?_)
      refine lv_i2l hx hb dX5_meanOf_27 rfl ?_
      refine lv_lmul hx hb dX5_meanOf_28 ?_
      refine lv_ladd hx hb dX5_meanOf_29 ?_
      revert hf
      refine k_stp (fun z4 ez4 hf => ?_)
      refine w_nmL ez4 ?_
      refine lv_lstore_n (lv' := [(2, .long z4), (0, .ref (gb G + x0)), (1, .int x1), (4, .int x4)]) hx hb dX5_meanOf_30 rfl hl (by decide) rfl (fun ls hl => ?_)
      revert hf
      refine k_stp (fun z5 ez5 hf => ?_)
      refine lv_iinc (k := 3) (lv' := [(4, .int z5), (2, .long z4), (0, .ref (gb G + x0)), (1, .int x1)]) hx hb dX5_meanOf_31 hl rfl (inc_e (by decide) ez5) (by decide) rfl (fun ls hl => ?_)
      refine lv_goto (tgt := 5) hx hb dX5_meanOf_34 (by decide) ?_
      exact ih _ _ _ _ _ hf hw (lv_sub hl [2, 3, 1, 0] rfl)
set_option maxHeartbeats 4000000 in
theorem ok_X5_meanOf {l : Launch} {G : gG} {T : Tt} {V0 : Vt} {o : Nat} {a0 : Int32} {r : Int32} (hf : f_X5_meanOf T V0 o a0 = some r) : okM l G yX5_meanOf cX5_meanOf 5 (some .int) 2 [.ref (gb G + o), .int a0] V0 T (some (.int r)) V0 T 0 0 := by
  refine ok_intro (by decide) (Nat.le_of_ble_eq_true rfl) ?_
  intro p e s m below meth c ls C hr hnm hw hl
  have hx := C.1
  have hb := C.2.1
  have hown := C.2.2.2.1
  have hts := C.2.2.2.2.1
  have hl : lv_has ls 5 [(0, .ref (gb G + o)), (1, .int a0)] := hl
  unfold f_X5_meanOf at hf
  revert hf
  refine k_req (fun k0 hf => ?_)
  refine lv_lconst (v := (0 : Int64)) hx hb dX5_meanOf_0 (by decide) ?_
  refine lv_lstore_n (lv' := [(2, .long (0 : Int64)), (0, .ref (gb G + o)), (1, .int a0)]) hx hb dX5_meanOf_1 rfl hl (by decide) rfl (fun ls hl => ?_)
  refine lv_iconst (v := (0 : Int32)) hx hb dX5_meanOf_2 (by decide) ?_
  refine lv_istore (lv' := [(4, .int (0 : Int32)), (2, .long (0 : Int64)), (0, .ref (gb G + o)), (1, .int a0)]) hx hb dX5_meanOf_3 hl (by decide) rfl (fun ls hl => ?_)
  refine lk_X5_meanOf_5 C hr k0 (fun z6 H locs ls hf hw hl => ?_) fuel _ _ _ _ _ hf hw (lv_sub hl [2, 3, 1, 0] rfl)
  refine lv_aload_n hx hb dX5_meanOf_37 rfl (lv_at hl 0 rfl) ?_
  refine lv_iload_n hx hb dX5_meanOf_38 rfl (lv_at hl 1 rfl) ?_
  revert hf
  refine k_pcl (fun z8 h7 hf => ?_)
  refine w_afi hw (w_rV (As := [.int a0]) C hw (ok_X5_allOf h7) (cw_X5_166 hts (Nat.le_of_ble_eq_true rfl) (Nat.le_of_ble_eq_true rfl)) rfl (by decide) (of_req h7).1 rfl hl.1 rfl (Nat.le_of_ble_eq_true rfl) ⟨Nat.zero_le _, Nat.zero_le _⟩ dX5_meanOf_39) (fun H locs hw => ?_)
  refine lv_istore (lv' := [(4, .int z8), (0, .ref (gb G + o)), (1, .int a0), (2, .long z6)]) hx hb dX5_meanOf_42 hl (by decide) rfl (fun ls hl => ?_)
  refine lv_iload hx hb dX5_meanOf_44 (lv_at hl 0 rfl) ?_
  refine lv_if_ne (tgt := 53) hx hb dX5_meanOf_46 (by decide) (fun c9 => ?_) (fun c9 => ?_)
  · replace hf := ite_f c9 hf
    refine lv_lload_n hx hb dX5_meanOf_53 rfl (lv_at hl 3 rfl) ?_
    refine lv_iload hx hb dX5_meanOf_54 (lv_at hl 0 rfl) ?_
    refine lv_i2l hx hb dX5_meanOf_56 rfl ?_
    revert hf
    refine k_req (fun h10 hf => ?_)
    refine lv_ldiv hx hb dX5_meanOf_57 h10 ?_
    refine lv_l2i hx hb dX5_meanOf_58 rfl ?_
    cases hf
    exact w_iret C hr hw dX5_meanOf_59
  · replace hf := ite_t c9 hf
    refine lv_iconst (v := ((-1) : Int32)) hx hb dX5_meanOf_49 (by decide) ?_
    refine lv_goto (tgt := 59) hx hb dX5_meanOf_50 (by decide) ?_
    cases hf
    exact w_iret C hr hw dX5_meanOf_59
set_option maxHeartbeats 4000000 in
theorem lk_X5_olderThan_5 {l : Launch} {G : gG} {p : Program} {e : Env} {s : State} {m : MethodId} {args : Array Value} {below : List Frame} {meth : Method} {c : Code} {T : Tt} {V0 : Vt} {r : Int32} (C : Cx G p s m args meth c cX5_olderThan RX5 5) (hr : meth.sig.returnType = (some .int)) {x0 : Nat} {x1 : Int32} {kx5_28 : Int32 → Option (Int32)} (k0 : T.1 x0 = 6) (hkx5_28 : ∀ (y3 : Int32) (H : Heap) (locs : List Loc) (ls : Array Slot), kx5_28 y3 = some r → wS G V0 T H locs → lv_has ls 5 [(3, .int y3)] → W p l e (rmL 1 0 0) s m args below meth c H locs 0 0 (eQ G below (some (.int r)) V0 T args s 0 0) (F0 m 28 ls [])) : ∀ (n : Nat) (x3 : Int32) (x4 : Int32) (H : Heap) (locs : List Loc) (ls : Array Slot), f_X5_olderThan_L5 T V0 x0 x1 kx5_28 n x3 x4 = some r → wS G V0 T H locs → lv_has ls 5 [(0, .ref (gb G + x0)), (1, .int x1), (3, .int x3), (4, .int x4)] → W p l e (rmL 1 0 0) s m args below meth c H locs 0 0 (eQ G below (some (.int r)) V0 T args s 0 0) (F0 m 5 ls []) := by
  have hx := C.1
  have hb := C.2.1
  have hown := C.2.2.2.1
  have hts := C.2.2.2.2.1
  intro n
  induction n with
  | zero =>
    intro x3 x4 H locs ls hf
    cases hf
  | succ n ih =>
    intro x3 x4 H locs ls hf hw hl
    unfold f_X5_olderThan_L5 at hf
    refine lv_iload hx hb dX5_olderThan_5 (lv_at hl 3 rfl) ?_
    refine lv_bipush (v := (20 : Int32)) hx hb dX5_olderThan_7 (by decide) ?_
    refine lv_icmp_ge (tgt := 28) hx hb dX5_olderThan_9 (by decide) (fun c1 => ?_) (fun c1 => ?_)
    · replace hf := ite_t c1 hf
      exact hkx5_28 _ _ _ _ hf hw (lv_sub hl [2] rfl)
    · replace hf := ite_f c1 hf
      refine lv_iload_n hx hb dX5_olderThan_12 rfl (lv_at hl 2 rfl) ?_
      refine lv_aload_n hx hb dX5_olderThan_13 rfl (lv_at hl 0 rfl) ?_
      refine lv_iload_n hx hb dX5_olderThan_14 rfl (lv_at hl 1 rfl) ?_
      refine lv_iload hx hb dX5_olderThan_15 (lv_at hl 3 rfl) ?_
      revert hf
      refine k_pcl (fun z3 h2 hf => ?_)
      refine w_afi hw (w_rV (As := [.int x1, .int x4]) C hw (ok_X5_dropsOf h2) (cw_X5_160 hts (Nat.le_of_ble_eq_true rfl) (Nat.le_of_ble_eq_true rfl)) rfl (by decide) (of_req h2).1 rfl hl.1 rfl (Nat.le_of_ble_eq_true rfl) ⟨Nat.zero_le _, Nat.zero_le _⟩ dX5_olderThan_17) (fun H locs hw => ?_)
      refine lv_iadd hx hb dX5_olderThan_20 ?_
      revert hf
      refine k_stp (fun z4 ez4 hf => ?_)
      refine w_nmI ez4 ?_
      refine lv_istore_n (lv' := [(3, .int z4), (0, .ref (gb G + x0)), (1, .int x1), (4, .int x4)]) hx hb dX5_olderThan_21 rfl hl (by decide) rfl (fun ls hl => ?_)
      revert hf
      refine k_stp (fun z5 ez5 hf => ?_)
      refine lv_iinc (k := 3) (lv' := [(4, .int z5), (3, .int z4), (0, .ref (gb G + x0)), (1, .int x1)]) hx hb dX5_olderThan_22 hl rfl (inc_e (by decide) ez5) (by decide) rfl (fun ls hl => ?_)
      refine lv_goto (tgt := 5) hx hb dX5_olderThan_25 (by decide) ?_
      exact ih _ _ _ _ _ hf hw (lv_sub hl [2, 3, 1, 0] rfl)
set_option maxHeartbeats 4000000 in
theorem ok_X5_olderThan {l : Launch} {G : gG} {T : Tt} {V0 : Vt} {o : Nat} {a0 : Int32} {a1 : Int32} {r : Int32} (hf : f_X5_olderThan T V0 o a0 a1 = some r) : okM l G yX5_olderThan cX5_olderThan 5 (some .int) 1 [.ref (gb G + o), .int a0, .int a1] V0 T (some (.int r)) V0 T 0 0 := by
  refine ok_intro (by decide) (Nat.le_of_ble_eq_true rfl) ?_
  intro p e s m below meth c ls C hr hnm hw hl
  have hx := C.1
  have hb := C.2.1
  have hown := C.2.2.2.1
  have hts := C.2.2.2.2.1
  have hl : lv_has ls 5 [(0, .ref (gb G + o)), (1, .int a0), (2, .int a1)] := hl
  unfold f_X5_olderThan at hf
  revert hf
  refine k_req (fun k0 hf => ?_)
  refine lv_iconst (v := (0 : Int32)) hx hb dX5_olderThan_0 (by decide) ?_
  refine lv_istore_n (lv' := [(3, .int (0 : Int32)), (0, .ref (gb G + o)), (1, .int a0), (2, .int a1)]) hx hb dX5_olderThan_1 rfl hl (by decide) rfl (fun ls hl => ?_)
  refine lv_iload_n hx hb dX5_olderThan_2 rfl (lv_at hl 3 rfl) ?_
  refine lv_istore (lv' := [(4, .int a1), (3, .int (0 : Int32)), (0, .ref (gb G + o)), (1, .int a0), (2, .int a1)]) hx hb dX5_olderThan_3 hl (by decide) rfl (fun ls hl => ?_)
  refine lk_X5_olderThan_5 C hr k0 (fun z6 H locs ls hf hw hl => ?_) fuel _ _ _ _ _ hf hw (lv_sub hl [2, 3, 1, 0] rfl)
  refine lv_iload_n hx hb dX5_olderThan_28 rfl (lv_at hl 0 rfl) ?_
  cases hf
  exact w_iret C hr hw dX5_olderThan_29
set_option maxHeartbeats 4000000 in
theorem jk_X5_labelOf_55 {l : Launch} {G : gG} {p : Program} {e : Env} {s : State} {m : MethodId} {args : Array Value} {below : List Frame} {meth : Method} {c : Code} {T : Tt} {V0 : Vt} {r : Int32} (C : Cx G p s m args meth c cX5_labelOf RX5 5) (hr : meth.sig.returnType = (some .int)) {x0 : Nat} {x1 : Int32} {x2 : Int32} {x4 : Int32} {s0 : Int32} {kc11 : Int32 → Int32 → Option (Int32)} {kx11_62 : Int32 → Option (Int32)} {H : Heap} {locs : List Loc} {ls : Array Slot} (k0 : T.1 x0 = 6) (hf : f_X5_labelOf_J55 T V0 x0 x1 x2 x4 s0 kc11 kx11_62 = some r) (hw : wS G V0 T H locs) (hl : lv_has ls 5 [(0, .ref (gb G + x0)), (1, .int x1), (2, .int x2), (4, .int x4)]) (hkc11 : ∀ (y3 : Int32) (y4 : Int32) (H : Heap) (locs : List Loc) (ls : Array Slot), kc11 y3 y4 = some r → wS G V0 T H locs → lv_has ls 5 [(0, .ref (gb G + x0)), (1, .int x1), (2, .int x2), (3, .int y3), (4, .int y4)] → W p l e (rmL 2 0 0) s m args below meth c H locs 0 0 (eQ G below (some (.int r)) V0 T args s 0 0) (F0 m 11 ls [])) (hkx11_62 : ∀ (y3 : Int32) (H : Heap) (locs : List Loc) (ls : Array Slot), kx11_62 y3 = some r → wS G V0 T H locs → lv_has ls 5 [(3, .int y3)] → W p l e (rmL 2 0 0) s m args below meth c H locs 0 0 (eQ G below (some (.int r)) V0 T args s 0 0) (F0 m 62 ls [])) : W p l e (rmL 2 0 0) s m args below meth c H locs 0 0 (eQ G below (some (.int r)) V0 T args s 0 0) (F0 m 55 ls [.int s0]) := by
  have hx := C.1
  have hb := C.2.1
  have hown := C.2.2.2.1
  have hts := C.2.2.2.2.1
  unfold f_X5_labelOf_J55 at hf
  refine lv_istore_n (lv' := [(3, .int s0), (0, .ref (gb G + x0)), (1, .int x1), (2, .int x2), (4, .int x4)]) hx hb dX5_labelOf_55 rfl hl (by decide) rfl (fun ls hl => ?_)
  revert hf
  refine k_stp (fun z10 ez10 hf => ?_)
  refine lv_iinc (k := 4) (lv' := [(4, .int z10), (3, .int s0), (0, .ref (gb G + x0)), (1, .int x1), (2, .int x2)]) hx hb dX5_labelOf_56 hl rfl (inc_e (by decide) ez10) (by decide) rfl (fun ls hl => ?_)
  refine lv_goto (tgt := 11) hx hb dX5_labelOf_59 (by decide) ?_
  exact hkc11 _ _ _ _ _ hf hw (lv_sub hl [2, 3, 4, 1, 0] rfl)
set_option maxHeartbeats 4000000 in
theorem lk_X5_labelOf_11 {l : Launch} {G : gG} {p : Program} {e : Env} {s : State} {m : MethodId} {args : Array Value} {below : List Frame} {meth : Method} {c : Code} {T : Tt} {V0 : Vt} {r : Int32} (C : Cx G p s m args meth c cX5_labelOf RX5 5) (hr : meth.sig.returnType = (some .int)) {x0 : Nat} {x1 : Int32} {x2 : Int32} {kx11_62 : Int32 → Option (Int32)} (k0 : T.1 x0 = 6) (hkx11_62 : ∀ (y3 : Int32) (H : Heap) (locs : List Loc) (ls : Array Slot), kx11_62 y3 = some r → wS G V0 T H locs → lv_has ls 5 [(3, .int y3)] → W p l e (rmL 2 0 0) s m args below meth c H locs 0 0 (eQ G below (some (.int r)) V0 T args s 0 0) (F0 m 62 ls [])) : ∀ (n : Nat) (x3 : Int32) (x4 : Int32) (H : Heap) (locs : List Loc) (ls : Array Slot), f_X5_labelOf_L11 T V0 x0 x1 x2 kx11_62 n x3 x4 = some r → wS G V0 T H locs → lv_has ls 5 [(0, .ref (gb G + x0)), (1, .int x1), (2, .int x2), (3, .int x3), (4, .int x4)] → W p l e (rmL 2 0 0) s m args below meth c H locs 0 0 (eQ G below (some (.int r)) V0 T args s 0 0) (F0 m 11 ls []) := by
  have hx := C.1
  have hb := C.2.1
  have hown := C.2.2.2.1
  have hts := C.2.2.2.2.1
  intro n
  induction n with
  | zero =>
    intro x3 x4 H locs ls hf
    cases hf
  | succ n ih =>
    intro x3 x4 H locs ls hf hw hl
    unfold f_X5_labelOf_L11 at hf
    refine lv_iload hx hb dX5_labelOf_11 (lv_at hl 4 rfl) ?_
    refine lv_bipush (v := (20 : Int32)) hx hb dX5_labelOf_13 (by decide) ?_
    refine lv_icmp_ge (tgt := 62) hx hb dX5_labelOf_15 (by decide) (fun c3 => ?_) (fun c3 => ?_)
    · replace hf := ite_t c3 hf
      exact hkx11_62 _ _ _ _ hf hw (lv_sub hl [3] rfl)
    · replace hf := ite_f c3 hf
      refine lv_iload_n hx hb dX5_labelOf_18 rfl (lv_at hl 2 rfl) ?_
      refine lv_if_le (tgt := 62) hx hb dX5_labelOf_19 (by decide) (fun c4 => ?_) (fun c4 => ?_)
      · replace hf := ite_t c4 hf
        exact hkx11_62 _ _ _ _ hf hw (lv_sub hl [3] rfl)
      · replace hf := ite_f c4 hf
        refine lv_ldc2 (v := (100 : Int64)) hx hb hown (hts _ q1755) dX5_labelOf_22 ?_
        refine lv_aload_n hx hb dX5_labelOf_25 rfl (lv_at hl 0 rfl) ?_
        refine lv_iload_n hx hb dX5_labelOf_26 rfl (lv_at hl 1 rfl) ?_
        refine lv_iload hx hb dX5_labelOf_27 (lv_at hl 4 rfl) ?_
        revert hf
        refine k_pcl (fun z6 h5 hf => ?_)
        refine w_afi hw (w_rV (As := [.int x1, .int x4]) C hw (ok_X5_olderThan h5) (cw_X5_174 hts (Nat.le_of_ble_eq_true rfl) (Nat.le_of_ble_eq_true rfl)) rfl (by decide) (of_req h5).1 rfl hl.1 rfl (Nat.le_of_ble_eq_true rfl) ⟨Nat.zero_le _, Nat.zero_le _⟩ dX5_labelOf_29) (fun H locs hw => ?_)
        refine lv_i2l hx hb dX5_labelOf_32 rfl ?_
        refine lv_lmul hx hb dX5_labelOf_33 ?_
        refine lv_iload_n hx hb dX5_labelOf_34 rfl (lv_at hl 2 rfl) ?_
        refine lv_i2l hx hb dX5_labelOf_35 rfl ?_
        refine lv_aload_n hx hb dX5_labelOf_36 rfl (lv_at hl 0 rfl) ?_
        revert hf
        refine k_drf (fun r7 er7 hf => ?_)
        refine gf_X5_13 C hw k0 er7 dX5_labelOf_37 ?_
        refine lv_bipush (v := (8 : Int32)) hx hb dX5_labelOf_40 (by decide) ?_
        revert hf
        refine k_req (fun h8 hf => ?_)
        refine w_iald C hw h8 rfl dX5_labelOf_42 ?_
        refine lv_i2l hx hb dX5_labelOf_43 rfl ?_
        refine lv_lmul hx hb dX5_labelOf_44 ?_
        refine W.lcmp hx hb dX5_labelOf_45 ?_
        refine lv_if_lt (tgt := 54) hx hb dX5_labelOf_46 (by decide) (fun c9 => ?_) (fun c9 => ?_)
        · replace hf := ite_t c9 hf
          refine lv_iload_n hx hb dX5_labelOf_54 rfl (lv_at hl 3 rfl) ?_
          exact jk_X5_labelOf_55 C hr k0 hf hw (lv_sub hl [0, 1, 2, 4] rfl) ih hkx11_62
        · replace hf := ite_f c9 hf
          refine lv_iload hx hb dX5_labelOf_49 (lv_at hl 4 rfl) ?_
          refine lv_goto (tgt := 55) hx hb dX5_labelOf_51 (by decide) ?_
          exact jk_X5_labelOf_55 C hr k0 hf hw (lv_sub hl [0, 1, 2, 4] rfl) ih hkx11_62
set_option maxHeartbeats 4000000 in
theorem ok_X5_labelOf {l : Launch} {G : gG} {T : Tt} {V0 : Vt} {o : Nat} {a0 : Int32} {r : Int32} (hf : f_X5_labelOf T V0 o a0 = some r) : okM l G yX5_labelOf cX5_labelOf 5 (some .int) 2 [.ref (gb G + o), .int a0] V0 T (some (.int r)) V0 T 0 0 := by
  refine ok_intro (by decide) (Nat.le_of_ble_eq_true rfl) ?_
  intro p e s m below meth c ls C hr hnm hw hl
  have hx := C.1
  have hb := C.2.1
  have hown := C.2.2.2.1
  have hts := C.2.2.2.2.1
  have hl : lv_has ls 5 [(0, .ref (gb G + o)), (1, .int a0)] := hl
  unfold f_X5_labelOf at hf
  revert hf
  refine k_req (fun k0 hf => ?_)
  refine lv_aload_n hx hb dX5_labelOf_0 rfl (lv_at hl 0 rfl) ?_
  refine lv_iload_n hx hb dX5_labelOf_1 rfl (lv_at hl 1 rfl) ?_
  revert hf
  refine k_pcl (fun z2 h1 hf => ?_)
  refine w_afi hw (w_rV (As := [.int a0]) C hw (ok_X5_allOf h1) (cw_X5_166 hts (Nat.le_of_ble_eq_true rfl) (Nat.le_of_ble_eq_true rfl)) rfl (by decide) (of_req h1).1 rfl hl.1 rfl (Nat.le_of_ble_eq_true rfl) ⟨Nat.zero_le _, Nat.zero_le _⟩ dX5_labelOf_2) (fun H locs hw => ?_)
  refine lv_istore_n (lv' := [(2, .int z2), (0, .ref (gb G + o)), (1, .int a0)]) hx hb dX5_labelOf_5 rfl hl (by decide) rfl (fun ls hl => ?_)
  refine lv_iconst (v := ((-1) : Int32)) hx hb dX5_labelOf_6 (by decide) ?_
  refine lv_istore_n (lv' := [(3, .int ((-1) : Int32)), (2, .int z2), (0, .ref (gb G + o)), (1, .int a0)]) hx hb dX5_labelOf_7 rfl hl (by decide) rfl (fun ls hl => ?_)
  refine lv_iconst (v := (0 : Int32)) hx hb dX5_labelOf_8 (by decide) ?_
  refine lv_istore (lv' := [(4, .int (0 : Int32)), (3, .int ((-1) : Int32)), (2, .int z2), (0, .ref (gb G + o)), (1, .int a0)]) hx hb dX5_labelOf_9 hl (by decide) rfl (fun ls hl => ?_)
  refine lk_X5_labelOf_11 C hr k0 (fun z11 H locs ls hf hw hl => ?_) fuel _ _ _ _ _ hf hw (lv_sub hl [3, 4, 2, 1, 0] rfl)
  refine lv_iload_n hx hb dX5_labelOf_62 rfl (lv_at hl 0 rfl) ?_
  cases hf
  exact w_iret C hr hw dX5_labelOf_63
set_option maxHeartbeats 4000000 in
theorem ok_X5_wholeMean {l : Launch} {G : gG} {T : Tt} {V0 : Vt} {o : Nat} {a0 : Int32} {r : Int32} (hf : f_X5_wholeMean T V0 o a0 = some r) : okM l G yX5_wholeMean cX5_wholeMean 3 (some .int) 3 [.ref (gb G + o), .int a0] V0 T (some (.int r)) V0 T 0 0 := by
  refine ok_intro (by decide) (Nat.le_of_ble_eq_true rfl) ?_
  intro p e s m below meth c ls C hr hnm hw hl
  have hx := C.1
  have hb := C.2.1
  have hown := C.2.2.2.1
  have hts := C.2.2.2.2.1
  have hl : lv_has ls 3 [(0, .ref (gb G + o)), (1, .int a0)] := hl
  unfold f_X5_wholeMean at hf
  revert hf
  refine k_req (fun k0 hf => ?_)
  refine lv_aload_n hx hb dX5_wholeMean_0 rfl (lv_at hl 0 rfl) ?_
  refine lv_iload_n hx hb dX5_wholeMean_1 rfl (lv_at hl 1 rfl) ?_
  revert hf
  refine k_pcl (fun z2 h1 hf => ?_)
  refine w_afi hw (w_rV (As := [.int a0]) C hw (ok_X5_meanOf h1) (cw_X5_169 hts (Nat.le_of_ble_eq_true rfl) (Nat.le_of_ble_eq_true rfl)) rfl (by decide) (of_req h1).1 rfl hl.1 rfl (Nat.le_of_ble_eq_true rfl) ⟨Nat.zero_le _, Nat.zero_le _⟩ dX5_wholeMean_2) (fun H locs hw => ?_)
  refine lv_istore_n (lv' := [(2, .int z2), (0, .ref (gb G + o)), (1, .int a0)]) hx hb dX5_wholeMean_5 rfl hl (by decide) rfl (fun ls hl => ?_)
  refine lv_iload_n hx hb dX5_wholeMean_6 rfl (lv_at hl 0 rfl) ?_
  refine lv_iconst (v := ((-1) : Int32)) hx hb dX5_wholeMean_7 (by decide) ?_
  refine lv_icmp_ne (tgt := 15) hx hb dX5_wholeMean_8 (by decide) (fun c3 => ?_) (fun c3 => ?_)
  · replace hf := ite_f c3 hf
    refine lv_iload_n hx hb dX5_wholeMean_15 rfl (lv_at hl 0 rfl) ?_
    refine lv_sipush (v := (1000 : Int32)) hx hb dX5_wholeMean_16 (by decide) ?_
    refine lv_idiv hx hb dX5_wholeMean_19 (by decide) ?_
    cases hf
    exact w_iret C hr hw dX5_wholeMean_20
  · replace hf := ite_t c3 hf
    refine lv_iconst (v := ((-1) : Int32)) hx hb dX5_wholeMean_11 (by decide) ?_
    refine lv_goto (tgt := 20) hx hb dX5_wholeMean_12 (by decide) ?_
    cases hf
    exact w_iret C hr hw dX5_wholeMean_20
set_option maxHeartbeats 4000000 in
theorem ok_X5_roomOf {l : Launch} {G : gG} {T : Tt} {V0 : Vt} {o : Nat} {a0 : Int32} {r : Int32} (hf : f_X5_roomOf T V0 o a0 = some r) : okM l G yX5_roomOf cX5_roomOf 2 (some .int) 2 [.ref (gb G + o), .int a0] V0 T (some (.int r)) V0 T 0 0 := by
  refine ok_intro (by decide) (Nat.le_of_ble_eq_true rfl) ?_
  intro p e s m below meth c ls C hr hnm hw hl
  have hx := C.1
  have hb := C.2.1
  have hown := C.2.2.2.1
  have hts := C.2.2.2.2.1
  have hl : lv_has ls 2 [(0, .ref (gb G + o)), (1, .int a0)] := hl
  unfold f_X5_roomOf at hf
  revert hf
  refine k_req (fun k0 hf => ?_)
  refine lv_sipush (v := (1000 : Int32)) hx hb dX5_roomOf_0 (by decide) ?_
  refine lv_aload_n hx hb dX5_roomOf_3 rfl (lv_at hl 0 rfl) ?_
  revert hf
  refine k_drf (fun r1 er1 hf => ?_)
  refine gf_X5_13 C hw k0 er1 dX5_roomOf_4 ?_
  refine lv_sipush (v := (178 : Int32)) hx hb dX5_roomOf_7 (by decide) ?_
  refine lv_iload_n hx hb dX5_roomOf_10 rfl (lv_at hl 1 rfl) ?_
  refine lv_iadd hx hb dX5_roomOf_11 ?_
  revert hf
  refine k_req (fun h2 hf => ?_)
  refine w_iald C hw h2 rfl dX5_roomOf_12 ?_
  refine lv_imul hx hb dX5_roomOf_13 ?_
  refine lv_aload_n hx hb dX5_roomOf_14 rfl (lv_at hl 0 rfl) ?_
  refine lv_iload_n hx hb dX5_roomOf_15 rfl (lv_at hl 1 rfl) ?_
  revert hf
  refine k_pcl (fun z4 h3 hf => ?_)
  refine w_afi hw (w_rV (As := [.int a0]) C hw (ok_X5_allOf h3) (cw_X5_166 hts (Nat.le_of_ble_eq_true rfl) (Nat.le_of_ble_eq_true rfl)) rfl (by decide) (of_req h3).1 rfl hl.1 rfl (Nat.le_of_ble_eq_true rfl) ⟨Nat.zero_le _, Nat.zero_le _⟩ dX5_roomOf_16) (fun H locs hw => ?_)
  refine lv_isub hx hb dX5_roomOf_19 ?_
  cases hf
  exact w_iret C hr hw dX5_roomOf_20
set_option maxHeartbeats 4000000 in
theorem ok_X5_factOf {l : Launch} {G : gG} {T : Tt} {V0 : Vt} {o : Nat} {a0 : Int32} {a1 : Int32} {r : Int64} (hf : f_X5_factOf T V0 o a0 a1 = some r) : okM l G yX5_factOf cX5_factOf 3 (some .long) 4 [.ref (gb G + o), .int a0, .int a1] V0 T (some (.long r)) V0 T 0 0 := by
  refine ok_intro (by decide) (Nat.le_of_ble_eq_true rfl) ?_
  intro p e s m below meth c ls C hr hnm hw hl
  have hx := C.1
  have hb := C.2.1
  have hown := C.2.2.2.1
  have hts := C.2.2.2.2.1
  have hl : lv_has ls 3 [(0, .ref (gb G + o)), (1, .int a0), (2, .int a1)] := hl
  unfold f_X5_factOf at hf
  revert hf
  refine k_req (fun k0 hf => ?_)
  refine lv_aload_n hx hb dX5_factOf_0 rfl (lv_at hl 0 rfl) ?_
  refine lv_iload_n hx hb dX5_factOf_1 rfl (lv_at hl 2 rfl) ?_
  revert hf
  refine k_pcl (fun z2 h1 hf => ?_)
  refine w_afi hw (w_rV (As := [.int a1]) C hw (ok_X5_isCask h1) (cw_X5_184 hts (Nat.le_of_ble_eq_true rfl) (Nat.le_of_ble_eq_true rfl)) rfl (by decide) (of_req h1).1 rfl hl.1 rfl (Nat.le_of_ble_eq_true rfl) ⟨Nat.zero_le _, Nat.zero_le _⟩ dX5_factOf_2) (fun H locs hw => ?_)
  refine lv_if_ne (tgt := 12) hx hb dX5_factOf_5 (by decide) (fun c3 => ?_) (fun c3 => ?_)
  · replace hf := ite_f c3 hf
    refine lv_iload_n hx hb dX5_factOf_12 rfl (lv_at hl 1 rfl) ?_
    refine lv_iconst (v := (5 : Int32)) hx hb dX5_factOf_13 (by decide) ?_
    refine lv_icmp_ne (tgt := 30) hx hb dX5_factOf_14 (by decide) (fun c4 => ?_) (fun c4 => ?_)
    · replace hf := ite_f c4 hf
      refine lv_iload_n hx hb dX5_factOf_30 rfl (lv_at hl 1 rfl) ?_
      refine lv_bipush (v := (6 : Int32)) hx hb dX5_factOf_31 (by decide) ?_
      refine lv_icmp_ne (tgt := 49) hx hb dX5_factOf_33 (by decide) (fun c5 => ?_) (fun c5 => ?_)
      · replace hf := ite_f c5 hf
        refine lv_aload_n hx hb dX5_factOf_49 rfl (lv_at hl 0 rfl) ?_
        refine lv_iload_n hx hb dX5_factOf_50 rfl (lv_at hl 2 rfl) ?_
        revert hf
        refine k_pcl (fun z7 h6 hf => ?_)
        refine w_afi hw (w_rV (As := [.int a1]) C hw (ok_X5_wholeMean h6) (cw_X5_377 hts (Nat.le_of_ble_eq_true rfl) (Nat.le_of_ble_eq_true rfl)) rfl (by decide) (of_req h6).1 rfl hl.1 rfl (Nat.le_of_ble_eq_true rfl) ⟨Nat.zero_le _, Nat.zero_le _⟩ dX5_factOf_51) (fun H locs hw => ?_)
        refine lv_i2l hx hb dX5_factOf_54 rfl ?_
        cases hf
        exact w_lret C hr hw dX5_factOf_55
      · replace hf := ite_t c5 hf
        refine lv_aload_n hx hb dX5_factOf_36 rfl (lv_at hl 0 rfl) ?_
        refine lv_iload_n hx hb dX5_factOf_37 rfl (lv_at hl 2 rfl) ?_
        revert hf
        refine k_pcl (fun z9 h8 hf => ?_)
        refine w_afi hw (w_rV (As := [.int a1]) C hw (ok_X5_roomOf h8) (cw_X5_374 hts (Nat.le_of_ble_eq_true rfl) (Nat.le_of_ble_eq_true rfl)) rfl (by decide) (of_req h8).1 rfl hl.1 rfl (Nat.le_of_ble_eq_true rfl) ⟨Nat.zero_le _, Nat.zero_le _⟩ dX5_factOf_38) (fun H locs hw => ?_)
        refine lv_sipush (v := (1000 : Int32)) hx hb dX5_factOf_41 (by decide) ?_
        refine lv_idiv hx hb dX5_factOf_44 (by decide) ?_
        refine lv_i2l hx hb dX5_factOf_45 rfl ?_
        refine lv_goto (tgt := 55) hx hb dX5_factOf_46 (by decide) ?_
        cases hf
        exact w_lret C hr hw dX5_factOf_55
    · replace hf := ite_t c4 hf
      refine lv_aload_n hx hb dX5_factOf_17 rfl (lv_at hl 0 rfl) ?_
      refine lv_iload_n hx hb dX5_factOf_18 rfl (lv_at hl 2 rfl) ?_
      revert hf
      refine k_pcl (fun z11 h10 hf => ?_)
      refine w_afi hw (w_rV (As := [.int a1]) C hw (ok_X5_allOf h10) (cw_X5_166 hts (Nat.le_of_ble_eq_true rfl) (Nat.le_of_ble_eq_true rfl)) rfl (by decide) (of_req h10).1 rfl hl.1 rfl (Nat.le_of_ble_eq_true rfl) ⟨Nat.zero_le _, Nat.zero_le _⟩ dX5_factOf_19) (fun H locs hw => ?_)
      refine lv_sipush (v := (1000 : Int32)) hx hb dX5_factOf_22 (by decide) ?_
      refine lv_idiv hx hb dX5_factOf_25 (by decide) ?_
      refine lv_i2l hx hb dX5_factOf_26 rfl ?_
      refine lv_goto (tgt := 55) hx hb dX5_factOf_27 (by decide) ?_
      cases hf
      exact w_lret C hr hw dX5_factOf_55
  · replace hf := ite_t c3 hf
    refine lv_ldc2 (v := ((-1) : Int64)) hx hb hown (hts _ q1784) dX5_factOf_8 ?_
    cases hf
    exact w_lret C hr hw dX5_factOf_11
set_option maxHeartbeats 4000000 in
theorem jk_X5_reckon_104 {l : Launch} {G : gG} {p : Program} {e : Env} {s : State} {m : MethodId} {args : Array Value} {below : List Frame} {meth : Method} {c : Code} {T : Tt} {V0 : Vt} {r : Int64} {V' : Vt} (C : Cx G p s m args meth c cX5_reckon RX5 6) (hr : meth.sig.returnType = (some .long)) {x0 : Nat} {x2 : Int64} {x4 : Int64} {s0 : Nat} {s1 : Int32} {H : Heap} {locs : List Loc} {ls : Array Slot} (k0 : T.1 x0 = 6) (hf : f_X5_reckon_J104 T V0 x0 x2 x4 s0 s1 = some (r, V')) (hw : wS G V0 T H locs) (hl : lv_has ls 6 [(0, .ref (gb G + x0)), (2, .long x2), (4, .long x4)]) : W p l e (rmL 0 0 0) s m args below meth c H locs 0 0 (eQ G below (some (.long r)) V' T args s 0 0) (F0 m 104 ls [.int s1, .ref (gb G + s0)]) := by
  have hx := C.1
  have hb := C.2.1
  have hown := C.2.2.2.1
  have hts := C.2.2.2.2.1
  unfold f_X5_reckon_J104 at hf
  revert hf
  refine k_req (fun k13 hf => ?_)
  revert hf
  refine k_req (fun h14 hf => ?_)
  revert hf
  refine k_stp (fun U15 eU15 hf => ?_)
  refine pf_X5_380 C hw k13 h14 eU15 dX5_reckon_104 (fun H locs hw => ?_)
  refine lv_aload_n hx hb dX5_reckon_107 rfl (lv_at hl 0 rfl) ?_
  refine gf_X5_380 C hw k0 dX5_reckon_108 ?_
  refine lv_if_eq (tgt := 118) hx hb dX5_reckon_111 (by decide) (fun c16 => ?_) (fun c16 => ?_)
  · replace hf := ite_t c16 hf
    refine lv_lload_n hx hb dX5_reckon_118 rfl (lv_at hl 1 rfl) ?_
    refine lv_lload hx hb dX5_reckon_119 (lv_at hl 2 rfl) ?_
    revert hf
    refine k_req (fun h17 hf => ?_)
    refine lv_lrem hx hb dX5_reckon_121 h17 ?_
    cases hf
    exact w_lret C hr hw dX5_reckon_122
  · replace hf := ite_f c16 hf
    refine lv_lconst (v := (0 : Int64)) hx hb dX5_reckon_114 (by decide) ?_
    refine lv_goto (tgt := 122) hx hb dX5_reckon_115 (by decide) ?_
    cases hf
    exact w_lret C hr hw dX5_reckon_122
set_option maxHeartbeats 4000000 in
theorem jk_X5_reckon_72 {l : Launch} {G : gG} {p : Program} {e : Env} {s : State} {m : MethodId} {args : Array Value} {below : List Frame} {meth : Method} {c : Code} {T : Tt} {V0 : Vt} {r : Int64} {V' : Vt} (C : Cx G p s m args meth c cX5_reckon RX5 6) (hr : meth.sig.returnType = (some .long)) {x0 : Nat} {x2 : Int64} {x4 : Int64} {s0 : Nat} {s1 : Int32} {H : Heap} {locs : List Loc} {ls : Array Slot} (k0 : T.1 x0 = 6) (hf : f_X5_reckon_J72 T V0 x0 x2 x4 s0 s1 = some (r, V')) (hw : wS G V0 T H locs) (hl : lv_has ls 6 [(0, .ref (gb G + x0)), (2, .long x2), (4, .long x4)]) : W p l e (rmL 0 0 0) s m args below meth c H locs 0 0 (eQ G below (some (.long r)) V' T args s 0 0) (F0 m 72 ls [.int s1, .ref (gb G + s0)]) := by
  have hx := C.1
  have hb := C.2.1
  have hown := C.2.2.2.1
  have hts := C.2.2.2.2.1
  unfold f_X5_reckon_J72 at hf
  revert hf
  refine k_req (fun k6 hf => ?_)
  revert hf
  refine k_req (fun h7 hf => ?_)
  revert hf
  refine k_stp (fun U8 eU8 hf => ?_)
  refine pf_X5_380 C hw k6 h7 eU8 dX5_reckon_72 (fun H locs hw => ?_)
  refine lv_aload_n hx hb dX5_reckon_75 rfl (lv_at hl 0 rfl) ?_
  refine gf_X5_380 C hw k0 dX5_reckon_76 ?_
  refine lv_if_eq (tgt := 86) hx hb dX5_reckon_79 (by decide) (fun c9 => ?_) (fun c9 => ?_)
  · replace hf := ite_t c9 hf
    refine lv_lload_n hx hb dX5_reckon_86 rfl (lv_at hl 1 rfl) ?_
    refine lv_lload hx hb dX5_reckon_87 (lv_at hl 2 rfl) ?_
    revert hf
    refine k_req (fun h10 hf => ?_)
    refine lv_ldiv hx hb dX5_reckon_89 h10 ?_
    cases hf
    exact w_lret C hr hw dX5_reckon_90
  · replace hf := ite_f c9 hf
    refine lv_lconst (v := (0 : Int64)) hx hb dX5_reckon_82 (by decide) ?_
    refine lv_goto (tgt := 90) hx hb dX5_reckon_83 (by decide) ?_
    cases hf
    exact w_lret C hr hw dX5_reckon_90
set_option maxHeartbeats 4000000 in
theorem ok_X5_reckon {l : Launch} {G : gG} {T : Tt} {V0 : Vt} {o : Nat} {a0 : Int32} {a1 : Int64} {a2 : Int64} {r : Int64} {V' : Vt} (hf : f_X5_reckon T V0 o a0 a1 a2 = some (r, V')) : okM l G yX5_reckon cX5_reckon 6 (some .long) 0 [.ref (gb G + o), .int a0, .long a1, .long a2] V0 T (some (.long r)) V' T 0 0 := by
  refine ok_intro (by decide) (Nat.le_of_ble_eq_true rfl) ?_
  intro p e s m below meth c ls C hr hnm hw hl
  have hx := C.1
  have hb := C.2.1
  have hown := C.2.2.2.1
  have hts := C.2.2.2.2.1
  have hl : lv_has ls 6 [(0, .ref (gb G + o)), (1, .int a0), (2, .long a1), (4, .long a2)] := hl
  unfold f_X5_reckon at hf
  revert hf
  refine k_req (fun k0 hf => ?_)
  refine lv_iload_n hx hb dX5_reckon_0 rfl (lv_at hl 1 rfl) ?_
  by_cases c1 : a0 = (20 : Int32)
  · replace hf := ite_t c1 hf
    refine lv_tableIn (tgt := 44) (off := 43) hx hb dX5_reckon_1 (by rw [c1]; decide) (by rw [c1]; decide) (by rw [c1]; decide) (by decide) ?_
    refine lv_lload_n hx hb dX5_reckon_44 rfl (lv_at hl 2 rfl) ?_
    refine lv_lload hx hb dX5_reckon_45 (lv_at hl 3 rfl) ?_
    refine lv_ladd hx hb dX5_reckon_47 ?_
    cases hf
    exact w_lret C hr hw dX5_reckon_48
  · replace hf := ite_f c1 hf
    by_cases c2 : a0 = (21 : Int32)
    · replace hf := ite_t c2 hf
      refine lv_tableIn (tgt := 49) (off := 48) hx hb dX5_reckon_1 (by rw [c2]; decide) (by rw [c2]; decide) (by rw [c2]; decide) (by decide) ?_
      refine lv_lload_n hx hb dX5_reckon_49 rfl (lv_at hl 2 rfl) ?_
      refine lv_lload hx hb dX5_reckon_50 (lv_at hl 3 rfl) ?_
      refine lv_lsub hx hb dX5_reckon_52 ?_
      cases hf
      exact w_lret C hr hw dX5_reckon_53
    · replace hf := ite_f c2 hf
      by_cases c3 : a0 = (22 : Int32)
      · replace hf := ite_t c3 hf
        refine lv_tableIn (tgt := 54) (off := 53) hx hb dX5_reckon_1 (by rw [c3]; decide) (by rw [c3]; decide) (by rw [c3]; decide) (by decide) ?_
        refine lv_lload_n hx hb dX5_reckon_54 rfl (lv_at hl 2 rfl) ?_
        refine lv_lload hx hb dX5_reckon_55 (lv_at hl 3 rfl) ?_
        refine lv_lmul hx hb dX5_reckon_57 ?_
        cases hf
        exact w_lret C hr hw dX5_reckon_58
      · replace hf := ite_f c3 hf
        by_cases c4 : a0 = (23 : Int32)
        · replace hf := ite_t c4 hf
          refine lv_tableIn (tgt := 59) (off := 58) hx hb dX5_reckon_1 (by rw [c4]; decide) (by rw [c4]; decide) (by rw [c4]; decide) (by decide) ?_
          refine lv_aload_n hx hb dX5_reckon_59 rfl (lv_at hl 0 rfl) ?_
          refine lv_lload hx hb dX5_reckon_60 (lv_at hl 3 rfl) ?_
          refine lv_lconst (v := (0 : Int64)) hx hb dX5_reckon_62 (by decide) ?_
          refine W.lcmp hx hb dX5_reckon_63 ?_
          refine lv_if_ne (tgt := 71) hx hb dX5_reckon_64 (by decide) (fun c5 => ?_) (fun c5 => ?_)
          · replace hf := ite_f c5 hf
            refine lv_iconst (v := (0 : Int32)) hx hb dX5_reckon_71 (by decide) ?_
            exact jk_X5_reckon_72 C hr k0 hf hw (lv_sub hl [0, 2, 3] rfl)
          · replace hf := ite_t c5 hf
            refine lv_iconst (v := (1 : Int32)) hx hb dX5_reckon_67 (by decide) ?_
            refine lv_goto (tgt := 72) hx hb dX5_reckon_68 (by decide) ?_
            exact jk_X5_reckon_72 C hr k0 hf hw (lv_sub hl [0, 2, 3] rfl)
        · replace hf := ite_f c4 hf
          by_cases c11 : a0 = (24 : Int32)
          · replace hf := ite_t c11 hf
            refine lv_tableIn (tgt := 91) (off := 90) hx hb dX5_reckon_1 (by rw [c11]; decide) (by rw [c11]; decide) (by rw [c11]; decide) (by decide) ?_
            refine lv_aload_n hx hb dX5_reckon_91 rfl (lv_at hl 0 rfl) ?_
            refine lv_lload hx hb dX5_reckon_92 (lv_at hl 3 rfl) ?_
            refine lv_lconst (v := (0 : Int64)) hx hb dX5_reckon_94 (by decide) ?_
            refine W.lcmp hx hb dX5_reckon_95 ?_
            refine lv_if_ne (tgt := 103) hx hb dX5_reckon_96 (by decide) (fun c12 => ?_) (fun c12 => ?_)
            · replace hf := ite_f c12 hf
              refine lv_iconst (v := (0 : Int32)) hx hb dX5_reckon_103 (by decide) ?_
              exact jk_X5_reckon_104 C hr k0 hf hw (lv_sub hl [0, 2, 3] rfl)
            · replace hf := ite_t c12 hf
              refine lv_iconst (v := (1 : Int32)) hx hb dX5_reckon_99 (by decide) ?_
              refine lv_goto (tgt := 104) hx hb dX5_reckon_100 (by decide) ?_
              exact jk_X5_reckon_104 C hr k0 hf hw (lv_sub hl [0, 2, 3] rfl)
          · replace hf := ite_f c11 hf
            by_cases c18 : a0 = (25 : Int32)
            · replace hf := ite_t c18 hf
              refine lv_tableIn (tgt := 123) (off := 122) hx hb dX5_reckon_1 (by rw [c18]; decide) (by rw [c18]; decide) (by rw [c18]; decide) (by decide) ?_
              refine lv_lload_n hx hb dX5_reckon_123 rfl (lv_at hl 2 rfl) ?_
              refine lv_lload hx hb dX5_reckon_124 (lv_at hl 3 rfl) ?_
              refine W.lcmp hx hb dX5_reckon_126 ?_
              refine lv_if_ge (tgt := 134) hx hb dX5_reckon_127 (by decide) (fun c19 => ?_) (fun c19 => ?_)
              · replace hf := ite_t c19 hf
                refine lv_lconst (v := (0 : Int64)) hx hb dX5_reckon_134 (by decide) ?_
                cases hf
                exact w_lret C hr hw dX5_reckon_135
              · replace hf := ite_f c19 hf
                refine lv_lconst (v := (1 : Int64)) hx hb dX5_reckon_130 (by decide) ?_
                refine lv_goto (tgt := 135) hx hb dX5_reckon_131 (by decide) ?_
                cases hf
                exact w_lret C hr hw dX5_reckon_135
            · replace hf := ite_f c18 hf
              by_cases c20 : a0 = (26 : Int32)
              · replace hf := ite_t c20 hf
                refine lv_tableIn (tgt := 136) (off := 135) hx hb dX5_reckon_1 (by rw [c20]; decide) (by rw [c20]; decide) (by rw [c20]; decide) (by decide) ?_
                refine lv_lload_n hx hb dX5_reckon_136 rfl (lv_at hl 2 rfl) ?_
                refine lv_lload hx hb dX5_reckon_137 (lv_at hl 3 rfl) ?_
                refine W.lcmp hx hb dX5_reckon_139 ?_
                refine lv_if_le (tgt := 147) hx hb dX5_reckon_140 (by decide) (fun c21 => ?_) (fun c21 => ?_)
                · replace hf := ite_t c21 hf
                  refine lv_lconst (v := (0 : Int64)) hx hb dX5_reckon_147 (by decide) ?_
                  cases hf
                  exact w_lret C hr hw dX5_reckon_148
                · replace hf := ite_f c21 hf
                  refine lv_lconst (v := (1 : Int64)) hx hb dX5_reckon_143 (by decide) ?_
                  refine lv_goto (tgt := 148) hx hb dX5_reckon_144 (by decide) ?_
                  cases hf
                  exact w_lret C hr hw dX5_reckon_148
              · replace hf := ite_f c20 hf
                have gc1 := lv_neT (a := 20) c1 (by decide)
                have gc2 := lv_neT (a := 21) c2 (by decide)
                have gc3 := lv_neT (a := 22) c3 (by decide)
                have gc4 := lv_neT (a := 23) c4 (by decide)
                have gc11 := lv_neT (a := 24) c11 (by decide)
                have gc18 := lv_neT (a := 25) c18 (by decide)
                have gc20 := lv_neT (a := 26) c20 (by decide)
                refine lv_tableOut (tgt := 149) hx hb dX5_reckon_1 (by show Int32.toInt a0 < 20 ∨ 26 < Int32.toInt a0; omega) (by decide) ?_
                refine lv_lload_n hx hb dX5_reckon_149 rfl (lv_at hl 2 rfl) ?_
                refine lv_lload hx hb dX5_reckon_150 (lv_at hl 3 rfl) ?_
                refine W.lcmp hx hb dX5_reckon_152 ?_
                refine lv_if_ne (tgt := 160) hx hb dX5_reckon_153 (by decide) (fun c22 => ?_) (fun c22 => ?_)
                · replace hf := ite_f c22 hf
                  refine lv_lconst (v := (0 : Int64)) hx hb dX5_reckon_160 (by decide) ?_
                  cases hf
                  exact w_lret C hr hw dX5_reckon_161
                · replace hf := ite_t c22 hf
                  refine lv_lconst (v := (1 : Int64)) hx hb dX5_reckon_156 (by decide) ?_
                  refine lv_goto (tgt := 161) hx hb dX5_reckon_157 (by decide) ?_
                  cases hf
                  exact w_lret C hr hw dX5_reckon_161
set_option maxHeartbeats 4000000 in
theorem jk_X5_reckonAll_328 {l : Launch} {G : gG} {p : Program} {e : Env} {s : State} {m : MethodId} {args : Array Value} {below : List Frame} {meth : Method} {c : Code} {T : Tt} {V0 : Vt} {V' : Vt} (C : Cx G p s m args meth c cX5_reckonAll RX5 7) (hr : meth.sig.returnType = none) {s0 : Nat} {s1 : Int64} {H : Heap} {locs : List Loc} {ls : Array Slot} (hf : f_X5_reckonAll_J328 T V0 s0 s1 = some V') (hw : wS G V0 T H locs) (hl : lv_has ls 7 []) : W p l e (rmL 5 0 0) s m args below meth c H locs 0 0 (eQ G below none V' T args s 0 0) (F0 m 328 ls [.long s1, .ref (gb G + s0)]) := by
  have hx := C.1
  have hb := C.2.1
  have hown := C.2.2.2.1
  have hts := C.2.2.2.2.1
  unfold f_X5_reckonAll_J328 at hf
  revert hf
  refine k_req (fun k64 hf => ?_)
  revert hf
  refine k_stp (fun U65 eU65 hf => ?_)
  refine pf_X5_398 C hw k64 eU65 dX5_reckonAll_328 (fun H locs hw => ?_)
  cases hf
  exact w_vret C hr hw dX5_reckonAll_331
set_option maxHeartbeats 4000000 in
theorem jk_X5_reckonAll_313 {l : Launch} {G : gG} {p : Program} {e : Env} {s : State} {m : MethodId} {args : Array Value} {below : List Frame} {meth : Method} {c : Code} {T : Tt} {V0 : Vt} {V' : Vt} (C : Cx G p s m args meth c cX5_reckonAll RX5 7) (hr : meth.sig.returnType = none) {x0 : Nat} {x3 : Int32} {H : Heap} {locs : List Loc} {ls : Array Slot} (k0 : T.1 x0 = 6) (hf : f_X5_reckonAll_J313 T V0 x0 x3 = some V') (hw : wS G V0 T H locs) (hl : lv_has ls 7 [(0, .ref (gb G + x0)), (3, .int x3)]) : W p l e (rmL 5 0 0) s m args below meth c H locs 0 0 (eQ G below none V' T args s 0 0) (F0 m 313 ls []) := by
  have hx := C.1
  have hb := C.2.1
  have hown := C.2.2.2.1
  have hts := C.2.2.2.2.1
  unfold f_X5_reckonAll_J313 at hf
  refine lv_aload_n hx hb dX5_reckonAll_313 rfl (lv_at hl 0 rfl) ?_
  refine lv_iload_n hx hb dX5_reckonAll_314 rfl (lv_at hl 1 rfl) ?_
  refine lv_if_le (tgt := 327) hx hb dX5_reckonAll_315 (by decide) (fun c63 => ?_) (fun c63 => ?_)
  · replace hf := ite_t c63 hf
    refine lv_lconst (v := (0 : Int64)) hx hb dX5_reckonAll_327 (by decide) ?_
    exact jk_X5_reckonAll_328 C hr hf hw (lv_sub hl [] rfl)
  · replace hf := ite_f c63 hf
    refine lv_aload_n hx hb dX5_reckonAll_318 rfl (lv_at hl 0 rfl) ?_
    revert hf
    refine k_drf (fun r66 er66 hf => ?_)
    refine gf_X5_101 C hw k0 er66 dX5_reckonAll_319 ?_
    refine lv_iconst (v := (0 : Int32)) hx hb dX5_reckonAll_322 (by decide) ?_
    revert hf
    refine k_req (fun h67 hf => ?_)
    refine w_lald C hw h67 rfl dX5_reckonAll_323 ?_
    refine lv_goto (tgt := 328) hx hb dX5_reckonAll_324 (by decide) ?_
    exact jk_X5_reckonAll_328 C hr hf hw (lv_sub hl [] rfl)
set_option maxHeartbeats 4000000 in
theorem jk_X5_reckonAll_310 {l : Launch} {G : gG} {p : Program} {e : Env} {s : State} {m : MethodId} {args : Array Value} {below : List Frame} {meth : Method} {c : Code} {T : Tt} {V0 : Vt} {V' : Vt} (C : Cx G p s m args meth c cX5_reckonAll RX5 7) (hr : meth.sig.returnType = none) {x0 : Nat} {x2 : Int32} {x3 : Int32} {x4 : Int32} {kc10 : Int32 → Int32 → Vt → Option (Vt)} {kx10_313 : Int32 → Vt → Option (Vt)} {H : Heap} {locs : List Loc} {ls : Array Slot} (k0 : T.1 x0 = 6) (hf : f_X5_reckonAll_J310 T V0 x0 x2 x3 x4 kc10 kx10_313 = some V') (hw : wS G V0 T H locs) (hl : lv_has ls 7 [(0, .ref (gb G + x0)), (2, .int x2), (3, .int x3), (4, .int x4)]) (hkc10 : ∀ (y3 : Int32) (y4 : Int32) (W1 : Vt) (H : Heap) (locs : List Loc) (ls : Array Slot), kc10 y3 y4 W1 = some V' → wS G W1 T H locs → lv_has ls 7 [(0, .ref (gb G + x0)), (2, .int x2), (3, .int y3), (4, .int y4)] → W p l e (rmL 5 0 0) s m args below meth c H locs 0 0 (eQ G below none V' T args s 0 0) (F0 m 10 ls [])) (hkx10_313 : ∀ (y3 : Int32) (W1 : Vt) (H : Heap) (locs : List Loc) (ls : Array Slot), kx10_313 y3 W1 = some V' → wS G W1 T H locs → lv_has ls 7 [(0, .ref (gb G + x0)), (3, .int y3)] → W p l e (rmL 5 0 0) s m args below meth c H locs 0 0 (eQ G below none V' T args s 0 0) (F0 m 313 ls [])) : W p l e (rmL 5 0 0) s m args below meth c H locs 0 0 (eQ G below none V' T args s 0 0) (F0 m 310 ls []) := by
  have hx := C.1
  have hb := C.2.1
  have hown := C.2.2.2.1
  have hts := C.2.2.2.2.1
  unfold f_X5_reckonAll_J310 at hf
  refine lv_goto (tgt := 10) hx hb dX5_reckonAll_310 (by decide) ?_
  exact hkc10 _ _ _ _ _ _ hf hw (lv_sub hl [0, 1, 2, 3] rfl)
set_option maxHeartbeats 4000000 in
theorem jk_X5_reckonAll_296 {l : Launch} {G : gG} {p : Program} {e : Env} {s : State} {m : MethodId} {args : Array Value} {below : List Frame} {meth : Method} {c : Code} {T : Tt} {V0 : Vt} {V' : Vt} (C : Cx G p s m args meth c cX5_reckonAll RX5 7) (hr : meth.sig.returnType = none) {x0 : Nat} {x2 : Int32} {x3 : Int32} {x4 : Int32} {x6 : Int32} {s0 : Int64} {s1 : Int64} {kc10 : Int32 → Int32 → Vt → Option (Vt)} {kx10_313 : Int32 → Vt → Option (Vt)} {H : Heap} {locs : List Loc} {ls : Array Slot} (k0 : T.1 x0 = 6) (hf : f_X5_reckonAll_J296 T V0 x0 x2 x3 x4 x6 s0 s1 kc10 kx10_313 = some V') (hw : wS G V0 T H locs) (hl : lv_has ls 7 [(0, .ref (gb G + x0)), (2, .int x2), (3, .int x3), (4, .int x4), (6, .int x6)]) (hkc10 : ∀ (y3 : Int32) (y4 : Int32) (W1 : Vt) (H : Heap) (locs : List Loc) (ls : Array Slot), kc10 y3 y4 W1 = some V' → wS G W1 T H locs → lv_has ls 7 [(0, .ref (gb G + x0)), (2, .int x2), (3, .int y3), (4, .int y4)] → W p l e (rmL 5 0 0) s m args below meth c H locs 0 0 (eQ G below none V' T args s 0 0) (F0 m 10 ls [])) (hkx10_313 : ∀ (y3 : Int32) (W1 : Vt) (H : Heap) (locs : List Loc) (ls : Array Slot), kx10_313 y3 W1 = some V' → wS G W1 T H locs → lv_has ls 7 [(0, .ref (gb G + x0)), (3, .int y3)] → W p l e (rmL 5 0 0) s m args below meth c H locs 0 0 (eQ G below none V' T args s 0 0) (F0 m 313 ls [])) : W p l e (rmL 5 0 0) s m args below meth c H locs 0 0 (eQ G below none V' T args s 0 0) (F0 m 296 ls [.long s1, .long s0]) := by
  have hx := C.1
  have hb := C.2.1
  have hown := C.2.2.2.1
  have hts := C.2.2.2.2.1
  unfold f_X5_reckonAll_J296 at hf
  refine W.lcmp hx hb dX5_reckonAll_296 ?_
  refine lv_if_ne (tgt := 307) hx hb dX5_reckonAll_297 (by decide) (fun c17 => ?_) (fun c17 => ?_)
  · replace hf := ite_f c17 hf
    revert hf
    refine k_stp (fun z18 ez18 hf => ?_)
    refine lv_iinc (k := 2) (lv' := [(3, .int z18), (0, .ref (gb G + x0)), (2, .int x2), (4, .int x4), (6, .int x6)]) hx hb dX5_reckonAll_307 hl rfl (inc_e (by decide) ez18) (by decide) rfl (fun ls hl => ?_)
    exact jk_X5_reckonAll_310 C hr k0 hf hw (lv_sub hl [1, 2, 0, 3] rfl) hkc10 hkx10_313
  · replace hf := ite_t c17 hf
    refine lv_iload hx hb dX5_reckonAll_300 (lv_at hl 4 rfl) ?_
    refine lv_istore (lv' := [(4, .int x6), (0, .ref (gb G + x0)), (2, .int x2), (3, .int x3), (6, .int x6)]) hx hb dX5_reckonAll_302 hl (by decide) rfl (fun ls hl => ?_)
    refine lv_goto (tgt := 310) hx hb dX5_reckonAll_304 (by decide) ?_
    exact jk_X5_reckonAll_310 C hr k0 hf hw (lv_sub hl [1, 2, 3, 0] rfl) hkc10 hkx10_313
set_option maxHeartbeats 4000000 in
theorem jk_X5_reckonAll_242 {l : Launch} {G : gG} {p : Program} {e : Env} {s : State} {m : MethodId} {args : Array Value} {below : List Frame} {meth : Method} {c : Code} {T : Tt} {V0 : Vt} {V' : Vt} (C : Cx G p s m args meth c cX5_reckonAll RX5 7) (hr : meth.sig.returnType = none) {x0 : Nat} {x2 : Int32} {x3 : Int32} {x4 : Int32} {s0 : Nat} {s1 : Int32} {kc10 : Int32 → Int32 → Vt → Option (Vt)} {kx10_313 : Int32 → Vt → Option (Vt)} {H : Heap} {locs : List Loc} {ls : Array Slot} (k0 : T.1 x0 = 6) (hf : f_X5_reckonAll_J242 T V0 x0 x2 x3 x4 s0 s1 kc10 kx10_313 = some V') (hw : wS G V0 T H locs) (hl : lv_has ls 7 [(0, .ref (gb G + x0)), (2, .int x2), (3, .int x3), (4, .int x4)]) (hkc10 : ∀ (y3 : Int32) (y4 : Int32) (W1 : Vt) (H : Heap) (locs : List Loc) (ls : Array Slot), kc10 y3 y4 W1 = some V' → wS G W1 T H locs → lv_has ls 7 [(0, .ref (gb G + x0)), (2, .int x2), (3, .int y3), (4, .int y4)] → W p l e (rmL 5 0 0) s m args below meth c H locs 0 0 (eQ G below none V' T args s 0 0) (F0 m 10 ls [])) (hkx10_313 : ∀ (y3 : Int32) (W1 : Vt) (H : Heap) (locs : List Loc) (ls : Array Slot), kx10_313 y3 W1 = some V' → wS G W1 T H locs → lv_has ls 7 [(0, .ref (gb G + x0)), (3, .int y3)] → W p l e (rmL 5 0 0) s m args below meth c H locs 0 0 (eQ G below none V' T args s 0 0) (F0 m 313 ls [])) : W p l e (rmL 5 0 0) s m args below meth c H locs 0 0 (eQ G below none V' T args s 0 0) (F0 m 242 ls [.int s1, .ref (gb G + s0)]) := by
  have hx := C.1
  have hb := C.2.1
  have hown := C.2.2.2.1
  have hts := C.2.2.2.2.1
  unfold f_X5_reckonAll_J242 at hf
  revert hf
  refine k_req (fun k36 hf => ?_)
  revert hf
  refine k_req (fun h37 hf => ?_)
  revert hf
  refine k_stp (fun U38 eU38 hf => ?_)
  refine pf_X5_380 C hw k36 h37 eU38 dX5_reckonAll_242 (fun H locs hw => ?_)
  refine lv_goto (tgt := 310) hx hb dX5_reckonAll_245 (by decide) ?_
  exact jk_X5_reckonAll_310 C hr k0 hf hw (lv_sub hl [0, 1, 2, 3] rfl) hkc10 hkx10_313
set_option maxHeartbeats 4000000 in
theorem jk_X5_reckonAll_237 {l : Launch} {G : gG} {p : Program} {e : Env} {s : State} {m : MethodId} {args : Array Value} {below : List Frame} {meth : Method} {c : Code} {T : Tt} {V0 : Vt} {V' : Vt} (C : Cx G p s m args meth c cX5_reckonAll RX5 7) (hr : meth.sig.returnType = none) {x0 : Nat} {x2 : Int32} {x3 : Int32} {x4 : Int32} {s0 : Nat} {kc10 : Int32 → Int32 → Vt → Option (Vt)} {kx10_313 : Int32 → Vt → Option (Vt)} {H : Heap} {locs : List Loc} {ls : Array Slot} (k0 : T.1 x0 = 6) (hf : f_X5_reckonAll_J237 T V0 x0 x2 x3 x4 s0 kc10 kx10_313 = some V') (hw : wS G V0 T H locs) (hl : lv_has ls 7 [(0, .ref (gb G + x0)), (2, .int x2), (3, .int x3), (4, .int x4)]) (hkc10 : ∀ (y3 : Int32) (y4 : Int32) (W1 : Vt) (H : Heap) (locs : List Loc) (ls : Array Slot), kc10 y3 y4 W1 = some V' → wS G W1 T H locs → lv_has ls 7 [(0, .ref (gb G + x0)), (2, .int x2), (3, .int y3), (4, .int y4)] → W p l e (rmL 5 0 0) s m args below meth c H locs 0 0 (eQ G below none V' T args s 0 0) (F0 m 10 ls [])) (hkx10_313 : ∀ (y3 : Int32) (W1 : Vt) (H : Heap) (locs : List Loc) (ls : Array Slot), kx10_313 y3 W1 = some V' → wS G W1 T H locs → lv_has ls 7 [(0, .ref (gb G + x0)), (3, .int y3)] → W p l e (rmL 5 0 0) s m args below meth c H locs 0 0 (eQ G below none V' T args s 0 0) (F0 m 313 ls [])) : W p l e (rmL 5 0 0) s m args below meth c H locs 0 0 (eQ G below none V' T args s 0 0) (F0 m 237 ls [.ref (gb G + s0)]) := by
  have hx := C.1
  have hb := C.2.1
  have hown := C.2.2.2.1
  have hts := C.2.2.2.2.1
  unfold f_X5_reckonAll_J237 at hf
  refine lv_iconst (v := (1 : Int32)) hx hb dX5_reckonAll_237 (by decide) ?_
  refine lv_goto (tgt := 242) hx hb dX5_reckonAll_238 (by decide) ?_
  exact jk_X5_reckonAll_242 C hr k0 hf hw (lv_sub hl [0, 1, 2, 3] rfl) hkc10 hkx10_313
set_option maxHeartbeats 4000000 in
theorem jk_X5_reckonAll_164 {l : Launch} {G : gG} {p : Program} {e : Env} {s : State} {m : MethodId} {args : Array Value} {below : List Frame} {meth : Method} {c : Code} {T : Tt} {V0 : Vt} {V' : Vt} (C : Cx G p s m args meth c cX5_reckonAll RX5 7) (hr : meth.sig.returnType = none) {x0 : Nat} {x2 : Int32} {x3 : Int32} {x4 : Int32} {s0 : Nat} {s1 : Int32} {s2 : Int64} {kc10 : Int32 → Int32 → Vt → Option (Vt)} {kx10_313 : Int32 → Vt → Option (Vt)} {H : Heap} {locs : List Loc} {ls : Array Slot} (k0 : T.1 x0 = 6) (hf : f_X5_reckonAll_J164 T V0 x0 x2 x3 x4 s0 s1 s2 kc10 kx10_313 = some V') (hw : wS G V0 T H locs) (hl : lv_has ls 7 [(0, .ref (gb G + x0)), (2, .int x2), (3, .int x3), (4, .int x4)]) (hkc10 : ∀ (y3 : Int32) (y4 : Int32) (W1 : Vt) (H : Heap) (locs : List Loc) (ls : Array Slot), kc10 y3 y4 W1 = some V' → wS G W1 T H locs → lv_has ls 7 [(0, .ref (gb G + x0)), (2, .int x2), (3, .int y3), (4, .int y4)] → W p l e (rmL 5 0 0) s m args below meth c H locs 0 0 (eQ G below none V' T args s 0 0) (F0 m 10 ls [])) (hkx10_313 : ∀ (y3 : Int32) (W1 : Vt) (H : Heap) (locs : List Loc) (ls : Array Slot), kx10_313 y3 W1 = some V' → wS G W1 T H locs → lv_has ls 7 [(0, .ref (gb G + x0)), (3, .int y3)] → W p l e (rmL 5 0 0) s m args below meth c H locs 0 0 (eQ G below none V' T args s 0 0) (F0 m 313 ls [])) : W p l e (rmL 5 0 0) s m args below meth c H locs 0 0 (eQ G below none V' T args s 0 0) (F0 m 164 ls [.long s2, .int s1, .ref (gb G + s0)]) := by
  have hx := C.1
  have hb := C.2.1
  have hown := C.2.2.2.1
  have hts := C.2.2.2.2.1
  unfold f_X5_reckonAll_J164 at hf
  revert hf
  refine k_req (fun h50 hf => ?_)
  revert hf
  refine k_stp (fun U51 eU51 hf => ?_)
  refine w_last C hw h50 eU51 dX5_reckonAll_164 (fun H locs hw => ?_)
  revert hf
  refine k_stp (fun z52 ez52 hf => ?_)
  refine lv_iinc (k := 2) (lv' := [(3, .int z52), (0, .ref (gb G + x0)), (2, .int x2), (4, .int x4)]) hx hb dX5_reckonAll_165 hl rfl (inc_e (by decide) ez52) (by decide) rfl (fun ls hl => ?_)
  refine lv_goto (tgt := 310) hx hb dX5_reckonAll_168 (by decide) ?_
  exact jk_X5_reckonAll_310 C hr k0 hf hw (lv_sub hl [1, 2, 0, 3] rfl) hkc10 hkx10_313
set_option maxHeartbeats 4000000 in
theorem jk_X5_reckonAll_95 {l : Launch} {G : gG} {p : Program} {e : Env} {s : State} {m : MethodId} {args : Array Value} {below : List Frame} {meth : Method} {c : Code} {T : Tt} {V0 : Vt} {V' : Vt} (C : Cx G p s m args meth c cX5_reckonAll RX5 7) (hr : meth.sig.returnType = none) {x0 : Nat} {x2 : Int32} {x3 : Int32} {x4 : Int32} {x5 : Int32} {s0 : Int32} {kc10 : Int32 → Int32 → Vt → Option (Vt)} {kx10_313 : Int32 → Vt → Option (Vt)} {H : Heap} {locs : List Loc} {ls : Array Slot} (k0 : T.1 x0 = 6) (hf : f_X5_reckonAll_J95 T V0 x0 x2 x3 x4 x5 s0 kc10 kx10_313 = some V') (hw : wS G V0 T H locs) (hl : lv_has ls 7 [(0, .ref (gb G + x0)), (2, .int x2), (3, .int x3), (4, .int x4), (5, .int x5)]) (hkc10 : ∀ (y3 : Int32) (y4 : Int32) (W1 : Vt) (H : Heap) (locs : List Loc) (ls : Array Slot), kc10 y3 y4 W1 = some V' → wS G W1 T H locs → lv_has ls 7 [(0, .ref (gb G + x0)), (2, .int x2), (3, .int y3), (4, .int y4)] → W p l e (rmL 5 0 0) s m args below meth c H locs 0 0 (eQ G below none V' T args s 0 0) (F0 m 10 ls [])) (hkx10_313 : ∀ (y3 : Int32) (W1 : Vt) (H : Heap) (locs : List Loc) (ls : Array Slot), kx10_313 y3 W1 = some V' → wS G W1 T H locs → lv_has ls 7 [(0, .ref (gb G + x0)), (3, .int y3)] → W p l e (rmL 5 0 0) s m args below meth c H locs 0 0 (eQ G below none V' T args s 0 0) (F0 m 313 ls [])) : W p l e (rmL 5 0 0) s m args below meth c H locs 0 0 (eQ G below none V' T args s 0 0) (F0 m 95 ls [.int s0]) := by
  have hx := C.1
  have hb := C.2.1
  have hown := C.2.2.2.1
  have hts := C.2.2.2.2.1
  unfold f_X5_reckonAll_J95 at hf
  refine lv_istore (lv' := [(6, .int s0), (0, .ref (gb G + x0)), (2, .int x2), (3, .int x3), (4, .int x4), (5, .int x5)]) hx hb dX5_reckonAll_95 hl (by decide) rfl (fun ls hl => ?_)
  revert hf
  refine k_stp (fun z10 ez10 hf => ?_)
  refine lv_iinc (k := 4) (lv' := [(4, .int z10), (6, .int s0), (0, .ref (gb G + x0)), (2, .int x2), (3, .int x3), (5, .int x5)]) hx hb dX5_reckonAll_97 hl rfl (inc_e (by decide) ez10) (by decide) rfl (fun ls hl => ?_)
  refine lv_iload hx hb dX5_reckonAll_100 (lv_at hl 5 rfl) ?_
  refine lv_bipush (v := (20 : Int32)) hx hb dX5_reckonAll_102 (by decide) ?_
  refine lv_icmp_ge (tgt := 171) hx hb dX5_reckonAll_104 (by decide) (fun c11 => ?_) (fun c11 => ?_)
  · replace hf := ite_t c11 hf
    refine lv_iload hx hb dX5_reckonAll_171 (lv_at hl 5 rfl) ?_
    refine lv_bipush (v := (28 : Int32)) hx hb dX5_reckonAll_173 (by decide) ?_
    refine lv_icmp_ge (tgt := 248) hx hb dX5_reckonAll_175 (by decide) (fun c12 => ?_) (fun c12 => ?_)
    · replace hf := ite_t c12 hf
      refine lv_iload hx hb dX5_reckonAll_248 (lv_at hl 5 rfl) ?_
      refine lv_bipush (v := (28 : Int32)) hx hb dX5_reckonAll_250 (by decide) ?_
      refine lv_icmp_ne (tgt := 276) hx hb dX5_reckonAll_252 (by decide) (fun c13 => ?_) (fun c13 => ?_)
      · replace hf := ite_f c13 hf
        refine lv_aload_n hx hb dX5_reckonAll_276 rfl (lv_at hl 2 rfl) ?_
        revert hf
        refine k_drf (fun r14 er14 hf => ?_)
        refine gf_X5_101 C hw k0 er14 dX5_reckonAll_277 ?_
        refine lv_iload_n hx hb dX5_reckonAll_280 rfl (lv_at hl 4 rfl) ?_
        refine lv_iconst (v := (1 : Int32)) hx hb dX5_reckonAll_281 (by decide) ?_
        refine lv_isub hx hb dX5_reckonAll_282 ?_
        revert hf
        refine k_req (fun h15 hf => ?_)
        refine w_lald C hw h15 rfl dX5_reckonAll_283 ?_
        refine lv_iload hx hb dX5_reckonAll_284 (lv_at hl 5 rfl) ?_
        refine lv_bipush (v := (29 : Int32)) hx hb dX5_reckonAll_286 (by decide) ?_
        refine lv_icmp_ne (tgt := 295) hx hb dX5_reckonAll_288 (by decide) (fun c16 => ?_) (fun c16 => ?_)
        · replace hf := ite_f c16 hf
          refine lv_lconst (v := (1 : Int64)) hx hb dX5_reckonAll_295 (by decide) ?_
          exact jk_X5_reckonAll_296 C hr k0 hf hw (lv_sub hl [2, 3, 4, 0, 1] rfl) hkc10 hkx10_313
        · replace hf := ite_t c16 hf
          refine lv_lconst (v := (0 : Int64)) hx hb dX5_reckonAll_291 (by decide) ?_
          refine lv_goto (tgt := 296) hx hb dX5_reckonAll_292 (by decide) ?_
          exact jk_X5_reckonAll_296 C hr k0 hf hw (lv_sub hl [2, 3, 4, 0, 1] rfl) hkc10 hkx10_313
      · replace hf := ite_t c13 hf
        refine lv_aload_n hx hb dX5_reckonAll_255 rfl (lv_at hl 2 rfl) ?_
        revert hf
        refine k_drf (fun r19 er19 hf => ?_)
        refine gf_X5_101 C hw k0 er19 dX5_reckonAll_256 ?_
        refine lv_iload_n hx hb dX5_reckonAll_259 rfl (lv_at hl 4 rfl) ?_
        refine lv_iconst (v := (1 : Int32)) hx hb dX5_reckonAll_260 (by decide) ?_
        refine lv_isub hx hb dX5_reckonAll_261 ?_
        refine lv_lconst (v := (1 : Int64)) hx hb dX5_reckonAll_262 (by decide) ?_
        refine lv_aload_n hx hb dX5_reckonAll_263 rfl (lv_at hl 2 rfl) ?_
        revert hf
        refine k_drf (fun r20 er20 hf => ?_)
        refine gf_X5_101 C hw k0 er20 dX5_reckonAll_264 ?_
        refine lv_iload_n hx hb dX5_reckonAll_267 rfl (lv_at hl 4 rfl) ?_
        refine lv_iconst (v := (1 : Int32)) hx hb dX5_reckonAll_268 (by decide) ?_
        refine lv_isub hx hb dX5_reckonAll_269 ?_
        revert hf
        refine k_req (fun h21 hf => ?_)
        refine w_lald C hw h21 rfl dX5_reckonAll_270 ?_
        refine lv_lsub hx hb dX5_reckonAll_271 ?_
        revert hf
        refine k_req (fun h22 hf => ?_)
        revert hf
        refine k_stp (fun U23 eU23 hf => ?_)
        refine w_last C hw h22 eU23 dX5_reckonAll_272 (fun H locs hw => ?_)
        refine lv_goto (tgt := 310) hx hb dX5_reckonAll_273 (by decide) ?_
        exact jk_X5_reckonAll_310 C hr k0 hf hw (lv_sub hl [2, 3, 4, 0] rfl) hkc10 hkx10_313
    · replace hf := ite_f c12 hf
      revert hf
      refine k_stp (fun z24 ez24 hf => ?_)
      refine lv_iinc (k := 4) (lv' := [(3, .int z24), (4, .int z10), (6, .int s0), (0, .ref (gb G + x0)), (2, .int x2), (5, .int x5)]) hx hb dX5_reckonAll_178 hl rfl (inc_e (by decide) ez24) (by decide) rfl (fun ls hl => ?_)
      refine lv_aload_n hx hb dX5_reckonAll_181 rfl (lv_at hl 3 rfl) ?_
      revert hf
      refine k_drf (fun r25 er25 hf => ?_)
      refine gf_X5_101 C hw k0 er25 dX5_reckonAll_182 ?_
      refine lv_iload_n hx hb dX5_reckonAll_185 rfl (lv_at hl 0 rfl) ?_
      refine lv_iconst (v := (1 : Int32)) hx hb dX5_reckonAll_186 (by decide) ?_
      refine lv_isub hx hb dX5_reckonAll_187 ?_
      refine lv_aload_n hx hb dX5_reckonAll_188 rfl (lv_at hl 3 rfl) ?_
      refine lv_iload hx hb dX5_reckonAll_189 (lv_at hl 5 rfl) ?_
      refine lv_aload_n hx hb dX5_reckonAll_191 rfl (lv_at hl 3 rfl) ?_
      revert hf
      refine k_drf (fun r26 er26 hf => ?_)
      refine gf_X5_101 C hw k0 er26 dX5_reckonAll_192 ?_
      refine lv_iload_n hx hb dX5_reckonAll_195 rfl (lv_at hl 0 rfl) ?_
      refine lv_iconst (v := (1 : Int32)) hx hb dX5_reckonAll_196 (by decide) ?_
      refine lv_isub hx hb dX5_reckonAll_197 ?_
      revert hf
      refine k_req (fun h27 hf => ?_)
      refine w_lald C hw h27 rfl dX5_reckonAll_198 ?_
      refine lv_aload_n hx hb dX5_reckonAll_199 rfl (lv_at hl 3 rfl) ?_
      revert hf
      refine k_drf (fun r28 er28 hf => ?_)
      refine gf_X5_101 C hw k0 er28 dX5_reckonAll_200 ?_
      refine lv_iload_n hx hb dX5_reckonAll_203 rfl (lv_at hl 0 rfl) ?_
      revert hf
      refine k_req (fun h29 hf => ?_)
      refine w_lald C hw h29 rfl dX5_reckonAll_204 ?_
      revert hf
      refine k_cal (fun z31 U32 h30 hf => ?_)
      refine w_afl hw (w_rV (As := [.int x5, .long (V0.2.1 r26 (ixN (z24 - (1 : Int32)))), .long (V0.2.1 r28 (ixN z24))]) C hw (ok_X5_reckon h30) (cw_X5_390 hts (Nat.le_of_ble_eq_true rfl) (Nat.le_of_ble_eq_true rfl)) rfl (by decide) (of_req h30).1 rfl hl.1 rfl (Nat.le_of_ble_eq_true rfl) ⟨Nat.zero_le _, Nat.zero_le _⟩ dX5_reckonAll_205) (fun H locs hw => ?_)
      revert hf
      refine k_req (fun h33 hf => ?_)
      revert hf
      refine k_stp (fun U34 eU34 hf => ?_)
      refine w_last C hw h33 eU34 dX5_reckonAll_208 (fun H locs hw => ?_)
      refine lv_aload_n hx hb dX5_reckonAll_209 rfl (lv_at hl 3 rfl) ?_
      refine lv_aload_n hx hb dX5_reckonAll_210 rfl (lv_at hl 3 rfl) ?_
      refine gf_X5_380 C hw k0 dX5_reckonAll_211 ?_
      refine lv_if_ne (tgt := 237) hx hb dX5_reckonAll_214 (by decide) (fun c35 => ?_) (fun c35 => ?_)
      · replace hf := ite_f c35 hf
        exact jk_X5_reckonAll_237 C hr k0 hf hw (lv_sub hl [3, 4, 0, 1] rfl) hkc10 hkx10_313
      · replace hf := ite_t c35 hf
        refine lv_aload_n hx hb dX5_reckonAll_217 rfl (lv_at hl 3 rfl) ?_
        revert hf
        refine k_drf (fun r39 er39 hf => ?_)
        refine gf_X5_101 C hw k0 er39 dX5_reckonAll_218 ?_
        refine lv_iload_n hx hb dX5_reckonAll_221 rfl (lv_at hl 0 rfl) ?_
        refine lv_iconst (v := (1 : Int32)) hx hb dX5_reckonAll_222 (by decide) ?_
        refine lv_isub hx hb dX5_reckonAll_223 ?_
        revert hf
        refine k_req (fun h40 hf => ?_)
        refine w_lald C hw h40 rfl dX5_reckonAll_224 ?_
        refine lv_ldc2 (v := ((-1000000000) : Int64)) hx hb hown (hts _ q1793) dX5_reckonAll_225 ?_
        refine lv_ldc2 (v := (1000000000 : Int64)) hx hb hown (hts _ q1794) dX5_reckonAll_228 ?_
        revert hf
        refine k_pcl (fun z42 h41 hf => ?_)
        refine w_afi hw (w_rS (As := [.long (U34.2.1 r39 (ixN (z24 - (1 : Int32)))), .long ((-1000000000) : Int64), .long (1000000000 : Int64)]) C hw (ok_X5_in h41) (cw_X5_153 hts (Nat.le_of_ble_eq_true rfl) (Nat.le_of_ble_eq_true rfl)) rfl hl.1 rfl (Nat.le_of_ble_eq_true rfl) ⟨Nat.zero_le _, Nat.zero_le _⟩ dX5_reckonAll_231) (fun H locs hw => ?_)
        refine lv_if_ne (tgt := 241) hx hb dX5_reckonAll_234 (by decide) (fun c43 => ?_) (fun c43 => ?_)
        · replace hf := ite_f c43 hf
          refine lv_iconst (v := (0 : Int32)) hx hb dX5_reckonAll_241 (by decide) ?_
          exact jk_X5_reckonAll_242 C hr k0 hf hw (lv_sub hl [3, 4, 0, 1] rfl) hkc10 hkx10_313
        · replace hf := ite_t c43 hf
          exact jk_X5_reckonAll_237 C hr k0 hf hw (lv_sub hl [3, 4, 0, 1] rfl) hkc10 hkx10_313
  · replace hf := ite_f c11 hf
    refine lv_aload_n hx hb dX5_reckonAll_107 rfl (lv_at hl 2 rfl) ?_
    revert hf
    refine k_drf (fun r44 er44 hf => ?_)
    refine gf_X5_101 C hw k0 er44 dX5_reckonAll_108 ?_
    refine lv_iload_n hx hb dX5_reckonAll_111 rfl (lv_at hl 4 rfl) ?_
    refine lv_iload hx hb dX5_reckonAll_112 (lv_at hl 5 rfl) ?_
    refine lv_if_ne (tgt := 123) hx hb dX5_reckonAll_114 (by decide) (fun c45 => ?_) (fun c45 => ?_)
    · replace hf := ite_f c45 hf
      refine lv_aload_n hx hb dX5_reckonAll_123 rfl (lv_at hl 2 rfl) ?_
      refine gf_X5_302 C hw k0 dX5_reckonAll_124 ?_
      refine lv_if_ne (tgt := 140) hx hb dX5_reckonAll_127 (by decide) (fun c46 => ?_) (fun c46 => ?_)
      · replace hf := ite_f c46 hf
        refine lv_iload hx hb dX5_reckonAll_140 (lv_at hl 5 rfl) ?_
        refine lv_iconst (v := (5 : Int32)) hx hb dX5_reckonAll_142 (by decide) ?_
        refine lv_icmp_ge (tgt := 156) hx hb dX5_reckonAll_143 (by decide) (fun c47 => ?_) (fun c47 => ?_)
        · replace hf := ite_t c47 hf
          refine lv_aload_n hx hb dX5_reckonAll_156 rfl (lv_at hl 2 rfl) ?_
          refine lv_iload hx hb dX5_reckonAll_157 (lv_at hl 5 rfl) ?_
          refine lv_iload hx hb dX5_reckonAll_159 (lv_at hl 1 rfl) ?_
          revert hf
          refine k_pcl (fun z49 h48 hf => ?_)
          refine w_afl hw (w_rV (As := [.int x5, .int s0]) C hw (ok_X5_factOf h48) (cw_X5_386 hts (Nat.le_of_ble_eq_true rfl) (Nat.le_of_ble_eq_true rfl)) rfl (by decide) (of_req h48).1 rfl hl.1 rfl (Nat.le_of_ble_eq_true rfl) ⟨Nat.zero_le _, Nat.zero_le _⟩ dX5_reckonAll_161) (fun H locs hw => ?_)
          exact jk_X5_reckonAll_164 C hr k0 hf hw (lv_sub hl [2, 3, 4, 0] rfl) hkc10 hkx10_313
        · replace hf := ite_f c47 hf
          refine lv_aload_n hx hb dX5_reckonAll_146 rfl (lv_at hl 2 rfl) ?_
          revert hf
          refine k_drf (fun r53 er53 hf => ?_)
          refine gf_X5_98 C hw k0 er53 dX5_reckonAll_147 ?_
          refine lv_iload hx hb dX5_reckonAll_150 (lv_at hl 5 rfl) ?_
          revert hf
          refine k_req (fun h54 hf => ?_)
          refine w_lald C hw h54 rfl dX5_reckonAll_152 ?_
          refine lv_goto (tgt := 164) hx hb dX5_reckonAll_153 (by decide) ?_
          exact jk_X5_reckonAll_164 C hr k0 hf hw (lv_sub hl [2, 3, 4, 0] rfl) hkc10 hkx10_313
      · replace hf := ite_t c46 hf
        refine lv_aload_n hx hb dX5_reckonAll_130 rfl (lv_at hl 2 rfl) ?_
        revert hf
        refine k_drf (fun r55 er55 hf => ?_)
        refine gf_X5_95 C hw k0 er55 dX5_reckonAll_131 ?_
        refine lv_iload hx hb dX5_reckonAll_134 (lv_at hl 5 rfl) ?_
        revert hf
        refine k_req (fun h56 hf => ?_)
        refine w_lald C hw h56 rfl dX5_reckonAll_136 ?_
        refine lv_goto (tgt := 164) hx hb dX5_reckonAll_137 (by decide) ?_
        exact jk_X5_reckonAll_164 C hr k0 hf hw (lv_sub hl [2, 3, 4, 0] rfl) hkc10 hkx10_313
    · replace hf := ite_t c45 hf
      refine lv_iload hx hb dX5_reckonAll_117 (lv_at hl 1 rfl) ?_
      refine lv_i2l hx hb dX5_reckonAll_119 rfl ?_
      refine lv_goto (tgt := 164) hx hb dX5_reckonAll_120 (by decide) ?_
      exact jk_X5_reckonAll_164 C hr k0 hf hw (lv_sub hl [2, 3, 4, 0] rfl) hkc10 hkx10_313
set_option maxHeartbeats 4000000 in
theorem jk_X5_reckonAll_57 {l : Launch} {G : gG} {p : Program} {e : Env} {s : State} {m : MethodId} {args : Array Value} {below : List Frame} {meth : Method} {c : Code} {T : Tt} {V0 : Vt} {V' : Vt} (C : Cx G p s m args meth c cX5_reckonAll RX5 7) (hr : meth.sig.returnType = none) {x0 : Nat} {x2 : Int32} {x3 : Int32} {x4 : Int32} {s0 : Int32} {kc10 : Int32 → Int32 → Vt → Option (Vt)} {kx10_313 : Int32 → Vt → Option (Vt)} {H : Heap} {locs : List Loc} {ls : Array Slot} (k0 : T.1 x0 = 6) (hf : f_X5_reckonAll_J57 T V0 x0 x2 x3 x4 s0 kc10 kx10_313 = some V') (hw : wS G V0 T H locs) (hl : lv_has ls 7 [(0, .ref (gb G + x0)), (2, .int x2), (3, .int x3), (4, .int x4)]) (hkc10 : ∀ (y3 : Int32) (y4 : Int32) (W1 : Vt) (H : Heap) (locs : List Loc) (ls : Array Slot), kc10 y3 y4 W1 = some V' → wS G W1 T H locs → lv_has ls 7 [(0, .ref (gb G + x0)), (2, .int x2), (3, .int y3), (4, .int y4)] → W p l e (rmL 5 0 0) s m args below meth c H locs 0 0 (eQ G below none V' T args s 0 0) (F0 m 10 ls [])) (hkx10_313 : ∀ (y3 : Int32) (W1 : Vt) (H : Heap) (locs : List Loc) (ls : Array Slot), kx10_313 y3 W1 = some V' → wS G W1 T H locs → lv_has ls 7 [(0, .ref (gb G + x0)), (3, .int y3)] → W p l e (rmL 5 0 0) s m args below meth c H locs 0 0 (eQ G below none V' T args s 0 0) (F0 m 313 ls [])) : W p l e (rmL 5 0 0) s m args below meth c H locs 0 0 (eQ G below none V' T args s 0 0) (F0 m 57 ls [.int s0]) := by
  have hx := C.1
  have hb := C.2.1
  have hown := C.2.2.2.1
  have hts := C.2.2.2.2.1
  unfold f_X5_reckonAll_J57 at hf
  refine lv_istore (lv' := [(5, .int s0), (0, .ref (gb G + x0)), (2, .int x2), (3, .int x3), (4, .int x4)]) hx hb dX5_reckonAll_57 hl (by decide) rfl (fun ls hl => ?_)
  refine lv_aload_n hx hb dX5_reckonAll_59 rfl (lv_at hl 1 rfl) ?_
  refine gf_X5_302 C hw k0 dX5_reckonAll_60 ?_
  refine lv_if_eq (tgt := 76) hx hb dX5_reckonAll_63 (by decide) (fun c7 => ?_) (fun c7 => ?_)
  · replace hf := ite_t c7 hf
    refine lv_aload_n hx hb dX5_reckonAll_76 rfl (lv_at hl 1 rfl) ?_
    revert hf
    refine k_drf (fun r8 er8 hf => ?_)
    refine gf_X5_13 C hw k0 er8 dX5_reckonAll_77 ?_
    refine lv_aload_n hx hb dX5_reckonAll_80 rfl (lv_at hl 1 rfl) ?_
    refine gf_X5_383 C hw k0 dX5_reckonAll_81 ?_
    refine lv_bipush (v := (98 : Int32)) hx hb dX5_reckonAll_84 (by decide) ?_
    refine lv_iadd hx hb dX5_reckonAll_86 ?_
    refine lv_iconst (v := (2 : Int32)) hx hb dX5_reckonAll_87 (by decide) ?_
    refine lv_iload hx hb dX5_reckonAll_88 (lv_at hl 4 rfl) ?_
    refine lv_imul hx hb dX5_reckonAll_90 ?_
    refine lv_iadd hx hb dX5_reckonAll_91 ?_
    refine lv_iconst (v := (1 : Int32)) hx hb dX5_reckonAll_92 (by decide) ?_
    refine lv_iadd hx hb dX5_reckonAll_93 ?_
    revert hf
    refine k_req (fun h9 hf => ?_)
    refine w_iald C hw h9 rfl dX5_reckonAll_94 ?_
    exact jk_X5_reckonAll_95 C hr k0 hf hw (lv_sub hl [1, 2, 3, 4, 0] rfl) hkc10 hkx10_313
  · replace hf := ite_f c7 hf
    refine lv_aload_n hx hb dX5_reckonAll_66 rfl (lv_at hl 1 rfl) ?_
    revert hf
    refine k_drf (fun r57 er57 hf => ?_)
    refine gf_X5_48 C hw k0 er57 dX5_reckonAll_67 ?_
    refine lv_iload hx hb dX5_reckonAll_70 (lv_at hl 4 rfl) ?_
    revert hf
    refine k_req (fun h58 hf => ?_)
    refine w_iald C hw h58 rfl dX5_reckonAll_72 ?_
    refine lv_goto (tgt := 95) hx hb dX5_reckonAll_73 (by decide) ?_
    exact jk_X5_reckonAll_95 C hr k0 hf hw (lv_sub hl [1, 2, 3, 4, 0] rfl) hkc10 hkx10_313
set_option maxHeartbeats 4000000 in
theorem lk_X5_reckonAll_10 {l : Launch} {G : gG} {p : Program} {e : Env} {s : State} {m : MethodId} {args : Array Value} {below : List Frame} {meth : Method} {c : Code} {T : Tt} {V' : Vt} (C : Cx G p s m args meth c cX5_reckonAll RX5 7) (hr : meth.sig.returnType = none) {x0 : Nat} {x2 : Int32} {kx10_313 : Int32 → Vt → Option (Vt)} (k0 : T.1 x0 = 6) (hkx10_313 : ∀ (y3 : Int32) (W1 : Vt) (H : Heap) (locs : List Loc) (ls : Array Slot), kx10_313 y3 W1 = some V' → wS G W1 T H locs → lv_has ls 7 [(0, .ref (gb G + x0)), (3, .int y3)] → W p l e (rmL 5 0 0) s m args below meth c H locs 0 0 (eQ G below none V' T args s 0 0) (F0 m 313 ls [])) : ∀ (n : Nat) (x3 : Int32) (x4 : Int32) (V1 : Vt) (H : Heap) (locs : List Loc) (ls : Array Slot), f_X5_reckonAll_L10 T x0 x2 kx10_313 n x3 x4 V1 = some V' → wS G V1 T H locs → lv_has ls 7 [(0, .ref (gb G + x0)), (2, .int x2), (3, .int x3), (4, .int x4)] → W p l e (rmL 5 0 0) s m args below meth c H locs 0 0 (eQ G below none V' T args s 0 0) (F0 m 10 ls []) := by
  have hx := C.1
  have hb := C.2.1
  have hown := C.2.2.2.1
  have hts := C.2.2.2.2.1
  intro n
  induction n with
  | zero =>
    intro x3 x4 V1 H locs ls hf
    cases hf
  | succ n ih =>
    intro x3 x4 V1 H locs ls hf hw hl
    unfold f_X5_reckonAll_L10 at hf
    refine lv_iload hx hb dX5_reckonAll_10 (lv_at hl 3 rfl) ?_
    refine lv_iload_n hx hb dX5_reckonAll_12 rfl (lv_at hl 1 rfl) ?_
    refine lv_icmp_ge (tgt := 313) hx hb dX5_reckonAll_13 (by decide) (fun c2 => ?_) (fun c2 => ?_)
    · replace hf := ite_t c2 hf
      exact hkx10_313 _ _ _ _ _ hf hw (lv_sub hl [0, 2] rfl)
    · replace hf := ite_f c2 hf
      refine lv_aload_n hx hb dX5_reckonAll_16 rfl (lv_at hl 0 rfl) ?_
      refine gf_X5_380 C hw k0 dX5_reckonAll_17 ?_
      refine lv_if_ne (tgt := 313) hx hb dX5_reckonAll_20 (by decide) (fun c3 => ?_) (fun c3 => ?_)
      · replace hf := ite_f c3 hf
        exact hkx10_313 _ _ _ _ _ hf hw (lv_sub hl [0, 2] rfl)
      · replace hf := ite_t c3 hf
        refine lv_aload_n hx hb dX5_reckonAll_23 rfl (lv_at hl 0 rfl) ?_
        refine gf_X5_302 C hw k0 dX5_reckonAll_24 ?_
        refine lv_if_eq (tgt := 40) hx hb dX5_reckonAll_27 (by decide) (fun c4 => ?_) (fun c4 => ?_)
        · replace hf := ite_t c4 hf
          refine lv_aload_n hx hb dX5_reckonAll_40 rfl (lv_at hl 0 rfl) ?_
          revert hf
          refine k_drf (fun r5 er5 hf => ?_)
          refine gf_X5_13 C hw k0 er5 dX5_reckonAll_41 ?_
          refine lv_aload_n hx hb dX5_reckonAll_44 rfl (lv_at hl 0 rfl) ?_
          refine gf_X5_383 C hw k0 dX5_reckonAll_45 ?_
          refine lv_bipush (v := (98 : Int32)) hx hb dX5_reckonAll_48 (by decide) ?_
          refine lv_iadd hx hb dX5_reckonAll_50 ?_
          refine lv_iconst (v := (2 : Int32)) hx hb dX5_reckonAll_51 (by decide) ?_
          refine lv_iload hx hb dX5_reckonAll_52 (lv_at hl 3 rfl) ?_
          refine lv_imul hx hb dX5_reckonAll_54 ?_
          refine lv_iadd hx hb dX5_reckonAll_55 ?_
          revert hf
          refine k_req (fun h6 hf => ?_)
          refine w_iald C hw h6 rfl dX5_reckonAll_56 ?_
          exact jk_X5_reckonAll_57 C hr k0 hf hw (lv_sub hl [0, 1, 2, 3] rfl) ih hkx10_313
        · replace hf := ite_f c4 hf
          refine lv_aload_n hx hb dX5_reckonAll_30 rfl (lv_at hl 0 rfl) ?_
          revert hf
          refine k_drf (fun r59 er59 hf => ?_)
          refine gf_X5_45 C hw k0 er59 dX5_reckonAll_31 ?_
          refine lv_iload hx hb dX5_reckonAll_34 (lv_at hl 3 rfl) ?_
          revert hf
          refine k_req (fun h60 hf => ?_)
          refine w_iald C hw h60 rfl dX5_reckonAll_36 ?_
          refine lv_goto (tgt := 57) hx hb dX5_reckonAll_37 (by decide) ?_
          exact jk_X5_reckonAll_57 C hr k0 hf hw (lv_sub hl [0, 1, 2, 3] rfl) ih hkx10_313
set_option maxHeartbeats 4000000 in
theorem ok_X5_reckonAll {l : Launch} {G : gG} {T : Tt} {V0 : Vt} {o : Nat} {a0 : Int32} {a1 : Int32} {V' : Vt} (hf : f_X5_reckonAll T V0 o a0 a1 = some V') : okM l G yX5_reckonAll cX5_reckonAll 7 none 5 [.ref (gb G + o), .int a0, .int a1] V0 T none V' T 0 0 := by
  refine ok_intro (by decide) (Nat.le_of_ble_eq_true rfl) ?_
  intro p e s m below meth c ls C hr hnm hw hl
  have hx := C.1
  have hb := C.2.1
  have hown := C.2.2.2.1
  have hts := C.2.2.2.2.1
  have hl : lv_has ls 7 [(0, .ref (gb G + o)), (1, .int a0), (2, .int a1)] := hl
  unfold f_X5_reckonAll at hf
  revert hf
  refine k_req (fun k0 hf => ?_)
  refine lv_aload_n hx hb dX5_reckonAll_0 rfl (lv_at hl 0 rfl) ?_
  refine lv_iconst (v := (0 : Int32)) hx hb dX5_reckonAll_1 (by decide) ?_
  revert hf
  refine k_stp (fun U1 eU1 hf => ?_)
  refine pf_X5_380 C hw k0 (by decide) eU1 dX5_reckonAll_2 (fun H locs hw => ?_)
  refine lv_iconst (v := (0 : Int32)) hx hb dX5_reckonAll_5 (by decide) ?_
  refine lv_istore_n (lv' := [(3, .int (0 : Int32)), (0, .ref (gb G + o)), (1, .int a0), (2, .int a1)]) hx hb dX5_reckonAll_6 rfl hl (by decide) rfl (fun ls hl => ?_)
  refine lv_iload_n hx hb dX5_reckonAll_7 rfl (lv_at hl 2 rfl) ?_
  refine lv_istore (lv' := [(4, .int a0), (3, .int (0 : Int32)), (0, .ref (gb G + o)), (1, .int a0), (2, .int a1)]) hx hb dX5_reckonAll_8 hl (by decide) rfl (fun ls hl => ?_)
  refine lk_X5_reckonAll_10 C hr k0 (fun z61 U62 H locs ls hf hw hl => ?_) fuel _ _ _ _ _ _ hf hw (lv_sub hl [2, 4, 1, 0] rfl)
  exact jk_X5_reckonAll_313 C hr k0 hf hw (lv_sub hl [0, 1] rfl)
set_option maxHeartbeats 4000000 in
theorem jk_X5_isSo_59 {l : Launch} {G : gG} {p : Program} {e : Env} {s : State} {m : MethodId} {args : Array Value} {below : List Frame} {meth : Method} {c : Code} {T : Tt} {V0 : Vt} {r : Int32} {V' : Vt} (C : Cx G p s m args meth c cX5_isSo RX5 2) (hr : meth.sig.returnType = (some .boolean)) {x0 : Nat} {x1 : Int32} {H : Heap} {locs : List Loc} {ls : Array Slot} (k0 : T.1 x0 = 6) (hf : f_X5_isSo_J59 T V0 x0 x1 = some (r, V')) (hw : wS G V0 T H locs) (hl : lv_has ls 2 [(0, .ref (gb G + x0)), (1, .int x1)]) : W p l e (rmL 6 0 0) s m args below meth c H locs 0 0 (eQ G below (some (.int r)) V' T args s 0 0) (F0 m 59 ls []) := by
  have hx := C.1
  have hb := C.2.1
  have hown := C.2.2.2.1
  have hts := C.2.2.2.2.1
  unfold f_X5_isSo_J59 at hf
  refine lv_aload_n hx hb dX5_isSo_59 rfl (lv_at hl 0 rfl) ?_
  revert hf
  refine k_drf (fun r6 er6 hf => ?_)
  refine gf_X5_13 C hw k0 er6 dX5_isSo_60 ?_
  refine lv_iload_n hx hb dX5_isSo_63 rfl (lv_at hl 1 rfl) ?_
  revert hf
  refine k_req (fun h7 hf => ?_)
  refine w_iald C hw h7 rfl dX5_isSo_64 ?_
  refine lv_iconst (v := (2 : Int32)) hx hb dX5_isSo_65 (by decide) ?_
  refine lv_icmp_eq (tgt := 110) hx hb dX5_isSo_66 (by decide) (fun c8 => ?_) (fun c8 => ?_)
  · replace hf := ite_t c8 hf
    refine lv_iconst (v := (1 : Int32)) hx hb dX5_isSo_110 (by decide) ?_
    cases hf
    exact w_zret C hr hw (by decide) dX5_isSo_111
  · replace hf := ite_f c8 hf
    refine lv_aload_n hx hb dX5_isSo_69 rfl (lv_at hl 0 rfl) ?_
    refine lv_aload_n hx hb dX5_isSo_70 rfl (lv_at hl 0 rfl) ?_
    revert hf
    refine k_drf (fun r9 er9 hf => ?_)
    refine gf_X5_13 C hw k0 er9 dX5_isSo_71 ?_
    refine lv_iload_n hx hb dX5_isSo_74 rfl (lv_at hl 1 rfl) ?_
    refine lv_iconst (v := (3 : Int32)) hx hb dX5_isSo_75 (by decide) ?_
    refine lv_iadd hx hb dX5_isSo_76 ?_
    revert hf
    refine k_req (fun h10 hf => ?_)
    refine w_iald C hw h10 rfl dX5_isSo_77 ?_
    refine lv_aload_n hx hb dX5_isSo_78 rfl (lv_at hl 0 rfl) ?_
    revert hf
    refine k_drf (fun r11 er11 hf => ?_)
    refine gf_X5_13 C hw k0 er11 dX5_isSo_79 ?_
    refine lv_iload_n hx hb dX5_isSo_82 rfl (lv_at hl 1 rfl) ?_
    refine lv_iconst (v := (4 : Int32)) hx hb dX5_isSo_83 (by decide) ?_
    refine lv_iadd hx hb dX5_isSo_84 ?_
    revert hf
    refine k_req (fun h12 hf => ?_)
    refine w_iald C hw h12 rfl dX5_isSo_85 ?_
    revert hf
    refine k_pcl (fun U15 h13 hf => ?_)
    refine w_afv hw (w_rV (As := [.int (V0.1 r9 (ixN (x1 + (3 : Int32)))), .int (V0.1 r11 (ixN (x1 + (4 : Int32))))]) C hw (ok_X5_reckonAll h13) (cw_X5_401 hts (Nat.le_of_ble_eq_true rfl) (Nat.le_of_ble_eq_true rfl)) rfl (by decide) (of_req h13).1 rfl hl.1 rfl (Nat.le_of_ble_eq_true rfl) ⟨Nat.zero_le _, Nat.zero_le _⟩ dX5_isSo_86) (fun H locs hw => ?_)
    refine lv_aload_n hx hb dX5_isSo_89 rfl (lv_at hl 0 rfl) ?_
    refine lv_aload_n hx hb dX5_isSo_90 rfl (lv_at hl 0 rfl) ?_
    refine gf_X5_398 C hw k0 dX5_isSo_91 ?_
    revert hf
    refine k_stp (fun U16 eU16 hf => ?_)
    refine pf_X5_404 C hw k0 eU16 dX5_isSo_94 (fun H locs hw => ?_)
    refine lv_aload_n hx hb dX5_isSo_97 rfl (lv_at hl 0 rfl) ?_
    refine gf_X5_380 C hw k0 dX5_isSo_98 ?_
    refine lv_if_ne (tgt := 108) hx hb dX5_isSo_101 (by decide) (fun c17 => ?_) (fun c17 => ?_)
    · replace hf := ite_f c17 hf
      refine lv_iconst (v := (0 : Int32)) hx hb dX5_isSo_108 (by decide) ?_
      cases hf
      exact w_zret C hr hw (by decide) dX5_isSo_109
    · replace hf := ite_t c17 hf
      refine lv_iconst (v := (1 : Int32)) hx hb dX5_isSo_104 (by decide) ?_
      refine lv_goto (tgt := 109) hx hb dX5_isSo_105 (by decide) ?_
      cases hf
      exact w_zret C hr hw (by decide) dX5_isSo_109
set_option maxHeartbeats 4000000 in
theorem ok_X5_isSo {l : Launch} {G : gG} {T : Tt} {V0 : Vt} {o : Nat} {a0 : Int32} {r : Int32} {V' : Vt} (hf : f_X5_isSo T V0 o a0 = some (r, V')) : okM l G yX5_isSo cX5_isSo 2 (some .boolean) 6 [.ref (gb G + o), .int a0] V0 T (some (.int r)) V' T 0 0 := by
  refine ok_intro (by decide) (Nat.le_of_ble_eq_true rfl) ?_
  intro p e s m below meth c ls C hr hnm hw hl
  have hx := C.1
  have hb := C.2.1
  have hown := C.2.2.2.1
  have hts := C.2.2.2.2.1
  have hl : lv_has ls 2 [(0, .ref (gb G + o)), (1, .int a0)] := hl
  unfold f_X5_isSo at hf
  revert hf
  refine k_req (fun k0 hf => ?_)
  refine lv_aload_n hx hb dX5_isSo_0 rfl (lv_at hl 0 rfl) ?_
  revert hf
  refine k_drf (fun r1 er1 hf => ?_)
  refine gf_X5_13 C hw k0 er1 dX5_isSo_1 ?_
  refine lv_iload_n hx hb dX5_isSo_4 rfl (lv_at hl 1 rfl) ?_
  refine lv_iconst (v := (5 : Int32)) hx hb dX5_isSo_5 (by decide) ?_
  refine lv_iadd hx hb dX5_isSo_6 ?_
  revert hf
  refine k_req (fun h2 hf => ?_)
  refine w_iald C hw h2 rfl dX5_isSo_7 ?_
  refine lv_aload_n hx hb dX5_isSo_8 rfl (lv_at hl 0 rfl) ?_
  revert hf
  refine k_drf (fun r3 er3 hf => ?_)
  refine gf_X5_13 C hw k0 er3 dX5_isSo_9 ?_
  refine lv_iload_n hx hb dX5_isSo_12 rfl (lv_at hl 1 rfl) ?_
  refine lv_bipush (v := (6 : Int32)) hx hb dX5_isSo_13 (by decide) ?_
  refine lv_iadd hx hb dX5_isSo_15 ?_
  revert hf
  refine k_req (fun h4 hf => ?_)
  refine w_iald C hw h4 rfl dX5_isSo_16 ?_
  refine lv_icmp_ge (tgt := 59) hx hb dX5_isSo_17 (by decide) (fun c5 => ?_) (fun c5 => ?_)
  · replace hf := ite_t c5 hf
    exact jk_X5_isSo_59 C hr k0 hf hw (lv_sub hl [0, 1] rfl)
  · replace hf := ite_f c5 hf
    refine lv_aload_n hx hb dX5_isSo_20 rfl (lv_at hl 0 rfl) ?_
    refine lv_aload_n hx hb dX5_isSo_21 rfl (lv_at hl 0 rfl) ?_
    revert hf
    refine k_drf (fun r18 er18 hf => ?_)
    refine gf_X5_13 C hw k0 er18 dX5_isSo_22 ?_
    refine lv_iload_n hx hb dX5_isSo_25 rfl (lv_at hl 1 rfl) ?_
    refine lv_iconst (v := (5 : Int32)) hx hb dX5_isSo_26 (by decide) ?_
    refine lv_iadd hx hb dX5_isSo_27 ?_
    revert hf
    refine k_req (fun h19 hf => ?_)
    refine w_iald C hw h19 rfl dX5_isSo_28 ?_
    refine lv_aload_n hx hb dX5_isSo_29 rfl (lv_at hl 0 rfl) ?_
    revert hf
    refine k_drf (fun r20 er20 hf => ?_)
    refine gf_X5_13 C hw k0 er20 dX5_isSo_30 ?_
    refine lv_iload_n hx hb dX5_isSo_33 rfl (lv_at hl 1 rfl) ?_
    refine lv_bipush (v := (6 : Int32)) hx hb dX5_isSo_34 (by decide) ?_
    refine lv_iadd hx hb dX5_isSo_36 ?_
    revert hf
    refine k_req (fun h21 hf => ?_)
    refine w_iald C hw h21 rfl dX5_isSo_37 ?_
    revert hf
    refine k_pcl (fun U24 h22 hf => ?_)
    refine w_afv hw (w_rV (As := [.int (V0.1 r18 (ixN (a0 + (5 : Int32)))), .int (V0.1 r20 (ixN (a0 + (6 : Int32))))]) C hw (ok_X5_reckonAll h22) (cw_X5_401 hts (Nat.le_of_ble_eq_true rfl) (Nat.le_of_ble_eq_true rfl)) rfl (by decide) (of_req h22).1 rfl hl.1 rfl (Nat.le_of_ble_eq_true rfl) ⟨Nat.zero_le _, Nat.zero_le _⟩ dX5_isSo_38) (fun H locs hw => ?_)
    refine lv_aload_n hx hb dX5_isSo_41 rfl (lv_at hl 0 rfl) ?_
    refine gf_X5_380 C hw k0 dX5_isSo_42 ?_
    refine lv_if_ne (tgt := 57) hx hb dX5_isSo_45 (by decide) (fun c25 => ?_) (fun c25 => ?_)
    · replace hf := ite_f c25 hf
      refine lv_iconst (v := (0 : Int32)) hx hb dX5_isSo_57 (by decide) ?_
      cases hf
      exact w_zret C hr hw (by decide) dX5_isSo_58
    · replace hf := ite_t c25 hf
      refine lv_aload_n hx hb dX5_isSo_48 rfl (lv_at hl 0 rfl) ?_
      refine gf_X5_398 C hw k0 dX5_isSo_49 ?_
      refine lv_lconst (v := (0 : Int64)) hx hb dX5_isSo_52 (by decide) ?_
      refine W.lcmp hx hb dX5_isSo_53 ?_
      refine lv_if_ne (tgt := 59) hx hb dX5_isSo_54 (by decide) (fun c26 => ?_) (fun c26 => ?_)
      · replace hf := ite_f c26 hf
        exact jk_X5_isSo_59 C hr k0 hf hw (lv_sub hl [0, 1] rfl)
      · replace hf := ite_t c26 hf
        refine lv_iconst (v := (0 : Int32)) hx hb dX5_isSo_57 (by decide) ?_
        cases hf
        exact w_zret C hr hw (by decide) dX5_isSo_58
set_option maxHeartbeats 4000000 in
theorem jk_X5_tells_211 {l : Launch} {G : gG} {p : Program} {e : Env} {s : State} {m : MethodId} {args : Array Value} {below : List Frame} {meth : Method} {c : Code} {T : Tt} {V0 : Vt} {r : Int64} {V' : Vt} (C : Cx G p s m args meth c cX5_tells RX5 10) (hr : meth.sig.returnType = (some .long)) {x0 : Nat} {x1 : Int32} {x5 : Int32} {x6 : Int64} {x8 : Int32} {kc146 : Int64 → Int32 → Vt → Option (Int64 × Vt)} {kx146_217 : Int64 → Vt → Option (Int64 × Vt)} {H : Heap} {locs : List Loc} {ls : Array Slot} (k0 : T.1 x0 = 6) (hf : f_X5_tells_J211 T V0 x0 x1 x5 x6 x8 kc146 kx146_217 = some (r, V')) (hw : wS G V0 T H locs) (hl : lv_has ls 10 [(0, .ref (gb G + x0)), (1, .int x1), (5, .int x5), (6, .long x6), (8, .int x8)]) (hkc146 : ∀ (y6 : Int64) (y8 : Int32) (W1 : Vt) (H : Heap) (locs : List Loc) (ls : Array Slot), kc146 y6 y8 W1 = some (r, V') → wS G W1 T H locs → lv_has ls 10 [(0, .ref (gb G + x0)), (1, .int x1), (5, .int x5), (6, .long y6), (8, .int y8)] → W p l e (rmL 7 0 0) s m args below meth c H locs 0 0 (eQ G below (some (.long r)) V' T args s 0 0) (F0 m 146 ls [])) (hkx146_217 : ∀ (y6 : Int64) (W1 : Vt) (H : Heap) (locs : List Loc) (ls : Array Slot), kx146_217 y6 W1 = some (r, V') → wS G W1 T H locs → lv_has ls 10 [(0, .ref (gb G + x0)), (5, .int x5), (6, .long y6)] → W p l e (rmL 7 0 0) s m args below meth c H locs 0 0 (eQ G below (some (.long r)) V' T args s 0 0) (F0 m 217 ls [])) : W p l e (rmL 7 0 0) s m args below meth c H locs 0 0 (eQ G below (some (.long r)) V' T args s 0 0) (F0 m 211 ls []) := by
  have hx := C.1
  have hb := C.2.1
  have hown := C.2.2.2.1
  have hts := C.2.2.2.2.1
  unfold f_X5_tells_J211 at hf
  revert hf
  refine k_stp (fun z49 ez49 hf => ?_)
  refine lv_iinc (k := 4) (lv' := [(8, .int z49), (0, .ref (gb G + x0)), (1, .int x1), (5, .int x5), (6, .long x6)]) hx hb dX5_tells_211 hl rfl (inc_e (by decide) ez49) (by decide) rfl (fun ls hl => ?_)
  refine lv_goto (tgt := 146) hx hb dX5_tells_214 (by decide) ?_
  exact hkc146 _ _ _ _ _ _ hf hw (lv_sub hl [1, 2, 3, 4, 0] rfl)
set_option maxHeartbeats 4000000 in
theorem jk_X5_tells_209 {l : Launch} {G : gG} {p : Program} {e : Env} {s : State} {m : MethodId} {args : Array Value} {below : List Frame} {meth : Method} {c : Code} {T : Tt} {V0 : Vt} {r : Int64} {V' : Vt} (C : Cx G p s m args meth c cX5_tells RX5 10) (hr : meth.sig.returnType = (some .long)) {x0 : Nat} {x1 : Int32} {x5 : Int32} {x8 : Int32} {s0 : Int64} {kc146 : Int64 → Int32 → Vt → Option (Int64 × Vt)} {kx146_217 : Int64 → Vt → Option (Int64 × Vt)} {H : Heap} {locs : List Loc} {ls : Array Slot} (k0 : T.1 x0 = 6) (hf : f_X5_tells_J209 T V0 x0 x1 x5 x8 s0 kc146 kx146_217 = some (r, V')) (hw : wS G V0 T H locs) (hl : lv_has ls 10 [(0, .ref (gb G + x0)), (1, .int x1), (5, .int x5), (8, .int x8)]) (hkc146 : ∀ (y6 : Int64) (y8 : Int32) (W1 : Vt) (H : Heap) (locs : List Loc) (ls : Array Slot), kc146 y6 y8 W1 = some (r, V') → wS G W1 T H locs → lv_has ls 10 [(0, .ref (gb G + x0)), (1, .int x1), (5, .int x5), (6, .long y6), (8, .int y8)] → W p l e (rmL 7 0 0) s m args below meth c H locs 0 0 (eQ G below (some (.long r)) V' T args s 0 0) (F0 m 146 ls [])) (hkx146_217 : ∀ (y6 : Int64) (W1 : Vt) (H : Heap) (locs : List Loc) (ls : Array Slot), kx146_217 y6 W1 = some (r, V') → wS G W1 T H locs → lv_has ls 10 [(0, .ref (gb G + x0)), (5, .int x5), (6, .long y6)] → W p l e (rmL 7 0 0) s m args below meth c H locs 0 0 (eQ G below (some (.long r)) V' T args s 0 0) (F0 m 217 ls [])) : W p l e (rmL 7 0 0) s m args below meth c H locs 0 0 (eQ G below (some (.long r)) V' T args s 0 0) (F0 m 209 ls [.long s0]) := by
  have hx := C.1
  have hb := C.2.1
  have hown := C.2.2.2.1
  have hts := C.2.2.2.2.1
  unfold f_X5_tells_J209 at hf
  refine lv_lstore (lv' := [(6, .long s0), (0, .ref (gb G + x0)), (1, .int x1), (5, .int x5), (8, .int x8)]) hx hb dX5_tells_209 hl (by decide) rfl (fun ls hl => ?_)
  exact jk_X5_tells_211 C hr k0 hf hw (lv_sub hl [1, 2, 3, 0, 4] rfl) hkc146 hkx146_217
set_option maxHeartbeats 4000000 in
theorem lk_X5_tells_146 {l : Launch} {G : gG} {p : Program} {e : Env} {s : State} {m : MethodId} {args : Array Value} {below : List Frame} {meth : Method} {c : Code} {T : Tt} {r : Int64} {V' : Vt} (C : Cx G p s m args meth c cX5_tells RX5 10) (hr : meth.sig.returnType = (some .long)) {x0 : Nat} {x1 : Int32} {x5 : Int32} {kx146_217 : Int64 → Vt → Option (Int64 × Vt)} (k0 : T.1 x0 = 6) (hkx146_217 : ∀ (y6 : Int64) (W1 : Vt) (H : Heap) (locs : List Loc) (ls : Array Slot), kx146_217 y6 W1 = some (r, V') → wS G W1 T H locs → lv_has ls 10 [(0, .ref (gb G + x0)), (5, .int x5), (6, .long y6)] → W p l e (rmL 7 0 0) s m args below meth c H locs 0 0 (eQ G below (some (.long r)) V' T args s 0 0) (F0 m 217 ls [])) : ∀ (n : Nat) (x6 : Int64) (x8 : Int32) (V1 : Vt) (H : Heap) (locs : List Loc) (ls : Array Slot), f_X5_tells_L146 T x0 x1 x5 kx146_217 n x6 x8 V1 = some (r, V') → wS G V1 T H locs → lv_has ls 10 [(0, .ref (gb G + x0)), (1, .int x1), (5, .int x5), (6, .long x6), (8, .int x8)] → W p l e (rmL 7 0 0) s m args below meth c H locs 0 0 (eQ G below (some (.long r)) V' T args s 0 0) (F0 m 146 ls []) := by
  have hx := C.1
  have hb := C.2.1
  have hown := C.2.2.2.1
  have hts := C.2.2.2.2.1
  intro n
  induction n with
  | zero =>
    intro x6 x8 V1 H locs ls hf
    cases hf
  | succ n ih =>
    intro x6 x8 V1 H locs ls hf hw hl
    unfold f_X5_tells_L146 at hf
    refine lv_iload hx hb dX5_tells_146 (lv_at hl 4 rfl) ?_
    refine lv_aload_n hx hb dX5_tells_148 rfl (lv_at hl 0 rfl) ?_
    revert hf
    refine k_drf (fun r42 er42 hf => ?_)
    refine gf_X5_13 C hw k0 er42 dX5_tells_149 ?_
    refine lv_aload_n hx hb dX5_tells_152 rfl (lv_at hl 0 rfl) ?_
    refine gf_X5_383 C hw k0 dX5_tells_153 ?_
    refine lv_iconst (v := (1 : Int32)) hx hb dX5_tells_156 (by decide) ?_
    refine lv_iadd hx hb dX5_tells_157 ?_
    revert hf
    refine k_req (fun h43 hf => ?_)
    refine w_iald C hw h43 rfl dX5_tells_158 ?_
    refine lv_icmp_ge (tgt := 217) hx hb dX5_tells_159 (by decide) (fun c44 => ?_) (fun c44 => ?_)
    · replace hf := ite_t c44 hf
      exact hkx146_217 _ _ _ _ _ hf hw (lv_sub hl [0, 2, 3] rfl)
    · replace hf := ite_f c44 hf
      refine lv_aload_n hx hb dX5_tells_162 rfl (lv_at hl 0 rfl) ?_
      refine gf_X5_383 C hw k0 dX5_tells_163 ?_
      refine lv_iconst (v := (2 : Int32)) hx hb dX5_tells_166 (by decide) ?_
      refine lv_iadd hx hb dX5_tells_167 ?_
      refine lv_bipush (v := (8 : Int32)) hx hb dX5_tells_168 (by decide) ?_
      refine lv_iload hx hb dX5_tells_170 (lv_at hl 4 rfl) ?_
      refine lv_imul hx hb dX5_tells_172 ?_
      refine lv_iadd hx hb dX5_tells_173 ?_
      revert hf
      refine k_stp (fun z45 ez45 hf => ?_)
      refine w_nmI ez45 ?_
      refine lv_istore (lv' := [(9, .int z45), (0, .ref (gb G + x0)), (1, .int x1), (5, .int x5), (6, .long x6), (8, .int x8)]) hx hb dX5_tells_174 hl (by decide) rfl (fun ls hl => ?_)
      refine lv_aload_n hx hb dX5_tells_176 rfl (lv_at hl 1 rfl) ?_
      revert hf
      refine k_drf (fun r46 er46 hf => ?_)
      refine gf_X5_13 C hw k0 er46 dX5_tells_177 ?_
      refine lv_iload hx hb dX5_tells_180 (lv_at hl 0 rfl) ?_
      revert hf
      refine k_req (fun h47 hf => ?_)
      refine w_iald C hw h47 rfl dX5_tells_182 ?_
      refine lv_iload_n hx hb dX5_tells_183 rfl (lv_at hl 2 rfl) ?_
      refine lv_icmp_ne (tgt := 211) hx hb dX5_tells_184 (by decide) (fun c48 => ?_) (fun c48 => ?_)
      · replace hf := ite_f c48 hf
        exact jk_X5_tells_211 C hr k0 hf hw (lv_sub hl [1, 2, 3, 4, 5] rfl) ih hkx146_217
      · replace hf := ite_t c48 hf
        refine lv_aload_n hx hb dX5_tells_187 rfl (lv_at hl 1 rfl) ?_
        refine lv_iload hx hb dX5_tells_188 (lv_at hl 0 rfl) ?_
        revert hf
        refine k_cal (fun z51 U52 h50 hf => ?_)
        refine w_afi hw (w_rV (As := [.int z45]) C hw (ok_X5_isSo h50) (cw_X5_407 hts (Nat.le_of_ble_eq_true rfl) (Nat.le_of_ble_eq_true rfl)) rfl (by decide) (of_req h50).1 rfl hl.1 rfl (Nat.le_of_ble_eq_true rfl) ⟨Nat.zero_le _, Nat.zero_le _⟩ dX5_tells_190) (fun H locs hw => ?_)
        refine lv_if_eq (tgt := 211) hx hb dX5_tells_193 (by decide) (fun c53 => ?_) (fun c53 => ?_)
        · replace hf := ite_t c53 hf
          exact jk_X5_tells_211 C hr k0 hf hw (lv_sub hl [1, 2, 3, 4, 5] rfl) ih hkx146_217
        · replace hf := ite_f c53 hf
          refine lv_iload_n hx hb dX5_tells_196 rfl (lv_at hl 2 rfl) ?_
          refine lv_iconst (v := (2 : Int32)) hx hb dX5_tells_197 (by decide) ?_
          refine lv_icmp_ne (tgt := 205) hx hb dX5_tells_198 (by decide) (fun c54 => ?_) (fun c54 => ?_)
          · replace hf := ite_f c54 hf
            refine lv_aload_n hx hb dX5_tells_205 rfl (lv_at hl 1 rfl) ?_
            refine gf_X5_404 C hw k0 dX5_tells_206 ?_
            exact jk_X5_tells_209 C hr k0 hf hw (lv_sub hl [1, 2, 3, 5] rfl) ih hkx146_217
          · replace hf := ite_t c54 hf
            refine lv_lconst (v := (1 : Int64)) hx hb dX5_tells_201 (by decide) ?_
            refine lv_goto (tgt := 209) hx hb dX5_tells_202 (by decide) ?_
            exact jk_X5_tells_209 C hr k0 hf hw (lv_sub hl [1, 2, 3, 5] rfl) ih hkx146_217
set_option maxHeartbeats 4000000 in
theorem ok_X5_tells {l : Launch} {G : gG} {T : Tt} {V0 : Vt} {o : Nat} {a0 : Int32} {a1 : Int32} {a2 : Int64} {r : Int64} {V' : Vt} (hf : f_X5_tells T V0 o a0 a1 a2 = some (r, V')) : okM l G yX5_tells cX5_tells 10 (some .long) 7 [.ref (gb G + o), .int a0, .int a1, .long a2] V0 T (some (.long r)) V' T 0 0 := by
  refine ok_intro (by decide) (Nat.le_of_ble_eq_true rfl) ?_
  intro p e s m below meth c ls C hr hnm hw hl
  have hx := C.1
  have hb := C.2.1
  have hown := C.2.2.2.1
  have hts := C.2.2.2.2.1
  have hl : lv_has ls 10 [(0, .ref (gb G + o)), (1, .int a0), (2, .int a1), (3, .long a2)] := hl
  unfold f_X5_tells at hf
  revert hf
  refine k_req (fun k0 hf => ?_)
  refine lv_aload_n hx hb dX5_tells_0 rfl (lv_at hl 0 rfl) ?_
  revert hf
  refine k_drf (fun r1 er1 hf => ?_)
  refine gf_X5_13 C hw k0 er1 dX5_tells_1 ?_
  refine lv_iconst (v := (4 : Int32)) hx hb dX5_tells_4 (by decide) ?_
  revert hf
  refine k_req (fun h2 hf => ?_)
  refine w_iald C hw h2 rfl dX5_tells_5 ?_
  refine lv_iconst (v := ((-1) : Int32)) hx hb dX5_tells_6 (by decide) ?_
  refine lv_icmp_ne (tgt := 12) hx hb dX5_tells_7 (by decide) (fun c3 => ?_) (fun c3 => ?_)
  · replace hf := ite_f c3 hf
    refine lv_aload_n hx hb dX5_tells_12 rfl (lv_at hl 0 rfl) ?_
    refine gf_X5_302 C hw k0 dX5_tells_13 ?_
    revert hf
    refine k_stp (fun z4 ez4 hf => ?_)
    refine w_nmI ez4 ?_
    refine lv_istore (lv' := [(5, .int z4), (0, .ref (gb G + o)), (1, .int a0), (2, .int a1), (3, .long a2)]) hx hb dX5_tells_16 hl (by decide) rfl (fun ls hl => ?_)
    refine lv_aload_n hx hb dX5_tells_18 rfl (lv_at hl 1 rfl) ?_
    refine lv_iconst (v := (0 : Int32)) hx hb dX5_tells_19 (by decide) ?_
    revert hf
    refine k_stp (fun U5 eU5 hf => ?_)
    refine pf_X5_302 C hw k0 (by decide) eU5 dX5_tells_20 (fun H locs hw => ?_)
    refine lv_aload_n hx hb dX5_tells_23 rfl (lv_at hl 1 rfl) ?_
    refine lv_sipush (v := (3990 : Int32)) hx hb dX5_tells_24 (by decide) ?_
    refine lv_sipush (v := (900 : Int32)) hx hb dX5_tells_27 (by decide) ?_
    refine lv_aload_n hx hb dX5_tells_30 rfl (lv_at hl 1 rfl) ?_
    revert hf
    refine k_drf (fun r6 er6 hf => ?_)
    refine gf_X5_13 C hw k0 er6 dX5_tells_31 ?_
    refine lv_iconst (v := (4 : Int32)) hx hb dX5_tells_34 (by decide) ?_
    revert hf
    refine k_req (fun h7 hf => ?_)
    refine w_iald C hw h7 rfl dX5_tells_35 ?_
    refine lv_imul hx hb dX5_tells_36 ?_
    refine lv_iadd hx hb dX5_tells_37 ?_
    revert hf
    refine k_stp (fun U8 eU8 hf => ?_)
    refine pf_X5_383 C hw k0 eU8 dX5_tells_38 (fun H locs hw => ?_)
    refine lv_aload_n hx hb dX5_tells_41 rfl (lv_at hl 1 rfl) ?_
    revert hf
    refine k_drf (fun r9 er9 hf => ?_)
    refine gf_X5_95 C hw k0 er9 dX5_tells_42 ?_
    refine lv_iconst (v := (1 : Int32)) hx hb dX5_tells_45 (by decide) ?_
    refine lv_iload_n hx hb dX5_tells_46 rfl (lv_at hl 3 rfl) ?_
    refine lv_i2l hx hb dX5_tells_47 rfl ?_
    revert hf
    refine k_req (fun h10 hf => ?_)
    revert hf
    refine k_stp (fun U11 eU11 hf => ?_)
    refine w_last C hw h10 eU11 dX5_tells_48 (fun H locs hw => ?_)
    refine lv_aload_n hx hb dX5_tells_49 rfl (lv_at hl 1 rfl) ?_
    revert hf
    refine k_drf (fun r12 er12 hf => ?_)
    refine gf_X5_95 C hw k0 er12 dX5_tells_50 ?_
    refine lv_iconst (v := (2 : Int32)) hx hb dX5_tells_53 (by decide) ?_
    refine lv_aload_n hx hb dX5_tells_54 rfl (lv_at hl 1 rfl) ?_
    revert hf
    refine k_drf (fun r13 er13 hf => ?_)
    refine gf_X5_13 C hw k0 er13 dX5_tells_55 ?_
    refine lv_sipush (v := (170 : Int32)) hx hb dX5_tells_58 (by decide) ?_
    refine lv_iload_n hx hb dX5_tells_61 rfl (lv_at hl 3 rfl) ?_
    refine lv_iadd hx hb dX5_tells_62 ?_
    revert hf
    refine k_req (fun h14 hf => ?_)
    refine w_iald C hw h14 rfl dX5_tells_63 ?_
    refine lv_i2l hx hb dX5_tells_64 rfl ?_
    revert hf
    refine k_req (fun h15 hf => ?_)
    revert hf
    refine k_stp (fun U16 eU16 hf => ?_)
    refine w_last C hw h15 eU16 dX5_tells_65 (fun H locs hw => ?_)
    refine lv_aload_n hx hb dX5_tells_66 rfl (lv_at hl 1 rfl) ?_
    revert hf
    refine k_drf (fun r17 er17 hf => ?_)
    refine gf_X5_95 C hw k0 er17 dX5_tells_67 ?_
    refine lv_iconst (v := (3 : Int32)) hx hb dX5_tells_70 (by decide) ?_
    refine lv_aload_n hx hb dX5_tells_71 rfl (lv_at hl 1 rfl) ?_
    revert hf
    refine k_drf (fun r18 er18 hf => ?_)
    refine gf_X5_13 C hw k0 er18 dX5_tells_72 ?_
    refine lv_sipush (v := (178 : Int32)) hx hb dX5_tells_75 (by decide) ?_
    refine lv_iload_n hx hb dX5_tells_78 rfl (lv_at hl 3 rfl) ?_
    refine lv_iadd hx hb dX5_tells_79 ?_
    revert hf
    refine k_req (fun h19 hf => ?_)
    refine w_iald C hw h19 rfl dX5_tells_80 ?_
    refine lv_i2l hx hb dX5_tells_81 rfl ?_
    revert hf
    refine k_req (fun h20 hf => ?_)
    revert hf
    refine k_stp (fun U21 eU21 hf => ?_)
    refine w_last C hw h20 eU21 dX5_tells_82 (fun H locs hw => ?_)
    refine lv_aload_n hx hb dX5_tells_83 rfl (lv_at hl 1 rfl) ?_
    revert hf
    refine k_drf (fun r22 er22 hf => ?_)
    refine gf_X5_95 C hw k0 er22 dX5_tells_84 ?_
    refine lv_iconst (v := (4 : Int32)) hx hb dX5_tells_87 (by decide) ?_
    refine lv_aload_n hx hb dX5_tells_88 rfl (lv_at hl 1 rfl) ?_
    refine lv_iload_n hx hb dX5_tells_89 rfl (lv_at hl 3 rfl) ?_
    revert hf
    refine k_pcl (fun z24 h23 hf => ?_)
    refine w_afi hw (w_rV (As := [.int a1]) C hw (ok_X5_allOf h23) (cw_X5_166 hts (Nat.le_of_ble_eq_true rfl) (Nat.le_of_ble_eq_true rfl)) rfl (by decide) (of_req h23).1 rfl hl.1 rfl (Nat.le_of_ble_eq_true rfl) ⟨Nat.zero_le _, Nat.zero_le _⟩ dX5_tells_90) (fun H locs hw => ?_)
    refine lv_sipush (v := (1000 : Int32)) hx hb dX5_tells_93 (by decide) ?_
    refine lv_idiv hx hb dX5_tells_96 (by decide) ?_
    refine lv_i2l hx hb dX5_tells_97 rfl ?_
    revert hf
    refine k_req (fun h25 hf => ?_)
    revert hf
    refine k_stp (fun U26 eU26 hf => ?_)
    refine w_last C hw h25 eU26 dX5_tells_98 (fun H locs hw => ?_)
    refine lv_aload_n hx hb dX5_tells_99 rfl (lv_at hl 1 rfl) ?_
    revert hf
    refine k_drf (fun r27 er27 hf => ?_)
    refine gf_X5_95 C hw k0 er27 dX5_tells_100 ?_
    refine lv_iconst (v := (5 : Int32)) hx hb dX5_tells_103 (by decide) ?_
    refine lv_aload_n hx hb dX5_tells_104 rfl (lv_at hl 1 rfl) ?_
    refine lv_iload_n hx hb dX5_tells_105 rfl (lv_at hl 3 rfl) ?_
    revert hf
    refine k_pcl (fun z29 h28 hf => ?_)
    refine w_afi hw (w_rV (As := [.int a1]) C hw (ok_X5_wholeMean h28) (cw_X5_377 hts (Nat.le_of_ble_eq_true rfl) (Nat.le_of_ble_eq_true rfl)) rfl (by decide) (of_req h28).1 rfl hl.1 rfl (Nat.le_of_ble_eq_true rfl) ⟨Nat.zero_le _, Nat.zero_le _⟩ dX5_tells_106) (fun H locs hw => ?_)
    refine lv_i2l hx hb dX5_tells_109 rfl ?_
    revert hf
    refine k_req (fun h30 hf => ?_)
    revert hf
    refine k_stp (fun U31 eU31 hf => ?_)
    refine w_last C hw h30 eU31 dX5_tells_110 (fun H locs hw => ?_)
    refine lv_aload_n hx hb dX5_tells_111 rfl (lv_at hl 1 rfl) ?_
    revert hf
    refine k_drf (fun r32 er32 hf => ?_)
    refine gf_X5_95 C hw k0 er32 dX5_tells_112 ?_
    refine lv_bipush (v := (6 : Int32)) hx hb dX5_tells_115 (by decide) ?_
    refine lv_aload_n hx hb dX5_tells_117 rfl (lv_at hl 1 rfl) ?_
    revert hf
    refine k_drf (fun r33 er33 hf => ?_)
    refine gf_X5_13 C hw k0 er33 dX5_tells_118 ?_
    refine lv_iconst (v := (5 : Int32)) hx hb dX5_tells_121 (by decide) ?_
    revert hf
    refine k_req (fun h34 hf => ?_)
    refine w_iald C hw h34 rfl dX5_tells_122 ?_
    refine lv_i2l hx hb dX5_tells_123 rfl ?_
    revert hf
    refine k_req (fun h35 hf => ?_)
    revert hf
    refine k_stp (fun U36 eU36 hf => ?_)
    refine w_last C hw h35 eU36 dX5_tells_124 (fun H locs hw => ?_)
    refine lv_aload_n hx hb dX5_tells_125 rfl (lv_at hl 1 rfl) ?_
    revert hf
    refine k_drf (fun r37 er37 hf => ?_)
    refine gf_X5_95 C hw k0 er37 dX5_tells_126 ?_
    refine lv_bipush (v := (7 : Int32)) hx hb dX5_tells_129 (by decide) ?_
    refine lv_aload_n hx hb dX5_tells_131 rfl (lv_at hl 1 rfl) ?_
    revert hf
    refine k_drf (fun r38 er38 hf => ?_)
    refine gf_X5_13 C hw k0 er38 dX5_tells_132 ?_
    refine lv_bipush (v := (7 : Int32)) hx hb dX5_tells_135 (by decide) ?_
    revert hf
    refine k_req (fun h39 hf => ?_)
    refine w_iald C hw h39 rfl dX5_tells_137 ?_
    refine lv_i2l hx hb dX5_tells_138 rfl ?_
    revert hf
    refine k_req (fun h40 hf => ?_)
    revert hf
    refine k_stp (fun U41 eU41 hf => ?_)
    refine w_last C hw h40 eU41 dX5_tells_139 (fun H locs hw => ?_)
    refine lv_lload_n hx hb dX5_tells_140 rfl (lv_at hl 4 rfl) ?_
    refine lv_lstore (lv' := [(6, .long a2), (5, .int z4), (0, .ref (gb G + o)), (1, .int a0), (2, .int a1), (3, .long a2)]) hx hb dX5_tells_141 hl (by decide) rfl (fun ls hl => ?_)
    refine lv_iconst (v := (0 : Int32)) hx hb dX5_tells_143 (by decide) ?_
    refine lv_istore (lv' := [(8, .int (0 : Int32)), (6, .long a2), (5, .int z4), (0, .ref (gb G + o)), (1, .int a0), (2, .int a1), (3, .long a2)]) hx hb dX5_tells_144 hl (by decide) rfl (fun ls hl => ?_)
    refine lk_X5_tells_146 C hr k0 (fun z55 U56 H locs ls hf hw hl => ?_) fuel _ _ _ _ _ _ hf hw (lv_sub hl [3, 4, 2, 1, 0] rfl)
    refine lv_aload_n hx hb dX5_tells_217 rfl (lv_at hl 0 rfl) ?_
    refine lv_iload hx hb dX5_tells_218 (lv_at hl 1 rfl) ?_
    revert hf
    refine k_req (fun h57 hf => ?_)
    revert hf
    refine k_stp (fun U58 eU58 hf => ?_)
    refine pf_X5_302 C hw k0 h57 eU58 dX5_tells_220 (fun H locs hw => ?_)
    refine lv_lload hx hb dX5_tells_223 (lv_at hl 2 rfl) ?_
    cases hf
    exact w_lret C hr hw dX5_tells_225
  · replace hf := ite_t c3 hf
    refine lv_lload_n hx hb dX5_tells_10 rfl (lv_at hl 3 rfl) ?_
    cases hf
    exact w_lret C hr hw dX5_tells_11
set_option maxHeartbeats 4000000 in
theorem ok_X5_bounded {l : Launch} {G : gG} {T : Tt} {V0 : Vt} {a0 : Int64} {a1 : Int32} {a2 : Int32} {r : Int32} (hf : f_X5_bounded T V0 a0 a1 a2 = some r) : okM l G yX5_bounded cX5_bounded 4 (some .int) 0 [.long a0, .int a1, .int a2] V0 T (some (.int r)) V0 T 0 0 := by
  refine ok_intro (by decide) (Nat.le_of_ble_eq_true rfl) ?_
  intro p e s m below meth c ls C hr hnm hw hl
  have hx := C.1
  have hb := C.2.1
  have hown := C.2.2.2.1
  have hts := C.2.2.2.2.1
  have hl : lv_has ls 4 [(0, .long a0), (2, .int a1), (3, .int a2)] := hl
  unfold f_X5_bounded at hf
  refine lv_lload_n hx hb dX5_bounded_0 rfl (lv_at hl 0 rfl) ?_
  refine lv_iload_n hx hb dX5_bounded_1 rfl (lv_at hl 1 rfl) ?_
  refine lv_i2l hx hb dX5_bounded_2 rfl ?_
  refine W.lcmp hx hb dX5_bounded_3 ?_
  refine lv_if_ge (tgt := 11) hx hb dX5_bounded_4 (by decide) (fun c1 => ?_) (fun c1 => ?_)
  · replace hf := ite_t c1 hf
    refine lv_lload_n hx hb dX5_bounded_11 rfl (lv_at hl 0 rfl) ?_
    refine lv_iload_n hx hb dX5_bounded_12 rfl (lv_at hl 2 rfl) ?_
    refine lv_i2l hx hb dX5_bounded_13 rfl ?_
    refine W.lcmp hx hb dX5_bounded_14 ?_
    refine lv_if_le (tgt := 22) hx hb dX5_bounded_15 (by decide) (fun c2 => ?_) (fun c2 => ?_)
    · replace hf := ite_t c2 hf
      refine lv_lload_n hx hb dX5_bounded_22 rfl (lv_at hl 0 rfl) ?_
      refine lv_l2i hx hb dX5_bounded_23 rfl ?_
      cases hf
      exact w_iret C hr hw dX5_bounded_24
    · replace hf := ite_f c2 hf
      refine lv_iload_n hx hb dX5_bounded_18 rfl (lv_at hl 2 rfl) ?_
      refine lv_goto (tgt := 24) hx hb dX5_bounded_19 (by decide) ?_
      cases hf
      exact w_iret C hr hw dX5_bounded_24
  · replace hf := ite_f c1 hf
    refine lv_iload_n hx hb dX5_bounded_7 rfl (lv_at hl 1 rfl) ?_
    refine lv_goto (tgt := 24) hx hb dX5_bounded_8 (by decide) ?_
    cases hf
    exact w_iret C hr hw dX5_bounded_24
set_option maxHeartbeats 4000000 in
theorem ok_X5_losesOf {l : Launch} {G : gG} {T : Tt} {V0 : Vt} {o : Nat} {a0 : Int32} {r : Int32} {V' : Vt} (hf : f_X5_losesOf T V0 o a0 = some (r, V')) : okM l G yX5_losesOf cX5_losesOf 2 (some .int) 8 [.ref (gb G + o), .int a0] V0 T (some (.int r)) V' T 0 0 := by
  refine ok_intro (by decide) (Nat.le_of_ble_eq_true rfl) ?_
  intro p e s m below meth c ls C hr hnm hw hl
  have hx := C.1
  have hb := C.2.1
  have hown := C.2.2.2.1
  have hts := C.2.2.2.2.1
  have hl : lv_has ls 2 [(0, .ref (gb G + o)), (1, .int a0)] := hl
  unfold f_X5_losesOf at hf
  revert hf
  refine k_req (fun k0 hf => ?_)
  refine lv_aload_n hx hb dX5_losesOf_0 rfl (lv_at hl 0 rfl) ?_
  refine lv_iconst (v := (0 : Int32)) hx hb dX5_losesOf_1 (by decide) ?_
  refine lv_iload_n hx hb dX5_losesOf_2 rfl (lv_at hl 1 rfl) ?_
  refine lv_lconst (v := (0 : Int64)) hx hb dX5_losesOf_3 (by decide) ?_
  revert hf
  refine k_cal (fun z2 U3 h1 hf => ?_)
  refine w_afl hw (w_rV (As := [.int (0 : Int32), .int a0, .long (0 : Int64)]) C hw (ok_X5_tells h1) (cw_X5_410 hts (Nat.le_of_ble_eq_true rfl) (Nat.le_of_ble_eq_true rfl)) rfl (by decide) (of_req h1).1 rfl hl.1 rfl (Nat.le_of_ble_eq_true rfl) ⟨Nat.zero_le _, Nat.zero_le _⟩ dX5_losesOf_4) (fun H locs hw => ?_)
  refine lv_iconst (v := (0 : Int32)) hx hb dX5_losesOf_7 (by decide) ?_
  refine lv_bipush (v := (99 : Int32)) hx hb dX5_losesOf_8 (by decide) ?_
  revert hf
  refine k_pcl (fun z5 h4 hf => ?_)
  refine w_afi hw (w_rS (As := [.long z2, .int (0 : Int32), .int (99 : Int32)]) C hw (ok_X5_bounded h4) (cw_X5_414 hts (Nat.le_of_ble_eq_true rfl) (Nat.le_of_ble_eq_true rfl)) rfl hl.1 rfl (Nat.le_of_ble_eq_true rfl) ⟨Nat.zero_le _, Nat.zero_le _⟩ dX5_losesOf_10) (fun H locs hw => ?_)
  cases hf
  exact w_iret C hr hw dX5_losesOf_13
set_option maxHeartbeats 4000000 in
theorem ok_X5_yieldsOf {l : Launch} {G : gG} {T : Tt} {V0 : Vt} {o : Nat} {a0 : Int32} {r : Int32} {V' : Vt} (hf : f_X5_yieldsOf T V0 o a0 = some (r, V')) : okM l G yX5_yieldsOf cX5_yieldsOf 2 (some .int) 8 [.ref (gb G + o), .int a0] V0 T (some (.int r)) V' T 0 0 := by
  refine ok_intro (by decide) (Nat.le_of_ble_eq_true rfl) ?_
  intro p e s m below meth c ls C hr hnm hw hl
  have hx := C.1
  have hb := C.2.1
  have hown := C.2.2.2.1
  have hts := C.2.2.2.2.1
  have hl : lv_has ls 2 [(0, .ref (gb G + o)), (1, .int a0)] := hl
  unfold f_X5_yieldsOf at hf
  revert hf
  refine k_req (fun k0 hf => ?_)
  refine lv_aload_n hx hb dX5_yieldsOf_0 rfl (lv_at hl 0 rfl) ?_
  refine lv_iconst (v := (1 : Int32)) hx hb dX5_yieldsOf_1 (by decide) ?_
  refine lv_iload_n hx hb dX5_yieldsOf_2 rfl (lv_at hl 1 rfl) ?_
  refine lv_ldc2 (v := (999 : Int64)) hx hb hown (hts _ q1729) dX5_yieldsOf_3 ?_
  revert hf
  refine k_cal (fun z2 U3 h1 hf => ?_)
  refine w_afl hw (w_rV (As := [.int (1 : Int32), .int a0, .long (999 : Int64)]) C hw (ok_X5_tells h1) (cw_X5_410 hts (Nat.le_of_ble_eq_true rfl) (Nat.le_of_ble_eq_true rfl)) rfl (by decide) (of_req h1).1 rfl hl.1 rfl (Nat.le_of_ble_eq_true rfl) ⟨Nat.zero_le _, Nat.zero_le _⟩ dX5_yieldsOf_6) (fun H locs hw => ?_)
  refine lv_iconst (v := (0 : Int32)) hx hb dX5_yieldsOf_9 (by decide) ?_
  refine lv_sipush (v := (999 : Int32)) hx hb dX5_yieldsOf_10 (by decide) ?_
  revert hf
  refine k_pcl (fun z5 h4 hf => ?_)
  refine w_afi hw (w_rS (As := [.long z2, .int (0 : Int32), .int (999 : Int32)]) C hw (ok_X5_bounded h4) (cw_X5_414 hts (Nat.le_of_ble_eq_true rfl) (Nat.le_of_ble_eq_true rfl)) rfl hl.1 rfl (Nat.le_of_ble_eq_true rfl) ⟨Nat.zero_le _, Nat.zero_le _⟩ dX5_yieldsOf_13) (fun H locs hw => ?_)
  cases hf
  exact w_iret C hr hw dX5_yieldsOf_16
set_option maxHeartbeats 4000000 in
theorem ok_X5_isBarred {l : Launch} {G : gG} {T : Tt} {V0 : Vt} {o : Nat} {a0 : Int32} {r : Int32} {V' : Vt} (hf : f_X5_isBarred T V0 o a0 = some (r, V')) : okM l G yX5_isBarred cX5_isBarred 2 (some .boolean) 8 [.ref (gb G + o), .int a0] V0 T (some (.int r)) V' T 0 0 := by
  refine ok_intro (by decide) (Nat.le_of_ble_eq_true rfl) ?_
  intro p e s m below meth c ls C hr hnm hw hl
  have hx := C.1
  have hb := C.2.1
  have hown := C.2.2.2.1
  have hts := C.2.2.2.2.1
  have hl : lv_has ls 2 [(0, .ref (gb G + o)), (1, .int a0)] := hl
  unfold f_X5_isBarred at hf
  revert hf
  refine k_req (fun k0 hf => ?_)
  refine lv_aload_n hx hb dX5_isBarred_0 rfl (lv_at hl 0 rfl) ?_
  refine lv_iconst (v := (2 : Int32)) hx hb dX5_isBarred_1 (by decide) ?_
  refine lv_iload_n hx hb dX5_isBarred_2 rfl (lv_at hl 1 rfl) ?_
  refine lv_lconst (v := (0 : Int64)) hx hb dX5_isBarred_3 (by decide) ?_
  revert hf
  refine k_cal (fun z2 U3 h1 hf => ?_)
  refine w_afl hw (w_rV (As := [.int (2 : Int32), .int a0, .long (0 : Int64)]) C hw (ok_X5_tells h1) (cw_X5_410 hts (Nat.le_of_ble_eq_true rfl) (Nat.le_of_ble_eq_true rfl)) rfl (by decide) (of_req h1).1 rfl hl.1 rfl (Nat.le_of_ble_eq_true rfl) ⟨Nat.zero_le _, Nat.zero_le _⟩ dX5_isBarred_4) (fun H locs hw => ?_)
  refine lv_lconst (v := (1 : Int64)) hx hb dX5_isBarred_7 (by decide) ?_
  refine W.lcmp hx hb dX5_isBarred_8 ?_
  refine lv_if_ne (tgt := 16) hx hb dX5_isBarred_9 (by decide) (fun c4 => ?_) (fun c4 => ?_)
  · replace hf := ite_f c4 hf
    refine lv_iconst (v := (0 : Int32)) hx hb dX5_isBarred_16 (by decide) ?_
    cases hf
    exact w_zret C hr hw (by decide) dX5_isBarred_17
  · replace hf := ite_t c4 hf
    refine lv_iconst (v := (1 : Int32)) hx hb dX5_isBarred_12 (by decide) ?_
    refine lv_goto (tgt := 17) hx hb dX5_isBarred_13 (by decide) ?_
    cases hf
    exact w_zret C hr hw (by decide) dX5_isBarred_17
set_option maxHeartbeats 4000000 in
theorem ok_X5_of {l : Launch} {G : gG} {T : Tt} {V0 : Vt} {o : Nat} {a0 : Int32} {a1 : Int32} {r : Int32} {V' : Vt} (hf : f_X5_of T V0 o a0 a1 = some (r, V')) : okM l G yX5_of cX5_of 3 (some .int) 9 [.ref (gb G + o), .int a0, .int a1] V0 T (some (.int r)) V' T 0 0 := by
  refine ok_intro (by decide) (Nat.le_of_ble_eq_true rfl) ?_
  intro p e s m below meth c ls C hr hnm hw hl
  have hx := C.1
  have hb := C.2.1
  have hown := C.2.2.2.1
  have hts := C.2.2.2.2.1
  have hl : lv_has ls 3 [(0, .ref (gb G + o)), (1, .int a0), (2, .int a1)] := hl
  unfold f_X5_of at hf
  revert hf
  refine k_req (fun k0 hf => ?_)
  refine lv_aload_n hx hb dX5_of_0 rfl (lv_at hl 0 rfl) ?_
  refine lv_iconst (v := (0 : Int32)) hx hb dX5_of_1 (by decide) ?_
  revert hf
  refine k_stp (fun U1 eU1 hf => ?_)
  refine pf_X5_133 C hw k0 eU1 dX5_of_2 (fun H locs hw => ?_)
  refine lv_aload_n hx hb dX5_of_5 rfl (lv_at hl 0 rfl) ?_
  refine lv_iload_n hx hb dX5_of_6 rfl (lv_at hl 1 rfl) ?_
  revert hf
  refine k_pcl (fun z3 h2 hf => ?_)
  refine w_afi hw (w_rV (As := [.int a0]) C hw (ok_X5_isCask h2) (cw_X5_184 hts (Nat.le_of_ble_eq_true rfl) (Nat.le_of_ble_eq_true rfl)) rfl (by decide) (of_req h2).1 rfl hl.1 rfl (Nat.le_of_ble_eq_true rfl) ⟨Nat.zero_le _, Nat.zero_le _⟩ dX5_of_7) (fun H locs hw => ?_)
  refine lv_if_ne (tgt := 15) hx hb dX5_of_10 (by decide) (fun c4 => ?_) (fun c4 => ?_)
  · replace hf := ite_f c4 hf
    refine lv_iload_n hx hb dX5_of_15 rfl (lv_at hl 2 rfl) ?_
    by_cases c5 : a1 = (0 : Int32)
    · replace hf := ite_t c5 hf
      refine lv_tableIn (tgt := 64) (off := 48) hx hb dX5_of_16 (by rw [c5]; decide) (by rw [c5]; decide) (by rw [c5]; decide) (by decide) ?_
      refine lv_aload_n hx hb dX5_of_64 rfl (lv_at hl 0 rfl) ?_
      revert hf
      refine k_drf (fun r6 er6 hf => ?_)
      refine gf_X5_13 C hw k0 er6 dX5_of_65 ?_
      refine lv_sipush (v := (170 : Int32)) hx hb dX5_of_68 (by decide) ?_
      refine lv_iload_n hx hb dX5_of_71 rfl (lv_at hl 1 rfl) ?_
      refine lv_iadd hx hb dX5_of_72 ?_
      revert hf
      refine k_req (fun h7 hf => ?_)
      refine w_iald C hw h7 rfl dX5_of_73 ?_
      cases hf
      exact w_iret C hr hw dX5_of_74
    · replace hf := ite_f c5 hf
      by_cases c8 : a1 = (1 : Int32)
      · replace hf := ite_t c8 hf
        refine lv_tableIn (tgt := 75) (off := 59) hx hb dX5_of_16 (by rw [c8]; decide) (by rw [c8]; decide) (by rw [c8]; decide) (by decide) ?_
        refine lv_aload_n hx hb dX5_of_75 rfl (lv_at hl 0 rfl) ?_
        revert hf
        refine k_drf (fun r9 er9 hf => ?_)
        refine gf_X5_13 C hw k0 er9 dX5_of_76 ?_
        refine lv_sipush (v := (178 : Int32)) hx hb dX5_of_79 (by decide) ?_
        refine lv_iload_n hx hb dX5_of_82 rfl (lv_at hl 1 rfl) ?_
        refine lv_iadd hx hb dX5_of_83 ?_
        revert hf
        refine k_req (fun h10 hf => ?_)
        refine w_iald C hw h10 rfl dX5_of_84 ?_
        cases hf
        exact w_iret C hr hw dX5_of_85
      · replace hf := ite_f c8 hf
        by_cases c11 : a1 = (2 : Int32)
        · replace hf := ite_t c11 hf
          refine lv_tableIn (tgt := 86) (off := 70) hx hb dX5_of_16 (by rw [c11]; decide) (by rw [c11]; decide) (by rw [c11]; decide) (by decide) ?_
          refine lv_aload_n hx hb dX5_of_86 rfl (lv_at hl 0 rfl) ?_
          refine lv_iload_n hx hb dX5_of_87 rfl (lv_at hl 1 rfl) ?_
          revert hf
          refine k_pcl (fun z13 h12 hf => ?_)
          refine w_afi hw (w_rV (As := [.int a0]) C hw (ok_X5_allOf h12) (cw_X5_166 hts (Nat.le_of_ble_eq_true rfl) (Nat.le_of_ble_eq_true rfl)) rfl (by decide) (of_req h12).1 rfl hl.1 rfl (Nat.le_of_ble_eq_true rfl) ⟨Nat.zero_le _, Nat.zero_le _⟩ dX5_of_88) (fun H locs hw => ?_)
          cases hf
          exact w_iret C hr hw dX5_of_91
        · replace hf := ite_f c11 hf
          by_cases c14 : a1 = (3 : Int32)
          · replace hf := ite_t c14 hf
            refine lv_tableIn (tgt := 92) (off := 76) hx hb dX5_of_16 (by rw [c14]; decide) (by rw [c14]; decide) (by rw [c14]; decide) (by decide) ?_
            refine lv_aload_n hx hb dX5_of_92 rfl (lv_at hl 0 rfl) ?_
            refine lv_iload_n hx hb dX5_of_93 rfl (lv_at hl 1 rfl) ?_
            revert hf
            refine k_pcl (fun z16 h15 hf => ?_)
            refine w_afi hw (w_rV (As := [.int a0]) C hw (ok_X5_meanOf h15) (cw_X5_169 hts (Nat.le_of_ble_eq_true rfl) (Nat.le_of_ble_eq_true rfl)) rfl (by decide) (of_req h15).1 rfl hl.1 rfl (Nat.le_of_ble_eq_true rfl) ⟨Nat.zero_le _, Nat.zero_le _⟩ dX5_of_94) (fun H locs hw => ?_)
            cases hf
            exact w_iret C hr hw dX5_of_97
          · replace hf := ite_f c14 hf
            by_cases c17 : a1 = (4 : Int32)
            · replace hf := ite_t c17 hf
              refine lv_tableIn (tgt := 98) (off := 82) hx hb dX5_of_16 (by rw [c17]; decide) (by rw [c17]; decide) (by rw [c17]; decide) (by decide) ?_
              refine lv_aload_n hx hb dX5_of_98 rfl (lv_at hl 0 rfl) ?_
              refine lv_iload_n hx hb dX5_of_99 rfl (lv_at hl 1 rfl) ?_
              revert hf
              refine k_pcl (fun z19 h18 hf => ?_)
              refine w_afi hw (w_rV (As := [.int a0]) C hw (ok_X5_labelOf h18) (cw_X5_188 hts (Nat.le_of_ble_eq_true rfl) (Nat.le_of_ble_eq_true rfl)) rfl (by decide) (of_req h18).1 rfl hl.1 rfl (Nat.le_of_ble_eq_true rfl) ⟨Nat.zero_le _, Nat.zero_le _⟩ dX5_of_100) (fun H locs hw => ?_)
              cases hf
              exact w_iret C hr hw dX5_of_103
            · replace hf := ite_f c17 hf
              by_cases c20 : a1 = (5 : Int32)
              · replace hf := ite_t c20 hf
                refine lv_tableIn (tgt := 104) (off := 88) hx hb dX5_of_16 (by rw [c20]; decide) (by rw [c20]; decide) (by rw [c20]; decide) (by decide) ?_
                refine lv_aload_n hx hb dX5_of_104 rfl (lv_at hl 0 rfl) ?_
                refine lv_iload_n hx hb dX5_of_105 rfl (lv_at hl 1 rfl) ?_
                revert hf
                refine k_cal (fun z22 U23 h21 hf => ?_)
                refine w_afi hw (w_rV (As := [.int a0]) C hw (ok_X5_losesOf h21) (cw_X5_191 hts (Nat.le_of_ble_eq_true rfl) (Nat.le_of_ble_eq_true rfl)) rfl (by decide) (of_req h21).1 rfl hl.1 rfl (Nat.le_of_ble_eq_true rfl) ⟨Nat.zero_le _, Nat.zero_le _⟩ dX5_of_106) (fun H locs hw => ?_)
                cases hf
                exact w_iret C hr hw dX5_of_109
              · replace hf := ite_f c20 hf
                by_cases c24 : a1 = (6 : Int32)
                · replace hf := ite_t c24 hf
                  refine lv_tableIn (tgt := 110) (off := 94) hx hb dX5_of_16 (by rw [c24]; decide) (by rw [c24]; decide) (by rw [c24]; decide) (by decide) ?_
                  refine lv_aload_n hx hb dX5_of_110 rfl (lv_at hl 0 rfl) ?_
                  refine lv_iload_n hx hb dX5_of_111 rfl (lv_at hl 1 rfl) ?_
                  revert hf
                  refine k_cal (fun z26 U27 h25 hf => ?_)
                  refine w_afi hw (w_rV (As := [.int a0]) C hw (ok_X5_yieldsOf h25) (cw_X5_194 hts (Nat.le_of_ble_eq_true rfl) (Nat.le_of_ble_eq_true rfl)) rfl (by decide) (of_req h25).1 rfl hl.1 rfl (Nat.le_of_ble_eq_true rfl) ⟨Nat.zero_le _, Nat.zero_le _⟩ dX5_of_112) (fun H locs hw => ?_)
                  cases hf
                  exact w_iret C hr hw dX5_of_115
                · replace hf := ite_f c24 hf
                  by_cases c28 : a1 = (7 : Int32)
                  · replace hf := ite_t c28 hf
                    refine lv_tableIn (tgt := 116) (off := 100) hx hb dX5_of_16 (by rw [c28]; decide) (by rw [c28]; decide) (by rw [c28]; decide) (by decide) ?_
                    refine lv_aload_n hx hb dX5_of_116 rfl (lv_at hl 0 rfl) ?_
                    refine lv_iload_n hx hb dX5_of_117 rfl (lv_at hl 1 rfl) ?_
                    revert hf
                    refine k_cal (fun z30 U31 h29 hf => ?_)
                    refine w_afi hw (w_rV (As := [.int a0]) C hw (ok_X5_isBarred h29) (cw_X5_197 hts (Nat.le_of_ble_eq_true rfl) (Nat.le_of_ble_eq_true rfl)) rfl (by decide) (of_req h29).1 rfl hl.1 rfl (Nat.le_of_ble_eq_true rfl) ⟨Nat.zero_le _, Nat.zero_le _⟩ dX5_of_118) (fun H locs hw => ?_)
                    refine lv_if_eq (tgt := 128) hx hb dX5_of_121 (by decide) (fun c32 => ?_) (fun c32 => ?_)
                    · replace hf := ite_t c32 hf
                      refine lv_iconst (v := (0 : Int32)) hx hb dX5_of_128 (by decide) ?_
                      cases hf
                      exact w_iret C hr hw dX5_of_129
                    · replace hf := ite_f c32 hf
                      refine lv_iconst (v := (1 : Int32)) hx hb dX5_of_124 (by decide) ?_
                      refine lv_goto (tgt := 129) hx hb dX5_of_125 (by decide) ?_
                      cases hf
                      exact w_iret C hr hw dX5_of_129
                  · replace hf := ite_f c28 hf
                    have gc5 := lv_neT (a := 0) c5 (by decide)
                    have gc8 := lv_neT (a := 1) c8 (by decide)
                    have gc11 := lv_neT (a := 2) c11 (by decide)
                    have gc14 := lv_neT (a := 3) c14 (by decide)
                    have gc17 := lv_neT (a := 4) c17 (by decide)
                    have gc20 := lv_neT (a := 5) c20 (by decide)
                    have gc24 := lv_neT (a := 6) c24 (by decide)
                    have gc28 := lv_neT (a := 7) c28 (by decide)
                    refine lv_tableOut (tgt := 130) hx hb dX5_of_16 (by show Int32.toInt a1 < 0 ∨ 7 < Int32.toInt a1; omega) (by decide) ?_
                    refine lv_iload_n hx hb dX5_of_130 rfl (lv_at hl 2 rfl) ?_
                    refine lv_i2l hx hb dX5_of_131 rfl ?_
                    refine lv_ldc2 (v := (8 : Int64)) hx hb hown (hts _ q1806) dX5_of_132 ?_
                    refine lv_ldc2 (v := (27 : Int64)) hx hb hown (hts _ q1807) dX5_of_135 ?_
                    revert hf
                    refine k_pcl (fun z34 h33 hf => ?_)
                    refine w_afi hw (w_rS (As := [.long (Int32.toInt64 a1), .long (8 : Int64), .long (27 : Int64)]) C hw (ok_X5_in h33) (cw_X5_153 hts (Nat.le_of_ble_eq_true rfl) (Nat.le_of_ble_eq_true rfl)) rfl hl.1 rfl (Nat.le_of_ble_eq_true rfl) ⟨Nat.zero_le _, Nat.zero_le _⟩ dX5_of_138) (fun H locs hw => ?_)
                    refine lv_if_eq (tgt := 156) hx hb dX5_of_141 (by decide) (fun c35 => ?_) (fun c35 => ?_)
                    · replace hf := ite_t c35 hf
                      refine lv_iconst (v := ((-1) : Int32)) hx hb dX5_of_156 (by decide) ?_
                      cases hf
                      exact w_iret C hr hw dX5_of_157
                    · replace hf := ite_f c35 hf
                      refine lv_aload_n hx hb dX5_of_144 rfl (lv_at hl 0 rfl) ?_
                      refine lv_iload_n hx hb dX5_of_145 rfl (lv_at hl 1 rfl) ?_
                      refine lv_iload_n hx hb dX5_of_146 rfl (lv_at hl 2 rfl) ?_
                      refine lv_bipush (v := (8 : Int32)) hx hb dX5_of_147 (by decide) ?_
                      refine lv_isub hx hb dX5_of_149 ?_
                      revert hf
                      refine k_pcl (fun z37 h36 hf => ?_)
                      refine w_afi hw (w_rV (As := [.int a0, .int (a1 - (8 : Int32))]) C hw (ok_X5_dropsOf h36) (cw_X5_160 hts (Nat.le_of_ble_eq_true rfl) (Nat.le_of_ble_eq_true rfl)) rfl (by decide) (of_req h36).1 rfl hl.1 rfl (Nat.le_of_ble_eq_true rfl) ⟨Nat.zero_le _, Nat.zero_le _⟩ dX5_of_150) (fun H locs hw => ?_)
                      refine lv_goto (tgt := 157) hx hb dX5_of_153 (by decide) ?_
                      cases hf
                      exact w_iret C hr hw dX5_of_157
  · replace hf := ite_t c4 hf
    refine lv_iconst (v := ((-1) : Int32)) hx hb dX5_of_13 (by decide) ?_
    cases hf
    exact w_iret C hr hw dX5_of_14
set_option maxHeartbeats 4000000 in
theorem jk_X5_old_33 {l : Launch} {G : gG} {p : Program} {e : Env} {s : State} {m : MethodId} {args : Array Value} {below : List Frame} {meth : Method} {c : Code} {T : Tt} {V0 : Vt} {r : Int64} {V' : Vt} (C : Cx G p s m args meth c cX5_old RX5 3) (hr : meth.sig.returnType = (some .long)) {H : Heap} {locs : List Loc} {ls : Array Slot} (hf : f_X5_old_J33 T V0 = some (r, V')) (hw : wS G V0 T H locs) (hl : lv_has ls 3 []) : W p l e (rmL 2 0 0) s m args below meth c H locs 0 0 (eQ G below (some (.long r)) V' T args s 0 0) (F0 m 33 ls []) := by
  have hx := C.1
  have hb := C.2.1
  have hown := C.2.2.2.1
  have hts := C.2.2.2.2.1
  unfold f_X5_old_J33 at hf
  refine lv_ldc2 (v := ((-1) : Int64)) hx hb hown (hts _ q1784) dX5_old_33 ?_
  cases hf
  exact w_lret C hr hw dX5_old_36
set_option maxHeartbeats 4000000 in
theorem ok_X5_old {l : Launch} {G : gG} {T : Tt} {V0 : Vt} {o : Nat} {a0 : Int32} {a1 : Int32} {r : Int64} {V' : Vt} (hf : f_X5_old T V0 o a0 a1 = some (r, V')) : okM l G yX5_old cX5_old 3 (some .long) 2 [.ref (gb G + o), .int a0, .int a1] V0 T (some (.long r)) V' T 0 0 := by
  refine ok_intro (by decide) (Nat.le_of_ble_eq_true rfl) ?_
  intro p e s m below meth c ls C hr hnm hw hl
  have hx := C.1
  have hb := C.2.1
  have hown := C.2.2.2.1
  have hts := C.2.2.2.2.1
  have hl : lv_has ls 3 [(0, .ref (gb G + o)), (1, .int a0), (2, .int a1)] := hl
  unfold f_X5_old at hf
  revert hf
  refine k_req (fun k0 hf => ?_)
  refine lv_aload_n hx hb dX5_old_0 rfl (lv_at hl 0 rfl) ?_
  refine lv_iconst (v := (0 : Int32)) hx hb dX5_old_1 (by decide) ?_
  revert hf
  refine k_stp (fun U1 eU1 hf => ?_)
  refine pf_X5_133 C hw k0 eU1 dX5_old_2 (fun H locs hw => ?_)
  refine lv_aload_n hx hb dX5_old_5 rfl (lv_at hl 0 rfl) ?_
  refine lv_iload_n hx hb dX5_old_6 rfl (lv_at hl 1 rfl) ?_
  revert hf
  refine k_pcl (fun z3 h2 hf => ?_)
  refine w_afi hw (w_rV (As := [.int a0]) C hw (ok_X5_isCask h2) (cw_X5_184 hts (Nat.le_of_ble_eq_true rfl) (Nat.le_of_ble_eq_true rfl)) rfl (by decide) (of_req h2).1 rfl hl.1 rfl (Nat.le_of_ble_eq_true rfl) ⟨Nat.zero_le _, Nat.zero_le _⟩ dX5_old_7) (fun H locs hw => ?_)
  refine lv_if_eq (tgt := 33) hx hb dX5_old_10 (by decide) (fun c4 => ?_) (fun c4 => ?_)
  · replace hf := ite_t c4 hf
    exact jk_X5_old_33 C hr hf hw (lv_sub hl [] rfl)
  · replace hf := ite_f c4 hf
    refine lv_iload_n hx hb dX5_old_13 rfl (lv_at hl 2 rfl) ?_
    refine lv_i2l hx hb dX5_old_14 rfl ?_
    refine lv_lconst (v := (0 : Int64)) hx hb dX5_old_15 (by decide) ?_
    refine lv_ldc2 (v := (19 : Int64)) hx hb hown (hts _ q1812) dX5_old_16 ?_
    revert hf
    refine k_pcl (fun z6 h5 hf => ?_)
    refine w_afi hw (w_rS (As := [.long (Int32.toInt64 a1), .long (0 : Int64), .long (19 : Int64)]) C hw (ok_X5_in h5) (cw_X5_153 hts (Nat.le_of_ble_eq_true rfl) (Nat.le_of_ble_eq_true rfl)) rfl hl.1 rfl (Nat.le_of_ble_eq_true rfl) ⟨Nat.zero_le _, Nat.zero_le _⟩ dX5_old_19) (fun H locs hw => ?_)
    refine lv_if_eq (tgt := 33) hx hb dX5_old_22 (by decide) (fun c7 => ?_) (fun c7 => ?_)
    · replace hf := ite_t c7 hf
      exact jk_X5_old_33 C hr hf hw (lv_sub hl [] rfl)
    · replace hf := ite_f c7 hf
      refine lv_aload_n hx hb dX5_old_25 rfl (lv_at hl 0 rfl) ?_
      refine lv_iload_n hx hb dX5_old_26 rfl (lv_at hl 1 rfl) ?_
      revert hf
      refine k_pcl (fun z9 h8 hf => ?_)
      refine w_afi hw (w_rV (As := [.int a0]) C hw (ok_X5_allOf h8) (cw_X5_166 hts (Nat.le_of_ble_eq_true rfl) (Nat.le_of_ble_eq_true rfl)) rfl (by decide) (of_req h8).1 rfl hl.1 rfl (Nat.le_of_ble_eq_true rfl) ⟨Nat.zero_le _, Nat.zero_le _⟩ dX5_old_27) (fun H locs hw => ?_)
      refine lv_if_ne (tgt := 37) hx hb dX5_old_30 (by decide) (fun c10 => ?_) (fun c10 => ?_)
      · replace hf := ite_f c10 hf
        refine lv_ldc2 (v := (1000000000000 : Int64)) hx hb hown (hts _ q1813) dX5_old_37 ?_
        refine lv_aload_n hx hb dX5_old_40 rfl (lv_at hl 0 rfl) ?_
        refine lv_iload_n hx hb dX5_old_41 rfl (lv_at hl 1 rfl) ?_
        refine lv_iload_n hx hb dX5_old_42 rfl (lv_at hl 2 rfl) ?_
        revert hf
        refine k_pcl (fun z12 h11 hf => ?_)
        refine w_afi hw (w_rV (As := [.int a0, .int a1]) C hw (ok_X5_olderThan h11) (cw_X5_174 hts (Nat.le_of_ble_eq_true rfl) (Nat.le_of_ble_eq_true rfl)) rfl (by decide) (of_req h11).1 rfl hl.1 rfl (Nat.le_of_ble_eq_true rfl) ⟨Nat.zero_le _, Nat.zero_le _⟩ dX5_old_43) (fun H locs hw => ?_)
        refine lv_i2l hx hb dX5_old_46 rfl ?_
        refine lv_lmul hx hb dX5_old_47 ?_
        refine lv_aload_n hx hb dX5_old_48 rfl (lv_at hl 0 rfl) ?_
        refine lv_iload_n hx hb dX5_old_49 rfl (lv_at hl 1 rfl) ?_
        revert hf
        refine k_pcl (fun z14 h13 hf => ?_)
        refine w_afi hw (w_rV (As := [.int a0]) C hw (ok_X5_allOf h13) (cw_X5_166 hts (Nat.le_of_ble_eq_true rfl) (Nat.le_of_ble_eq_true rfl)) rfl (by decide) (of_req h13).1 rfl hl.1 rfl (Nat.le_of_ble_eq_true rfl) ⟨Nat.zero_le _, Nat.zero_le _⟩ dX5_old_50) (fun H locs hw => ?_)
        refine lv_i2l hx hb dX5_old_53 rfl ?_
        revert hf
        refine k_req (fun h15 hf => ?_)
        refine lv_ldiv hx hb dX5_old_54 h15 ?_
        cases hf
        exact w_lret C hr hw dX5_old_55
      · replace hf := ite_t c10 hf
        exact jk_X5_old_33 C hr hf hw (lv_sub hl [] rfl)
set_option maxHeartbeats 4000000 in
theorem ok_X5_change {l : Launch} {G : gG} {T : Tt} {V0 : Vt} {o : Nat} {a0 : Int32} {a1 : Int32} {r : Int32} {V' : Vt} (hf : f_X5_change T V0 o a0 a1 = some (r, V')) : okM l G yX5_change cX5_change 4 (some .int) 0 [.ref (gb G + o), .int a0, .int a1] V0 T (some (.int r)) V' T 0 0 := by
  refine ok_intro (by decide) (Nat.le_of_ble_eq_true rfl) ?_
  intro p e s m below meth c ls C hr hnm hw hl
  have hx := C.1
  have hb := C.2.1
  have hown := C.2.2.2.1
  have hts := C.2.2.2.2.1
  have hl : lv_has ls 4 [(0, .ref (gb G + o)), (1, .int a0), (2, .int a1)] := hl
  unfold f_X5_change at hf
  revert hf
  refine k_req (fun k0 hf => ?_)
  refine lv_aload_n hx hb dX5_change_0 rfl (lv_at hl 0 rfl) ?_
  revert hf
  refine k_drf (fun r1 er1 hf => ?_)
  refine gf_X5_13 C hw k0 er1 dX5_change_1 ?_
  refine lv_iload_n hx hb dX5_change_4 rfl (lv_at hl 1 rfl) ?_
  revert hf
  refine k_req (fun h2 hf => ?_)
  refine w_iald C hw h2 rfl dX5_change_5 ?_
  revert hf
  refine k_stp (fun z3 ez3 hf => ?_)
  refine w_nmI ez3 ?_
  refine lv_istore_n (lv' := [(3, .int z3), (0, .ref (gb G + o)), (1, .int a0), (2, .int a1)]) hx hb dX5_change_6 rfl hl (by decide) rfl (fun ls hl => ?_)
  refine lv_aload_n hx hb dX5_change_7 rfl (lv_at hl 1 rfl) ?_
  revert hf
  refine k_drf (fun r4 er4 hf => ?_)
  refine gf_X5_13 C hw k0 er4 dX5_change_8 ?_
  refine lv_iload_n hx hb dX5_change_11 rfl (lv_at hl 2 rfl) ?_
  refine lv_iload_n hx hb dX5_change_12 rfl (lv_at hl 3 rfl) ?_
  revert hf
  refine k_req (fun h5 hf => ?_)
  revert hf
  refine k_stp (fun U6 eU6 hf => ?_)
  refine w_iast C hw h5 eU6 dX5_change_13 (fun H locs hw => ?_)
  refine lv_aload_n hx hb dX5_change_14 rfl (lv_at hl 1 rfl) ?_
  refine lv_iconst (v := (0 : Int32)) hx hb dX5_change_15 (by decide) ?_
  revert hf
  refine k_stp (fun U7 eU7 hf => ?_)
  refine pf_X5_136 C hw k0 eU7 dX5_change_16 (fun H locs hw => ?_)
  refine lv_iload_n hx hb dX5_change_19 rfl (lv_at hl 0 rfl) ?_
  cases hf
  exact w_iret C hr hw dX5_change_20
set_option maxHeartbeats 4000000 in
theorem jk_X5_terms_77 {l : Launch} {G : gG} {p : Program} {e : Env} {s : State} {m : MethodId} {args : Array Value} {below : List Frame} {meth : Method} {c : Code} {T : Tt} {V0 : Vt} {r : Int32} {V' : Vt} (C : Cx G p s m args meth c cX5_terms RX5 4) (hr : meth.sig.returnType = (some .int)) {x0 : Nat} {x1 : Int32} {x2 : Int32} {s0 : Int32} {H : Heap} {locs : List Loc} {ls : Array Slot} (k0 : T.1 x0 = 6) (hf : f_X5_terms_J77 T V0 x0 x1 x2 s0 = some (r, V')) (hw : wS G V0 T H locs) (hl : lv_has ls 4 [(0, .ref (gb G + x0)), (1, .int x1), (2, .int x2)]) : W p l e (rmL 1 0 0) s m args below meth c H locs 0 0 (eQ G below (some (.int r)) V' T args s 0 0) (F0 m 77 ls [.int s0]) := by
  have hx := C.1
  have hb := C.2.1
  have hown := C.2.2.2.1
  have hts := C.2.2.2.2.1
  unfold f_X5_terms_J77 at hf
  refine lv_istore_n (lv' := [(3, .int s0), (0, .ref (gb G + x0)), (1, .int x1), (2, .int x2)]) hx hb dX5_terms_77 rfl hl (by decide) rfl (fun ls hl => ?_)
  refine lv_iload_n hx hb dX5_terms_78 rfl (lv_at hl 0 rfl) ?_
  refine lv_if_ne (tgt := 88) hx hb dX5_terms_79 (by decide) (fun c6 => ?_) (fun c6 => ?_)
  · replace hf := ite_f c6 hf
    refine lv_aload_n hx hb dX5_terms_88 rfl (lv_at hl 1 rfl) ?_
    refine lv_iconst (v := (0 : Int32)) hx hb dX5_terms_89 (by decide) ?_
    revert hf
    refine k_stp (fun U7 eU7 hf => ?_)
    refine pf_X5_139 C hw k0 eU7 dX5_terms_90 (fun H locs hw => ?_)
    refine lv_aload_n hx hb dX5_terms_93 rfl (lv_at hl 1 rfl) ?_
    refine lv_iconst (v := (5 : Int32)) hx hb dX5_terms_94 (by decide) ?_
    refine lv_iload_n hx hb dX5_terms_95 rfl (lv_at hl 2 rfl) ?_
    refine lv_iadd hx hb dX5_terms_96 ?_
    refine lv_iload_n hx hb dX5_terms_97 rfl (lv_at hl 3 rfl) ?_
    revert hf
    refine k_cal (fun z9 U10 h8 hf => ?_)
    refine w_afi hw (w_rV (As := [.int ((5 : Int32) + x1), .int x2]) C hw (ok_X5_change h8) (cw_X5_214 hts (Nat.le_of_ble_eq_true rfl) (Nat.le_of_ble_eq_true rfl)) rfl (by decide) (of_req h8).1 rfl hl.1 rfl (Nat.le_of_ble_eq_true rfl) ⟨Nat.zero_le _, Nat.zero_le _⟩ dX5_terms_98) (fun H locs hw => ?_)
    cases hf
    exact w_iret C hr hw dX5_terms_101
  · replace hf := ite_t c6 hf
    refine lv_aload_n hx hb dX5_terms_82 rfl (lv_at hl 1 rfl) ?_
    refine lv_iconst (v := ((-1) : Int32)) hx hb dX5_terms_83 (by decide) ?_
    revert hf
    refine k_cal (fun z12 U13 h11 hf => ?_)
    refine w_afi hw (w_rV (As := [.int ((-1) : Int32)]) C hw (ok_X5_tell h11) (cw_X5_142 hts (Nat.le_of_ble_eq_true rfl) (Nat.le_of_ble_eq_true rfl)) rfl (by decide) (of_req h11).1 rfl hl.1 rfl (Nat.le_of_ble_eq_true rfl) ⟨Nat.zero_le _, Nat.zero_le _⟩ dX5_terms_84) (fun H locs hw => ?_)
    cases hf
    exact w_iret C hr hw dX5_terms_87
set_option maxHeartbeats 4000000 in
theorem jk_X5_terms_76 {l : Launch} {G : gG} {p : Program} {e : Env} {s : State} {m : MethodId} {args : Array Value} {below : List Frame} {meth : Method} {c : Code} {T : Tt} {V0 : Vt} {r : Int32} {V' : Vt} (C : Cx G p s m args meth c cX5_terms RX5 4) (hr : meth.sig.returnType = (some .int)) {x0 : Nat} {x1 : Int32} {x2 : Int32} {H : Heap} {locs : List Loc} {ls : Array Slot} (k0 : T.1 x0 = 6) (hf : f_X5_terms_J76 T V0 x0 x1 x2 = some (r, V')) (hw : wS G V0 T H locs) (hl : lv_has ls 4 [(0, .ref (gb G + x0)), (1, .int x1), (2, .int x2)]) : W p l e (rmL 1 0 0) s m args below meth c H locs 0 0 (eQ G below (some (.int r)) V' T args s 0 0) (F0 m 76 ls []) := by
  have hx := C.1
  have hb := C.2.1
  have hown := C.2.2.2.1
  have hts := C.2.2.2.2.1
  unfold f_X5_terms_J76 at hf
  refine lv_iconst (v := (0 : Int32)) hx hb dX5_terms_76 (by decide) ?_
  exact jk_X5_terms_77 C hr k0 hf hw (lv_sub hl [0, 1, 2] rfl)
set_option maxHeartbeats 4000000 in
theorem ok_X5_terms {l : Launch} {G : gG} {T : Tt} {V0 : Vt} {o : Nat} {a0 : Int32} {a1 : Int32} {r : Int32} {V' : Vt} (hf : f_X5_terms T V0 o a0 a1 = some (r, V')) : okM l G yX5_terms cX5_terms 4 (some .int) 1 [.ref (gb G + o), .int a0, .int a1] V0 T (some (.int r)) V' T 0 0 := by
  refine ok_intro (by decide) (Nat.le_of_ble_eq_true rfl) ?_
  intro p e s m below meth c ls C hr hnm hw hl
  have hx := C.1
  have hb := C.2.1
  have hown := C.2.2.2.1
  have hts := C.2.2.2.2.1
  have hl : lv_has ls 4 [(0, .ref (gb G + o)), (1, .int a0), (2, .int a1)] := hl
  unfold f_X5_terms at hf
  revert hf
  refine k_req (fun k0 hf => ?_)
  refine lv_aload_n hx hb dX5_terms_0 rfl (lv_at hl 0 rfl) ?_
  refine lv_iconst (v := (0 : Int32)) hx hb dX5_terms_1 (by decide) ?_
  revert hf
  refine k_stp (fun U1 eU1 hf => ?_)
  refine pf_X5_133 C hw k0 eU1 dX5_terms_2 (fun H locs hw => ?_)
  refine lv_iload_n hx hb dX5_terms_5 rfl (lv_at hl 1 rfl) ?_
  refine lv_if_ne (tgt := 21) hx hb dX5_terms_6 (by decide) (fun c2 => ?_) (fun c2 => ?_)
  · replace hf := ite_f c2 hf
    refine lv_iload_n hx hb dX5_terms_21 rfl (lv_at hl 1 rfl) ?_
    refine lv_iconst (v := (1 : Int32)) hx hb dX5_terms_22 (by decide) ?_
    refine lv_icmp_ne (tgt := 38) hx hb dX5_terms_23 (by decide) (fun c3 => ?_) (fun c3 => ?_)
    · replace hf := ite_f c3 hf
      refine lv_iload_n hx hb dX5_terms_38 rfl (lv_at hl 1 rfl) ?_
      refine lv_iconst (v := (2 : Int32)) hx hb dX5_terms_39 (by decide) ?_
      refine lv_icmp_ne (tgt := 55) hx hb dX5_terms_40 (by decide) (fun c4 => ?_) (fun c4 => ?_)
      · replace hf := ite_f c4 hf
        refine lv_iload_n hx hb dX5_terms_55 rfl (lv_at hl 1 rfl) ?_
        refine lv_iconst (v := (3 : Int32)) hx hb dX5_terms_56 (by decide) ?_
        refine lv_icmp_ne (tgt := 76) hx hb dX5_terms_57 (by decide) (fun c5 => ?_) (fun c5 => ?_)
        · replace hf := ite_f c5 hf
          exact jk_X5_terms_76 C hr k0 hf hw (lv_sub hl [0, 1, 2] rfl)
        · replace hf := ite_t c5 hf
          refine lv_iload_n hx hb dX5_terms_60 rfl (lv_at hl 2 rfl) ?_
          refine lv_i2l hx hb dX5_terms_61 rfl ?_
          refine lv_lconst (v := (1 : Int64)) hx hb dX5_terms_62 (by decide) ?_
          refine lv_ldc2 (v := (100 : Int64)) hx hb hown (hts _ q1755) dX5_terms_63 ?_
          revert hf
          refine k_pcl (fun z15 h14 hf => ?_)
          refine w_afi hw (w_rS (As := [.long (Int32.toInt64 a1), .long (1 : Int64), .long (100 : Int64)]) C hw (ok_X5_in h14) (cw_X5_153 hts (Nat.le_of_ble_eq_true rfl) (Nat.le_of_ble_eq_true rfl)) rfl hl.1 rfl (Nat.le_of_ble_eq_true rfl) ⟨Nat.zero_le _, Nat.zero_le _⟩ dX5_terms_66) (fun H locs hw => ?_)
          refine lv_if_eq (tgt := 76) hx hb dX5_terms_69 (by decide) (fun c16 => ?_) (fun c16 => ?_)
          · replace hf := ite_t c16 hf
            exact jk_X5_terms_76 C hr k0 hf hw (lv_sub hl [0, 1, 2] rfl)
          · replace hf := ite_f c16 hf
            refine lv_iconst (v := (1 : Int32)) hx hb dX5_terms_72 (by decide) ?_
            refine lv_goto (tgt := 77) hx hb dX5_terms_73 (by decide) ?_
            exact jk_X5_terms_77 C hr k0 hf hw (lv_sub hl [0, 1, 2] rfl)
      · replace hf := ite_t c4 hf
        refine lv_iload_n hx hb dX5_terms_43 rfl (lv_at hl 2 rfl) ?_
        refine lv_i2l hx hb dX5_terms_44 rfl ?_
        refine lv_lconst (v := (0 : Int64)) hx hb dX5_terms_45 (by decide) ?_
        refine lv_ldc2 (v := (9 : Int64)) hx hb hown (hts _ q1819) dX5_terms_46 ?_
        revert hf
        refine k_pcl (fun z18 h17 hf => ?_)
        refine w_afi hw (w_rS (As := [.long (Int32.toInt64 a1), .long (0 : Int64), .long (9 : Int64)]) C hw (ok_X5_in h17) (cw_X5_153 hts (Nat.le_of_ble_eq_true rfl) (Nat.le_of_ble_eq_true rfl)) rfl hl.1 rfl (Nat.le_of_ble_eq_true rfl) ⟨Nat.zero_le _, Nat.zero_le _⟩ dX5_terms_49) (fun H locs hw => ?_)
        refine lv_goto (tgt := 77) hx hb dX5_terms_52 (by decide) ?_
        exact jk_X5_terms_77 C hr k0 hf hw (lv_sub hl [0, 1, 2] rfl)
    · replace hf := ite_t c3 hf
      refine lv_iload_n hx hb dX5_terms_26 rfl (lv_at hl 2 rfl) ?_
      refine lv_i2l hx hb dX5_terms_27 rfl ?_
      refine lv_lconst (v := (0 : Int64)) hx hb dX5_terms_28 (by decide) ?_
      refine lv_ldc2 (v := (10 : Int64)) hx hb hown (hts _ q1818) dX5_terms_29 ?_
      revert hf
      refine k_pcl (fun z20 h19 hf => ?_)
      refine w_afi hw (w_rS (As := [.long (Int32.toInt64 a1), .long (0 : Int64), .long (10 : Int64)]) C hw (ok_X5_in h19) (cw_X5_153 hts (Nat.le_of_ble_eq_true rfl) (Nat.le_of_ble_eq_true rfl)) rfl hl.1 rfl (Nat.le_of_ble_eq_true rfl) ⟨Nat.zero_le _, Nat.zero_le _⟩ dX5_terms_32) (fun H locs hw => ?_)
      refine lv_goto (tgt := 77) hx hb dX5_terms_35 (by decide) ?_
      exact jk_X5_terms_77 C hr k0 hf hw (lv_sub hl [0, 1, 2] rfl)
  · replace hf := ite_t c2 hf
    refine lv_iload_n hx hb dX5_terms_9 rfl (lv_at hl 2 rfl) ?_
    refine lv_i2l hx hb dX5_terms_10 rfl ?_
    refine lv_lconst (v := (0 : Int64)) hx hb dX5_terms_11 (by decide) ?_
    refine lv_ldc2 (v := (999 : Int64)) hx hb hown (hts _ q1729) dX5_terms_12 ?_
    revert hf
    refine k_pcl (fun z22 h21 hf => ?_)
    refine w_afi hw (w_rS (As := [.long (Int32.toInt64 a1), .long (0 : Int64), .long (999 : Int64)]) C hw (ok_X5_in h21) (cw_X5_153 hts (Nat.le_of_ble_eq_true rfl) (Nat.le_of_ble_eq_true rfl)) rfl hl.1 rfl (Nat.le_of_ble_eq_true rfl) ⟨Nat.zero_le _, Nat.zero_le _⟩ dX5_terms_15) (fun H locs hw => ?_)
    refine lv_goto (tgt := 77) hx hb dX5_terms_18 (by decide) ?_
    exact jk_X5_terms_77 C hr k0 hf hw (lv_sub hl [0, 1, 2] rfl)
set_option maxHeartbeats 4000000 in
theorem jk_X5_row_136 {l : Launch} {G : gG} {p : Program} {e : Env} {s : State} {m : MethodId} {args : Array Value} {below : List Frame} {meth : Method} {c : Code} {T : Tt} {V0 : Vt} {r : Int32} {V' : Vt} (C : Cx G p s m args meth c cX5_row RX5 5) (hr : meth.sig.returnType = (some .int)) {x0 : Nat} {x1 : Int32} {x2 : Int32} {x3 : Int32} {kc35 : Int32 → Int32 → Vt → Option (Int32 × Vt)} {kx35_142 : Int32 → Vt → Option (Int32 × Vt)} {H : Heap} {locs : List Loc} {ls : Array Slot} (k0 : T.1 x0 = 6) (hf : f_X5_row_J136 T V0 x0 x1 x2 x3 kc35 kx35_142 = some (r, V')) (hw : wS G V0 T H locs) (hl : lv_has ls 5 [(0, .ref (gb G + x0)), (1, .int x1), (2, .int x2), (3, .int x3)]) (hkc35 : ∀ (y2 : Int32) (y3 : Int32) (W1 : Vt) (H : Heap) (locs : List Loc) (ls : Array Slot), kc35 y2 y3 W1 = some (r, V') → wS G W1 T H locs → lv_has ls 5 [(0, .ref (gb G + x0)), (1, .int x1), (2, .int y2), (3, .int y3)] → W p l e (rmL 2 0 0) s m args below meth c H locs 0 0 (eQ G below (some (.int r)) V' T args s 0 0) (F0 m 35 ls [])) (hkx35_142 : ∀ (y2 : Int32) (W1 : Vt) (H : Heap) (locs : List Loc) (ls : Array Slot), kx35_142 y2 W1 = some (r, V') → wS G W1 T H locs → lv_has ls 5 [(0, .ref (gb G + x0)), (2, .int y2)] → W p l e (rmL 2 0 0) s m args below meth c H locs 0 0 (eQ G below (some (.int r)) V' T args s 0 0) (F0 m 142 ls [])) : W p l e (rmL 2 0 0) s m args below meth c H locs 0 0 (eQ G below (some (.int r)) V' T args s 0 0) (F0 m 136 ls []) := by
  have hx := C.1
  have hb := C.2.1
  have hown := C.2.2.2.1
  have hts := C.2.2.2.2.1
  unfold f_X5_row_J136 at hf
  revert hf
  refine k_stp (fun z10 ez10 hf => ?_)
  refine lv_iinc (k := 3) (lv' := [(3, .int z10), (0, .ref (gb G + x0)), (1, .int x1), (2, .int x2)]) hx hb dX5_row_136 hl rfl (inc_e (by decide) ez10) (by decide) rfl (fun ls hl => ?_)
  refine lv_goto (tgt := 35) hx hb dX5_row_139 (by decide) ?_
  exact hkc35 _ _ _ _ _ _ hf hw (lv_sub hl [1, 2, 3, 0] rfl)
set_option maxHeartbeats 4000000 in
theorem jk_X5_row_88 {l : Launch} {G : gG} {p : Program} {e : Env} {s : State} {m : MethodId} {args : Array Value} {below : List Frame} {meth : Method} {c : Code} {T : Tt} {V0 : Vt} {r : Int32} {V' : Vt} (C : Cx G p s m args meth c cX5_row RX5 5) (hr : meth.sig.returnType = (some .int)) {x0 : Nat} {x1 : Int32} {x2 : Int32} {x3 : Int32} {s0 : Int32} {kc35 : Int32 → Int32 → Vt → Option (Int32 × Vt)} {kx35_142 : Int32 → Vt → Option (Int32 × Vt)} {H : Heap} {locs : List Loc} {ls : Array Slot} (k0 : T.1 x0 = 6) (hf : f_X5_row_J88 T V0 x0 x1 x2 x3 s0 kc35 kx35_142 = some (r, V')) (hw : wS G V0 T H locs) (hl : lv_has ls 5 [(0, .ref (gb G + x0)), (1, .int x1), (2, .int x2), (3, .int x3)]) (hkc35 : ∀ (y2 : Int32) (y3 : Int32) (W1 : Vt) (H : Heap) (locs : List Loc) (ls : Array Slot), kc35 y2 y3 W1 = some (r, V') → wS G W1 T H locs → lv_has ls 5 [(0, .ref (gb G + x0)), (1, .int x1), (2, .int y2), (3, .int y3)] → W p l e (rmL 2 0 0) s m args below meth c H locs 0 0 (eQ G below (some (.int r)) V' T args s 0 0) (F0 m 35 ls [])) (hkx35_142 : ∀ (y2 : Int32) (W1 : Vt) (H : Heap) (locs : List Loc) (ls : Array Slot), kx35_142 y2 W1 = some (r, V') → wS G W1 T H locs → lv_has ls 5 [(0, .ref (gb G + x0)), (2, .int y2)] → W p l e (rmL 2 0 0) s m args below meth c H locs 0 0 (eQ G below (some (.int r)) V' T args s 0 0) (F0 m 142 ls [])) : W p l e (rmL 2 0 0) s m args below meth c H locs 0 0 (eQ G below (some (.int r)) V' T args s 0 0) (F0 m 88 ls [.int s0]) := by
  have hx := C.1
  have hb := C.2.1
  have hown := C.2.2.2.1
  have hts := C.2.2.2.2.1
  unfold f_X5_row_J88 at hf
  refine lv_istore (lv' := [(4, .int s0), (0, .ref (gb G + x0)), (1, .int x1), (2, .int x2), (3, .int x3)]) hx hb dX5_row_88 hl (by decide) rfl (fun ls hl => ?_)
  refine lv_iload hx hb dX5_row_90 (lv_at hl 0 rfl) ?_
  refine lv_if_lt (tgt := 126) hx hb dX5_row_92 (by decide) (fun c8 => ?_) (fun c8 => ?_)
  · replace hf := ite_t c8 hf
    refine lv_aload_n hx hb dX5_row_126 rfl (lv_at hl 1 rfl) ?_
    refine lv_dup hx hb dX5_row_127 rfl ?_
    refine gf_X5_220 C hw k0 dX5_row_128 ?_
    refine lv_iconst (v := (1 : Int32)) hx hb dX5_row_131 (by decide) ?_
    refine lv_iadd hx hb dX5_row_132 ?_
    revert hf
    refine k_stp (fun U9 eU9 hf => ?_)
    refine pf_X5_220 C hw k0 eU9 dX5_row_133 (fun H locs hw => ?_)
    exact jk_X5_row_136 C hr k0 hf hw (lv_sub hl [1, 2, 3, 4] rfl) hkc35 hkx35_142
  · replace hf := ite_f c8 hf
    refine lv_aload_n hx hb dX5_row_95 rfl (lv_at hl 1 rfl) ?_
    revert hf
    refine k_drf (fun r11 er11 hf => ?_)
    refine gf_X5_13 C hw k0 er11 dX5_row_96 ?_
    refine lv_bipush (v := (10 : Int32)) hx hb dX5_row_99 (by decide) ?_
    refine lv_bipush (v := (20 : Int32)) hx hb dX5_row_101 (by decide) ?_
    refine lv_iload hx hb dX5_row_103 (lv_at hl 0 rfl) ?_
    refine lv_imul hx hb dX5_row_105 ?_
    refine lv_iadd hx hb dX5_row_106 ?_
    refine lv_sipush (v := (1000 : Int32)) hx hb dX5_row_107 (by decide) ?_
    refine lv_aload_n hx hb dX5_row_110 rfl (lv_at hl 1 rfl) ?_
    revert hf
    refine k_drf (fun r12 er12 hf => ?_)
    refine gf_X5_35 C hw k0 er12 dX5_row_111 ?_
    refine lv_iload_n hx hb dX5_row_114 rfl (lv_at hl 4 rfl) ?_
    refine lv_iconst (v := (2 : Int32)) hx hb dX5_row_115 (by decide) ?_
    refine lv_iadd hx hb dX5_row_116 ?_
    revert hf
    refine k_req (fun h13 hf => ?_)
    refine w_iald C hw h13 rfl dX5_row_117 ?_
    refine lv_imul hx hb dX5_row_118 ?_
    revert hf
    refine k_req (fun h14 hf => ?_)
    revert hf
    refine k_stp (fun U15 eU15 hf => ?_)
    refine w_iast C hw h14 eU15 dX5_row_119 (fun H locs hw => ?_)
    revert hf
    refine k_stp (fun z16 ez16 hf => ?_)
    refine lv_iinc (k := 3) (lv' := [(2, .int z16), (4, .int s0), (0, .ref (gb G + x0)), (1, .int x1), (3, .int x3)]) hx hb dX5_row_120 hl rfl (inc_e (by decide) ez16) (by decide) rfl (fun ls hl => ?_)
    refine lv_goto (tgt := 136) hx hb dX5_row_123 (by decide) ?_
    exact jk_X5_row_136 C hr k0 hf hw (lv_sub hl [2, 3, 0, 4] rfl) hkc35 hkx35_142
set_option maxHeartbeats 4000000 in
theorem jk_X5_row_87 {l : Launch} {G : gG} {p : Program} {e : Env} {s : State} {m : MethodId} {args : Array Value} {below : List Frame} {meth : Method} {c : Code} {T : Tt} {V0 : Vt} {r : Int32} {V' : Vt} (C : Cx G p s m args meth c cX5_row RX5 5) (hr : meth.sig.returnType = (some .int)) {x0 : Nat} {x1 : Int32} {x2 : Int32} {x3 : Int32} {kc35 : Int32 → Int32 → Vt → Option (Int32 × Vt)} {kx35_142 : Int32 → Vt → Option (Int32 × Vt)} {H : Heap} {locs : List Loc} {ls : Array Slot} (k0 : T.1 x0 = 6) (hf : f_X5_row_J87 T V0 x0 x1 x2 x3 kc35 kx35_142 = some (r, V')) (hw : wS G V0 T H locs) (hl : lv_has ls 5 [(0, .ref (gb G + x0)), (1, .int x1), (2, .int x2), (3, .int x3)]) (hkc35 : ∀ (y2 : Int32) (y3 : Int32) (W1 : Vt) (H : Heap) (locs : List Loc) (ls : Array Slot), kc35 y2 y3 W1 = some (r, V') → wS G W1 T H locs → lv_has ls 5 [(0, .ref (gb G + x0)), (1, .int x1), (2, .int y2), (3, .int y3)] → W p l e (rmL 2 0 0) s m args below meth c H locs 0 0 (eQ G below (some (.int r)) V' T args s 0 0) (F0 m 35 ls [])) (hkx35_142 : ∀ (y2 : Int32) (W1 : Vt) (H : Heap) (locs : List Loc) (ls : Array Slot), kx35_142 y2 W1 = some (r, V') → wS G W1 T H locs → lv_has ls 5 [(0, .ref (gb G + x0)), (2, .int y2)] → W p l e (rmL 2 0 0) s m args below meth c H locs 0 0 (eQ G below (some (.int r)) V' T args s 0 0) (F0 m 142 ls [])) : W p l e (rmL 2 0 0) s m args below meth c H locs 0 0 (eQ G below (some (.int r)) V' T args s 0 0) (F0 m 87 ls []) := by
  have hx := C.1
  have hb := C.2.1
  have hown := C.2.2.2.1
  have hts := C.2.2.2.2.1
  unfold f_X5_row_J87 at hf
  refine lv_iconst (v := ((-1) : Int32)) hx hb dX5_row_87 (by decide) ?_
  exact jk_X5_row_88 C hr k0 hf hw (lv_sub hl [0, 1, 2, 3] rfl) hkc35 hkx35_142
set_option maxHeartbeats 4000000 in
theorem lk_X5_row_35 {l : Launch} {G : gG} {p : Program} {e : Env} {s : State} {m : MethodId} {args : Array Value} {below : List Frame} {meth : Method} {c : Code} {T : Tt} {r : Int32} {V' : Vt} (C : Cx G p s m args meth c cX5_row RX5 5) (hr : meth.sig.returnType = (some .int)) {x0 : Nat} {x1 : Int32} {kx35_142 : Int32 → Vt → Option (Int32 × Vt)} (k0 : T.1 x0 = 6) (hkx35_142 : ∀ (y2 : Int32) (W1 : Vt) (H : Heap) (locs : List Loc) (ls : Array Slot), kx35_142 y2 W1 = some (r, V') → wS G W1 T H locs → lv_has ls 5 [(0, .ref (gb G + x0)), (2, .int y2)] → W p l e (rmL 2 0 0) s m args below meth c H locs 0 0 (eQ G below (some (.int r)) V' T args s 0 0) (F0 m 142 ls [])) : ∀ (n : Nat) (x2 : Int32) (x3 : Int32) (V1 : Vt) (H : Heap) (locs : List Loc) (ls : Array Slot), f_X5_row_L35 T x0 x1 kx35_142 n x2 x3 V1 = some (r, V') → wS G V1 T H locs → lv_has ls 5 [(0, .ref (gb G + x0)), (1, .int x1), (2, .int x2), (3, .int x3)] → W p l e (rmL 2 0 0) s m args below meth c H locs 0 0 (eQ G below (some (.int r)) V' T args s 0 0) (F0 m 35 ls []) := by
  have hx := C.1
  have hb := C.2.1
  have hown := C.2.2.2.1
  have hts := C.2.2.2.2.1
  intro n
  induction n with
  | zero =>
    intro x2 x3 V1 H locs ls hf
    cases hf
  | succ n ih =>
    intro x2 x3 V1 H locs ls hf hw hl
    unfold f_X5_row_L35 at hf
    refine lv_iload_n hx hb dX5_row_35 rfl (lv_at hl 3 rfl) ?_
    refine lv_iload_n hx hb dX5_row_36 rfl (lv_at hl 1 rfl) ?_
    refine lv_icmp_ge (tgt := 142) hx hb dX5_row_37 (by decide) (fun c6 => ?_) (fun c6 => ?_)
    · replace hf := ite_t c6 hf
      exact hkx35_142 _ _ _ _ _ hf hw (lv_sub hl [0, 2] rfl)
    · replace hf := ite_f c6 hf
      refine lv_iload_n hx hb dX5_row_40 rfl (lv_at hl 3 rfl) ?_
      refine lv_iconst (v := (2 : Int32)) hx hb dX5_row_41 (by decide) ?_
      refine lv_iadd hx hb dX5_row_42 ?_
      refine lv_iload_n hx hb dX5_row_43 rfl (lv_at hl 1 rfl) ?_
      refine lv_icmp_ge (tgt := 87) hx hb dX5_row_44 (by decide) (fun c7 => ?_) (fun c7 => ?_)
      · replace hf := ite_t c7 hf
        exact jk_X5_row_87 C hr k0 hf hw (lv_sub hl [0, 1, 2, 3] rfl) ih hkx35_142
      · replace hf := ite_f c7 hf
        refine lv_aload_n hx hb dX5_row_47 rfl (lv_at hl 0 rfl) ?_
        revert hf
        refine k_drf (fun r17 er17 hf => ?_)
        refine gf_X5_35 C hw k0 er17 dX5_row_48 ?_
        refine lv_iload_n hx hb dX5_row_51 rfl (lv_at hl 3 rfl) ?_
        refine lv_iconst (v := (2 : Int32)) hx hb dX5_row_52 (by decide) ?_
        refine lv_iadd hx hb dX5_row_53 ?_
        revert hf
        refine k_req (fun h18 hf => ?_)
        refine w_iald C hw h18 rfl dX5_row_54 ?_
        refine lv_aload_n hx hb dX5_row_55 rfl (lv_at hl 0 rfl) ?_
        revert hf
        refine k_drf (fun r19 er19 hf => ?_)
        refine gf_X5_35 C hw k0 er19 dX5_row_56 ?_
        refine lv_iload_n hx hb dX5_row_59 rfl (lv_at hl 3 rfl) ?_
        refine lv_iconst (v := (1 : Int32)) hx hb dX5_row_60 (by decide) ?_
        refine lv_iadd hx hb dX5_row_61 ?_
        revert hf
        refine k_req (fun h20 hf => ?_)
        refine w_iald C hw h20 rfl dX5_row_62 ?_
        refine lv_icmp_gt (tgt := 87) hx hb dX5_row_63 (by decide) (fun c21 => ?_) (fun c21 => ?_)
        · replace hf := ite_t c21 hf
          exact jk_X5_row_87 C hr k0 hf hw (lv_sub hl [0, 1, 2, 3] rfl) ih hkx35_142
        · replace hf := ite_f c21 hf
          refine lv_aload_n hx hb dX5_row_66 rfl (lv_at hl 0 rfl) ?_
          refine lv_aload_n hx hb dX5_row_67 rfl (lv_at hl 0 rfl) ?_
          revert hf
          refine k_drf (fun r22 er22 hf => ?_)
          refine gf_X5_35 C hw k0 er22 dX5_row_68 ?_
          refine lv_iload_n hx hb dX5_row_71 rfl (lv_at hl 3 rfl) ?_
          revert hf
          refine k_req (fun h23 hf => ?_)
          refine w_iald C hw h23 rfl dX5_row_72 ?_
          refine lv_aload_n hx hb dX5_row_73 rfl (lv_at hl 0 rfl) ?_
          revert hf
          refine k_drf (fun r24 er24 hf => ?_)
          refine gf_X5_35 C hw k0 er24 dX5_row_74 ?_
          refine lv_iload_n hx hb dX5_row_77 rfl (lv_at hl 3 rfl) ?_
          refine lv_iconst (v := (1 : Int32)) hx hb dX5_row_78 (by decide) ?_
          refine lv_iadd hx hb dX5_row_79 ?_
          revert hf
          refine k_req (fun h25 hf => ?_)
          refine w_iald C hw h25 rfl dX5_row_80 ?_
          revert hf
          refine k_cal (fun z27 U28 h26 hf => ?_)
          refine w_afi hw (w_rV (As := [.int (V1.1 r22 (ixN x3)), .int (V1.1 r24 (ixN (x3 + (1 : Int32))))]) C hw (ok_X5_comes h26) (cw_X5_181 hts (Nat.le_of_ble_eq_true rfl) (Nat.le_of_ble_eq_true rfl)) rfl (by decide) (of_req h26).1 rfl hl.1 rfl (Nat.le_of_ble_eq_true rfl) ⟨Nat.zero_le _, Nat.zero_le _⟩ dX5_row_81) (fun H locs hw => ?_)
          refine lv_goto (tgt := 88) hx hb dX5_row_84 (by decide) ?_
          exact jk_X5_row_88 C hr k0 hf hw (lv_sub hl [0, 1, 2, 3] rfl) ih hkx35_142
set_option maxHeartbeats 4000000 in
theorem ok_X5_row {l : Launch} {G : gG} {T : Tt} {V0 : Vt} {o : Nat} {r : Int32} {V' : Vt} (hf : f_X5_row T V0 o = some (r, V')) : okM l G yX5_row cX5_row 5 (some .int) 2 [.ref (gb G + o)] V0 T (some (.int r)) V' T 0 0 := by
  refine ok_intro (by decide) (Nat.le_of_ble_eq_true rfl) ?_
  intro p e s m below meth c ls C hr hnm hw hl
  have hx := C.1
  have hb := C.2.1
  have hown := C.2.2.2.1
  have hts := C.2.2.2.2.1
  have hl : lv_has ls 5 [(0, .ref (gb G + o))] := hl
  unfold f_X5_row at hf
  revert hf
  refine k_req (fun k0 hf => ?_)
  refine lv_aload_n hx hb dX5_row_0 rfl (lv_at hl 0 rfl) ?_
  refine lv_iconst (v := (0 : Int32)) hx hb dX5_row_1 (by decide) ?_
  revert hf
  refine k_stp (fun U1 eU1 hf => ?_)
  refine pf_X5_133 C hw k0 eU1 dX5_row_2 (fun H locs hw => ?_)
  refine lv_aload_n hx hb dX5_row_5 rfl (lv_at hl 0 rfl) ?_
  refine gf_X5_217 C hw k0 dX5_row_6 ?_
  revert hf
  refine k_stp (fun z2 ez2 hf => ?_)
  refine w_nmI ez2 ?_
  refine lv_istore_n (lv' := [(1, .int z2), (0, .ref (gb G + o))]) hx hb dX5_row_9 rfl hl (by decide) rfl (fun ls hl => ?_)
  refine lv_aload_n hx hb dX5_row_10 rfl (lv_at hl 1 rfl) ?_
  refine lv_iconst (v := (0 : Int32)) hx hb dX5_row_11 (by decide) ?_
  revert hf
  refine k_stp (fun U3 eU3 hf => ?_)
  refine pf_X5_217 C hw k0 eU3 dX5_row_12 (fun H locs hw => ?_)
  refine lv_iload_n hx hb dX5_row_15 rfl (lv_at hl 0 rfl) ?_
  refine lv_if_ne (tgt := 26) hx hb dX5_row_16 (by decide) (fun c4 => ?_) (fun c4 => ?_)
  · replace hf := ite_f c4 hf
    refine lv_aload_n hx hb dX5_row_26 rfl (lv_at hl 1 rfl) ?_
    refine lv_iconst (v := (0 : Int32)) hx hb dX5_row_27 (by decide) ?_
    revert hf
    refine k_stp (fun U5 eU5 hf => ?_)
    refine pf_X5_220 C hw k0 eU5 dX5_row_28 (fun H locs hw => ?_)
    refine lv_iconst (v := (0 : Int32)) hx hb dX5_row_31 (by decide) ?_
    refine lv_istore_n (lv' := [(2, .int (0 : Int32)), (1, .int z2), (0, .ref (gb G + o))]) hx hb dX5_row_32 rfl hl (by decide) rfl (fun ls hl => ?_)
    refine lv_iconst (v := (0 : Int32)) hx hb dX5_row_33 (by decide) ?_
    refine lv_istore_n (lv' := [(3, .int (0 : Int32)), (2, .int (0 : Int32)), (1, .int z2), (0, .ref (gb G + o))]) hx hb dX5_row_34 rfl hl (by decide) rfl (fun ls hl => ?_)
    refine lk_X5_row_35 C hr k0 (fun z29 U30 H locs ls hf hw hl => ?_) fuel _ _ _ _ _ _ hf hw (lv_sub hl [3, 2, 1, 0] rfl)
    refine lv_aload_n hx hb dX5_row_142 rfl (lv_at hl 0 rfl) ?_
    refine lv_iload_n hx hb dX5_row_143 rfl (lv_at hl 1 rfl) ?_
    revert hf
    refine k_cal (fun z32 U33 h31 hf => ?_)
    refine w_afi hw (w_rV (As := [.int z29]) C hw (ok_X5_lasting h31) (cw_X5_157 hts (Nat.le_of_ble_eq_true rfl) (Nat.le_of_ble_eq_true rfl)) rfl (by decide) (of_req h31).1 rfl hl.1 rfl (Nat.le_of_ble_eq_true rfl) ⟨Nat.zero_le _, Nat.zero_le _⟩ dX5_row_144) (fun H locs hw => ?_)
    cases hf
    exact w_iret C hr hw dX5_row_147
  · replace hf := ite_t c4 hf
    refine lv_aload_n hx hb dX5_row_19 rfl (lv_at hl 1 rfl) ?_
    refine lv_bipush (v := ((-6) : Int32)) hx hb dX5_row_20 (by decide) ?_
    revert hf
    refine k_cal (fun z35 U36 h34 hf => ?_)
    refine w_afi hw (w_rV (As := [.int ((-6) : Int32)]) C hw (ok_X5_tell h34) (cw_X5_142 hts (Nat.le_of_ble_eq_true rfl) (Nat.le_of_ble_eq_true rfl)) rfl (by decide) (of_req h34).1 rfl hl.1 rfl (Nat.le_of_ble_eq_true rfl) ⟨Nat.zero_le _, Nat.zero_le _⟩ dX5_row_22) (fun H locs hw => ?_)
    cases hf
    exact w_iret C hr hw dX5_row_25
set_option maxHeartbeats 4000000 in
theorem ok_X5_leaks {l : Launch} {G : gG} {T : Tt} {V0 : Vt} {o : Nat} {r : Int32} {V' : Vt} (hf : f_X5_leaks T V0 o = some (r, V')) : okM l G yX5_leaks cX5_leaks 1 (some .int) 0 [.ref (gb G + o)] V0 T (some (.int r)) V' T 0 0 := by
  refine ok_intro (by decide) (Nat.le_of_ble_eq_true rfl) ?_
  intro p e s m below meth c ls C hr hnm hw hl
  have hx := C.1
  have hb := C.2.1
  have hown := C.2.2.2.1
  have hts := C.2.2.2.2.1
  have hl : lv_has ls 1 [(0, .ref (gb G + o))] := hl
  unfold f_X5_leaks at hf
  revert hf
  refine k_req (fun k0 hf => ?_)
  refine lv_aload_n hx hb dX5_leaks_0 rfl (lv_at hl 0 rfl) ?_
  refine lv_iconst (v := (0 : Int32)) hx hb dX5_leaks_1 (by decide) ?_
  revert hf
  refine k_stp (fun U1 eU1 hf => ?_)
  refine pf_X5_133 C hw k0 eU1 dX5_leaks_2 (fun H locs hw => ?_)
  refine lv_aload_n hx hb dX5_leaks_5 rfl (lv_at hl 0 rfl) ?_
  refine gf_X5_220 C hw k0 dX5_leaks_6 ?_
  cases hf
  exact w_iret C hr hw dX5_leaks_9
set_option maxHeartbeats 4000000 in
theorem lk_X5_four_3 {l : Launch} {G : gG} {p : Program} {e : Env} {s : State} {m : MethodId} {args : Array Value} {below : List Frame} {meth : Method} {c : Code} {T : Tt} {V' : Vt} (C : Cx G p s m args meth c cX5_four RX5 3) (hr : meth.sig.returnType = none) {x0 : Nat} {x1 : Int32} {kx3_39 : Vt → Option (Vt)} (k0 : T.1 x0 = 6) (hkx3_39 : ∀ (W1 : Vt) (H : Heap) (locs : List Loc) (ls : Array Slot), kx3_39 W1 = some V' → wS G W1 T H locs → lv_has ls 3 [] → W p l e (rmL 0 0 0) s m args below meth c H locs 0 0 (eQ G below none V' T args s 0 0) (F0 m 39 ls [])) : ∀ (n : Nat) (x2 : Int32) (V1 : Vt) (H : Heap) (locs : List Loc) (ls : Array Slot), f_X5_four_L3 T x0 x1 kx3_39 n x2 V1 = some V' → wS G V1 T H locs → lv_has ls 3 [(0, .ref (gb G + x0)), (1, .int x1), (2, .int x2)] → W p l e (rmL 0 0 0) s m args below meth c H locs 0 0 (eQ G below none V' T args s 0 0) (F0 m 3 ls []) := by
  have hx := C.1
  have hb := C.2.1
  have hown := C.2.2.2.1
  have hts := C.2.2.2.2.1
  intro n
  induction n with
  | zero =>
    intro x2 V1 H locs ls hf
    cases hf
  | succ n ih =>
    intro x2 V1 H locs ls hf hw hl
    unfold f_X5_four_L3 at hf
    refine lv_iload_n hx hb dX5_four_3 rfl (lv_at hl 2 rfl) ?_
    refine lv_if_lt (tgt := 39) hx hb dX5_four_4 (by decide) (fun c1 => ?_) (fun c1 => ?_)
    · replace hf := ite_t c1 hf
      exact hkx3_39 _ _ _ _ hf hw (lv_sub hl [] rfl)
    · replace hf := ite_f c1 hf
      refine lv_aload_n hx hb dX5_four_7 rfl (lv_at hl 0 rfl) ?_
      revert hf
      refine k_drf (fun r2 er2 hf => ?_)
      refine gf_X5_35 C hw k0 er2 dX5_four_8 ?_
      refine lv_aload_n hx hb dX5_four_11 rfl (lv_at hl 0 rfl) ?_
      refine gf_X5_217 C hw k0 dX5_four_12 ?_
      refine lv_iload_n hx hb dX5_four_15 rfl (lv_at hl 1 rfl) ?_
      refine lv_iload_n hx hb dX5_four_16 rfl (lv_at hl 2 rfl) ?_
      refine lv_ishr hx hb dX5_four_17 ?_
      refine lv_sipush (v := (255 : Int32)) hx hb dX5_four_18 (by decide) ?_
      refine lv_iand hx hb dX5_four_21 ?_
      revert hf
      refine k_req (fun h3 hf => ?_)
      revert hf
      refine k_stp (fun U4 eU4 hf => ?_)
      refine w_iast C hw h3 eU4 dX5_four_22 (fun H locs hw => ?_)
      refine lv_aload_n hx hb dX5_four_23 rfl (lv_at hl 0 rfl) ?_
      refine lv_dup hx hb dX5_four_24 rfl ?_
      refine gf_X5_217 C hw k0 dX5_four_25 ?_
      refine lv_iconst (v := (1 : Int32)) hx hb dX5_four_28 (by decide) ?_
      refine lv_iadd hx hb dX5_four_29 ?_
      revert hf
      refine k_stp (fun U5 eU5 hf => ?_)
      refine pf_X5_217 C hw k0 eU5 dX5_four_30 (fun H locs hw => ?_)
      revert hf
      refine k_stp (fun z6 ez6 hf => ?_)
      refine lv_iinc (k := 2) (lv' := [(2, .int z6), (0, .ref (gb G + x0)), (1, .int x1)]) hx hb dX5_four_33 hl rfl (inc_e (by decide) ez6) (by decide) rfl (fun ls hl => ?_)
      refine lv_goto (tgt := 3) hx hb dX5_four_36 (by decide) ?_
      exact ih _ _ _ _ _ hf hw (lv_sub hl [1, 2, 0] rfl)
set_option maxHeartbeats 4000000 in
theorem ok_X5_four {l : Launch} {G : gG} {T : Tt} {V0 : Vt} {o : Nat} {a0 : Int32} {V' : Vt} (hf : f_X5_four T V0 o a0 = some V') : okM l G yX5_four cX5_four 3 none 0 [.ref (gb G + o), .int a0] V0 T none V' T 0 0 := by
  refine ok_intro (by decide) (Nat.le_of_ble_eq_true rfl) ?_
  intro p e s m below meth c ls C hr hnm hw hl
  have hx := C.1
  have hb := C.2.1
  have hown := C.2.2.2.1
  have hts := C.2.2.2.2.1
  have hl : lv_has ls 3 [(0, .ref (gb G + o)), (1, .int a0)] := hl
  unfold f_X5_four at hf
  revert hf
  refine k_req (fun k0 hf => ?_)
  refine lv_bipush (v := (24 : Int32)) hx hb dX5_four_0 (by decide) ?_
  refine lv_istore_n (lv' := [(2, .int (24 : Int32)), (0, .ref (gb G + o)), (1, .int a0)]) hx hb dX5_four_2 rfl hl (by decide) rfl (fun ls hl => ?_)
  refine lk_X5_four_3 C hr k0 (fun U7 H locs ls hf hw hl => ?_) fuel _ _ _ _ _ hf hw (lv_sub hl [1, 2, 0] rfl)
  cases hf
  exact w_vret C hr hw dX5_four_39
set_option maxHeartbeats 4000000 in
theorem ok_X5_feed {l : Launch} {G : gG} {T : Tt} {V0 : Vt} {o : Nat} {a0 : Int32} {a1 : Int32} {a2 : Int32} {a3 : Int32} {a4 : Int32} {r : Int32} {V' : Vt} (hf : f_X5_feed T V0 o a0 a1 a2 a3 a4 = some (r, V')) : okM l G yX5_feed cX5_feed 6 (some .int) 1 [.ref (gb G + o), .int a0, .int a1, .int a2, .int a3, .int a4] V0 T (some (.int r)) V' T 0 0 := by
  refine ok_intro (by decide) (Nat.le_of_ble_eq_true rfl) ?_
  intro p e s m below meth c ls C hr hnm hw hl
  have hx := C.1
  have hb := C.2.1
  have hown := C.2.2.2.1
  have hts := C.2.2.2.2.1
  have hl : lv_has ls 6 [(0, .ref (gb G + o)), (1, .int a0), (2, .int a1), (3, .int a2), (4, .int a3), (5, .int a4)] := hl
  unfold f_X5_feed at hf
  revert hf
  refine k_req (fun k0 hf => ?_)
  refine lv_aload_n hx hb dX5_feed_0 rfl (lv_at hl 0 rfl) ?_
  refine lv_iconst (v := (0 : Int32)) hx hb dX5_feed_1 (by decide) ?_
  revert hf
  refine k_stp (fun U1 eU1 hf => ?_)
  refine pf_X5_133 C hw k0 eU1 dX5_feed_2 (fun H locs hw => ?_)
  refine lv_aload_n hx hb dX5_feed_5 rfl (lv_at hl 0 rfl) ?_
  refine gf_X5_217 C hw k0 dX5_feed_6 ?_
  refine lv_bipush (v := (20 : Int32)) hx hb dX5_feed_9 (by decide) ?_
  refine lv_iadd hx hb dX5_feed_11 ?_
  refine lv_sipush (v := (400 : Int32)) hx hb dX5_feed_12 (by decide) ?_
  refine lv_icmp_le (tgt := 20) hx hb dX5_feed_15 (by decide) (fun c2 => ?_) (fun c2 => ?_)
  · replace hf := ite_t c2 hf
    refine lv_aload_n hx hb dX5_feed_20 rfl (lv_at hl 0 rfl) ?_
    refine lv_iload_n hx hb dX5_feed_21 rfl (lv_at hl 1 rfl) ?_
    revert hf
    refine k_pcl (fun U5 h3 hf => ?_)
    refine w_afv hw (w_rV (As := [.int a0]) C hw (ok_X5_four h3) (cw_X5_223 hts (Nat.le_of_ble_eq_true rfl) (Nat.le_of_ble_eq_true rfl)) rfl (by decide) (of_req h3).1 rfl hl.1 rfl (Nat.le_of_ble_eq_true rfl) ⟨Nat.zero_le _, Nat.zero_le _⟩ dX5_feed_22) (fun H locs hw => ?_)
    refine lv_aload_n hx hb dX5_feed_25 rfl (lv_at hl 0 rfl) ?_
    refine lv_iload_n hx hb dX5_feed_26 rfl (lv_at hl 2 rfl) ?_
    revert hf
    refine k_pcl (fun U8 h6 hf => ?_)
    refine w_afv hw (w_rV (As := [.int a1]) C hw (ok_X5_four h6) (cw_X5_223 hts (Nat.le_of_ble_eq_true rfl) (Nat.le_of_ble_eq_true rfl)) rfl (by decide) (of_req h6).1 rfl hl.1 rfl (Nat.le_of_ble_eq_true rfl) ⟨Nat.zero_le _, Nat.zero_le _⟩ dX5_feed_27) (fun H locs hw => ?_)
    refine lv_aload_n hx hb dX5_feed_30 rfl (lv_at hl 0 rfl) ?_
    refine lv_iload_n hx hb dX5_feed_31 rfl (lv_at hl 3 rfl) ?_
    revert hf
    refine k_pcl (fun U11 h9 hf => ?_)
    refine w_afv hw (w_rV (As := [.int a2]) C hw (ok_X5_four h9) (cw_X5_223 hts (Nat.le_of_ble_eq_true rfl) (Nat.le_of_ble_eq_true rfl)) rfl (by decide) (of_req h9).1 rfl hl.1 rfl (Nat.le_of_ble_eq_true rfl) ⟨Nat.zero_le _, Nat.zero_le _⟩ dX5_feed_32) (fun H locs hw => ?_)
    refine lv_aload_n hx hb dX5_feed_35 rfl (lv_at hl 0 rfl) ?_
    refine lv_iload hx hb dX5_feed_36 (lv_at hl 4 rfl) ?_
    revert hf
    refine k_pcl (fun U14 h12 hf => ?_)
    refine w_afv hw (w_rV (As := [.int a3]) C hw (ok_X5_four h12) (cw_X5_223 hts (Nat.le_of_ble_eq_true rfl) (Nat.le_of_ble_eq_true rfl)) rfl (by decide) (of_req h12).1 rfl hl.1 rfl (Nat.le_of_ble_eq_true rfl) ⟨Nat.zero_le _, Nat.zero_le _⟩ dX5_feed_38) (fun H locs hw => ?_)
    refine lv_aload_n hx hb dX5_feed_41 rfl (lv_at hl 0 rfl) ?_
    refine lv_iload hx hb dX5_feed_42 (lv_at hl 5 rfl) ?_
    revert hf
    refine k_pcl (fun U17 h15 hf => ?_)
    refine w_afv hw (w_rV (As := [.int a4]) C hw (ok_X5_four h15) (cw_X5_223 hts (Nat.le_of_ble_eq_true rfl) (Nat.le_of_ble_eq_true rfl)) rfl (by decide) (of_req h15).1 rfl hl.1 rfl (Nat.le_of_ble_eq_true rfl) ⟨Nat.zero_le _, Nat.zero_le _⟩ dX5_feed_44) (fun H locs hw => ?_)
    refine lv_aload_n hx hb dX5_feed_47 rfl (lv_at hl 0 rfl) ?_
    refine gf_X5_217 C hw k0 dX5_feed_48 ?_
    cases hf
    exact w_iret C hr hw dX5_feed_51
  · replace hf := ite_f c2 hf
    refine lv_iconst (v := ((-1) : Int32)) hx hb dX5_feed_18 (by decide) ?_
    cases hf
    exact w_iret C hr hw dX5_feed_19
set_option maxHeartbeats 4000000 in
theorem ok_X5_end {l : Launch} {G : gG} {T : Tt} {V0 : Vt} {o : Nat} {a0 : Int32} {r : Int32} {V' : Vt} (hf : f_X5_end T V0 o a0 = some (r, V')) : okM l G yX5_end cX5_end 2 (some .int) 0 [.ref (gb G + o), .int a0] V0 T (some (.int r)) V' T 0 0 := by
  refine ok_intro (by decide) (Nat.le_of_ble_eq_true rfl) ?_
  intro p e s m below meth c ls C hr hnm hw hl
  have hx := C.1
  have hb := C.2.1
  have hown := C.2.2.2.1
  have hts := C.2.2.2.2.1
  have hl : lv_has ls 2 [(0, .ref (gb G + o)), (1, .int a0)] := hl
  unfold f_X5_end at hf
  revert hf
  refine k_req (fun k0 hf => ?_)
  refine lv_aload_n hx hb dX5_end_0 rfl (lv_at hl 0 rfl) ?_
  refine lv_iconst (v := (0 : Int32)) hx hb dX5_end_1 (by decide) ?_
  revert hf
  refine k_stp (fun U1 eU1 hf => ?_)
  refine pf_X5_133 C hw k0 eU1 dX5_end_2 (fun H locs hw => ?_)
  refine lv_iload_n hx hb dX5_end_5 rfl (lv_at hl 1 rfl) ?_
  refine lv_if_lt (tgt := 17) hx hb dX5_end_6 (by decide) (fun c2 => ?_) (fun c2 => ?_)
  · replace hf := ite_t c2 hf
    refine lv_iconst (v := ((-1) : Int32)) hx hb dX5_end_17 (by decide) ?_
    cases hf
    exact w_iret C hr hw dX5_end_18
  · replace hf := ite_f c2 hf
    refine lv_iload_n hx hb dX5_end_9 rfl (lv_at hl 1 rfl) ?_
    refine lv_aload_n hx hb dX5_end_10 rfl (lv_at hl 0 rfl) ?_
    refine gf_X5_217 C hw k0 dX5_end_11 ?_
    refine lv_icmp_le (tgt := 19) hx hb dX5_end_14 (by decide) (fun c3 => ?_) (fun c3 => ?_)
    · replace hf := ite_t c3 hf
      refine lv_aload_n hx hb dX5_end_19 rfl (lv_at hl 0 rfl) ?_
      refine lv_iload_n hx hb dX5_end_20 rfl (lv_at hl 1 rfl) ?_
      revert hf
      refine k_stp (fun U4 eU4 hf => ?_)
      refine pf_X5_217 C hw k0 eU4 dX5_end_21 (fun H locs hw => ?_)
      refine lv_iload_n hx hb dX5_end_24 rfl (lv_at hl 1 rfl) ?_
      cases hf
      exact w_iret C hr hw dX5_end_25
    · replace hf := ite_f c3 hf
      refine lv_iconst (v := ((-1) : Int32)) hx hb dX5_end_17 (by decide) ?_
      cases hf
      exact w_iret C hr hw dX5_end_18
set_option maxHeartbeats 4000000 in
theorem ok_X5_fault {l : Launch} {G : gG} {T : Tt} {V0 : Vt} {o : Nat} {r : Int32} {V' : Vt} (hf : f_X5_fault T V0 o = some (r, V')) : okM l G yX5_fault cX5_fault 1 (some .int) 0 [.ref (gb G + o)] V0 T (some (.int r)) V' T 0 0 := by
  refine ok_intro (by decide) (Nat.le_of_ble_eq_true rfl) ?_
  intro p e s m below meth c ls C hr hnm hw hl
  have hx := C.1
  have hb := C.2.1
  have hown := C.2.2.2.1
  have hts := C.2.2.2.2.1
  have hl : lv_has ls 1 [(0, .ref (gb G + o))] := hl
  unfold f_X5_fault at hf
  revert hf
  refine k_req (fun k0 hf => ?_)
  refine lv_aload_n hx hb dX5_fault_0 rfl (lv_at hl 0 rfl) ?_
  refine lv_iconst (v := (0 : Int32)) hx hb dX5_fault_1 (by decide) ?_
  revert hf
  refine k_stp (fun U1 eU1 hf => ?_)
  refine pf_X5_133 C hw k0 eU1 dX5_fault_2 (fun H locs hw => ?_)
  refine lv_aload_n hx hb dX5_fault_5 rfl (lv_at hl 0 rfl) ?_
  refine gf_X5_38 C hw k0 dX5_fault_6 ?_
  cases hf
  exact w_iret C hr hw dX5_fault_9
set_option maxHeartbeats 4000000 in
theorem ok_X5_isSmall {l : Launch} {G : gG} {T : Tt} {V0 : Vt} {a0 : Int32} {r : Int32} (hf : f_X5_isSmall T V0 a0 = some r) : okM l G yX5_isSmall cX5_isSmall 1 (some .boolean) 0 [.int a0] V0 T (some (.int r)) V0 T 0 0 := by
  refine ok_intro (by decide) (Nat.le_of_ble_eq_true rfl) ?_
  intro p e s m below meth c ls C hr hnm hw hl
  have hx := C.1
  have hb := C.2.1
  have hown := C.2.2.2.1
  have hts := C.2.2.2.2.1
  have hl : lv_has ls 1 [(0, .int a0)] := hl
  unfold f_X5_isSmall at hf
  refine lv_iload_n hx hb dX5_isSmall_0 rfl (lv_at hl 0 rfl) ?_
  refine lv_bipush (v := (97 : Int32)) hx hb dX5_isSmall_1 (by decide) ?_
  refine lv_icmp_lt (tgt := 16) hx hb dX5_isSmall_3 (by decide) (fun c1 => ?_) (fun c1 => ?_)
  · replace hf := ite_t c1 hf
    refine lv_iconst (v := (0 : Int32)) hx hb dX5_isSmall_16 (by decide) ?_
    cases hf
    exact w_zret C hr hw (by decide) dX5_isSmall_17
  · replace hf := ite_f c1 hf
    refine lv_iload_n hx hb dX5_isSmall_6 rfl (lv_at hl 0 rfl) ?_
    refine lv_bipush (v := (122 : Int32)) hx hb dX5_isSmall_7 (by decide) ?_
    refine lv_icmp_gt (tgt := 16) hx hb dX5_isSmall_9 (by decide) (fun c2 => ?_) (fun c2 => ?_)
    · replace hf := ite_t c2 hf
      refine lv_iconst (v := (0 : Int32)) hx hb dX5_isSmall_16 (by decide) ?_
      cases hf
      exact w_zret C hr hw (by decide) dX5_isSmall_17
    · replace hf := ite_f c2 hf
      refine lv_iconst (v := (1 : Int32)) hx hb dX5_isSmall_12 (by decide) ?_
      refine lv_goto (tgt := 17) hx hb dX5_isSmall_13 (by decide) ?_
      cases hf
      exact w_zret C hr hw (by decide) dX5_isSmall_17
set_option maxHeartbeats 4000000 in
theorem ok_X5_isDigit {l : Launch} {G : gG} {T : Tt} {V0 : Vt} {a0 : Int32} {r : Int32} (hf : f_X5_isDigit T V0 a0 = some r) : okM l G yX5_isDigit cX5_isDigit 1 (some .boolean) 0 [.int a0] V0 T (some (.int r)) V0 T 0 0 := by
  refine ok_intro (by decide) (Nat.le_of_ble_eq_true rfl) ?_
  intro p e s m below meth c ls C hr hnm hw hl
  have hx := C.1
  have hb := C.2.1
  have hown := C.2.2.2.1
  have hts := C.2.2.2.2.1
  have hl : lv_has ls 1 [(0, .int a0)] := hl
  unfold f_X5_isDigit at hf
  refine lv_iload_n hx hb dX5_isDigit_0 rfl (lv_at hl 0 rfl) ?_
  refine lv_bipush (v := (48 : Int32)) hx hb dX5_isDigit_1 (by decide) ?_
  refine lv_icmp_lt (tgt := 16) hx hb dX5_isDigit_3 (by decide) (fun c1 => ?_) (fun c1 => ?_)
  · replace hf := ite_t c1 hf
    refine lv_iconst (v := (0 : Int32)) hx hb dX5_isDigit_16 (by decide) ?_
    cases hf
    exact w_zret C hr hw (by decide) dX5_isDigit_17
  · replace hf := ite_f c1 hf
    refine lv_iload_n hx hb dX5_isDigit_6 rfl (lv_at hl 0 rfl) ?_
    refine lv_bipush (v := (57 : Int32)) hx hb dX5_isDigit_7 (by decide) ?_
    refine lv_icmp_gt (tgt := 16) hx hb dX5_isDigit_9 (by decide) (fun c2 => ?_) (fun c2 => ?_)
    · replace hf := ite_t c2 hf
      refine lv_iconst (v := (0 : Int32)) hx hb dX5_isDigit_16 (by decide) ?_
      cases hf
      exact w_zret C hr hw (by decide) dX5_isDigit_17
    · replace hf := ite_f c2 hf
      refine lv_iconst (v := (1 : Int32)) hx hb dX5_isDigit_12 (by decide) ?_
      refine lv_goto (tgt := 17) hx hb dX5_isDigit_13 (by decide) ?_
      cases hf
      exact w_zret C hr hw (by decide) dX5_isDigit_17
set_option maxHeartbeats 4000000 in
theorem jk_X5_next_319 {l : Launch} {G : gG} {p : Program} {e : Env} {s : State} {m : MethodId} {args : Array Value} {below : List Frame} {meth : Method} {c : Code} {T : Tt} {V0 : Vt} {V' : Vt} (C : Cx G p s m args meth c cX5_next RX5 1) (hr : meth.sig.returnType = none) {x0 : Nat} {s0 : Nat} {s1 : Int64} {kc243 : Vt → Option (Vt)} {kx243_335 : Vt → Option (Vt)} {H : Heap} {locs : List Loc} {ls : Array Slot} (k0 : T.1 x0 = 6) (hf : f_X5_next_J319 T V0 x0 s0 s1 kc243 kx243_335 = some V') (hw : wS G V0 T H locs) (hl : lv_has ls 1 [(0, .ref (gb G + x0))]) (hkc243 : ∀ (W1 : Vt) (H : Heap) (locs : List Loc) (ls : Array Slot), kc243 W1 = some V' → wS G W1 T H locs → lv_has ls 1 [(0, .ref (gb G + x0))] → W p l e (rmL 1 0 0) s m args below meth c H locs 0 0 (eQ G below none V' T args s 0 0) (F0 m 243 ls [])) (hkx243_335 : ∀ (W1 : Vt) (H : Heap) (locs : List Loc) (ls : Array Slot), kx243_335 W1 = some V' → wS G W1 T H locs → lv_has ls 1 [] → W p l e (rmL 1 0 0) s m args below meth c H locs 0 0 (eQ G below none V' T args s 0 0) (F0 m 335 ls [])) : W p l e (rmL 1 0 0) s m args below meth c H locs 0 0 (eQ G below none V' T args s 0 0) (F0 m 319 ls [.long s1, .ref (gb G + s0)]) := by
  have hx := C.1
  have hb := C.2.1
  have hown := C.2.2.2.1
  have hts := C.2.2.2.2.1
  unfold f_X5_next_J319 at hf
  revert hf
  refine k_req (fun k48 hf => ?_)
  revert hf
  refine k_stp (fun U49 eU49 hf => ?_)
  refine pf_X5_239 C hw k48 eU49 dX5_next_319 (fun H locs hw => ?_)
  refine lv_aload_n hx hb dX5_next_322 rfl (lv_at hl 0 rfl) ?_
  refine lv_dup hx hb dX5_next_323 rfl ?_
  refine gf_X5_226 C hw k0 dX5_next_324 ?_
  refine lv_iconst (v := (1 : Int32)) hx hb dX5_next_327 (by decide) ?_
  refine lv_iadd hx hb dX5_next_328 ?_
  revert hf
  refine k_stp (fun U50 eU50 hf => ?_)
  refine pf_X5_226 C hw k0 eU50 dX5_next_329 (fun H locs hw => ?_)
  refine lv_goto (tgt := 243) hx hb dX5_next_332 (by decide) ?_
  exact hkc243 _ _ _ _ hf hw (lv_sub hl [0] rfl)
set_option maxHeartbeats 4000000 in
theorem lk_X5_next_243 {l : Launch} {G : gG} {p : Program} {e : Env} {s : State} {m : MethodId} {args : Array Value} {below : List Frame} {meth : Method} {c : Code} {T : Tt} {V' : Vt} (C : Cx G p s m args meth c cX5_next RX5 1) (hr : meth.sig.returnType = none) {x0 : Nat} {kx243_335 : Vt → Option (Vt)} (k0 : T.1 x0 = 6) (hkx243_335 : ∀ (W1 : Vt) (H : Heap) (locs : List Loc) (ls : Array Slot), kx243_335 W1 = some V' → wS G W1 T H locs → lv_has ls 1 [] → W p l e (rmL 1 0 0) s m args below meth c H locs 0 0 (eQ G below none V' T args s 0 0) (F0 m 335 ls [])) : ∀ (n : Nat) (V1 : Vt) (H : Heap) (locs : List Loc) (ls : Array Slot), f_X5_next_L243 T x0 kx243_335 n V1 = some V' → wS G V1 T H locs → lv_has ls 1 [(0, .ref (gb G + x0))] → W p l e (rmL 1 0 0) s m args below meth c H locs 0 0 (eQ G below none V' T args s 0 0) (F0 m 243 ls []) := by
  have hx := C.1
  have hb := C.2.1
  have hown := C.2.2.2.1
  have hts := C.2.2.2.2.1
  intro n
  induction n with
  | zero =>
    intro V1 H locs ls hf
    cases hf
  | succ n ih =>
    intro V1 H locs ls hf hw hl
    unfold f_X5_next_L243 at hf
    refine lv_aload_n hx hb dX5_next_243 rfl (lv_at hl 0 rfl) ?_
    refine gf_X5_249 C hw k0 dX5_next_244 ?_
    refine lv_iconst (v := (2 : Int32)) hx hb dX5_next_247 (by decide) ?_
    refine lv_icmp_ne (tgt := 335) hx hb dX5_next_248 (by decide) (fun c38 => ?_) (fun c38 => ?_)
    · replace hf := ite_f c38 hf
      exact hkx243_335 _ _ _ _ hf hw (lv_sub hl [] rfl)
    · replace hf := ite_t c38 hf
      refine lv_aload_n hx hb dX5_next_251 rfl (lv_at hl 0 rfl) ?_
      refine gf_X5_226 C hw k0 dX5_next_252 ?_
      refine lv_aload_n hx hb dX5_next_255 rfl (lv_at hl 0 rfl) ?_
      refine gf_X5_217 C hw k0 dX5_next_256 ?_
      refine lv_icmp_ge (tgt := 335) hx hb dX5_next_259 (by decide) (fun c39 => ?_) (fun c39 => ?_)
      · replace hf := ite_t c39 hf
        exact hkx243_335 _ _ _ _ hf hw (lv_sub hl [] rfl)
      · replace hf := ite_f c39 hf
        refine lv_aload_n hx hb dX5_next_262 rfl (lv_at hl 0 rfl) ?_
        revert hf
        refine k_drf (fun r40 er40 hf => ?_)
        refine gf_X5_35 C hw k0 er40 dX5_next_263 ?_
        refine lv_aload_n hx hb dX5_next_266 rfl (lv_at hl 0 rfl) ?_
        refine gf_X5_226 C hw k0 dX5_next_267 ?_
        revert hf
        refine k_req (fun h41 hf => ?_)
        refine w_iald C hw h41 rfl dX5_next_270 ?_
        revert hf
        refine k_pcl (fun z43 h42 hf => ?_)
        refine w_afi hw (w_rS (As := [.int (V1.1 r40 (ixN (V1.1 x0 15)))]) C hw (ok_X5_isDigit h42) (cw_X5_246 hts (Nat.le_of_ble_eq_true rfl) (Nat.le_of_ble_eq_true rfl)) rfl hl.1 rfl (Nat.le_of_ble_eq_true rfl) ⟨Nat.zero_le _, Nat.zero_le _⟩ dX5_next_271) (fun H locs hw => ?_)
        refine lv_if_eq (tgt := 335) hx hb dX5_next_274 (by decide) (fun c44 => ?_) (fun c44 => ?_)
        · replace hf := ite_t c44 hf
          exact hkx243_335 _ _ _ _ hf hw (lv_sub hl [] rfl)
        · replace hf := ite_f c44 hf
          refine lv_aload_n hx hb dX5_next_277 rfl (lv_at hl 0 rfl) ?_
          refine lv_aload_n hx hb dX5_next_278 rfl (lv_at hl 0 rfl) ?_
          refine gf_X5_239 C hw k0 dX5_next_279 ?_
          refine lv_ldc2 (v := (1000000 : Int64)) hx hb hown (hts _ q1872) dX5_next_282 ?_
          refine W.lcmp hx hb dX5_next_285 ?_
          refine lv_if_le (tgt := 296) hx hb dX5_next_286 (by decide) (fun c45 => ?_) (fun c45 => ?_)
          · replace hf := ite_t c45 hf
            refine lv_aload_n hx hb dX5_next_296 rfl (lv_at hl 0 rfl) ?_
            refine gf_X5_239 C hw k0 dX5_next_297 ?_
            refine lv_ldc2 (v := (10 : Int64)) hx hb hown (hts _ q1818) dX5_next_300 ?_
            refine lv_lmul hx hb dX5_next_303 ?_
            refine lv_aload_n hx hb dX5_next_304 rfl (lv_at hl 0 rfl) ?_
            revert hf
            refine k_drf (fun r46 er46 hf => ?_)
            refine gf_X5_35 C hw k0 er46 dX5_next_305 ?_
            refine lv_aload_n hx hb dX5_next_308 rfl (lv_at hl 0 rfl) ?_
            refine gf_X5_226 C hw k0 dX5_next_309 ?_
            revert hf
            refine k_req (fun h47 hf => ?_)
            refine w_iald C hw h47 rfl dX5_next_312 ?_
            refine lv_i2l hx hb dX5_next_313 rfl ?_
            refine lv_ladd hx hb dX5_next_314 ?_
            refine lv_ldc2 (v := (48 : Int64)) hx hb hown (hts _ q1873) dX5_next_315 ?_
            refine lv_lsub hx hb dX5_next_318 ?_
            exact jk_X5_next_319 C hr k0 hf hw (lv_sub hl [0] rfl) ih hkx243_335
          · replace hf := ite_f c45 hf
            refine lv_aload_n hx hb dX5_next_289 rfl (lv_at hl 0 rfl) ?_
            refine gf_X5_239 C hw k0 dX5_next_290 ?_
            refine lv_goto (tgt := 319) hx hb dX5_next_293 (by decide) ?_
            exact jk_X5_next_319 C hr k0 hf hw (lv_sub hl [0] rfl) ih hkx243_335
set_option maxHeartbeats 4000000 in
theorem jk_X5_next_227 {l : Launch} {G : gG} {p : Program} {e : Env} {s : State} {m : MethodId} {args : Array Value} {below : List Frame} {meth : Method} {c : Code} {T : Tt} {V0 : Vt} {V' : Vt} (C : Cx G p s m args meth c cX5_next RX5 1) (hr : meth.sig.returnType = none) {x0 : Nat} {s0 : Nat} {s1 : Int64} {kc149 : Vt → Option (Vt)} {kx149_243 : Vt → Option (Vt)} {H : Heap} {locs : List Loc} {ls : Array Slot} (k0 : T.1 x0 = 6) (hf : f_X5_next_J227 T V0 x0 s0 s1 kc149 kx149_243 = some V') (hw : wS G V0 T H locs) (hl : lv_has ls 1 [(0, .ref (gb G + x0))]) (hkc149 : ∀ (W1 : Vt) (H : Heap) (locs : List Loc) (ls : Array Slot), kc149 W1 = some V' → wS G W1 T H locs → lv_has ls 1 [(0, .ref (gb G + x0))] → W p l e (rmL 1 0 0) s m args below meth c H locs 0 0 (eQ G below none V' T args s 0 0) (F0 m 149 ls [])) (hkx149_243 : ∀ (W1 : Vt) (H : Heap) (locs : List Loc) (ls : Array Slot), kx149_243 W1 = some V' → wS G W1 T H locs → lv_has ls 1 [(0, .ref (gb G + x0))] → W p l e (rmL 1 0 0) s m args below meth c H locs 0 0 (eQ G below none V' T args s 0 0) (F0 m 243 ls [])) : W p l e (rmL 1 0 0) s m args below meth c H locs 0 0 (eQ G below none V' T args s 0 0) (F0 m 227 ls [.long s1, .ref (gb G + s0)]) := by
  have hx := C.1
  have hb := C.2.1
  have hown := C.2.2.2.1
  have hts := C.2.2.2.2.1
  unfold f_X5_next_J227 at hf
  revert hf
  refine k_req (fun k32 hf => ?_)
  revert hf
  refine k_stp (fun U33 eU33 hf => ?_)
  refine pf_X5_239 C hw k32 eU33 dX5_next_227 (fun H locs hw => ?_)
  refine lv_aload_n hx hb dX5_next_230 rfl (lv_at hl 0 rfl) ?_
  refine lv_dup hx hb dX5_next_231 rfl ?_
  refine gf_X5_226 C hw k0 dX5_next_232 ?_
  refine lv_iconst (v := (1 : Int32)) hx hb dX5_next_235 (by decide) ?_
  refine lv_iadd hx hb dX5_next_236 ?_
  revert hf
  refine k_stp (fun U34 eU34 hf => ?_)
  refine pf_X5_226 C hw k0 eU34 dX5_next_237 (fun H locs hw => ?_)
  refine lv_goto (tgt := 149) hx hb dX5_next_240 (by decide) ?_
  exact hkc149 _ _ _ _ hf hw (lv_sub hl [0] rfl)
set_option maxHeartbeats 4000000 in
theorem lk_X5_next_149 {l : Launch} {G : gG} {p : Program} {e : Env} {s : State} {m : MethodId} {args : Array Value} {below : List Frame} {meth : Method} {c : Code} {T : Tt} {V' : Vt} (C : Cx G p s m args meth c cX5_next RX5 1) (hr : meth.sig.returnType = none) {x0 : Nat} {kx149_243 : Vt → Option (Vt)} (k0 : T.1 x0 = 6) (hkx149_243 : ∀ (W1 : Vt) (H : Heap) (locs : List Loc) (ls : Array Slot), kx149_243 W1 = some V' → wS G W1 T H locs → lv_has ls 1 [(0, .ref (gb G + x0))] → W p l e (rmL 1 0 0) s m args below meth c H locs 0 0 (eQ G below none V' T args s 0 0) (F0 m 243 ls [])) : ∀ (n : Nat) (V1 : Vt) (H : Heap) (locs : List Loc) (ls : Array Slot), f_X5_next_L149 T x0 kx149_243 n V1 = some V' → wS G V1 T H locs → lv_has ls 1 [(0, .ref (gb G + x0))] → W p l e (rmL 1 0 0) s m args below meth c H locs 0 0 (eQ G below none V' T args s 0 0) (F0 m 149 ls []) := by
  have hx := C.1
  have hb := C.2.1
  have hown := C.2.2.2.1
  have hts := C.2.2.2.2.1
  intro n
  induction n with
  | zero =>
    intro V1 H locs ls hf
    cases hf
  | succ n ih =>
    intro V1 H locs ls hf hw hl
    unfold f_X5_next_L149 at hf
    refine lv_aload_n hx hb dX5_next_149 rfl (lv_at hl 0 rfl) ?_
    refine gf_X5_249 C hw k0 dX5_next_150 ?_
    refine lv_iconst (v := (1 : Int32)) hx hb dX5_next_153 (by decide) ?_
    refine lv_icmp_ne (tgt := 243) hx hb dX5_next_154 (by decide) (fun c24 => ?_) (fun c24 => ?_)
    · replace hf := ite_f c24 hf
      exact hkx149_243 _ _ _ _ hf hw (lv_sub hl [0] rfl)
    · replace hf := ite_t c24 hf
      refine lv_aload_n hx hb dX5_next_157 rfl (lv_at hl 0 rfl) ?_
      refine gf_X5_226 C hw k0 dX5_next_158 ?_
      refine lv_aload_n hx hb dX5_next_161 rfl (lv_at hl 0 rfl) ?_
      refine gf_X5_217 C hw k0 dX5_next_162 ?_
      refine lv_icmp_ge (tgt := 243) hx hb dX5_next_165 (by decide) (fun c25 => ?_) (fun c25 => ?_)
      · replace hf := ite_t c25 hf
        exact hkx149_243 _ _ _ _ hf hw (lv_sub hl [0] rfl)
      · replace hf := ite_f c25 hf
        refine lv_aload_n hx hb dX5_next_168 rfl (lv_at hl 0 rfl) ?_
        revert hf
        refine k_drf (fun r26 er26 hf => ?_)
        refine gf_X5_35 C hw k0 er26 dX5_next_169 ?_
        refine lv_aload_n hx hb dX5_next_172 rfl (lv_at hl 0 rfl) ?_
        refine gf_X5_226 C hw k0 dX5_next_173 ?_
        revert hf
        refine k_req (fun h27 hf => ?_)
        refine w_iald C hw h27 rfl dX5_next_176 ?_
        revert hf
        refine k_pcl (fun z29 h28 hf => ?_)
        refine w_afi hw (w_rS (As := [.int (V1.1 r26 (ixN (V1.1 x0 15)))]) C hw (ok_X5_isSmall h28) (cw_X5_243 hts (Nat.le_of_ble_eq_true rfl) (Nat.le_of_ble_eq_true rfl)) rfl hl.1 rfl (Nat.le_of_ble_eq_true rfl) ⟨Nat.zero_le _, Nat.zero_le _⟩ dX5_next_177) (fun H locs hw => ?_)
        refine lv_if_eq (tgt := 243) hx hb dX5_next_180 (by decide) (fun c30 => ?_) (fun c30 => ?_)
        · replace hf := ite_t c30 hf
          exact hkx149_243 _ _ _ _ hf hw (lv_sub hl [0] rfl)
        · replace hf := ite_f c30 hf
          refine lv_aload_n hx hb dX5_next_183 rfl (lv_at hl 0 rfl) ?_
          refine lv_aload_n hx hb dX5_next_184 rfl (lv_at hl 0 rfl) ?_
          refine gf_X5_226 C hw k0 dX5_next_185 ?_
          refine lv_aload_n hx hb dX5_next_188 rfl (lv_at hl 0 rfl) ?_
          refine gf_X5_236 C hw k0 dX5_next_189 ?_
          refine lv_isub hx hb dX5_next_192 ?_
          refine lv_bipush (v := (10 : Int32)) hx hb dX5_next_193 (by decide) ?_
          refine lv_icmp_ge (tgt := 224) hx hb dX5_next_195 (by decide) (fun c31 => ?_) (fun c31 => ?_)
          · replace hf := ite_t c31 hf
            refine lv_ldc2 (v := ((-1) : Int64)) hx hb hown (hts _ q1784) dX5_next_224 ?_
            exact jk_X5_next_227 C hr k0 hf hw (lv_sub hl [0] rfl) ih hkx149_243
          · replace hf := ite_f c31 hf
            refine lv_aload_n hx hb dX5_next_198 rfl (lv_at hl 0 rfl) ?_
            refine gf_X5_239 C hw k0 dX5_next_199 ?_
            refine lv_ldc2 (v := (32 : Int64)) hx hb hown (hts _ q1870) dX5_next_202 ?_
            refine lv_lmul hx hb dX5_next_205 ?_
            refine lv_aload_n hx hb dX5_next_206 rfl (lv_at hl 0 rfl) ?_
            revert hf
            refine k_drf (fun r35 er35 hf => ?_)
            refine gf_X5_35 C hw k0 er35 dX5_next_207 ?_
            refine lv_aload_n hx hb dX5_next_210 rfl (lv_at hl 0 rfl) ?_
            refine gf_X5_226 C hw k0 dX5_next_211 ?_
            revert hf
            refine k_req (fun h36 hf => ?_)
            refine w_iald C hw h36 rfl dX5_next_214 ?_
            refine lv_i2l hx hb dX5_next_215 rfl ?_
            refine lv_ladd hx hb dX5_next_216 ?_
            refine lv_ldc2 (v := (96 : Int64)) hx hb hown (hts _ q1871) dX5_next_217 ?_
            refine lv_lsub hx hb dX5_next_220 ?_
            refine lv_goto (tgt := 227) hx hb dX5_next_221 (by decide) ?_
            exact jk_X5_next_227 C hr k0 hf hw (lv_sub hl [0] rfl) ih hkx149_243
set_option maxHeartbeats 4000000 in
theorem jk_X5_next_114 {l : Launch} {G : gG} {p : Program} {e : Env} {s : State} {m : MethodId} {args : Array Value} {below : List Frame} {meth : Method} {c : Code} {T : Tt} {V0 : Vt} {V' : Vt} (C : Cx G p s m args meth c cX5_next RX5 1) (hr : meth.sig.returnType = none) {x0 : Nat} {s0 : Nat} {s1 : Int32} {H : Heap} {locs : List Loc} {ls : Array Slot} (k0 : T.1 x0 = 6) (hf : f_X5_next_J114 T V0 x0 s0 s1 = some V') (hw : wS G V0 T H locs) (hl : lv_has ls 1 [(0, .ref (gb G + x0))]) : W p l e (rmL 1 0 0) s m args below meth c H locs 0 0 (eQ G below none V' T args s 0 0) (F0 m 114 ls [.int s1, .ref (gb G + s0)]) := by
  have hx := C.1
  have hb := C.2.1
  have hown := C.2.2.2.1
  have hts := C.2.2.2.2.1
  unfold f_X5_next_J114 at hf
  revert hf
  refine k_req (fun k21 hf => ?_)
  revert hf
  refine k_stp (fun U22 eU22 hf => ?_)
  refine pf_X5_249 C hw k21 eU22 dX5_next_114 (fun H locs hw => ?_)
  refine lv_aload_n hx hb dX5_next_117 rfl (lv_at hl 0 rfl) ?_
  refine gf_X5_249 C hw k0 dX5_next_118 ?_
  refine lv_iconst (v := (3 : Int32)) hx hb dX5_next_121 (by decide) ?_
  refine lv_icmp_ne (tgt := 149) hx hb dX5_next_122 (by decide) (fun c23 => ?_) (fun c23 => ?_)
  · replace hf := ite_f c23 hf
    refine lk_X5_next_149 C hr k0 (fun U37 H locs ls hf hw hl => ?_) fuel _ _ _ _ hf hw (lv_sub hl [0] rfl)
    refine lk_X5_next_243 C hr k0 (fun U51 H locs ls hf hw hl => ?_) fuel _ _ _ _ hf hw (lv_sub hl [0] rfl)
    cases hf
    exact w_vret C hr hw dX5_next_335
  · replace hf := ite_t c23 hf
    refine lv_aload_n hx hb dX5_next_125 rfl (lv_at hl 0 rfl) ?_
    refine lv_aload_n hx hb dX5_next_126 rfl (lv_at hl 0 rfl) ?_
    revert hf
    refine k_drf (fun r52 er52 hf => ?_)
    refine gf_X5_35 C hw k0 er52 dX5_next_127 ?_
    refine lv_aload_n hx hb dX5_next_130 rfl (lv_at hl 0 rfl) ?_
    refine gf_X5_236 C hw k0 dX5_next_131 ?_
    revert hf
    refine k_req (fun h53 hf => ?_)
    refine w_iald C hw h53 rfl dX5_next_134 ?_
    refine lv_i2l hx hb dX5_next_135 rfl ?_
    revert hf
    refine k_stp (fun U54 eU54 hf => ?_)
    refine pf_X5_239 C hw k0 eU54 dX5_next_136 (fun H locs hw => ?_)
    refine lv_aload_n hx hb dX5_next_139 rfl (lv_at hl 0 rfl) ?_
    refine lv_dup hx hb dX5_next_140 rfl ?_
    refine gf_X5_226 C hw k0 dX5_next_141 ?_
    refine lv_iconst (v := (1 : Int32)) hx hb dX5_next_144 (by decide) ?_
    refine lv_iadd hx hb dX5_next_145 ?_
    revert hf
    refine k_stp (fun U55 eU55 hf => ?_)
    refine pf_X5_226 C hw k0 eU55 dX5_next_146 (fun H locs hw => ?_)
    refine lk_X5_next_149 C hr k0 (fun U56 H locs ls hf hw hl => ?_) fuel _ _ _ _ hf hw (lv_sub hl [0] rfl)
    refine lk_X5_next_243 C hr k0 (fun U57 H locs ls hf hw hl => ?_) fuel _ _ _ _ hf hw (lv_sub hl [0] rfl)
    cases hf
    exact w_vret C hr hw dX5_next_335
set_option maxHeartbeats 4000000 in
theorem jk_X5_next_46 {l : Launch} {G : gG} {p : Program} {e : Env} {s : State} {m : MethodId} {args : Array Value} {below : List Frame} {meth : Method} {c : Code} {T : Tt} {V0 : Vt} {V' : Vt} (C : Cx G p s m args meth c cX5_next RX5 1) (hr : meth.sig.returnType = none) {x0 : Nat} {H : Heap} {locs : List Loc} {ls : Array Slot} (k0 : T.1 x0 = 6) (hf : f_X5_next_J46 T V0 x0 = some V') (hw : wS G V0 T H locs) (hl : lv_has ls 1 [(0, .ref (gb G + x0))]) : W p l e (rmL 1 0 0) s m args below meth c H locs 0 0 (eQ G below none V' T args s 0 0) (F0 m 46 ls []) := by
  have hx := C.1
  have hb := C.2.1
  have hown := C.2.2.2.1
  have hts := C.2.2.2.2.1
  unfold f_X5_next_J46 at hf
  refine lv_aload_n hx hb dX5_next_46 rfl (lv_at hl 0 rfl) ?_
  refine lv_aload_n hx hb dX5_next_47 rfl (lv_at hl 0 rfl) ?_
  refine gf_X5_236 C hw k0 dX5_next_48 ?_
  revert hf
  refine k_stp (fun U8 eU8 hf => ?_)
  refine pf_X5_226 C hw k0 eU8 dX5_next_51 (fun H locs hw => ?_)
  refine lv_aload_n hx hb dX5_next_54 rfl (lv_at hl 0 rfl) ?_
  refine lv_lconst (v := (0 : Int64)) hx hb dX5_next_55 (by decide) ?_
  revert hf
  refine k_stp (fun U9 eU9 hf => ?_)
  refine pf_X5_239 C hw k0 eU9 dX5_next_56 (fun H locs hw => ?_)
  refine lv_aload_n hx hb dX5_next_59 rfl (lv_at hl 0 rfl) ?_
  refine lv_aload_n hx hb dX5_next_60 rfl (lv_at hl 0 rfl) ?_
  refine gf_X5_236 C hw k0 dX5_next_61 ?_
  refine lv_aload_n hx hb dX5_next_64 rfl (lv_at hl 0 rfl) ?_
  refine gf_X5_217 C hw k0 dX5_next_65 ?_
  refine lv_icmp_ne (tgt := 75) hx hb dX5_next_68 (by decide) (fun c10 => ?_) (fun c10 => ?_)
  · replace hf := ite_f c10 hf
    refine lv_aload_n hx hb dX5_next_75 rfl (lv_at hl 0 rfl) ?_
    revert hf
    refine k_drf (fun r11 er11 hf => ?_)
    refine gf_X5_35 C hw k0 er11 dX5_next_76 ?_
    refine lv_aload_n hx hb dX5_next_79 rfl (lv_at hl 0 rfl) ?_
    refine gf_X5_236 C hw k0 dX5_next_80 ?_
    revert hf
    refine k_req (fun h12 hf => ?_)
    refine w_iald C hw h12 rfl dX5_next_83 ?_
    revert hf
    refine k_pcl (fun z14 h13 hf => ?_)
    refine w_afi hw (w_rS (As := [.int (U9.1 r11 (ixN (U9.1 x0 14)))]) C hw (ok_X5_isSmall h13) (cw_X5_243 hts (Nat.le_of_ble_eq_true rfl) (Nat.le_of_ble_eq_true rfl)) rfl hl.1 rfl (Nat.le_of_ble_eq_true rfl) ⟨Nat.zero_le _, Nat.zero_le _⟩ dX5_next_84) (fun H locs hw => ?_)
    refine lv_if_eq (tgt := 94) hx hb dX5_next_87 (by decide) (fun c15 => ?_) (fun c15 => ?_)
    · replace hf := ite_t c15 hf
      refine lv_aload_n hx hb dX5_next_94 rfl (lv_at hl 0 rfl) ?_
      revert hf
      refine k_drf (fun r16 er16 hf => ?_)
      refine gf_X5_35 C hw k0 er16 dX5_next_95 ?_
      refine lv_aload_n hx hb dX5_next_98 rfl (lv_at hl 0 rfl) ?_
      refine gf_X5_236 C hw k0 dX5_next_99 ?_
      revert hf
      refine k_req (fun h17 hf => ?_)
      refine w_iald C hw h17 rfl dX5_next_102 ?_
      revert hf
      refine k_pcl (fun z19 h18 hf => ?_)
      refine w_afi hw (w_rS (As := [.int (U9.1 r16 (ixN (U9.1 x0 14)))]) C hw (ok_X5_isDigit h18) (cw_X5_246 hts (Nat.le_of_ble_eq_true rfl) (Nat.le_of_ble_eq_true rfl)) rfl hl.1 rfl (Nat.le_of_ble_eq_true rfl) ⟨Nat.zero_le _, Nat.zero_le _⟩ dX5_next_103) (fun H locs hw => ?_)
      refine lv_if_eq (tgt := 113) hx hb dX5_next_106 (by decide) (fun c20 => ?_) (fun c20 => ?_)
      · replace hf := ite_t c20 hf
        refine lv_iconst (v := (3 : Int32)) hx hb dX5_next_113 (by decide) ?_
        exact jk_X5_next_114 C hr k0 hf hw (lv_sub hl [0] rfl)
      · replace hf := ite_f c20 hf
        refine lv_iconst (v := (2 : Int32)) hx hb dX5_next_109 (by decide) ?_
        refine lv_goto (tgt := 114) hx hb dX5_next_110 (by decide) ?_
        exact jk_X5_next_114 C hr k0 hf hw (lv_sub hl [0] rfl)
    · replace hf := ite_f c15 hf
      refine lv_iconst (v := (1 : Int32)) hx hb dX5_next_90 (by decide) ?_
      refine lv_goto (tgt := 114) hx hb dX5_next_91 (by decide) ?_
      exact jk_X5_next_114 C hr k0 hf hw (lv_sub hl [0] rfl)
  · replace hf := ite_t c10 hf
    refine lv_iconst (v := (0 : Int32)) hx hb dX5_next_71 (by decide) ?_
    refine lv_goto (tgt := 114) hx hb dX5_next_72 (by decide) ?_
    exact jk_X5_next_114 C hr k0 hf hw (lv_sub hl [0] rfl)
set_option maxHeartbeats 4000000 in
theorem lk_X5_next_8 {l : Launch} {G : gG} {p : Program} {e : Env} {s : State} {m : MethodId} {args : Array Value} {below : List Frame} {meth : Method} {c : Code} {T : Tt} {V' : Vt} (C : Cx G p s m args meth c cX5_next RX5 1) (hr : meth.sig.returnType = none) {x0 : Nat} {kx8_46 : Vt → Option (Vt)} (k0 : T.1 x0 = 6) (hkx8_46 : ∀ (W1 : Vt) (H : Heap) (locs : List Loc) (ls : Array Slot), kx8_46 W1 = some V' → wS G W1 T H locs → lv_has ls 1 [(0, .ref (gb G + x0))] → W p l e (rmL 1 0 0) s m args below meth c H locs 0 0 (eQ G below none V' T args s 0 0) (F0 m 46 ls [])) : ∀ (n : Nat) (V1 : Vt) (H : Heap) (locs : List Loc) (ls : Array Slot), f_X5_next_L8 T x0 kx8_46 n V1 = some V' → wS G V1 T H locs → lv_has ls 1 [(0, .ref (gb G + x0))] → W p l e (rmL 1 0 0) s m args below meth c H locs 0 0 (eQ G below none V' T args s 0 0) (F0 m 8 ls []) := by
  have hx := C.1
  have hb := C.2.1
  have hown := C.2.2.2.1
  have hts := C.2.2.2.2.1
  intro n
  induction n with
  | zero =>
    intro V1 H locs ls hf
    cases hf
  | succ n ih =>
    intro V1 H locs ls hf hw hl
    unfold f_X5_next_L8 at hf
    refine lv_aload_n hx hb dX5_next_8 rfl (lv_at hl 0 rfl) ?_
    refine gf_X5_236 C hw k0 dX5_next_9 ?_
    refine lv_aload_n hx hb dX5_next_12 rfl (lv_at hl 0 rfl) ?_
    refine gf_X5_217 C hw k0 dX5_next_13 ?_
    refine lv_icmp_ge (tgt := 46) hx hb dX5_next_16 (by decide) (fun c2 => ?_) (fun c2 => ?_)
    · replace hf := ite_t c2 hf
      exact hkx8_46 _ _ _ _ hf hw (lv_sub hl [0] rfl)
    · replace hf := ite_f c2 hf
      refine lv_aload_n hx hb dX5_next_19 rfl (lv_at hl 0 rfl) ?_
      revert hf
      refine k_drf (fun r3 er3 hf => ?_)
      refine gf_X5_35 C hw k0 er3 dX5_next_20 ?_
      refine lv_aload_n hx hb dX5_next_23 rfl (lv_at hl 0 rfl) ?_
      refine gf_X5_236 C hw k0 dX5_next_24 ?_
      revert hf
      refine k_req (fun h4 hf => ?_)
      refine w_iald C hw h4 rfl dX5_next_27 ?_
      refine lv_bipush (v := (32 : Int32)) hx hb dX5_next_28 (by decide) ?_
      refine lv_icmp_ne (tgt := 46) hx hb dX5_next_30 (by decide) (fun c5 => ?_) (fun c5 => ?_)
      · replace hf := ite_f c5 hf
        exact hkx8_46 _ _ _ _ hf hw (lv_sub hl [0] rfl)
      · replace hf := ite_t c5 hf
        refine lv_aload_n hx hb dX5_next_33 rfl (lv_at hl 0 rfl) ?_
        refine lv_dup hx hb dX5_next_34 rfl ?_
        refine gf_X5_236 C hw k0 dX5_next_35 ?_
        refine lv_iconst (v := (1 : Int32)) hx hb dX5_next_38 (by decide) ?_
        refine lv_iadd hx hb dX5_next_39 ?_
        revert hf
        refine k_stp (fun U6 eU6 hf => ?_)
        refine pf_X5_236 C hw k0 eU6 dX5_next_40 (fun H locs hw => ?_)
        refine lv_goto (tgt := 8) hx hb dX5_next_43 (by decide) ?_
        exact ih _ _ _ _ hf hw (lv_sub hl [0] rfl)
set_option maxHeartbeats 4000000 in
theorem ok_X5_next {l : Launch} {G : gG} {T : Tt} {V0 : Vt} {o : Nat} {V' : Vt} (hf : f_X5_next T V0 o = some V') : okM l G yX5_next cX5_next 1 none 1 [.ref (gb G + o)] V0 T none V' T 0 0 := by
  refine ok_intro (by decide) (Nat.le_of_ble_eq_true rfl) ?_
  intro p e s m below meth c ls C hr hnm hw hl
  have hx := C.1
  have hb := C.2.1
  have hown := C.2.2.2.1
  have hts := C.2.2.2.2.1
  have hl : lv_has ls 1 [(0, .ref (gb G + o))] := hl
  unfold f_X5_next at hf
  revert hf
  refine k_req (fun k0 hf => ?_)
  refine lv_aload_n hx hb dX5_next_0 rfl (lv_at hl 0 rfl) ?_
  refine lv_aload_n hx hb dX5_next_1 rfl (lv_at hl 0 rfl) ?_
  refine gf_X5_226 C hw k0 dX5_next_2 ?_
  revert hf
  refine k_stp (fun U1 eU1 hf => ?_)
  refine pf_X5_236 C hw k0 eU1 dX5_next_5 (fun H locs hw => ?_)
  refine lk_X5_next_8 C hr k0 (fun U7 H locs ls hf hw hl => ?_) fuel _ _ _ _ hf hw (lv_sub hl [0] rfl)
  exact jk_X5_next_46 C hr k0 hf hw (lv_sub hl [0] rfl)
