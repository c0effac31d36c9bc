/-! Exception's constructor, without suppression and stack trace: what our memory keeps of the cell stays -/
set_option maxRecDepth 100000
def f_J4_init (T : Tt) (V0 : Vt) (o : Nat) (a0 a1 : Int32) : Option Unit := req (T.1 o = 5 ∨ T.1 o = 8) (req (a0 = 0 ∧ a1 = 0) (some ()))
section JEX
variable {p : Program} {l : Launch} {e : Env} {R : Room} {s : State} {m : MethodId} {args : Array Value} {below : List Frame} {meth : Method} {c : Code} {H : Heap} {locs : List Loc} {cells slots : Nat} {Q : State → Prop}
variable {cc : ByteArray} {pc : Nat} {ls : Array Slot} {rest : List Value} {G : gG} {V V' : Vt} {T T' : Tt} {own : String} {nL a : Nat}
theorem w_putU (C : Cx G p s m args meth c cc own nL) (hw : wS G V T H locs) {ci index k : Nat} {Cn ref : String} {Tb : u_T} {N : Nat} (hc : vwCl[ci]? = some (Cn, Tb, N)) (h9 : ci < 99) (hk : k < N) (hin : ∀ w ∈ u_ws Cn Tb N, w ∈ lw_all) (ty0 : Nat → FieldType) (hty : ∀ k, k < N → parseFieldDescriptor (Tb k).2.2.1 = some (ty0 k)) (hnm : ∀ a, a < N → ∀ b, b < N → a ≠ b → (Tb a).2.1 ≠ (Tb b).2.1) (hlink : Cond.fieldLink own index ref (Tb k).2.1 (Tb k).2.2.1 ∈ lw_all) (hsame : ∀ x, s.fieldFound? (Tb k).1 (Tb k).2.1 (Tb k).2.2.1 = some x → s.fieldFound? ref (Tb k).2.1 (Tb k).2.2.1 = some x)
    (hfin : (Tb k).2.2.2 = false) {v : Value} (hn : narrow (ty0 k) v = v) (hfit : fits (ty0 k) v = true) (htag : layF ci k = 3)
    (ha : T.1 a = ci + 1) (hdg : decode cc pc = .ok (.putfield index, 3))
    (kk : ∀ (H1 : Heap) (locs1 : List Loc), wS G V T H1 locs1 → W p l e R s m args below meth c H1 locs1 cells slots Q (F0 m (pc + 3) ls rest)) : W p l e R s m args below meth c H locs cells slots Q (F0 m pc ls (v :: .ref (gb G + a) :: rest)) := by
  obtain ⟨hx, hb, -, hown, hts, hK, -⟩ := C
  have hap := va_apart (own := own) hts hin ty0 hty hnm hK hc
  obtain ⟨F, hF, cell, q1, q2, q3, q4⟩ := wP_obj hw hc ha h9
  obtain ⟨hS, hfc, kC, hkC, hkind⟩ := hK.1 ci _ hc
  obtain ⟨cf, kf, fi, f, hi, hsl⟩ := hS k hk
  have hlay := hts _ (hin _ (u_in_lay hk))
  unfold u_lay at hlay
  rw [if_neg (by rw [hfin]; decide)] at hlay
  have hst := (u_facts hfc hkC (u_lays hts hin hk) hi).1
  have h6 := u_store hfc hkC hkind hlay hi (hty k hk) hn hfit
  refine W.putK hx hb (f := f) ⟨hown, hts _ hlink, ⟨_, _, _, hsame _ hi⟩, hst⟩ (by rw [q2]; exact h6) q1 q3 (by rw [hsl]; exact k2_hasslot (q4 k hk)) rfl rfl hdg fun H' e1 e2 e3 => ?_
  rw [hsl] at e1 ⊢
  refine kk H' _ (hw.locs (hw.1.put e2 e3 (fun _ _ => ⟨rfl, rfl, rfl⟩) ⟨fun c' g1 g2 => ?_, fun t ht => by omega⟩))
  obtain rfl : c' = ci := by omega
  refine ⟨_, updV F k v, hc, fun j hj ht => ?_, ⟨_, e1, q2, q3, t_set q4 hap hk v⟩⟩
  have ej : j ≠ k := fun h => ht (by rw [h]; exact htag)
  rw [← hF j hj ht]; simp [updV, ej]
theorem pu_7 (C : Cx G p s m args meth c cc RJ3 nL) (hw : wS G V T H locs) {v : Value} (hv : v = .null ∨ ∃ x, v = .ref x) (ha : T.1 a = 5 ∨ T.1 a = 8) (hdg : decode cc pc = .ok (.putfield 7, 3))
    (kk : ∀ (H1 : Heap) (locs1 : List Loc), wS G V T H1 locs1 → W p l e R s m args below meth c H1 locs1 cells slots Q (F0 m (pc + 3) ls rest)) : W p l e R s m args below meth c H locs cells slots Q (F0 m pc ls (v :: .ref (gb G + a) :: rest)) := by
  rcases hv with rfl | ⟨x, rfl⟩ <;> rcases ha with ha | ha
  · exact w_putU (ci := 4) C hw rfl (by decide) (by decide : 0 < 6) in_X4 tyX4 tyX4_ok nmX4 q338 (fun _ h => h) rfl rfl rfl rfl ha hdg kk
  · exact w_putU (ci := 7) C hw rfl (by decide) (by decide : 0 < 7) in_X8 tyX8 tyX8_ok nmX8 q338 (fun _ h => h) rfl rfl rfl rfl ha hdg kk
  · exact w_putU (ci := 4) C hw rfl (by decide) (by decide : 0 < 6) in_X4 tyX4 tyX4_ok nmX4 q338 (fun _ h => h) rfl rfl rfl rfl ha hdg kk
  · exact w_putU (ci := 7) C hw rfl (by decide) (by decide : 0 < 7) in_X8 tyX8 tyX8_ok nmX8 q338 (fun _ h => h) rfl rfl rfl rfl ha hdg kk
theorem pu_17 (C : Cx G p s m args meth c cc RJ3 nL) (hw : wS G V T H locs) {v : Value} (hv : v = .null ∨ ∃ x, v = .ref x) (ha : T.1 a = 5 ∨ T.1 a = 8) (hdg : decode cc pc = .ok (.putfield 17, 3))
    (kk : ∀ (H1 : Heap) (locs1 : List Loc), wS G V T H1 locs1 → W p l e R s m args below meth c H1 locs1 cells slots Q (F0 m (pc + 3) ls rest)) : W p l e R s m args below meth c H locs cells slots Q (F0 m pc ls (v :: .ref (gb G + a) :: rest)) := by
  rcases hv with rfl | ⟨x, rfl⟩ <;> rcases ha with ha | ha
  · exact w_putU (ci := 4) C hw rfl (by decide) (by decide : 1 < 6) in_X4 tyX4 tyX4_ok nmX4 q339 (fun _ h => h) rfl rfl rfl rfl ha hdg kk
  · exact w_putU (ci := 7) C hw rfl (by decide) (by decide : 1 < 7) in_X8 tyX8 tyX8_ok nmX8 q339 (fun _ h => h) rfl rfl rfl rfl ha hdg kk
  · exact w_putU (ci := 4) C hw rfl (by decide) (by decide : 1 < 6) in_X4 tyX4 tyX4_ok nmX4 q339 (fun _ h => h) rfl rfl rfl rfl ha hdg kk
  · exact w_putU (ci := 7) C hw rfl (by decide) (by decide : 1 < 7) in_X8 tyX8 tyX8_ok nmX8 q339 (fun _ h => h) rfl rfl rfl rfl ha hdg kk
theorem pu_24 (C : Cx G p s m args meth c cc RJ3 nL) (hw : wS G V T H locs) {v : Value} (hv : v = .null ∨ ∃ x, v = .ref x) (ha : T.1 a = 5 ∨ T.1 a = 8) (hdg : decode cc pc = .ok (.putfield 24, 3))
    (kk : ∀ (H1 : Heap) (locs1 : List Loc), wS G V T H1 locs1 → W p l e R s m args below meth c H1 locs1 cells slots Q (F0 m (pc + 3) ls rest)) : W p l e R s m args below meth c H locs cells slots Q (F0 m pc ls (v :: .ref (gb G + a) :: rest)) := by
  rcases hv with rfl | ⟨x, rfl⟩ <;> rcases ha with ha | ha
  · exact w_putU (ci := 4) C hw rfl (by decide) (by decide : 2 < 6) in_X4 tyX4 tyX4_ok nmX4 q340 (fun _ h => h) rfl rfl rfl rfl ha hdg kk
  · exact w_putU (ci := 7) C hw rfl (by decide) (by decide : 2 < 7) in_X8 tyX8 tyX8_ok nmX8 q340 (fun _ h => h) rfl rfl rfl rfl ha hdg kk
  · exact w_putU (ci := 4) C hw rfl (by decide) (by decide : 2 < 6) in_X4 tyX4 tyX4_ok nmX4 q340 (fun _ h => h) rfl rfl rfl rfl ha hdg kk
  · exact w_putU (ci := 7) C hw rfl (by decide) (by decide : 2 < 7) in_X8 tyX8 tyX8_ok nmX8 q340 (fun _ h => h) rfl rfl rfl rfl ha hdg kk
theorem pu_31 (C : Cx G p s m args meth c cc RJ3 nL) (hw : wS G V T H locs) {v : Value} (hv : v = .null ∨ ∃ x, v = .ref x) (ha : T.1 a = 5 ∨ T.1 a = 8) (hdg : decode cc pc = .ok (.putfield 31, 3))
    (kk : ∀ (H1 : Heap) (locs1 : List Loc), wS G V T H1 locs1 → W p l e R s m args below meth c H1 locs1 cells slots Q (F0 m (pc + 3) ls rest)) : W p l e R s m args below meth c H locs cells slots Q (F0 m pc ls (v :: .ref (gb G + a) :: rest)) := by
  rcases hv with rfl | ⟨x, rfl⟩ <;> rcases ha with ha | ha
  · exact w_putU (ci := 4) C hw rfl (by decide) (by decide : 3 < 6) in_X4 tyX4 tyX4_ok nmX4 q337 (fun _ h => h) rfl rfl rfl rfl ha hdg kk
  · exact w_putU (ci := 7) C hw rfl (by decide) (by decide : 3 < 7) in_X8 tyX8 tyX8_ok nmX8 q337 (fun _ h => h) rfl rfl rfl rfl ha hdg kk
  · exact w_putU (ci := 4) C hw rfl (by decide) (by decide : 3 < 6) in_X4 tyX4 tyX4_ok nmX4 q337 (fun _ h => h) rfl rfl rfl rfl ha hdg kk
  · exact w_putU (ci := 7) C hw rfl (by decide) (by decide : 3 < 7) in_X8 tyX8 tyX8_ok nmX8 q337 (fun _ h => h) rfl rfl rfl rfl ha hdg kk
theorem zUS {V0 : Vt} (h0 : wS G V0 T s.heap []) (hK : KX G s) : va_Zq "java/lang/Throwable" "UNASSIGNED_STACK" "[Ljava/lang/StackTraceElement;" (oA G) s s.heap := by
  obtain ⟨b, h1, h2, -⟩ := hK.1.2
  exact ((va_Zqof (h1 _ q314) (h1 _ (lw_all_tbl q139)) (flat_of_before _ h2 _ (by decide +kernel)) (fun a h h9 => absurd h (Nat.not_lt.mpr h9))).kept (old_kept h0)).moved hK.2.alike
theorem zSS {V0 : Vt} (h0 : wS G V0 T s.heap []) (hK : KX G s) : va_Zq "java/lang/Throwable" "SUPPRESSED_SENTINEL" "Ljava/util/List;" (oA G) s s.heap := by
  obtain ⟨b, h1, h2, -⟩ := hK.1.2
  exact ((va_Zqof (h1 _ q316) (h1 _ (lw_all_tbl q139)) (flat_of_before _ h2 _ (by decide +kernel)) (fun a h h9 => absurd h (Nat.not_lt.mpr h9))).kept (old_kept h0)).moved hK.2.alike
theorem w_getsQ {C0 n d ref : String} {index : Nat} (C : Cx G p s m args meth c cc own nL) (hz : va_Zq C0 n d (oA G) s s.heap) (hS : va_S (oA G) s.heap H locs) (hlink : Cond.fieldLink own index ref n d ∈ lw_all) (hsame : ∀ x, s.fieldFound? C0 n d = some x → s.fieldFound? ref n d = some x) (hdg : decode cc pc = .ok (.getstatic index, 3))
    (kk : ∀ v : Value, (v = .null ∨ ∃ x, v = .ref x) → W p l e R s m args below meth c H locs cells slots Q (F0 m (pc + 3) ls (v :: rest))) : W p l e R s m args below meth c H locs cells slots Q (F0 m pc ls rest) := by
  rcases hz with hz | ⟨t, hz⟩
  · exact va_gets C.1 C.2.1 hz hS C.2.2.2.1 (C.2.2.2.2.1 _ hlink) hsame hdg (kk _ (Or.inl rfl))
  · exact va_gets C.1 C.2.1 hz hS C.2.2.2.1 (C.2.2.2.2.1 _ hlink) hsame hdg (kk _ (Or.inr ⟨t, rfl⟩))
end JEX
set_option maxHeartbeats 4000000 in
theorem ok_J3_init_2 {l : Launch} {G : gG} {T : Tt} {V0 : Vt} {o : Nat} (ho : T.1 o = 5 ∨ T.1 o = 8) : okM l G yJ3_init_2 cJ3_init_2 5 none 2 [.ref (gb G + o), .null, .null, .int 0, .int 0] V0 T none V0 T 0 0 := by
  refine ok_intro (by decide) (Nat.le_of_ble_eq_true rfl) ?_
  intro p e s m below meth c ls C hr hnm hw0 hl
  have hx := C.1
  have hb := C.2.1
  have hown := C.2.2.2.1
  have hts := C.2.2.2.2.1
  have hw := hw0
  have hl : lv_has ls 5 [(0, .ref (gb G + o)), (1, .null), (2, .null), (3, .int 0), (4, .int 0)] := hl
  refine lv_aload_n hx hb dJ3_init_2_0 rfl (lv_at hl 0 rfl) ?_
  refine W.objInit hx hb hown (hts _ q312) (hts _ q174) (hts _ q175) rfl (by rw [C.2.2.1]; exact hl.1) rfl dJ3_init_2_1 (Nat.le_of_ble_eq_true rfl) (Nat.le_of_ble_eq_true rfl) ?_
  refine W.eq (g2 := F0 m 4 ls []) rfl ?_
  refine lv_aload_n hx hb dJ3_init_2_4 rfl (lv_at hl 0 rfl) ?_
  refine lv_aload_n hx hb dJ3_init_2_5 rfl (lv_at hl 0 rfl) ?_
  refine pu_7 C hw (Or.inr ⟨_, rfl⟩) ho dJ3_init_2_6 (fun H locs hw => ?_)
  refine lv_aload_n hx hb dJ3_init_2_9 rfl (lv_at hl 0 rfl) ?_
  refine w_getsQ C (zUS hw0 C.2.2.2.2.2.2.2) (vS_of hw0 hw) q313 (fun _ h => h) dJ3_init_2_10 (fun v1 hv1 => ?_)
  refine pu_17 C hw hv1 ho dJ3_init_2_13 (fun H locs hw => ?_)
  refine lv_aload_n hx hb dJ3_init_2_16 rfl (lv_at hl 0 rfl) ?_
  refine w_getsQ C (zSS hw0 C.2.2.2.2.2.2.2) (vS_of hw0 hw) q315 (fun _ h => h) dJ3_init_2_17 (fun v2 hv2 => ?_)
  refine pu_24 C hw hv2 ho dJ3_init_2_20 (fun H locs hw => ?_)
  refine lv_iload hx hb dJ3_init_2_23 (lv_at hl 4 rfl) ?_
  refine lv_if_eq (tgt := 36) hx hb dJ3_init_2_25 (by decide) (fun _ => ?_) (fun c1 => absurd rfl c1)
  refine lv_aload_n hx hb dJ3_init_2_36 rfl (lv_at hl 0 rfl) ?_
  refine lv_null hx hb dJ3_init_2_37 ?_
  refine pu_17 C hw (Or.inl rfl) ho dJ3_init_2_38 (fun H locs hw => ?_)
  refine lv_aload_n hx hb dJ3_init_2_41 rfl (lv_at hl 0 rfl) ?_
  refine lv_aload_nN hx hb dJ3_init_2_42 rfl (lv_at hl 1 rfl) ?_
  refine pu_31 C hw (Or.inl rfl) ho dJ3_init_2_43 (fun H locs hw => ?_)
  refine lv_aload_n hx hb dJ3_init_2_46 rfl (lv_at hl 0 rfl) ?_
  refine lv_aload_nN hx hb dJ3_init_2_47 rfl (lv_at hl 2 rfl) ?_
  refine pu_7 C hw (Or.inl rfl) ho dJ3_init_2_48 (fun H locs hw => ?_)
  refine lv_iload_n hx hb dJ3_init_2_51 rfl (lv_at hl 3 rfl) ?_
  refine lv_if_ne (tgt := 60) hx hb dJ3_init_2_52 (by decide) (fun c1 => absurd rfl c1) (fun _ => ?_)
  refine lv_aload_n hx hb dJ3_init_2_55 rfl (lv_at hl 0 rfl) ?_
  refine lv_null hx hb dJ3_init_2_56 ?_
  refine pu_24 C hw (Or.inl rfl) ho dJ3_init_2_57 (fun H locs hw => ?_)
  exact w_vret C hr hw dJ3_init_2_60
set_option maxHeartbeats 4000000 in
theorem ok_J4_init {l : Launch} {G : gG} {T : Tt} {V0 : Vt} {o : Nat} {a0 a1 : Int32} {r : Unit} (hf : f_J4_init T V0 o a0 a1 = some r) : okM l G yJ4_init cJ4_init 5 none 3 [.ref (gb G + o), .null, .null, .int a0, .int a1] V0 T none V0 T 0 0 := by
  obtain ⟨ho, hf⟩ := of_req hf
  obtain ⟨⟨rfl, rfl⟩, -⟩ := of_req hf
  refine ok_intro (by decide) (Nat.le_of_ble_eq_true rfl) ?_
  intro p e s m below meth c ls C hr hnm hw hl
  have hx := C.1
  have hb := C.2.1
  have hown := C.2.2.2.1
  have hts := C.2.2.2.2.1
  have hl : lv_has ls 5 [(0, .ref (gb G + o)), (1, .null), (2, .null), (3, .int 0), (4, .int 0)] := hl
  refine lv_aload_n hx hb dJ4_init_0 rfl (lv_at hl 0 rfl) ?_
  refine lv_aload_nN hx hb dJ4_init_1 rfl (lv_at hl 1 rfl) ?_
  refine lv_aload_nN hx hb dJ4_init_2 rfl (lv_at hl 2 rfl) ?_
  refine lv_iload_n hx hb dJ4_init_3 rfl (lv_at hl 3 rfl) ?_
  refine lv_iload hx hb dJ4_init_4 (lv_at hl 4 rfl) ?_
  refine w_afv hw (w_rI (As := [.null, .null, .int 0, .int 0]) C hw (ok_J3_init_2 ho) (cw_J4_16 hts (Nat.le_of_ble_eq_true rfl) (Nat.le_of_ble_eq_true rfl)) rfl hl.1 rfl (Nat.le_of_ble_eq_true rfl) ⟨Nat.zero_le _, Nat.zero_le _⟩ dJ4_init_6) (fun H locs hw => ?_)
  exact w_vret C hr hw dJ4_init_9
