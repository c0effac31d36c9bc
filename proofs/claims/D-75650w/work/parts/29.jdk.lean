/-! the JDK's own: Arrays.copyOf of an Object array, Exception's constructor without traces -/
set_option maxRecDepth 100000
def f_J12_copyOf (T : Tt) (V0 : Vt) (a0 : Nat) (a1 : Int32) : Option ((Nat × Vt × Tt) × Nat × Nat) :=
  req (T.1 a0 = 104) (req (¬ a1 < 0 ∧ ixN a1 ≤ 100000) (inc 1 (ixN a1) (stp T.2.2 (fun q1 => stp (zV V0 q1) (fun U2 => stp (aT T 104 (ixN a1)) (fun T3 => req (T3.1 a0 = 104) (req (cpIn T3 4 a0 q1 (0 : Int32) (0 : Int32) (if a1 < nI (T3.2.1 a0) then a1 else nI (T3.2.1 a0))) (req (okEl U2 T3 a0 (ixN (0 : Int32)) (ixN (if a1 < nI (T3.2.1 a0) then a1 else nI (T3.2.1 a0))) = true) (stp (cpR U2 a0 (ixN (0 : Int32)) q1 (ixN (0 : Int32)) (ixN (if a1 < nI (T3.2.1 a0) then a1 else nI (T3.2.1 a0)))) (fun U4 => some ((q1, U4, T3), 0, 0)))))))))))
theorem mi_ex {G : gG} (h : GF G) : ∃ mi : Nat, va_Mi "[Ljava/lang/Object;" mi G.2.2 := by
  obtain ⟨b, -, h2⟩ := h.2
  exact va_Mi.of (flat_of_before _ h2.1 _ (by decide +kernel))
set_option maxHeartbeats 4000000 in
theorem ok_J12_copyOf_2 {l : Launch} {G : gG} {T : Tt} {V0 : Vt} {a0 : Nat} {a1 : Int32} {r : Nat} {V' : Vt} {T' : Tt} {n k mi : Nat} (hmi : va_Mi "[Ljava/lang/Object;" mi G.2.2) (hf : f_J12_copyOf T V0 a0 a1 = some ((r, V', T'), n, k)) : okM l G yJ12_copyOf_2 cJ12_copyOf_2 4 (some (.array (.object "java/lang/Object"))) 1 [.ref (gb G + a0), .int a1, .ref mi] V0 T (some (.ref (gb G + r))) V' T' n k := by
  refine ok_intro (by decide) (Nat.le_of_ble_eq_true rfl) ?_
  intro p e s m below meth c ls C hr hnm hw hl
  have hx := C.1
  have hb := C.2.1
  have hown := C.2.2.2.1
  have hts := C.2.2.2.2.1
  have hl : lv_has ls 4 [(0, .ref (gb G + a0)), (1, .int a1), (2, .ref mi)] := hl
  unfold f_J12_copyOf at hf
  obtain ⟨k0, hf⟩ := of_req hf
  have hMi : va_Mi "[Ljava/lang/Object;" mi s := hmi.moved C.2.2.2.2.2.2.2.2.alike
  refine lv_aload_n hx hb dJ12_copyOf_2_0 rfl (lv_at hl 2 rfl) ?_
  refine va_ldcM hx hb hown (hts _ q511) hMi dJ12_copyOf_2_1 ?_
  refine lv_acmp_ne (rx := some mi) (ry := some mi) (tgt := 13) hx hb dJ12_copyOf_2_3 (by decide) (fun h => absurd rfl h) (fun _ => ?_)
  refine lv_iload_n hx hb dJ12_copyOf_2_6 rfl (lv_at hl 1 rfl) ?_
  obtain ⟨hN, hf⟩ := of_req hf
  obtain ⟨n1, k1, hf, en, ek⟩ := of_inc hf
  obtain ⟨q1, eq1, hf⟩ := of_stp hf
  obtain ⟨U2, eU2, hf⟩ := of_stp hf
  obtain ⟨T3, eT3, hf⟩ := of_stp hf
  refine w_anew (t := 4) C hw (by decide) (by decide) rfl q512 q215 hN.1 hN.2 (by show _ ≤ n; omega) (by show _ ≤ k; omega) eq1 eU2 eT3 dJ12_copyOf_2_7 (fun H hw => ?_)
  refine lv_goto (tgt := 24) hx hb dJ12_copyOf_2_10 (by decide) ?_
  refine lv_astore_n (lv' := [(3, .ref (gb G + q1)), (0, .ref (gb G + a0)), (1, .int a1), (2, .ref mi)]) hx hb dJ12_copyOf_2_24 rfl hl (by decide) rfl (fun ls hl => ?_)
  refine lv_aload_n hx hb dJ12_copyOf_2_25 rfl (lv_at hl 1 rfl) ?_
  refine lv_iconst (v := (0 : Int32)) hx hb dJ12_copyOf_2_26 (by decide) ?_
  refine lv_aload_n hx hb dJ12_copyOf_2_27 rfl (lv_at hl 0 rfl) ?_
  refine lv_iconst (v := (0 : Int32)) hx hb dJ12_copyOf_2_28 (by decide) ?_
  refine lv_aload_n hx hb dJ12_copyOf_2_29 rfl (lv_at hl 1 rfl) ?_
  obtain ⟨k3, hf⟩ := of_req hf
  refine w_alen (t := 4) C hw (by decide) k3 dJ12_copyOf_2_30 ?_
  refine lv_iload_n hx hb dJ12_copyOf_2_31 rfl (lv_at hl 2 rfl) ?_
  refine va_mmin hx hb (C.2.2.1.trans hl.1.symm) hown (hts _ q513) (hts _ q514) (hts _ q145) (hts _ q515) (Nat.le_of_ble_eq_true rfl) (Nat.le_of_ble_eq_true rfl) (by show _ ≤ n; omega) (by show _ ≤ k; omega) dJ12_copyOf_2_32 ?_
  obtain ⟨h5, hf⟩ := of_req hf
  obtain ⟨h6, hf⟩ := of_req hf
  obtain ⟨U4, eU4, hf⟩ := of_stp hf
  refine w_copyR C hl.1 hw q516 h5 h6 (Nat.le_of_ble_eq_true rfl) (Nat.le_of_ble_eq_true rfl) eU4 dJ12_copyOf_2_35 (fun H locs hw => ?_)
  refine lv_aload_n hx hb dJ12_copyOf_2_38 rfl (lv_at hl 0 rfl) ?_
  cases hf
  obtain rfl : n = 0 + 1 := by omega
  obtain rfl : k = 0 + ixN a1 := by omega
  exact w_aret C hr (Or.inr ⟨_, rfl⟩) (Or.inr ⟨_, rfl⟩) hw dJ12_copyOf_2_39
set_option maxHeartbeats 4000000 in
theorem ok_J12_copyOf {l : Launch} {G : gG} {T : Tt} {V0 : Vt} {a0 : Nat} {a1 : Int32} {r : Nat} {V' : Vt} {T' : Tt} {n k : Nat} (hf : f_J12_copyOf T V0 a0 a1 = some ((r, V', T'), n, k)) : okM l G yJ12_copyOf cJ12_copyOf 2 (some (.array (.object "java/lang/Object"))) 3 [.ref (gb G + a0), .int a1] V0 T (some (.ref (gb G + r))) V' T' n k := by
  refine ok_intro (by decide) (Nat.le_of_ble_eq_true rfl) ?_
  intro p e s m below meth c ls C hr hnm hw hl
  have hx := C.1
  have hb := C.2.1
  have hown := C.2.2.2.1
  have hts := C.2.2.2.2.1
  have hl : lv_has ls 2 [(0, .ref (gb G + a0)), (1, .int a1)] := hl
  have k0 : T.1 a0 = 104 := (of_req (show req _ _ = _ from hf)).1
  obtain ⟨mi, hmi⟩ := mi_ex C.2.2.2.2.2.2.2.1
  have hMi : va_Mi "[Ljava/lang/Object;" mi s := hmi.moved C.2.2.2.2.2.2.2.2.alike
  refine lv_aload_n hx hb dJ12_copyOf_0 rfl (lv_at hl 0 rfl) ?_
  refine lv_iload_n hx hb dJ12_copyOf_1 rfl (lv_at hl 1 rfl) ?_
  refine lv_aload_n hx hb dJ12_copyOf_2 rfl (lv_at hl 0 rfl) ?_
  have hra : va_RA s (G.2.1 4) (.object "java/lang/Object") := (C.2.2.2.2.2.1.2 4 _ (tysG_at G (by decide))).2
  refine va_getC hx hb (C.2.2.1.trans hl.1.symm) hown (hts _ q484) (va_Nw.use rfl (C.2.2.2.2.2.2.2.nd q2272)) (hts _ q2271) (hts _ q485) (hts _ q507) hMi ⟨_, wP_arr hw (t := 4) k0, rfl, va_nmO hra rfl⟩ (Nat.le_of_ble_eq_true rfl) (Nat.le_of_ble_eq_true rfl) dJ12_copyOf_3 ?_
  refine w_afr hw (w_rS (As := [.ref (gb G + a0), .int a1, .ref mi]) C hw (ok_J12_copyOf_2 hmi hf) (va_cwS 3 hts (lw_S q508 q509 q162 q510) rfl rfl rfl (by decide +kernel) ⟨Nat.le_of_ble_eq_true rfl, Nat.le_of_ble_eq_true rfl⟩) rfl hl.1 rfl (Nat.le_of_ble_eq_true rfl) ⟨by show 0 + n ≤ n; omega, by show 0 + k ≤ k; omega⟩ dJ12_copyOf_6) (fun H locs hw => ?_)
  rw [Nat.zero_add, Nat.zero_add]
  exact w_aret C hr (Or.inr ⟨_, rfl⟩) (Or.inr ⟨_, rfl⟩) hw dJ12_copyOf_9
