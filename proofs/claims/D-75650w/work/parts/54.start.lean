set_option maxRecDepth 100000
theorem all_strs {s : State} {b : Nat} (hts : ∀ w ∈ lw_tbl, w.before #[Value.ref b] s = true) (hgv : (Jvm.Cond.and given_1 narrow_1).before #[Value.ref b] s = true) : ∃ ad : Nat → Nat, ∀ (k : Nat) (q : String × Nat × String × List Int32), strL[k]? = some q → strP q (ad k) s := by
  have h : ∀ k : Nat, ∃ a, ∀ q, strL[k]? = some q → strP q a s := by
    intro k
    rcases k with _ | _ | _ | _ | _ | _ | _ | _ | _ | _ | _ | _ | _ | _ | _ | _ | _ | _ | _ | _ | _ | _ | _ | _ | _ | _ | _ | _ | _ | _ | _ | _ | _ | _ | _ | _ | _ | _ | _ | _ | _ | _ | k
    · obtain ⟨a, h⟩ := str_0 hts hgv
      exact ⟨a, fun q hq => by cases hq; exact h⟩
    · obtain ⟨a, h⟩ := str_1 hts hgv
      exact ⟨a, fun q hq => by cases hq; exact h⟩
    · obtain ⟨a, h⟩ := str_2 hts hgv
      exact ⟨a, fun q hq => by cases hq; exact h⟩
    · obtain ⟨a, h⟩ := str_3 hts hgv
      exact ⟨a, fun q hq => by cases hq; exact h⟩
    · obtain ⟨a, h⟩ := str_4 hts hgv
      exact ⟨a, fun q hq => by cases hq; exact h⟩
    · obtain ⟨a, h⟩ := str_5 hts hgv
      exact ⟨a, fun q hq => by cases hq; exact h⟩
    · obtain ⟨a, h⟩ := str_6 hts hgv
      exact ⟨a, fun q hq => by cases hq; exact h⟩
    · obtain ⟨a, h⟩ := str_7 hts hgv
      exact ⟨a, fun q hq => by cases hq; exact h⟩
    · obtain ⟨a, h⟩ := str_8 hts hgv
      exact ⟨a, fun q hq => by cases hq; exact h⟩
    · obtain ⟨a, h⟩ := str_9 hts hgv
      exact ⟨a, fun q hq => by cases hq; exact h⟩
    · obtain ⟨a, h⟩ := str_10 hts hgv
      exact ⟨a, fun q hq => by cases hq; exact h⟩
    · obtain ⟨a, h⟩ := str_11 hts hgv
      exact ⟨a, fun q hq => by cases hq; exact h⟩
    · obtain ⟨a, h⟩ := str_12 hts hgv
      exact ⟨a, fun q hq => by cases hq; exact h⟩
    · obtain ⟨a, h⟩ := str_13 hts hgv
      exact ⟨a, fun q hq => by cases hq; exact h⟩
    · obtain ⟨a, h⟩ := str_14 hts hgv
      exact ⟨a, fun q hq => by cases hq; exact h⟩
    · obtain ⟨a, h⟩ := str_15 hts hgv
      exact ⟨a, fun q hq => by cases hq; exact h⟩
    · obtain ⟨a, h⟩ := str_16 hts hgv
      exact ⟨a, fun q hq => by cases hq; exact h⟩
    · obtain ⟨a, h⟩ := str_17 hts hgv
      exact ⟨a, fun q hq => by cases hq; exact h⟩
    · obtain ⟨a, h⟩ := str_18 hts hgv
      exact ⟨a, fun q hq => by cases hq; exact h⟩
    · obtain ⟨a, h⟩ := str_19 hts hgv
      exact ⟨a, fun q hq => by cases hq; exact h⟩
    · obtain ⟨a, h⟩ := str_20 hts hgv
      exact ⟨a, fun q hq => by cases hq; exact h⟩
    · obtain ⟨a, h⟩ := str_21 hts hgv
      exact ⟨a, fun q hq => by cases hq; exact h⟩
    · obtain ⟨a, h⟩ := str_22 hts hgv
      exact ⟨a, fun q hq => by cases hq; exact h⟩
    · obtain ⟨a, h⟩ := str_23 hts hgv
      exact ⟨a, fun q hq => by cases hq; exact h⟩
    · obtain ⟨a, h⟩ := str_24 hts hgv
      exact ⟨a, fun q hq => by cases hq; exact h⟩
    · obtain ⟨a, h⟩ := str_25 hts hgv
      exact ⟨a, fun q hq => by cases hq; exact h⟩
    · obtain ⟨a, h⟩ := str_26 hts hgv
      exact ⟨a, fun q hq => by cases hq; exact h⟩
    · obtain ⟨a, h⟩ := str_27 hts hgv
      exact ⟨a, fun q hq => by cases hq; exact h⟩
    · obtain ⟨a, h⟩ := str_28 hts hgv
      exact ⟨a, fun q hq => by cases hq; exact h⟩
    · obtain ⟨a, h⟩ := str_29 hts hgv
      exact ⟨a, fun q hq => by cases hq; exact h⟩
    · obtain ⟨a, h⟩ := str_30 hts hgv
      exact ⟨a, fun q hq => by cases hq; exact h⟩
    · obtain ⟨a, h⟩ := str_31 hts hgv
      exact ⟨a, fun q hq => by cases hq; exact h⟩
    · obtain ⟨a, h⟩ := str_32 hts hgv
      exact ⟨a, fun q hq => by cases hq; exact h⟩
    · obtain ⟨a, h⟩ := str_33 hts hgv
      exact ⟨a, fun q hq => by cases hq; exact h⟩
    · obtain ⟨a, h⟩ := str_34 hts hgv
      exact ⟨a, fun q hq => by cases hq; exact h⟩
    · obtain ⟨a, h⟩ := str_35 hts hgv
      exact ⟨a, fun q hq => by cases hq; exact h⟩
    · obtain ⟨a, h⟩ := str_36 hts hgv
      exact ⟨a, fun q hq => by cases hq; exact h⟩
    · obtain ⟨a, h⟩ := str_37 hts hgv
      exact ⟨a, fun q hq => by cases hq; exact h⟩
    · obtain ⟨a, h⟩ := str_38 hts hgv
      exact ⟨a, fun q hq => by cases hq; exact h⟩
    · obtain ⟨a, h⟩ := str_39 hts hgv
      exact ⟨a, fun q hq => by cases hq; exact h⟩
    · obtain ⟨a, h⟩ := str_40 hts hgv
      exact ⟨a, fun q hq => by cases hq; exact h⟩
    · obtain ⟨a, h⟩ := str_41 hts hgv
      exact ⟨a, fun q hq => by cases hq; exact h⟩
    · exact ⟨0, fun q hq => by
        have h9 := (List.getElem?_eq_some_iff.mp hq).1
        exact absurd (show k + 42 < 42 from h9) (by omega)⟩
  exact ⟨fun k => Classical.choose (h k), fun k q hq => Classical.choose_spec (h k) q hq⟩
theorem arr_p {s : State} {b : Nat} {ty : FieldType} (hty : ∀ C, ty ≠ .object C) (h : (Cond.arrayClass ty).before #[Value.ref b] s = true) : ∃ cA : ClassId, ArrOfT s cA ty ∧ va_RA s cA ty := by
  obtain ⟨cA, kA, comp, h1, h2, h3⟩ := Cond.arrayClass_spec h
  refine ⟨cA, fun n z => ⟨fun k h => (by cases h), kA, h2, comp, h3⟩, ?_⟩
  cases ty with
  | object C => exact absurd rfl (hty C)
  | _ => exact h1
theorem arr_o {s : State} {b : Nat} {C : String} (h : (Cond.arrayOver (.object C)).before #[Value.ref b] s = true) : ∃ cA : ClassId, ArrOfT s cA (.object C) ∧ va_RA s cA (.object C) := by
  obtain ⟨comp, cA, kA, h1, -, h2, h3, h4⟩ := Cond.arrayOver_spec h
  exact ⟨cA, fun n z => ⟨fun k h => (by cases h), kA, h2, comp, h3⟩, kA, comp, h2, h3, h1, h4⟩
theorem all_arrs {s : State} {b : Nat} (hts : ∀ w ∈ lw_tbl, w.before #[Value.ref b] s = true) : ∃ dA : Nat → ClassId, ∀ t, t < 8 → ArrOfT s (dA t) (aTy t) ∧ va_RA s (dA t) (aTy t) := by
  obtain ⟨c0, h0⟩ := arr_p (ty := .int) (fun C h => by cases h) (hts _ (lw_all_tbl q201))
  obtain ⟨c1, h1⟩ := arr_p (ty := .long) (fun C h => by cases h) (hts _ (lw_all_tbl q360))
  obtain ⟨c2, h2⟩ := arr_p (ty := .byte) (fun C h => by cases h) (hts _ (lw_all_tbl q349))
  obtain ⟨c3, h3⟩ := arr_p (ty := .boolean) (fun C h => by cases h) (hts _ (lw_all_tbl q1692))
  obtain ⟨c4, h4⟩ := arr_o (hts _ q215)
  obtain ⟨c5, h5⟩ := arr_o (hts _ q281)
  obtain ⟨c6, h6⟩ := arr_o (hts _ q279)
  obtain ⟨c7, h7⟩ := arr_o (hts _ q1155)
  refine ⟨fun t => [c0, c1, c2, c3, c4, c5, c6, c7].getD t 0, fun t ht => ?_⟩
  rcases t with _ | _ | _ | _ | _ | _ | _ | _ | t
  · exact h0
  · exact h1
  · exact h2
  · exact h3
  · exact h4
  · exact h5
  · exact h6
  · exact h7
  · omega
theorem all_cls {s : State} {b : Nat} (hts : ∀ w ∈ lw_tbl, w.before #[Value.ref b] s = true) : ∃ (dC : Nat → ClassId) (dI : Nat → Nat → Nat), ∀ (k : Nat) (q : vw_C), vwCl[k]? = some q → u_Kn s q.1 q.2.1 q.2.2 (dC k) (dI k) := by
  obtain ⟨c0, i0, h0⟩ := u_known (C := RX0) (T := TX0) (N := 26) (n := 26) hts (fun w h => lw_all_tbl (in_X0 w h)) (hts _ (lw_all_tbl q169))
  obtain ⟨c1, i1, h1⟩ := u_known (C := RX1) (T := TX1) (N := 12) (n := 12) hts (fun w h => lw_all_tbl (in_X1 w h)) (hts _ (lw_all_tbl q177))
  obtain ⟨c2, i2, h2⟩ := u_known (C := RX2) (T := TX2) (N := 3) (n := 3) hts (fun w h => lw_all_tbl (in_X2 w h)) (hts _ (lw_all_tbl q183))
  obtain ⟨c3, i3, h3⟩ := u_known (C := RX3) (T := TX3) (N := 2) (n := 2) hts (fun w h => lw_all_tbl (in_X3 w h)) (hts _ (lw_all_tbl q284))
  obtain ⟨c4, i4, h4⟩ := u_known (C := RX4) (T := TX4) (N := 6) (n := 6) hts (fun w h => lw_all_tbl (in_X4 w h)) (hts _ (lw_all_tbl q290))
  obtain ⟨c5, i5, h5⟩ := u_known (C := RX5) (T := TX5) (N := 55) (n := 55) hts (fun w h => lw_all_tbl (in_X5 w h)) (hts _ (lw_all_tbl q1503))
  obtain ⟨c6, i6, h6⟩ := u_known (C := RX7) (T := TX7) (N := 8) (n := 8) hts (fun w h => lw_all_tbl (in_X7 w h)) (hts _ (lw_all_tbl q736))
  obtain ⟨c7, i7, h7⟩ := u_known (C := RX8) (T := TX8) (N := 7) (n := 7) hts (fun w h => lw_all_tbl (in_X8 w h)) (hts _ (lw_all_tbl q863))
  obtain ⟨c8, i8, h8⟩ := u_known (C := RX9) (T := TX9) (N := 3) (n := 3) hts (fun w h => lw_all_tbl (in_X9 w h)) (hts _ (lw_all_tbl q886))
  obtain ⟨c9, i9, h9⟩ := u_known (C := RX11) (T := TX11) (N := 1) (n := 1) hts (fun w h => lw_all_tbl (in_X11 w h)) (hts _ (lw_all_tbl q951))
  obtain ⟨c10, i10, h10⟩ := u_known (C := RX12) (T := TX12) (N := 1) (n := 1) hts (fun w h => lw_all_tbl (in_X12 w h)) (hts _ (lw_all_tbl q1006))
  obtain ⟨c11, i11, h11⟩ := u_known (C := RX13) (T := TX13) (N := 3) (n := 3) hts (fun w h => lw_all_tbl (in_X13 w h)) (hts _ (lw_all_tbl q1019))
  obtain ⟨c12, i12, h12⟩ := u_known (C := RX15) (T := TX15) (N := 3) (n := 3) hts (fun w h => lw_all_tbl (in_X15 w h)) (hts _ (lw_all_tbl q1073))
  obtain ⟨c13, i13, h13⟩ := u_known (C := RX16) (T := TX16) (N := 1) (n := 1) hts (fun w h => lw_all_tbl (in_X16 w h)) (hts _ (lw_all_tbl q1092))
  obtain ⟨c14, i14, h14⟩ := u_known (C := RX17) (T := TX17) (N := 2) (n := 2) hts (fun w h => lw_all_tbl (in_X17 w h)) (hts _ (lw_all_tbl q1103))
  obtain ⟨c15, i15, h15⟩ := u_known (C := RX18) (T := TX18) (N := 4) (n := 4) hts (fun w h => lw_all_tbl (in_X18 w h)) (hts _ (lw_all_tbl q1149))
  obtain ⟨c16, i16, h16⟩ := u_known (C := RX19) (T := TX19) (N := 1) (n := 1) hts (fun w h => lw_all_tbl (in_X19 w h)) (hts _ (lw_all_tbl q1195))
  obtain ⟨c17, i17, h17⟩ := u_known (C := RX20) (T := TX20) (N := 8) (n := 8) hts (fun w h => lw_all_tbl (in_X20 w h)) (hts _ (lw_all_tbl q1210))
  obtain ⟨c18, i18, h18⟩ := u_known (C := RX21) (T := TX21) (N := 1) (n := 1) hts (fun w h => lw_all_tbl (in_X21 w h)) (hts _ (lw_all_tbl q1230))
  obtain ⟨c19, i19, h19⟩ := u_known (C := RJ2) (T := TJ2) (N := 3) (n := 3) hts (fun w h => lw_all_tbl (in_J2 w h)) (hts _ (lw_all_tbl q203))
  refine ⟨fun k => [c0, c1, c2, c3, c4, c5, c6, c7, c8, c9, c10, c11, c12, c13, c14, c15, c16, c17, c18, c19].getD k 0, fun k => [i0, i1, i2, i3, i4, i5, i6, i7, i8, i9, i10, i11, i12, i13, i14, i15, i16, i17, i18, i19].getD k (fun _ => 0), ?_⟩
  intro k q hq
  rcases k with _ | _ | _ | _ | _ | _ | _ | _ | _ | _ | _ | _ | _ | _ | _ | _ | _ | _ | _ | _ | k
  · cases hq; exact h0
  · cases hq; exact h1
  · cases hq; exact h2
  · cases hq; exact h3
  · cases hq; exact h4
  · cases hq; exact h5
  · cases hq; exact h6
  · cases hq; exact h7
  · cases hq; exact h8
  · cases hq; exact h9
  · cases hq; exact h10
  · cases hq; exact h11
  · cases hq; exact h12
  · cases hq; exact h13
  · cases hq; exact h14
  · cases hq; exact h15
  · cases hq; exact h16
  · cases hq; exact h17
  · cases hq; exact h18
  · cases hq; exact h19
  · have h9 := (List.getElem?_eq_some_iff.mp hq).1
    exact absurd (show k + 20 < 20 from h9) (by omega)
/-- the pure goal: for every script the law's function comes to its end, in the claim's room -/
def PureGoal : Prop := ∀ (xs : Nat → Int32) (L : Nat), L ≤ 384 → ∃ (V' : Vt) (T' : Tt) (n k : Nat), f_law xs L T00 V00 = some ((V', T'), n, k) ∧ n ≤ 1200128 ∧ k ≤ 5501098
set_option maxHeartbeats 4000000 in
theorem start_of (hpure : PureGoal) {p : Program} {e : Env} {s : State} {m : MethodId} {below : List Frame} {meth : Method} {c : Code} (l : Launch) {b L : Nat} {xs : Nat → Int32} (hL : L ≤ 384) (C0 : lw_At p s m meth c b L xs) : W p l e room_1 s m #[Value.ref b] below meth c s.heap [] 0 0 (lw_Z below #[Value.ref b] s) (entryFrame m ([Value.ref b] : List Value).toArray 4) := by
  obtain ⟨hx, hb, hr, hml, hown, hts, hX, hbl, hlocks, hgv⟩ := C0
  obtain ⟨dC, dI, hcl⟩ := all_cls hts
  obtain ⟨dA, harr⟩ := all_arrs hts
  obtain ⟨ad, hst⟩ := all_strs hts hgv
  obtain ⟨G, hG⟩ : ∃ G : gG, G = ((dC, fun k => if k = 99 then ad else dI k), dA, s) := ⟨_, rfl⟩
  have eG : G.2.2 = s := by rw [hG]
  have hK : va_K G.1 vwCl (tysG G) s := by
    refine ⟨fun k q hq => ?_, fun t q hq => ?_⟩
    · have hk : k < 20 := (List.getElem?_eq_some_iff.mp hq).1
      have h9 : k ≠ 99 := by omega
      rw [hG]
      show u_Kn s q.1 q.2.1 q.2.2 (dC k) (if k = 99 then ad else dI k)
      rw [if_neg h9]
      exact hcl k q hq
    · have ht : t < 8 := by
        have := (List.getElem?_eq_some_iff.mp hq).1
        simpa using this
      rw [tysG_at G ht] at hq
      cases hq
      rw [hG]
      exact harr t ht
  have hS : strF G := by
    intro k q hq
    have h9 := hst k q hq
    have e1 : adK G k = ad k := by rw [hG]; rfl
    rw [e1, show gb G = s.heap.size from congrArg (fun z => z.heap.size) eG, eG]
    exact h9
  have hGF : GF G := ⟨by rw [eG]; exact hK, b, by rw [eG]; exact hts, by rw [eG]; exact hgv, hS⟩
  have hKX : KX G s := ⟨hGF, by rw [eG]; exact State.WarmedH.refl s⟩
  have C : Cx G p s m #[Value.ref b] meth c code R_law 4 := ⟨hx, hb, hml, hown, fun w h => hts w (lw_all_tbl h), hK, hlocks, hKX⟩
  have hw : wS G V00 T00 s.heap [] := ⟨⟨by show s.heap.size = gb G + 0; rw [Nat.add_zero]; exact (congrArg (fun z => z.heap.size) eG).symm, fun q _ => by rw [eG], fun k hk => absurd rfl hk⟩, fun q h => by cases h⟩
  obtain ⟨V', T', n, k, hf, hn, hk⟩ := hpure xs L hL
  have hl := lv_entry ([Value.ref b]) (n := 4) (Nat.le_of_ble_eq_true rfl)
  rw [lg_entry_eq]
  exact ok_law (mc := n) (ms := k) C hr eG hX hbl hn hk hf (Nat.zero_add n) (Nat.zero_add k) hw hl
