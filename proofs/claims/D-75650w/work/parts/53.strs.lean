/-! from the law's function to the claim: classes, arrays, strings as the entry has them -/
set_option maxRecDepth 100000
abbrev T00 : Tt := (fun _ => 0, fun _ => 0, 0)
abbrev V00 : Vt := (fun _ _ => 0, fun _ _ => 0, fun _ _ => none)
def strP (q : String × Nat × String × List Int32) (a : Nat) (s : State) : Prop := vk_R q.1 q.2.1 q.2.2.1 a s ∧ va_O "java/lang/String" a (fun z => s.heap.size ≤ z) s s.heap ∧ va_OF "java/lang/String" "coder" "B" (.int 0) a (fun z => s.heap.size ≤ z) s s.heap ∧ ∃ v : Nat, va_OF "java/lang/String" "value" "[B" (.ref v) a (fun z => s.heap.size ≤ z) s s.heap ∧ va_T .byte v q.2.2.2.length (fun j => .int (q.2.2.2.getD j 0)) (fun z => s.heap.size ≤ z) s s.heap
theorem strP_of {s : State} {b : Nat} {own tx : String} {idx n : Nat} {bs : List Int32} (hl : bs.length = n) (hn : n < 2 ^ 31) (h0 : (Cond.stringRef own idx tx).before #[Value.ref b] s = true) (h1 : (Cond.exactly (.string own idx) "java/lang/String").before #[Value.ref b] s = true) (h2 : (Cond.eq (.field (.string own idx) "java/lang/String" "coder" "B") (.int 0)).before #[Value.ref b] s = true) (h3 : (Cond.arrayOf (.field (.string own idx) "java/lang/String" "value" "[B") .byte).before #[Value.ref b] s = true) (h4 : (Cond.eq (.length (.field (.string own idx) "java/lang/String" "value" "[B")) (.int (Int32.ofNat n))).before #[Value.ref b] s = true)
    (h5 : ∀ j, j < n → (Cond.eq (.elem (.field (.string own idx) "java/lang/String" "value" "[B") (.int (Int32.ofNat j))) (.int (bs.getD j 0))).before #[Value.ref b] s = true) : ∃ a, strP (own, idx, tx, bs) a s := by
  have z : ∀ i : Nat, i < 1 → i = 0 := fun i h => by omega
  obtain ⟨adK, adV, hS, hE⟩ := vk_Sof (args := #[Value.ref b]) (s := s) (N := 1) (tm := fun _ => .string own idx) (len := [n]) (byt := [bs]) (A := fun z => s.heap.size ≤ z) (fun i h => by rw [z i h]; exact hn) (fun i h => h1) (fun i h => h2) (fun i h => h3) (fun i h => by rw [z i h]; exact h4) (fun i h j hj => by rw [z i h] at hj ⊢; exact h5 j hj) (fun i j h g e => absurd ((z i h).trans (z j g).symm) e) (fun a h h9 => absurd h (Nat.not_lt.mpr h9))
  obtain ⟨g1, g2, g3, g4⟩ := hS.1 0 (by decide)
  refine ⟨adK 0, vk_R.of h0 (hE 0 (by decide)), g1, g2, adV 0, g3, ?_⟩
  show va_T .byte (adV 0) bs.length _ _ s s.heap
  rw [hl]
  exact g4
set_option maxHeartbeats 4000000 in
theorem str_0 {s : State} {b : Nat} (hts : ∀ w ∈ lw_tbl, w.before #[Value.ref b] s = true) (hgv : (Jvm.Cond.and given_1 narrow_1).before #[Value.ref b] s = true) : ∃ a, strP ("SoleraCellar$LawReader", 20, "loses", [108, 111, 115, 101, 115]) a s := by
  refine strP_of (n := 5) rfl (by decide) (hts _ q801) (flat_of_before _ hgv _ (by decide +kernel)) (flat_of_before _ hgv _ (by decide +kernel)) (flat_of_before _ hgv _ (by decide +kernel)) (flat_of_before _ hgv _ (by decide +kernel)) (fun j hj => ?_)
  rcases j with _ | _ | _ | _ | _ | j
  · exact flat_of_before _ hgv _ (by decide +kernel)
  · exact flat_of_before _ hgv _ (by decide +kernel)
  · exact flat_of_before _ hgv _ (by decide +kernel)
  · exact flat_of_before _ hgv _ (by decide +kernel)
  · exact flat_of_before _ hgv _ (by decide +kernel)
  · omega
set_option maxHeartbeats 4000000 in
theorem str_1 {s : State} {b : Nat} (hts : ∀ w ∈ lw_tbl, w.before #[Value.ref b] s = true) (hgv : (Jvm.Cond.and given_1 narrow_1).before #[Value.ref b] s = true) : ∃ a, strP ("SoleraCellar$LawReader", 26, "yields", [121, 105, 101, 108, 100, 115]) a s := by
  refine strP_of (n := 6) rfl (by decide) (hts _ q854) (flat_of_before _ hgv _ (by decide +kernel)) (flat_of_before _ hgv _ (by decide +kernel)) (flat_of_before _ hgv _ (by decide +kernel)) (flat_of_before _ hgv _ (by decide +kernel)) (fun j hj => ?_)
  rcases j with _ | _ | _ | _ | _ | _ | j
  · exact flat_of_before _ hgv _ (by decide +kernel)
  · exact flat_of_before _ hgv _ (by decide +kernel)
  · exact flat_of_before _ hgv _ (by decide +kernel)
  · exact flat_of_before _ hgv _ (by decide +kernel)
  · exact flat_of_before _ hgv _ (by decide +kernel)
  · exact flat_of_before _ hgv _ (by decide +kernel)
  · omega
set_option maxHeartbeats 4000000 in
theorem str_2 {s : State} {b : Nat} (hts : ∀ w ∈ lw_tbl, w.before #[Value.ref b] s = true) (hgv : (Jvm.Cond.and given_1 narrow_1).before #[Value.ref b] s = true) : ∃ a, strP ("SoleraCellar$LawReader", 28, "bars", [98, 97, 114, 115]) a s := by
  refine strP_of (n := 4) rfl (by decide) (hts _ q855) (flat_of_before _ hgv _ (by decide +kernel)) (flat_of_before _ hgv _ (by decide +kernel)) (flat_of_before _ hgv _ (by decide +kernel)) (flat_of_before _ hgv _ (by decide +kernel)) (fun j hj => ?_)
  rcases j with _ | _ | _ | _ | j
  · exact flat_of_before _ hgv _ (by decide +kernel)
  · exact flat_of_before _ hgv _ (by decide +kernel)
  · exact flat_of_before _ hgv _ (by decide +kernel)
  · exact flat_of_before _ hgv _ (by decide +kernel)
  · omega
set_option maxHeartbeats 4000000 in
theorem str_3 {s : State} {b : Nat} (hts : ∀ w ∈ lw_tbl, w.before #[Value.ref b] s = true) (hgv : (Jvm.Cond.and given_1 narrow_1).before #[Value.ref b] s = true) : ∃ a, strP ("SoleraCellar$LawReader", 48, "if", [105, 102]) a s := by
  refine strP_of (n := 2) rfl (by decide) (hts _ q1036) (flat_of_before _ hgv _ (by decide +kernel)) (flat_of_before _ hgv _ (by decide +kernel)) (flat_of_before _ hgv _ (by decide +kernel)) (flat_of_before _ hgv _ (by decide +kernel)) (fun j hj => ?_)
  rcases j with _ | _ | j
  · exact flat_of_before _ hgv _ (by decide +kernel)
  · exact flat_of_before _ hgv _ (by decide +kernel)
  · omega
set_option maxHeartbeats 4000000 in
theorem str_4 {s : State} {b : Nat} (hts : ∀ w ∈ lw_tbl, w.before #[Value.ref b] s = true) (hgv : (Jvm.Cond.and given_1 narrow_1).before #[Value.ref b] s = true) : ∃ a, strP ("SoleraCellar$LawReader", 65, "cask", [99, 97, 115, 107]) a s := by
  refine strP_of (n := 4) rfl (by decide) (hts _ q975) (flat_of_before _ hgv _ (by decide +kernel)) (flat_of_before _ hgv _ (by decide +kernel)) (flat_of_before _ hgv _ (by decide +kernel)) (flat_of_before _ hgv _ (by decide +kernel)) (fun j hj => ?_)
  rcases j with _ | _ | _ | _ | j
  · exact flat_of_before _ hgv _ (by decide +kernel)
  · exact flat_of_before _ hgv _ (by decide +kernel)
  · exact flat_of_before _ hgv _ (by decide +kernel)
  · exact flat_of_before _ hgv _ (by decide +kernel)
  · omega
set_option maxHeartbeats 4000000 in
theorem str_5 {s : State} {b : Nat} (hts : ∀ w ∈ lw_tbl, w.before #[Value.ref b] s = true) (hgv : (Jvm.Cond.and given_1 narrow_1).before #[Value.ref b] s = true) : ∃ a, strP ("SoleraCellar$LawReader", 70, "tier", [116, 105, 101, 114]) a s := by
  refine strP_of (n := 4) rfl (by decide) (hts _ q982) (flat_of_before _ hgv _ (by decide +kernel)) (flat_of_before _ hgv _ (by decide +kernel)) (flat_of_before _ hgv _ (by decide +kernel)) (flat_of_before _ hgv _ (by decide +kernel)) (fun j hj => ?_)
  rcases j with _ | _ | _ | _ | j
  · exact flat_of_before _ hgv _ (by decide +kernel)
  · exact flat_of_before _ hgv _ (by decide +kernel)
  · exact flat_of_before _ hgv _ (by decide +kernel)
  · exact flat_of_before _ hgv _ (by decide +kernel)
  · omega
set_option maxHeartbeats 4000000 in
theorem str_6 {s : State} {b : Nat} (hts : ∀ w ∈ lw_tbl, w.before #[Value.ref b] s = true) (hgv : (Jvm.Cond.and given_1 narrow_1).before #[Value.ref b] s = true) : ∃ a, strP ("SoleraCellar$LawReader", 72, "size", [115, 105, 122, 101]) a s := by
  refine strP_of (n := 4) rfl (by decide) (hts _ q983) (flat_of_before _ hgv _ (by decide +kernel)) (flat_of_before _ hgv _ (by decide +kernel)) (flat_of_before _ hgv _ (by decide +kernel)) (flat_of_before _ hgv _ (by decide +kernel)) (fun j hj => ?_)
  rcases j with _ | _ | _ | _ | j
  · exact flat_of_before _ hgv _ (by decide +kernel)
  · exact flat_of_before _ hgv _ (by decide +kernel)
  · exact flat_of_before _ hgv _ (by decide +kernel)
  · exact flat_of_before _ hgv _ (by decide +kernel)
  · omega
set_option maxHeartbeats 4000000 in
theorem str_7 {s : State} {b : Nat} (hts : ∀ w ∈ lw_tbl, w.before #[Value.ref b] s = true) (hgv : (Jvm.Cond.and given_1 narrow_1).before #[Value.ref b] s = true) : ∃ a, strP ("SoleraCellar$LawReader", 74, "full", [102, 117, 108, 108]) a s := by
  refine strP_of (n := 4) rfl (by decide) (hts _ q984) (flat_of_before _ hgv _ (by decide +kernel)) (flat_of_before _ hgv _ (by decide +kernel)) (flat_of_before _ hgv _ (by decide +kernel)) (flat_of_before _ hgv _ (by decide +kernel)) (fun j hj => ?_)
  rcases j with _ | _ | _ | _ | j
  · exact flat_of_before _ hgv _ (by decide +kernel)
  · exact flat_of_before _ hgv _ (by decide +kernel)
  · exact flat_of_before _ hgv _ (by decide +kernel)
  · exact flat_of_before _ hgv _ (by decide +kernel)
  · omega
set_option maxHeartbeats 4000000 in
theorem str_8 {s : State} {b : Nat} (hts : ∀ w ∈ lw_tbl, w.before #[Value.ref b] s = true) (hgv : (Jvm.Cond.and given_1 narrow_1).before #[Value.ref b] s = true) : ∃ a, strP ("SoleraCellar$LawReader", 76, "mean", [109, 101, 97, 110]) a s := by
  refine strP_of (n := 4) rfl (by decide) (hts _ q985) (flat_of_before _ hgv _ (by decide +kernel)) (flat_of_before _ hgv _ (by decide +kernel)) (flat_of_before _ hgv _ (by decide +kernel)) (flat_of_before _ hgv _ (by decide +kernel)) (fun j hj => ?_)
  rcases j with _ | _ | _ | _ | j
  · exact flat_of_before _ hgv _ (by decide +kernel)
  · exact flat_of_before _ hgv _ (by decide +kernel)
  · exact flat_of_before _ hgv _ (by decide +kernel)
  · exact flat_of_before _ hgv _ (by decide +kernel)
  · omega
set_option maxHeartbeats 4000000 in
theorem str_9 {s : State} {b : Nat} (hts : ∀ w ∈ lw_tbl, w.before #[Value.ref b] s = true) (hgv : (Jvm.Cond.and given_1 narrow_1).before #[Value.ref b] s = true) : ∃ a, strP ("SoleraCellar$LawReader", 78, "year", [121, 101, 97, 114]) a s := by
  refine strP_of (n := 4) rfl (by decide) (hts _ q986) (flat_of_before _ hgv _ (by decide +kernel)) (flat_of_before _ hgv _ (by decide +kernel)) (flat_of_before _ hgv _ (by decide +kernel)) (flat_of_before _ hgv _ (by decide +kernel)) (fun j hj => ?_)
  rcases j with _ | _ | _ | _ | j
  · exact flat_of_before _ hgv _ (by decide +kernel)
  · exact flat_of_before _ hgv _ (by decide +kernel)
  · exact flat_of_before _ hgv _ (by decide +kernel)
  · exact flat_of_before _ hgv _ (by decide +kernel)
  · omega
set_option maxHeartbeats 4000000 in
theorem str_10 {s : State} {b : Nat} (hts : ∀ w ∈ lw_tbl, w.before #[Value.ref b] s = true) (hgv : (Jvm.Cond.and given_1 narrow_1).before #[Value.ref b] s = true) : ∃ a, strP ("SoleraCellar$LawReader", 80, "mood", [109, 111, 111, 100]) a s := by
  refine strP_of (n := 4) rfl (by decide) (hts _ q987) (flat_of_before _ hgv _ (by decide +kernel)) (flat_of_before _ hgv _ (by decide +kernel)) (flat_of_before _ hgv _ (by decide +kernel)) (flat_of_before _ hgv _ (by decide +kernel)) (fun j hj => ?_)
  rcases j with _ | _ | _ | _ | j
  · exact flat_of_before _ hgv _ (by decide +kernel)
  · exact flat_of_before _ hgv _ (by decide +kernel)
  · exact flat_of_before _ hgv _ (by decide +kernel)
  · exact flat_of_before _ hgv _ (by decide +kernel)
  · omega
set_option maxHeartbeats 4000000 in
theorem str_11 {s : State} {b : Nat} (hts : ∀ w ∈ lw_tbl, w.before #[Value.ref b] s = true) (hgv : (Jvm.Cond.and given_1 narrow_1).before #[Value.ref b] s = true) : ∃ a, strP ("SoleraCellar$OrderReader", 20, "pour", [112, 111, 117, 114]) a s := by
  refine strP_of (n := 4) rfl (by decide) (hts _ q1135) (flat_of_before _ hgv _ (by decide +kernel)) (flat_of_before _ hgv _ (by decide +kernel)) (flat_of_before _ hgv _ (by decide +kernel)) (flat_of_before _ hgv _ (by decide +kernel)) (fun j hj => ?_)
  rcases j with _ | _ | _ | _ | j
  · exact flat_of_before _ hgv _ (by decide +kernel)
  · exact flat_of_before _ hgv _ (by decide +kernel)
  · exact flat_of_before _ hgv _ (by decide +kernel)
  · exact flat_of_before _ hgv _ (by decide +kernel)
  · omega
set_option maxHeartbeats 4000000 in
theorem str_12 {s : State} {b : Nat} (hts : ∀ w ∈ lw_tbl, w.before #[Value.ref b] s = true) (hgv : (Jvm.Cond.and given_1 narrow_1).before #[Value.ref b] s = true) : ∃ a, strP ("SoleraCellar$OrderReader", 26, "rack", [114, 97, 99, 107]) a s := by
  refine strP_of (n := 4) rfl (by decide) (hts _ q1139) (flat_of_before _ hgv _ (by decide +kernel)) (flat_of_before _ hgv _ (by decide +kernel)) (flat_of_before _ hgv _ (by decide +kernel)) (flat_of_before _ hgv _ (by decide +kernel)) (fun j hj => ?_)
  rcases j with _ | _ | _ | _ | j
  · exact flat_of_before _ hgv _ (by decide +kernel)
  · exact flat_of_before _ hgv _ (by decide +kernel)
  · exact flat_of_before _ hgv _ (by decide +kernel)
  · exact flat_of_before _ hgv _ (by decide +kernel)
  · omega
set_option maxHeartbeats 4000000 in
theorem str_13 {s : State} {b : Nat} (hts : ∀ w ∈ lw_tbl, w.before #[Value.ref b] s = true) (hgv : (Jvm.Cond.and given_1 narrow_1).before #[Value.ref b] s = true) : ∃ a, strP ("SoleraCellar$OrderReader", 28, "bottle", [98, 111, 116, 116, 108, 101]) a s := by
  refine strP_of (n := 6) rfl (by decide) (hts _ q1140) (flat_of_before _ hgv _ (by decide +kernel)) (flat_of_before _ hgv _ (by decide +kernel)) (flat_of_before _ hgv _ (by decide +kernel)) (flat_of_before _ hgv _ (by decide +kernel)) (fun j hj => ?_)
  rcases j with _ | _ | _ | _ | _ | _ | j
  · exact flat_of_before _ hgv _ (by decide +kernel)
  · exact flat_of_before _ hgv _ (by decide +kernel)
  · exact flat_of_before _ hgv _ (by decide +kernel)
  · exact flat_of_before _ hgv _ (by decide +kernel)
  · exact flat_of_before _ hgv _ (by decide +kernel)
  · exact flat_of_before _ hgv _ (by decide +kernel)
  · omega
set_option maxHeartbeats 4000000 in
theorem str_14 {s : State} {b : Nat} (hts : ∀ w ∈ lw_tbl, w.before #[Value.ref b] s = true) (hgv : (Jvm.Cond.and given_1 narrow_1).before #[Value.ref b] s = true) : ∃ a, strP ("SoleraCellar$OrderReader", 30, "pass", [112, 97, 115, 115]) a s := by
  refine strP_of (n := 4) rfl (by decide) (hts _ q1141) (flat_of_before _ hgv _ (by decide +kernel)) (flat_of_before _ hgv _ (by decide +kernel)) (flat_of_before _ hgv _ (by decide +kernel)) (flat_of_before _ hgv _ (by decide +kernel)) (fun j hj => ?_)
  rcases j with _ | _ | _ | _ | j
  · exact flat_of_before _ hgv _ (by decide +kernel)
  · exact flat_of_before _ hgv _ (by decide +kernel)
  · exact flat_of_before _ hgv _ (by decide +kernel)
  · exact flat_of_before _ hgv _ (by decide +kernel)
  · omega
set_option maxHeartbeats 4000000 in
theorem str_15 {s : State} {b : Nat} (hts : ∀ w ∈ lw_tbl, w.before #[Value.ref b] s = true) (hgv : (Jvm.Cond.and given_1 narrow_1).before #[Value.ref b] s = true) : ∃ a, strP ("SoleraCellar$OrderReader", 51, "from", [102, 114, 111, 109]) a s := by
  refine strP_of (n := 4) rfl (by decide) (hts _ q1177) (flat_of_before _ hgv _ (by decide +kernel)) (flat_of_before _ hgv _ (by decide +kernel)) (flat_of_before _ hgv _ (by decide +kernel)) (flat_of_before _ hgv _ (by decide +kernel)) (fun j hj => ?_)
  rcases j with _ | _ | _ | _ | j
  · exact flat_of_before _ hgv _ (by decide +kernel)
  · exact flat_of_before _ hgv _ (by decide +kernel)
  · exact flat_of_before _ hgv _ (by decide +kernel)
  · exact flat_of_before _ hgv _ (by decide +kernel)
  · omega
set_option maxHeartbeats 4000000 in
theorem str_16 {s : State} {b : Nat} (hts : ∀ w ∈ lw_tbl, w.before #[Value.ref b] s = true) (hgv : (Jvm.Cond.and given_1 narrow_1).before #[Value.ref b] s = true) : ∃ a, strP ("SoleraCellar$OrderReader", 57, "in", [105, 110]) a s := by
  refine strP_of (n := 2) rfl (by decide) (hts _ q1184) (flat_of_before _ hgv _ (by decide +kernel)) (flat_of_before _ hgv _ (by decide +kernel)) (flat_of_before _ hgv _ (by decide +kernel)) (flat_of_before _ hgv _ (by decide +kernel)) (fun j hj => ?_)
  rcases j with _ | _ | j
  · exact flat_of_before _ hgv _ (by decide +kernel)
  · exact flat_of_before _ hgv _ (by decide +kernel)
  · omega
set_option maxHeartbeats 4000000 in
theorem str_17 {s : State} {b : Nat} (hts : ∀ w ∈ lw_tbl, w.before #[Value.ref b] s = true) (hgv : (Jvm.Cond.and given_1 narrow_1).before #[Value.ref b] s = true) : ∃ a, strP ("SoleraCellar$OrderReader", 59, "times", [116, 105, 109, 101, 115]) a s := by
  refine strP_of (n := 5) rfl (by decide) (hts _ q1185) (flat_of_before _ hgv _ (by decide +kernel)) (flat_of_before _ hgv _ (by decide +kernel)) (flat_of_before _ hgv _ (by decide +kernel)) (flat_of_before _ hgv _ (by decide +kernel)) (fun j hj => ?_)
  rcases j with _ | _ | _ | _ | _ | j
  · exact flat_of_before _ hgv _ (by decide +kernel)
  · exact flat_of_before _ hgv _ (by decide +kernel)
  · exact flat_of_before _ hgv _ (by decide +kernel)
  · exact flat_of_before _ hgv _ (by decide +kernel)
  · exact flat_of_before _ hgv _ (by decide +kernel)
  · omega
set_option maxHeartbeats 4000000 in
theorem str_18 {s : State} {b : Nat} (hts : ∀ w ∈ lw_tbl, w.before #[Value.ref b] s = true) (hgv : (Jvm.Cond.and given_1 narrow_1).before #[Value.ref b] s = true) : ∃ a, strP ("SoleraCellar$OrderReader", 71, "if", [105, 102]) a s := by
  refine strP_of (n := 2) rfl (by decide) (hts _ q1189) (flat_of_before _ hgv _ (by decide +kernel)) (flat_of_before _ hgv _ (by decide +kernel)) (flat_of_before _ hgv _ (by decide +kernel)) (flat_of_before _ hgv _ (by decide +kernel)) (fun j hj => ?_)
  rcases j with _ | _ | j
  · exact flat_of_before _ hgv _ (by decide +kernel)
  · exact flat_of_before _ hgv _ (by decide +kernel)
  · omega
set_option maxHeartbeats 4000000 in
theorem str_19 {s : State} {b : Nat} (hts : ∀ w ∈ lw_tbl, w.before #[Value.ref b] s = true) (hgv : (Jvm.Cond.and given_1 narrow_1).before #[Value.ref b] s = true) : ∃ a, strP ("SoleraCellar$OrderReader", 85, "year", [121, 101, 97, 114]) a s := by
  refine strP_of (n := 4) rfl (by decide) (hts _ q991) (flat_of_before _ hgv _ (by decide +kernel)) (flat_of_before _ hgv _ (by decide +kernel)) (flat_of_before _ hgv _ (by decide +kernel)) (flat_of_before _ hgv _ (by decide +kernel)) (fun j hj => ?_)
  rcases j with _ | _ | _ | _ | j
  · exact flat_of_before _ hgv _ (by decide +kernel)
  · exact flat_of_before _ hgv _ (by decide +kernel)
  · exact flat_of_before _ hgv _ (by decide +kernel)
  · exact flat_of_before _ hgv _ (by decide +kernel)
  · omega
set_option maxHeartbeats 4000000 in
theorem str_20 {s : State} {b : Nat} (hts : ∀ w ∈ lw_tbl, w.before #[Value.ref b] s = true) (hgv : (Jvm.Cond.and given_1 narrow_1).before #[Value.ref b] s = true) : ∃ a, strP ("SoleraCellar$OrderReader", 90, "done", [100, 111, 110, 101]) a s := by
  refine strP_of (n := 4) rfl (by decide) (hts _ q995) (flat_of_before _ hgv _ (by decide +kernel)) (flat_of_before _ hgv _ (by decide +kernel)) (flat_of_before _ hgv _ (by decide +kernel)) (flat_of_before _ hgv _ (by decide +kernel)) (fun j hj => ?_)
  rcases j with _ | _ | _ | _ | j
  · exact flat_of_before _ hgv _ (by decide +kernel)
  · exact flat_of_before _ hgv _ (by decide +kernel)
  · exact flat_of_before _ hgv _ (by decide +kernel)
  · exact flat_of_before _ hgv _ (by decide +kernel)
  · omega
set_option maxHeartbeats 4000000 in
theorem str_21 {s : State} {b : Nat} (hts : ∀ w ∈ lw_tbl, w.before #[Value.ref b] s = true) (hgv : (Jvm.Cond.and given_1 narrow_1).before #[Value.ref b] s = true) : ∃ a, strP ("SoleraCellar$OrderReader", 92, "latest", [108, 97, 116, 101, 115, 116]) a s := by
  refine strP_of (n := 6) rfl (by decide) (hts _ q996) (flat_of_before _ hgv _ (by decide +kernel)) (flat_of_before _ hgv _ (by decide +kernel)) (flat_of_before _ hgv _ (by decide +kernel)) (flat_of_before _ hgv _ (by decide +kernel)) (fun j hj => ?_)
  rcases j with _ | _ | _ | _ | _ | _ | j
  · exact flat_of_before _ hgv _ (by decide +kernel)
  · exact flat_of_before _ hgv _ (by decide +kernel)
  · exact flat_of_before _ hgv _ (by decide +kernel)
  · exact flat_of_before _ hgv _ (by decide +kernel)
  · exact flat_of_before _ hgv _ (by decide +kernel)
  · exact flat_of_before _ hgv _ (by decide +kernel)
  · omega
set_option maxHeartbeats 4000000 in
theorem str_22 {s : State} {b : Nat} (hts : ∀ w ∈ lw_tbl, w.before #[Value.ref b] s = true) (hgv : (Jvm.Cond.and given_1 narrow_1).before #[Value.ref b] s = true) : ∃ a, strP ("SoleraCellar$OrderReader", 94, "bottled", [98, 111, 116, 116, 108, 101, 100]) a s := by
  refine strP_of (n := 7) rfl (by decide) (hts _ q997) (flat_of_before _ hgv _ (by decide +kernel)) (flat_of_before _ hgv _ (by decide +kernel)) (flat_of_before _ hgv _ (by decide +kernel)) (flat_of_before _ hgv _ (by decide +kernel)) (fun j hj => ?_)
  rcases j with _ | _ | _ | _ | _ | _ | _ | j
  · exact flat_of_before _ hgv _ (by decide +kernel)
  · exact flat_of_before _ hgv _ (by decide +kernel)
  · exact flat_of_before _ hgv _ (by decide +kernel)
  · exact flat_of_before _ hgv _ (by decide +kernel)
  · exact flat_of_before _ hgv _ (by decide +kernel)
  · exact flat_of_before _ hgv _ (by decide +kernel)
  · exact flat_of_before _ hgv _ (by decide +kernel)
  · omega
set_option maxHeartbeats 4000000 in
theorem str_23 {s : State} {b : Nat} (hts : ∀ w ∈ lw_tbl, w.before #[Value.ref b] s = true) (hgv : (Jvm.Cond.and given_1 narrow_1).before #[Value.ref b] s = true) : ∃ a, strP ("SoleraCellar$OrderReader", 96, "full", [102, 117, 108, 108]) a s := by
  refine strP_of (n := 4) rfl (by decide) (hts _ q998) (flat_of_before _ hgv _ (by decide +kernel)) (flat_of_before _ hgv _ (by decide +kernel)) (flat_of_before _ hgv _ (by decide +kernel)) (flat_of_before _ hgv _ (by decide +kernel)) (fun j hj => ?_)
  rcases j with _ | _ | _ | _ | j
  · exact flat_of_before _ hgv _ (by decide +kernel)
  · exact flat_of_before _ hgv _ (by decide +kernel)
  · exact flat_of_before _ hgv _ (by decide +kernel)
  · exact flat_of_before _ hgv _ (by decide +kernel)
  · omega
set_option maxHeartbeats 4000000 in
theorem str_24 {s : State} {b : Nat} (hts : ∀ w ∈ lw_tbl, w.before #[Value.ref b] s = true) (hgv : (Jvm.Cond.and given_1 narrow_1).before #[Value.ref b] s = true) : ∃ a, strP ("SoleraCellar$OrderReader", 98, "room", [114, 111, 111, 109]) a s := by
  refine strP_of (n := 4) rfl (by decide) (hts _ q1003) (flat_of_before _ hgv _ (by decide +kernel)) (flat_of_before _ hgv _ (by decide +kernel)) (flat_of_before _ hgv _ (by decide +kernel)) (flat_of_before _ hgv _ (by decide +kernel)) (fun j hj => ?_)
  rcases j with _ | _ | _ | _ | j
  · exact flat_of_before _ hgv _ (by decide +kernel)
  · exact flat_of_before _ hgv _ (by decide +kernel)
  · exact flat_of_before _ hgv _ (by decide +kernel)
  · exact flat_of_before _ hgv _ (by decide +kernel)
  · omega
set_option maxHeartbeats 4000000 in
theorem str_25 {s : State} {b : Nat} (hts : ∀ w ∈ lw_tbl, w.before #[Value.ref b] s = true) (hgv : (Jvm.Cond.and given_1 narrow_1).before #[Value.ref b] s = true) : ∃ a, strP ("SoleraCellar$OrderReader", 100, "mean", [109, 101, 97, 110]) a s := by
  refine strP_of (n := 4) rfl (by decide) (hts _ q1004) (flat_of_before _ hgv _ (by decide +kernel)) (flat_of_before _ hgv _ (by decide +kernel)) (flat_of_before _ hgv _ (by decide +kernel)) (flat_of_before _ hgv _ (by decide +kernel)) (fun j hj => ?_)
  rcases j with _ | _ | _ | _ | j
  · exact flat_of_before _ hgv _ (by decide +kernel)
  · exact flat_of_before _ hgv _ (by decide +kernel)
  · exact flat_of_before _ hgv _ (by decide +kernel)
  · exact flat_of_before _ hgv _ (by decide +kernel)
  · omega
set_option maxHeartbeats 4000000 in
theorem str_26 {s : State} {b : Nat} (hts : ∀ w ∈ lw_tbl, w.before #[Value.ref b] s = true) (hgv : (Jvm.Cond.and given_1 narrow_1).before #[Value.ref b] s = true) : ∃ a, strP ("SoleraCellar$Reader", 57, ";", [59]) a s := by
  refine strP_of (n := 1) rfl (by decide) (hts _ q1194) (flat_of_before _ hgv _ (by decide +kernel)) (flat_of_before _ hgv _ (by decide +kernel)) (flat_of_before _ hgv _ (by decide +kernel)) (flat_of_before _ hgv _ (by decide +kernel)) (fun j hj => ?_)
  rcases j with _ | j
  · exact flat_of_before _ hgv _ (by decide +kernel)
  · omega
set_option maxHeartbeats 4000000 in
theorem str_27 {s : State} {b : Nat} (hts : ∀ w ∈ lw_tbl, w.before #[Value.ref b] s = true) (hgv : (Jvm.Cond.and given_1 narrow_1).before #[Value.ref b] s = true) : ∃ a, strP ("SoleraCellar$Reader", 66, "or", [111, 114]) a s := by
  refine strP_of (n := 2) rfl (by decide) (hts _ q1130) (flat_of_before _ hgv _ (by decide +kernel)) (flat_of_before _ hgv _ (by decide +kernel)) (flat_of_before _ hgv _ (by decide +kernel)) (flat_of_before _ hgv _ (by decide +kernel)) (fun j hj => ?_)
  rcases j with _ | _ | j
  · exact flat_of_before _ hgv _ (by decide +kernel)
  · exact flat_of_before _ hgv _ (by decide +kernel)
  · omega
set_option maxHeartbeats 4000000 in
theorem str_28 {s : State} {b : Nat} (hts : ∀ w ∈ lw_tbl, w.before #[Value.ref b] s = true) (hgv : (Jvm.Cond.and given_1 narrow_1).before #[Value.ref b] s = true) : ∃ a, strP ("SoleraCellar$Reader", 86, "and", [97, 110, 100]) a s := by
  refine strP_of (n := 3) rfl (by decide) (hts _ q1101) (flat_of_before _ hgv _ (by decide +kernel)) (flat_of_before _ hgv _ (by decide +kernel)) (flat_of_before _ hgv _ (by decide +kernel)) (flat_of_before _ hgv _ (by decide +kernel)) (fun j hj => ?_)
  rcases j with _ | _ | _ | j
  · exact flat_of_before _ hgv _ (by decide +kernel)
  · exact flat_of_before _ hgv _ (by decide +kernel)
  · exact flat_of_before _ hgv _ (by decide +kernel)
  · omega
set_option maxHeartbeats 4000000 in
theorem str_29 {s : State} {b : Nat} (hts : ∀ w ∈ lw_tbl, w.before #[Value.ref b] s = true) (hgv : (Jvm.Cond.and given_1 narrow_1).before #[Value.ref b] s = true) : ∃ a, strP ("SoleraCellar$Reader", 91, "not", [110, 111, 116]) a s := by
  refine strP_of (n := 3) rfl (by decide) (hts _ q1059) (flat_of_before _ hgv _ (by decide +kernel)) (flat_of_before _ hgv _ (by decide +kernel)) (flat_of_before _ hgv _ (by decide +kernel)) (flat_of_before _ hgv _ (by decide +kernel)) (fun j hj => ?_)
  rcases j with _ | _ | _ | j
  · exact flat_of_before _ hgv _ (by decide +kernel)
  · exact flat_of_before _ hgv _ (by decide +kernel)
  · exact flat_of_before _ hgv _ (by decide +kernel)
  · omega
set_option maxHeartbeats 4000000 in
theorem str_30 {s : State} {b : Nat} (hts : ∀ w ∈ lw_tbl, w.before #[Value.ref b] s = true) (hgv : (Jvm.Cond.and given_1 narrow_1).before #[Value.ref b] s = true) : ∃ a, strP ("SoleraCellar$Reader", 101, "(", [40]) a s := by
  refine strP_of (n := 1) rfl (by decide) (hts _ q1066) (flat_of_before _ hgv _ (by decide +kernel)) (flat_of_before _ hgv _ (by decide +kernel)) (flat_of_before _ hgv _ (by decide +kernel)) (flat_of_before _ hgv _ (by decide +kernel)) (fun j hj => ?_)
  rcases j with _ | j
  · exact flat_of_before _ hgv _ (by decide +kernel)
  · omega
set_option maxHeartbeats 4000000 in
theorem str_31 {s : State} {b : Nat} (hts : ∀ w ∈ lw_tbl, w.before #[Value.ref b] s = true) (hgv : (Jvm.Cond.and given_1 narrow_1).before #[Value.ref b] s = true) : ∃ a, strP ("SoleraCellar$Reader", 109, ")", [41]) a s := by
  refine strP_of (n := 1) rfl (by decide) (hts _ q1068) (flat_of_before _ hgv _ (by decide +kernel)) (flat_of_before _ hgv _ (by decide +kernel)) (flat_of_before _ hgv _ (by decide +kernel)) (flat_of_before _ hgv _ (by decide +kernel)) (fun j hj => ?_)
  rcases j with _ | j
  · exact flat_of_before _ hgv _ (by decide +kernel)
  · omega
set_option maxHeartbeats 4000000 in
theorem str_32 {s : State} {b : Nat} (hts : ∀ w ∈ lw_tbl, w.before #[Value.ref b] s = true) (hgv : (Jvm.Cond.and given_1 narrow_1).before #[Value.ref b] s = true) : ∃ a, strP ("SoleraCellar$Reader", 119, "<", [60]) a s := by
  refine strP_of (n := 1) rfl (by decide) (hts _ q1069) (flat_of_before _ hgv _ (by decide +kernel)) (flat_of_before _ hgv _ (by decide +kernel)) (flat_of_before _ hgv _ (by decide +kernel)) (flat_of_before _ hgv _ (by decide +kernel)) (fun j hj => ?_)
  rcases j with _ | j
  · exact flat_of_before _ hgv _ (by decide +kernel)
  · omega
set_option maxHeartbeats 4000000 in
theorem str_33 {s : State} {b : Nat} (hts : ∀ w ∈ lw_tbl, w.before #[Value.ref b] s = true) (hgv : (Jvm.Cond.and given_1 narrow_1).before #[Value.ref b] s = true) : ∃ a, strP ("SoleraCellar$Reader", 121, ">", [62]) a s := by
  refine strP_of (n := 1) rfl (by decide) (hts _ q1070) (flat_of_before _ hgv _ (by decide +kernel)) (flat_of_before _ hgv _ (by decide +kernel)) (flat_of_before _ hgv _ (by decide +kernel)) (flat_of_before _ hgv _ (by decide +kernel)) (fun j hj => ?_)
  rcases j with _ | j
  · exact flat_of_before _ hgv _ (by decide +kernel)
  · omega
set_option maxHeartbeats 4000000 in
theorem str_34 {s : State} {b : Nat} (hts : ∀ w ∈ lw_tbl, w.before #[Value.ref b] s = true) (hgv : (Jvm.Cond.and given_1 narrow_1).before #[Value.ref b] s = true) : ∃ a, strP ("SoleraCellar$Reader", 123, "=", [61]) a s := by
  refine strP_of (n := 1) rfl (by decide) (hts _ q1071) (flat_of_before _ hgv _ (by decide +kernel)) (flat_of_before _ hgv _ (by decide +kernel)) (flat_of_before _ hgv _ (by decide +kernel)) (flat_of_before _ hgv _ (by decide +kernel)) (fun j hj => ?_)
  rcases j with _ | j
  · exact flat_of_before _ hgv _ (by decide +kernel)
  · omega
set_option maxHeartbeats 4000000 in
theorem str_35 {s : State} {b : Nat} (hts : ∀ w ∈ lw_tbl, w.before #[Value.ref b] s = true) (hgv : (Jvm.Cond.and given_1 narrow_1).before #[Value.ref b] s = true) : ∃ a, strP ("SoleraCellar$Reader", 133, "+", [43]) a s := by
  refine strP_of (n := 1) rfl (by decide) (hts _ q1034) (flat_of_before _ hgv _ (by decide +kernel)) (flat_of_before _ hgv _ (by decide +kernel)) (flat_of_before _ hgv _ (by decide +kernel)) (flat_of_before _ hgv _ (by decide +kernel)) (fun j hj => ?_)
  rcases j with _ | j
  · exact flat_of_before _ hgv _ (by decide +kernel)
  · omega
set_option maxHeartbeats 4000000 in
theorem str_36 {s : State} {b : Nat} (hts : ∀ w ∈ lw_tbl, w.before #[Value.ref b] s = true) (hgv : (Jvm.Cond.and given_1 narrow_1).before #[Value.ref b] s = true) : ∃ a, strP ("SoleraCellar$Reader", 135, "-", [45]) a s := by
  refine strP_of (n := 1) rfl (by decide) (hts _ q1035) (flat_of_before _ hgv _ (by decide +kernel)) (flat_of_before _ hgv _ (by decide +kernel)) (flat_of_before _ hgv _ (by decide +kernel)) (flat_of_before _ hgv _ (by decide +kernel)) (fun j hj => ?_)
  rcases j with _ | j
  · exact flat_of_before _ hgv _ (by decide +kernel)
  · omega
set_option maxHeartbeats 4000000 in
theorem str_37 {s : State} {b : Nat} (hts : ∀ w ∈ lw_tbl, w.before #[Value.ref b] s = true) (hgv : (Jvm.Cond.and given_1 narrow_1).before #[Value.ref b] s = true) : ∃ a, strP ("SoleraCellar$Reader", 143, "*", [42]) a s := by
  refine strP_of (n := 1) rfl (by decide) (hts _ q1015) (flat_of_before _ hgv _ (by decide +kernel)) (flat_of_before _ hgv _ (by decide +kernel)) (flat_of_before _ hgv _ (by decide +kernel)) (flat_of_before _ hgv _ (by decide +kernel)) (fun j hj => ?_)
  rcases j with _ | j
  · exact flat_of_before _ hgv _ (by decide +kernel)
  · omega
set_option maxHeartbeats 4000000 in
theorem str_38 {s : State} {b : Nat} (hts : ∀ w ∈ lw_tbl, w.before #[Value.ref b] s = true) (hgv : (Jvm.Cond.and given_1 narrow_1).before #[Value.ref b] s = true) : ∃ a, strP ("SoleraCellar$Reader", 145, "/", [47]) a s := by
  refine strP_of (n := 1) rfl (by decide) (hts _ q1016) (flat_of_before _ hgv _ (by decide +kernel)) (flat_of_before _ hgv _ (by decide +kernel)) (flat_of_before _ hgv _ (by decide +kernel)) (flat_of_before _ hgv _ (by decide +kernel)) (fun j hj => ?_)
  rcases j with _ | j
  · exact flat_of_before _ hgv _ (by decide +kernel)
  · omega
set_option maxHeartbeats 4000000 in
theorem str_39 {s : State} {b : Nat} (hts : ∀ w ∈ lw_tbl, w.before #[Value.ref b] s = true) (hgv : (Jvm.Cond.and given_1 narrow_1).before #[Value.ref b] s = true) : ∃ a, strP ("SoleraCellar$Reader", 147, "%", [37]) a s := by
  refine strP_of (n := 1) rfl (by decide) (hts _ q1017) (flat_of_before _ hgv _ (by decide +kernel)) (flat_of_before _ hgv _ (by decide +kernel)) (flat_of_before _ hgv _ (by decide +kernel)) (flat_of_before _ hgv _ (by decide +kernel)) (fun j hj => ?_)
  rcases j with _ | j
  · exact flat_of_before _ hgv _ (by decide +kernel)
  · omega
set_option maxHeartbeats 4000000 in
theorem str_40 {s : State} {b : Nat} (hts : ∀ w ∈ lw_tbl, w.before #[Value.ref b] s = true) (hgv : (Jvm.Cond.and given_1 narrow_1).before #[Value.ref b] s = true) : ∃ a, strP ("SoleraCellar$Reader", 152, "[", [91]) a s := by
  refine strP_of (n := 1) rfl (by decide) (hts _ q922) (flat_of_before _ hgv _ (by decide +kernel)) (flat_of_before _ hgv _ (by decide +kernel)) (flat_of_before _ hgv _ (by decide +kernel)) (flat_of_before _ hgv _ (by decide +kernel)) (fun j hj => ?_)
  rcases j with _ | j
  · exact flat_of_before _ hgv _ (by decide +kernel)
  · omega
set_option maxHeartbeats 4000000 in
theorem str_41 {s : State} {b : Nat} (hts : ∀ w ∈ lw_tbl, w.before #[Value.ref b] s = true) (hgv : (Jvm.Cond.and given_1 narrow_1).before #[Value.ref b] s = true) : ∃ a, strP ("SoleraCellar$Reader", 154, "]", [93]) a s := by
  refine strP_of (n := 1) rfl (by decide) (hts _ q931) (flat_of_before _ hgv _ (by decide +kernel)) (flat_of_before _ hgv _ (by decide +kernel)) (flat_of_before _ hgv _ (by decide +kernel)) (flat_of_before _ hgv _ (by decide +kernel)) (fun j hj => ?_)
  rcases j with _ | j
  · exact flat_of_before _ hgv _ (by decide +kernel)
  · omega
