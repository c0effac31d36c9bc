/-! 98: the component's reader: a part of a sum -/
set_option maxRecDepth 100000
theorem dg_eq {tp : Nat → Nat} {n : Nat} {s : Sg} : decide (s.fr < n ∧ 48 ≤ tp s.fr ∧ tp s.fr ≤ 57) = dg tp n s := by
  rw [dg, isD]
  by_cases h : s.fr < n
  · by_cases q : 48 ≤ tp s.fr ∧ tp s.fr ≤ 57
    · rw [decide_eq_true ⟨h, q⟩, decide_eq_true h, decide_eq_true q]
      rfl
    · rw [decide_eq_false (fun z => q z.2), decide_eq_false q, Bool.and_false]
  · rw [decide_eq_false (fun z => h z.1), decide_eq_false h, Bool.false_and]
theorem b1n {b : Bool} (h : b = true) : ¬ b1 b = 0 := by rw [h]; decide
theorem b1z {b : Bool} (h : ¬ b = true) : b1 b = 0 := by
  cases b with
  | false => rfl
  | true => exact absurd rfl h
theorem spOpen_of {tp : Nat → Nat} {n : Nat} {s s' : Sg} {a : Unit} (h : spOpen tp n s = .inr (a, s')) : s' = nx tp n s.up := by
  rw [spOpen] at h
  split at h
  · cases h
  · cases h
    rfl
theorem spNeed_of {tp : Nat → Nat} {n : Nat} {w : List Nat} {s s' : Sg} {a : Unit} (h : spNeed tp n w s = .inr (a, s')) : s' = nx tp n s := by
  rw [spNeed] at h
  split at h
  · cases h
    rfl
  · cases h
theorem spLeaf_of {s s' : Sg} {a : Unit} (h : spLeaf s = .inr (a, s')) : s' = s.wl ∧ ¬ s.lv = 50 := by
  rw [spLeaf] at h
  split at h
  · cases h
  · rename_i q
    cases h
    exact ⟨rfl, q⟩
set_option maxHeartbeats 1000000 in
theorem c_part {o b0 n d : Nat} {tp : Nat → Nat} {ord : Bool} {rsum : Tt → Vt → Nat → Option (((Nat ⊕ Nat) × Vt × Tt) × Nat × Nat)} {rs : Sg → Rs Sm} (hr : ∀ T V s, rdR T V o tp n s → okR tp n s → okC T o b0 ord → 9 ≤ d + s.dp → Ret (rsum T V o) (rOk o tp n T.2.2 T V s 4 170 2 0 0 (gS b0 s) (rs s))) {T : Tt} {V : Vt} {s : Sg} (h : rdR T V o tp n s) (hs : okR tp n s) (hc : okC T o b0 ord) (hd : 9 ≤ d + 1 + s.dp) : Ret (f_X6_part rsum T V o) (rOk o tp n T.2.2 T V s 4 170 2 0 0 (gS b0 s) (spPart tp n ord rs s)) := by
  have ho := hc.o
  rw [f_X6_part, rq h.t.ko, pc (c_is h hs (w := [91]) rfl (by omega) (by decide) (by decide)), spPart]
  by_cases q : tkw tp s [91] = true
  · have hlt := tkw_lt hs q (by decide)
    rw [if_neg (b1n q), if_pos q]
    have e : (if s.dp = 8 then .inl s.fr else rb (rs (nx tp n s.up)) fun m s2 => if tkw tp s2 [93] = true then .inr (m, (nx tp n s2).dn) else .inl s2.fr : Rs Sm) = rb (spOpen tp n s) fun _ s1 => rb (rs s1) fun m s2 => if tkw tp s2 [93] = true then .inr (m, (nx tp n s2).dn) else .inl s2.fr := by
      rw [spOpen]
      by_cases w : s.dp = 8
      · rw [if_pos w, if_pos w]
        rfl
      · rw [if_neg w, if_neg w]
        rfl
    rw [e]
    refine rOk.bindG (fb := T.2.2) (c0 := 0) (k0 := 0) (c_opens h hs ho) (Nat.le_refl _) (by omega) (by omega) (by omega) (by omega) (by omega) ?_
    intro a s1 r V1 T1 e1 h1 _ hs1 ex1 fr1 so1 l1
    refine ⟨0, 0, ?_, by omega, by omega⟩
    have e1 := spOpen_of e1
    have hc1 := hc.ex ex1
    have d1 : s1.dp = s.dp + 1 := by rw [e1]; rfl
    have v1 : s1.lv = s.lv := by rw [e1]; rfl
    have f1 : s.fr < s1.fr := by rw [e1]; exact nx_lt (s := s) hs hlt
    rw [rq h1.t.ko]
    refine rOk.bindG (fb := T.2.2) (c0 := 0) (k0 := 0) (hr T1 V1 s1 h1 hs1 hc1 (by omega)) ex1.1 (by omega) (by omega) (by omega) (by omega) (by omega) ?_
    intro m s2 r2 V2 T2 e2 h2 g2 hs2 ex2 fr2 so2 l2
    refine ⟨0, 0, ?_, by omega, by omega⟩
    obtain ⟨g2a, g2b, g2c, g2d⟩ := g2
    have e' : (if tkw tp s2 [93] = true then .inr (m, (nx tp n s2).dn) else .inl s2.fr : Rs Sm) = rb (spNeed tp n [93] s2) fun _ s3 => .inr (m, s3.dn) := by
      rw [spNeed]
      by_cases w : tkw tp s2 [93] = true
      · rw [if_pos w, if_pos w]
        rfl
      · rw [if_neg w, if_neg w]
        rfl
    rw [e']
    have hc2 := hc1.ex ex2
    refine rOk.bindG (fb := T.2.2) (c0 := 0) (k0 := 0) (c_need h2 hs2 hc2.o (k := 41) (w := [93]) rfl (by omega) (by decide) (by decide)) (Nat.le_trans ex1.1 ex2.1) (by omega) (by omega) (by omega) (by omega) (by omega) ?_
    intro _ s3 r3 V3 T3 e3 h3 _ hs3 ex3 fr3 so3 l3
    refine ⟨0, 0, ?_, by omega, by omega⟩
    have e3 := spNeed_of e3
    have d3 : s3.dp = s.dp + 1 := by rw [e3]; show s2.dp = _; omega
    have v3 : s3.lv = s2.lv := by rw [e3]; rfl
    rw [rq h3.t.ko, h3.dp, show (1 : Int32) = nI 1 from rfl, pk_sub (by omega), sp]
    have w := h3.w (j := 6) (v := s3.dp - 1) (by omega)
    have h4 : rdR T3 (uI V3 o 6 (nI (s3.dp - 1))) o tp n s3.dn := ⟨w.1, w.2.1, w.2.2, by rw [uI1, if_neg (by omega)]; exact h3.lv, by rw [uI1, if_pos ⟨rfl, rfl⟩]; rfl⟩
    refine Ret.ok (rOk.ok (V := V3) (s := s3) (e := 2) (S := fun c j => c = o ∧ j = 6) h4 ⟨?_, ?_, ?_, ?_⟩ hs3.dn (frI.mk (fun c j z => by rw [uI1, if_neg z]) rfl) (fun c j z => by omega) (show s3.fr ≤ s3.fr from Nat.le_refl s3.fr))
    · show s3.dp - 1 = s.dp
      omega
    · show s.lv < s3.lv
      omega
    · show s.fr < s3.fr
      omega
    · show isSum (s3.lv - s.lv) (bt b0 T3) T3 (uI V3 o 6 (nI (s3.dp - 1))) r2 m
      exact isSum.gr hc.ob g2d ex3 (fr3.tr (frO_I fun _ => rfl) (Nat.le_refl _)) (by omega)
  · rw [if_pos (b1z q), if_neg q, h.fr, show (48 : Int32) = nI 48 from rfl, show (57 : Int32) = nI 57 from rfl, pc (c_isIn h.t (by have := hs.n; have := h.t.n; omega) (by omega) (by omega)), dg_eq]
    by_cases qd : dg tp n s = true
    · rw [if_neg (b1n qd), if_pos qd]
      have e : (if s.lv = 50 then .inl s.fr else rb (spN tp n 0 1000 s.wl) fun k s2 => .inr ((fun _ => some (lN k)), s2) : Rs Sm) = rb (spLeaf s) fun _ s1 => rb (spN tp n 0 1000 s1) fun k s2 => .inr ((fun _ => some (lN k)), s2) := by
        rw [spLeaf]
        by_cases w : s.lv = 50
        · rw [if_pos w, if_pos w]
          rfl
        · rw [if_neg w, if_neg w]
          rfl
      rw [e]
      refine (rOk.bindG (fb := T.2.2) (rc := 0) (rk := 0) (e := 1) (c0 := 1) (k0 := 1) (good2 := gS b0 s) (c_leaf h hs ho) (Nat.le_refl _) (by omega) (by omega) (by omega) (by omega) (by omega) ?_).im fun z hz => hz.pay ?_ (by omega) (by omega) (by omega) (by omega)
      · intro a s1 r V1 T1 e1 h1 _ hs1 ex1 fr1 so1 l1
        refine ⟨1, 1, ?_, by omega, by omega⟩
        obtain ⟨rfl, hl50⟩ := spLeaf_of e1
        have hc1 := hc.ex ex1
        refine Ret.i ?_
        rw [sp, sp, sp]
        have x2 : exT T1 (aT T1 10 0) := aT_ex
        have k2 : (aT T1 10 0).1 T1.2.2 = 10 := aT_k
        have m2 : T1.2.2 < (aT T1 10 0).2.2 := Nat.lt_succ_self _
        have f2 : frO (fun _ => False) T1.2.2 V1 (zV V1 T1.2.2) := frF_z
        have h2 : rdR (aT T1 10 0) (zV V1 T1.2.2) o tp n s.wl := h1.fo hc1.o hc1.t (Nat.le_refl _) x2 f2
        generalize zV V1 T1.2.2 = V2 at f2 h2 ⊢
        generalize aT T1 10 0 = T2 at x2 k2 m2 h2 ⊢
        have hc2 := hc1.ex x2
        refine Ret.im (R := rOk o tp n T.2.2 T2 V2 s.wl 0 0 1 0 0 (gS b0 s) (rb (spN tp n 0 1000 s.wl) fun k s2 => .inr ((fun _ => some (lN k)), s2))) ?_ fun z hz => hz.w (a := 1) (b := 1) (c0 := 1) (k0 := 1) (s := s.wl) x2 ((frF_o f2).mo ex1.1 fun _ _ w => w) (sO2_F f2 hc1.o) (Nat.le_refl _) (by omega) (by omega)
        refine rOk.bind (c0 := 0) (k0 := 0) (c1 := 0) (k1 := 0) (c_number h2 hs1 hc2.o (lo := 0) (hi := 1000) (by omega) (by omega)) (Nat.le_trans ex1.1 x2.1) ?_
        intro k s3 r3 V3 T3 e3 h3 g3 hs3 ex3 fr3 so3 l3
        have g3 : r3 = nI k := g3
        obtain ⟨rfl, ka, kb, kc⟩ := spN_of e3
        have k3 : T3.1 T1.2.2 = 10 := (ex3.2 _ m2).1.trans k2
        rw [f_X11_init, rq k3, f_X10_init, rq (show isSm T3 T1.2.2 from Or.inl k3), pcs, sp, pcs, g3]
        have fF : frO (fun _ => False) T1.2.2 V3 (uI V3 T1.2.2 0 (nI k)) := frF_I (fun _ _ _ _ => ⟨rfl, rfl, rfl⟩) (Nat.le_refl _)
        have ex13 : exT T1 T3 := x2.tr ex3
        have h4 : rdR T3 (uI V3 T1.2.2 0 (nI k)) o tp n (nx tp n s.wl) := h3.fo hc1.o hc1.t ex13.1 exT.rfl' fF
        refine Ret.ok ⟨_, rfl, h4, ⟨rfl, ?_, wl_lt hs (by rw [dg, Bool.and_eq_true] at qd; exact of_decide_eq_true qd.1), ?_⟩, hs3, exT.rfl', ?_, sO2_F fF hc1.o, Nat.le_refl _, Nat.zero_le _, Nat.zero_le _⟩
        · show s.lv < s.lv + 1
          omega
        · show isSum (s.lv + 1 - s.lv) (bt b0 T3) T3 _ T1.2.2 _
          rw [show s.lv + 1 - s.lv = 1 by omega]
          exact ⟨⟨hc1.b, Nat.lt_of_lt_of_le m2 ex3.1⟩, Or.inl ⟨k3, k, by omega, by rw [uI1, if_pos ⟨rfl, rfl⟩], rfl⟩⟩
        · exact (frF_o fF).mo ex1.1 fun _ _ w => w
      · intro a s' ez
        have hl := of_decide_eq_true (show decide (s.fr < n) = true by rw [dg, Bool.and_eq_true] at qd; exact qd.1)
        cases hL : spLeaf s with
        | inl p => rw [hL] at ez; cases ez
        | inr y =>
          obtain ⟨u, s1⟩ := y
          rw [hL] at ez
          obtain ⟨rfl, -⟩ := spLeaf_of hL
          have ez : rb (spN tp n 0 1000 s.wl) (fun k s2 => .inr ((fun _ => some (lN k)), s2)) = (.inr (a, s') : Rs Sm) := ez
          cases hN : spN tp n 0 1000 s.wl with
          | inl p => rw [hN] at ez; cases ez
          | inr y =>
            obtain ⟨k, s2⟩ := y
            rw [hN] at ez
            cases ez
            obtain ⟨rfl, -⟩ := spN_of hN
            exact wl_lt hs hl
    · rw [if_pos (b1z qd), if_neg qd, spV_0, rb_rb]
      refine rOk.bindG (fb := T.2.2) (c0 := 0) (k0 := 0) (c_value h hs ho hc.k) (Nat.le_refl _) (by omega) (by omega) (by omega) (by omega) (by omega) ?_
      intro a s1 r V1 T1 e1 h1 g1 hs1 ex1 fr1 so1 l1
      have hc1 := hc.ex ex1
      have g1 : r = oN1 a := g1
      cases a with
      | none =>
        refine ⟨0, 0, ?_, by omega, by omega⟩
        have g1 : r = ((-1) : Int32) := g1
        rw [g1, if_pos rfl]
        exact rOk.flt h1 hs1 hc1.o (by omega) ex1.1
      | some w =>
        obtain ⟨y1, y2, y3, y4⟩ := spV0_of hs e1
        have hw : w < 28 := by split at y4 <;> omega
        refine ⟨1, 1, ?_, by omega, by omega⟩
        have g1 : r = nI w := g1
        rw [g1, if_neg (show ¬ nI w = ((-1) : Int32) from nI_nm (by omega))]
        refine Ret.i ?_
        rw [sp, sp, sp]
        have x2 : exT T1 (aT T1 11 0) := aT_ex
        have k2 : (aT T1 11 0).1 T1.2.2 = 11 := aT_k
        have m2 : T1.2.2 < (aT T1 11 0).2.2 := Nat.lt_succ_self _
        rw [f_X12_init, rq k2, f_X10_init, rq (show isSm (aT T1 11 0) T1.2.2 from Or.inr (Or.inl k2)), pcs, sp, pcs]
        have fF : frO (fun _ => False) T1.2.2 V1 (uI (zV V1 T1.2.2) T1.2.2 0 (nI w)) := frF_I frF_z (Nat.le_refl _)
        have h4 : rdR (aT T1 11 0) (uI (zV V1 T1.2.2) T1.2.2 0 (nI w)) o tp n s1 := h1.fo hc1.o hc1.t (Nat.le_refl _) x2 fF
        refine Ret.ok ⟨_, rfl, h4, ⟨y2, by omega, y3, ?_⟩, hs1, x2, (frF_o fF).mo ex1.1 fun _ _ w => w, sO2_F fF hc1.o, Nat.le_refl _, by show 0 + 1 ≤ _; omega, by show 0 + 1 ≤ _; omega⟩
        show isSum (s1.lv - s.lv) (bt b0 _) _ _ T1.2.2 _
        rw [show s1.lv - s.lv = 1 by omega]
        exact ⟨⟨hc1.b, m2⟩, Or.inr (Or.inl ⟨k2, w, hw, by rw [uI1, if_pos ⟨rfl, rfl⟩], rfl⟩)⟩
