/-! 96: harvests of the component -/
set_option maxRecDepth 100000
/-- one harvest by a seed -/
def hvS (g : Cfg) (b : Tab) (s : Nat) : Tab × Nat := hvT g b (dw (dw (dw (dw s))) % 4) (dw s % g.n) (dw (dw s) % g.n) (dw (dw (dw s)) % 9 + 1)
abbrev sHx (h j : Nat) : Prop := sHv h j ∨ (h = 0 ∧ j = 25)
theorem c_harvest {P : Nat → Prop} {T : Tt} {V : Vt} {la pa : Nat} {g : Cfg} {b : Tab} (h : cPp P T V la pa g 28 29 b) {s : Nat} (hs : V.1 0 25 = nI s) (hb : s ≤ 1000003) (h0 : 0 < g.n) :
    Ret (f_X0_harvest T V 0 28) fun p => p.1 = nI (hvS g b s).2 ∧ cTb T p.2 28 29 (tEnd g (hvS g b s).1) ∧ p.2.1 0 25 = nI (dw (dw (dw (dw s)))) ∧ frM sHx lC V p.2 := by
  have hC := h.C
  have g8 := h.g.n
  have hn : V.1 2 6 = nI g.n := h.cf.n
  have e25 : ∀ (W : Vt) v, (uI W 0 25 v).1 0 25 = v := fun W v => by rw [uI1, if_pos ⟨rfl, rfl⟩]
  rw [hvS]
  have d1 := dw_lt s
  have D1 := c_draw (n := g.n) hC hs hb h0 (by omega)
  generalize dw s = s1 at d1 D1 ⊢
  have d2 := dw_lt s1
  have D2 : ∀ W : Vt, W.1 0 25 = nI s1 → f_X0_draw T W 0 (nI g.n) = some (nI (dw s1 % g.n), uI W 0 25 (nI (dw s1))) := fun W q => c_draw hC q (by omega) h0 (by omega)
  generalize dw s1 = s2 at d2 D2 ⊢
  have d3 := dw_lt s2
  have D3 : ∀ W : Vt, W.1 0 25 = nI s2 → f_X0_draw T W 0 (nI 9) = some (nI (dw s2 % 9), uI W 0 25 (nI (dw s2))) := fun W q => c_draw hC q (by omega) (by omega) (by omega)
  generalize dw s2 = s3 at d3 D3 ⊢
  have D4 : ∀ W : Vt, W.1 0 25 = nI s3 → f_X0_draw T W 0 (nI 4) = some (nI (dw s3 % 4), uI W 0 25 (nI (dw s3))) := fun W q => c_draw hC q (by omega) (by omega) (by omega)
  generalize dw s3 = s4 at D4 ⊢
  have f1 : frM (fun h j => h = 0 ∧ j = 25) lC V (uI V 0 25 (nI s1)) := ⟨fun c j q => by rw [uI1, if_neg q], fun _ _ _ => rfl, rfl⟩
  have e1 := e25 V (nI s1)
  rw [f_X0_harvest, rq hC.k0, dr h.U.r0_2, rq hC.k2, hn, cl D1]
  generalize uI V 0 25 (nI s1) = V1 at f1 e1 ⊢
  have hU1 : CV V1 := h.U.eq3 f1.2.2
  have n1 : V1.1 2 6 = nI g.n := (f1.1 _ _ (by omega)).trans hn
  have f2 : frM (fun h j => h = 0 ∧ j = 25) lC V (uI V1 0 25 (nI s2)) := ⟨fun c j q => by rw [uI1, if_neg q, f1.1 _ _ q], fun c j q => f1.2.1 c j q, f1.2.2⟩
  have e2 := e25 V1 (nI s2)
  rw [dr hU1.r0_2, rq hC.k2, n1, cl (D2 V1 e1)]
  generalize uI V1 0 25 (nI s2) = V2 at f2 e2 ⊢
  have f3 : frM (fun h j => h = 0 ∧ j = 25) lC V (uI V2 0 25 (nI s3)) := ⟨fun c j q => by rw [uI1, if_neg q, f2.1 _ _ q], fun c j q => f2.2.1 c j q, f2.2.2⟩
  have e3 := e25 V2 (nI s3)
  rw [show (9 : Int32) = nI 9 from rfl, cl (D3 V2 e2)]
  generalize uI V2 0 25 (nI s3) = V3 at f3 e3 ⊢
  have f4 : frM (fun h j => h = 0 ∧ j = 25) lC V (uI V3 0 25 (nI s4)) := ⟨fun c j q => by rw [uI1, if_neg q, f3.1 _ _ q], fun c j q => f3.2.1 c j q, f3.2.2⟩
  have e4 := e25 V3 (nI s4)
  rw [sp, show nI (s3 % 9) + (1 : Int32) = nI (s3 % 9 + 1) from nI_add _ _, show (4 : Int32) = nI 4 from rfl, cl (D4 V3 e3)]
  generalize uI V3 0 25 (nI s4) = W at f4 e4 ⊢
  have c1 : s1 % g.n < g.n := Nat.mod_lt _ h0
  have c2 : s2 % g.n < g.n := Nat.mod_lt _ h0
  have h4 : cPp P T W la pa g 28 29 b := h.fr f4 (fun c j q => by omega) h.b (h.ct.fr (fun j => f4.1 _ _ (by omega)) (fun j => f4.1 _ _ (by omega)) (fun j => by rw [f4.2.2]))
  refine c_hvA h4 (how := s4 % 4) (by omega) c1 c2 (by omega) fun p q1 q2 q3 => ⟨q1, q2, ?_, ?_⟩
  · rw [q3.1 _ _ (by omega)]
    exact e4
  · exact (f4.mono (fun _ _ q => Or.inr q) (fun _ _ q => q)).tr (q3.mono (fun _ _ q => Or.inl q) (fun _ _ q => q)) (fun _ _ q => q) (fun _ _ q => q)
/-- i harvests: the table, the seed, how much was bottled -/
def hvN (g : Cfg) (b : Tab) (s : Nat) : Nat → Tab × Nat × Nat
  | 0 => (b, s, 0)
  | i + 1 => if 999 ≤ (hvN g b s i).1.y then hvN g b s i else (tEnd g (hvS g (hvN g b s i).1 (hvN g b s i).2.1).1, dw (dw (dw (dw (hvN g b s i).2.1))), (hvN g b s i).2.2 + (hvS g (hvN g b s i).1 (hvN g b s i).2.1).2)
theorem hvN_ok {g : Cfg} (hg : okG g) {b : Tab} (hb : okB g b) (hy : b.y ≤ 999) {s : Nat} (hs : s ≤ 1000003) (h0 : 0 < g.n) : ∀ i, okB g (hvN g b s i).1 ∧ (hvN g b s i).1.y ≤ 999 ∧ (hvN g b s i).2.1 ≤ 1000003 ∧ (hvN g b s i).2.2 ≤ 9 * i := by
  intro i
  induction i with
  | zero => exact ⟨hb, hy, hs, Nat.le_refl _⟩
  | succ i ih =>
    rw [hvN]
    split
    · exact ⟨ih.1, ih.2.1, ih.2.2.1, by omega⟩
    · rename_i q
      have ok := hvT_ok hg ih.1 (how := dw (dw (dw (dw (hvN g b s i).2.1))) % 4) (c := dw (hvN g b s i).2.1 % g.n) (o := dw (dw (hvN g b s i).2.1) % g.n) (n := dw (dw (dw (hvN g b s i).2.1)) % 9 + 1) (Nat.mod_lt _ h0) (Nat.mod_lt _ h0) (by omega)
      have hd := dw_lt (dw (dw (dw (hvN g b s i).2.1)))
      have e : hvS g (hvN g b s i).1 (hvN g b s i).2.1 = hvT g (hvN g b s i).1 (dw (dw (dw (dw (hvN g b s i).2.1))) % 4) (dw (hvN g b s i).2.1 % g.n) (dw (dw (hvN g b s i).2.1) % g.n) (dw (dw (dw (hvN g b s i).2.1)) % 9 + 1) := rfl
      rw [← e] at ok
      refine ⟨ok_end ok.1 (by omega), ?_, ?_, ?_⟩
      · show (hvS g (hvN g b s i).1 (hvN g b s i).2.1).1.y + 1 ≤ 999
        omega
      · show dw _ ≤ _
        omega
      · show _ + _ ≤ _
        omega
theorem hvN_st {g : Cfg} {b : Tab} {s i : Nat} (h : 999 ≤ (hvN g b s i).1.y) : ∀ j, hvN g b s (i + j) = hvN g b s i := by
  intro j
  induction j with
  | zero => rfl
  | succ j ih => rw [← Nat.add_assoc, hvN, ih, if_pos h]
