/-! 96: what is drawn; acts on paper -/
set_option maxRecDepth 100000
def dw (s : Nat) : Nat := (s * 1103 + 12345) % 1000003
theorem dw_lt (s : Nat) : dw s < 1000003 := Nat.mod_lt _ (by omega)
theorem c_draw {T : Tt} {V : Vt} (hC : CT T) {s n : Nat} (hs : V.1 0 25 = nI s) (hb : s ≤ 1000003) (h0 : 0 < n) (hn : n < 100) : f_X0_draw T V 0 (nI n) = some (nI (dw s % n), uI V 0 25 (nI (dw s))) := by
  have hd := dw_lt s
  have e : (lN s * (1103 : Int64) + 12345) - (lN s * (1103 : Int64) + 12345) / 1000003 * 1000003 = lN (dw s) := by
    rw [show (1103 : Int64) = lN 1103 from rfl, show (12345 : Int64) = lN 12345 from rfl, show (1000003 : Int64) = lN 1000003 from rfl, lN_mul, lN_add, pk_lRem (by omega) (by omega) (by omega)]
    rfl
  rw [f_X0_draw, rq hC.k0, hs, nI_l (by omega), e, lN_i, sp, rq (nI_ne0 h0 (by omega))]
  rw [uI1, if_pos ⟨rfl, rfl⟩, pk_rem (by omega) h0 (by omega)]
theorem m_draw {T : Tt} {V : Vt} (hT : MT T) {s n : Nat} (hs : V.2.1 94 52 = lN s) (hb : s ≤ 1000003) (h0 : 0 < n) (hn : n < 100) : f_X5_draw T V 94 (nI n) = some (nI (dw s % n), uL V 94 52 (lN (dw s))) := by
  have hd := dw_lt s
  have e : (lN s * (1103 : Int64) + 12345) - (lN s * (1103 : Int64) + 12345) / 1000003 * 1000003 = lN (dw s) := by
    rw [show (1103 : Int64) = lN 1103 from rfl, show (12345 : Int64) = lN 12345 from rfl, show (1000003 : Int64) = lN 1000003 from rfl, lN_mul, lN_add, pk_lRem (by omega) (by omega) (by omega)]
    rfl
  rw [f_X5_draw, rq hT.1, hs, e, sp, nI_l (by omega), rq (by rw [L0, pk_lEQ (by omega) (by omega)]; omega)]
  rw [uL2, if_pos ⟨rfl, rfl⟩, pk_lRem (by omega) h0 (by omega), lN_i]
/-- one act on paper: the table, how much was bottled -/
def hvT (g : Cfg) (t : Tab) (how c o n : Nat) : Tab × Nat :=
  if how = 0 ∧ whyP g t (nI c) (nI n) = 0 then (tPour t c n, 0) else
  if how = 1 ∧ whyR g t (nI c) (nI o) (nI n) = 0 then (tRack t c o n, 0) else
  if how = 2 ∧ whyB g t (nI c) (nI n) = 0 then (tBot t c n, n) else (t, 0)
theorem nI_inj {a b : Nat} (ha : a < 2 ^ 31) (hb : b < 2 ^ 31) (e : nI a = nI b) : a = b := by
  rw [nI_eq ha hb] at e
  exact e
theorem hvT_ok {g : Cfg} (hg : okG g) {t : Tab} (ht : okB g t) {how c o n : Nat} (hc : c < g.n) (ho : o < g.n) (hn : n ≤ 9) : okB g (hvT g t how c o n).1 ∧ (hvT g t how c o n).1.y = t.y ∧ (hvT g t how c o n).2 ≤ 9 := by
  have h8 := hg.n
  rw [hvT]
  split
  · rename_i q
    obtain ⟨c', n', e1, e2, h1, h2, h3, h4⟩ := whyP_0 hg q.2
    obtain rfl := nI_inj (by omega) (by omega) e1
    obtain rfl := nI_inj (by omega) (by omega) e2
    exact ⟨ok_pour ht h4, rfl, by omega⟩
  · split
    · rename_i q
      obtain ⟨f', o', n', e1, e2, e3, h1, h2, h3, h4, h5, h6, h7⟩ := whyR_0 hg q.2
      obtain rfl := nI_inj (by omega) (by omega) e1
      obtain rfl := nI_inj (by omega) (by omega) e2
      obtain rfl := nI_inj (by omega) (by omega) e3
      exact ⟨ok_rack ht h5 h6 h7, rfl, by omega⟩
    · split
      · rename_i q
        obtain ⟨c', n', e1, e2, h1, h2, h3, h4⟩ := whyB_0 hg q.2
        obtain rfl := nI_inj (by omega) (by omega) e1
        obtain rfl := nI_inj (by omega) (by omega) e2
        exact ⟨ok_bot ht h4, rfl, hn⟩
      · exact ⟨ht, rfl, by omega⟩
