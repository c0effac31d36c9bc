/-! 97: what orders see -/
set_option maxRecDepth 100000
/-- the values that an order sees: year, done, latest, bottled, then full, room, mean by casks -/
def vO (g : Cfg) (t : Tab) (dn lt : Int32) : Vals := fun o =>
  if o = 0 then lN t.y else if o = 1 then dn.toInt64 else if o = 2 then lt.toInt64 else if o = 3 then lN t.b else
  if o < 12 then (if o - 4 < g.n then (tFull t.D (o - 4)).toInt64 else -1) else
  if o < 20 then (if o - 12 < g.n then lN ((1000 * g.sz (o - 12) - tAll t.D (o - 12)) / 1000) else -1) else
  (if o - 20 < g.n then (tYrs t.D (o - 20)).toInt64 else -1)
theorem m_factOf {T : Tt} {V : Vt} {g : Cfg} {b : Tab} (h : mPp T V g b) {dn lt : Int32} {o c : Nat} (h5 : 5 ≤ o) (h8 : o < 8) (hc : c < 8) : f_X5_factOf T V 94 (nI o) (nI c) = some (vO g b dn lt (4 + 8 * (o - 5) + c)) := by
  have hT := h.T
  have g8 := h.g.n
  rw [f_X5_factOf, rq hT.1, pc (m_isCask hT h.V h.g h.mf)]
  by_cases q : c < g.n
  · have hB := h.b.a h.g q
    have hD := h.b.D c q
    rw [isKa_nI g8 q, if_neg (by decide)]
    have : o = 5 ∨ o = 6 ∨ o = 7 := by omega
    rcases this with e | e | e <;> subst e
    · rw [if_pos (by decide), pc (m_all hT h.V h.mt.D hc), l1000, pk_div (by omega) (by omega) (by omega), vO, if_neg (by omega), if_neg (by omega), if_neg (by omega), if_neg (by omega), if_pos (by omega), show 4 + 8 * (5 - 5) + c - 4 = c by omega, if_pos q]
      rfl
    · have hs := h.g.sz c q
      rw [if_neg (by decide), if_pos (by decide), pc (m_room hT h.V h.g h.mf h.b h.mt q), l1000, pk_div (by omega) (by omega) (by omega), vO, if_neg (by omega), if_neg (by omega), if_neg (by omega), if_neg (by omega), if_neg (by omega), if_pos (by omega), show 4 + 8 * (6 - 5) + c - 12 = c by omega, if_pos q, nI_l (by omega)]
    · rw [if_neg (by decide), if_neg (by decide), pc (m_years hT h.V h.mt.D hc hB), vO, if_neg (by omega), if_neg (by omega), if_neg (by omega), if_neg (by omega), if_neg (by omega), if_neg (by omega), show 4 + 8 * (7 - 5) + c - 20 = c by omega, if_pos q]
  · have hk : isKa g (nI c) = false := by
      rw [isKa, iN_nI (by omega)]
      exact decide_eq_false (by omega)
    rw [hk, if_pos (by decide)]
    have : o = 5 ∨ o = 6 ∨ o = 7 := by omega
    rcases this with e | e | e <;> subst e
    · rw [vO, if_neg (by omega), if_neg (by omega), if_neg (by omega), if_neg (by omega), if_pos (by omega), show 4 + 8 * (5 - 5) + c - 4 = c by omega, if_neg q]
    · rw [vO, if_neg (by omega), if_neg (by omega), if_neg (by omega), if_neg (by omega), if_neg (by omega), if_pos (by omega), show 4 + 8 * (6 - 5) + c - 12 = c by omega, if_neg q]
    · rw [vO, if_neg (by omega), if_neg (by omega), if_neg (by omega), if_neg (by omega), if_neg (by omega), if_neg (by omega), show 4 + 8 * (7 - 5) + c - 20 = c by omega, if_neg q]
