/-! 97: every step keeps what always holds -/
set_option maxRecDepth 100000
theorem OK.wst {a : St} (ok : OK a) {v : Int32} : OK (a.wst v) := OK.mk ⟨ok.g, ok.t, ok.y, ok.u, ok.ul, ok.im, ok.tn, ok.tp, ok.dm⟩
theorem OK.ref {a : St} (ok : OK a) {w : Nat} : OK (a.ref w) := OK.mk ⟨ok.g, ok.t, ok.y, ok.u, ok.ul, ok.im, ok.tn, ok.tp, ok.dm⟩
theorem OK.wle {a : St} (ok : OK a) {v : Int32} : OK (a.wle v) := OK.mk ⟨ok.g, ok.t, ok.y, ok.u, ok.ul, ok.im, ok.tn, ok.tp, ok.dm⟩
theorem OK.set {a : St} (ok : OK (a.wu (u0 a.u))) : OK a.set := OK.mk ⟨ok.g, ok.t, ok.y, ok.u, ok.ul, ok.im, ok.tn, ok.tp, ok.dm⟩
theorem OK.pour {a : St} (ok : OK a) {c n : Int32} : OK (oPour a c n) := by
  rw [oPour]
  split
  · exact ok.nP.wst
  · exact ok.ref
theorem OK.rack {a : St} (ok : OK a) {f o n : Int32} : OK (oRack a f o n) := by
  rw [oRack]
  split
  · exact ok.nR.wst
  · exact ok.ref
theorem OK.bot {a : St} (ok : OK a) {c n : Int32} : OK (oBot a c n) := by
  rw [oBot]
  split
  · exact ok.nB.wst
  · exact ok.ref
theorem OK.pass {a : St} (ok : OK a) : OK (oPass a) := by
  rw [oPass]
  split
  · exact ok.ref
  · exact ok.nY.wst
theorem OK.undo {a : St} (ok : OK a) : OK (oUn a) := by
  rw [oUn]
  split
  · exact ok.ref
  · rename_i q
    exact (ok.un q).wst
theorem OK.eend {a : St} (ok : OK a) {v : Int32} : OK (oEnd a v) := by
  rw [oEnd]
  split
  · rename_i q
    obtain ⟨k, rfl, h1, h2, h3⟩ := iN_of q (by omega)
    have := ok.tn
    rw [ix_nI h3]
    exact ok.wtn (by omega)
  · exact ok
theorem OK.forget {a : St} (ok : OK a) : OK (oForget a) := OK.mk ⟨⟨ok.g.n, ok.g.ti, ok.g.sz, Nat.zero_le _, fun k hk => absurd hk (Nat.not_lt_zero _), ok.g.nl, ok.g.lw, ok.g.np, ok.g.pl, ok.g.fo, ok.g.co, ok.g.mo, ok.g.pa⟩, ⟨ok.t.D, ok.t.b, ok.t.y⟩, ok.y, fun k hk => ⟨⟨(ok.u k hk).1.D, (ok.u k hk).1.b, (ok.u k hk).1.y⟩, (ok.u k hk).2⟩, ok.ul, ok.im, ok.tn, ok.tp, ok.dm⟩
theorem OK.force {a : St} (ok : OK a) {v : Int32} : OK (oForce a v) := by
  rw [oForce]
  split
  · rename_i q
    exact OK.mk ⟨okG.wfo ok.g q, ⟨ok.t.D, ok.t.b, ok.t.y⟩, ok.y, fun k hk => ⟨⟨(ok.u k hk).1.D, (ok.u k hk).1.b, (ok.u k hk).1.y⟩, (ok.u k hk).2⟩, ok.ul, ok.im, ok.tn, ok.tp, ok.dm⟩
  · exact ok.ref
theorem OK.row {a : St} (ok : OK a) : OK (oRow a) := by
  rw [oRow]
  split
  · exact (ok.wtn (by omega)).ref
  · have h := rw_ok (ok.wtn (n := 0) (by omega)) (a.tn / 3)
    exact OK.mk ⟨h.g, h.t, h.y, h.u, h.ul, h.im, h.tn, h.tp, h.dm⟩
theorem OK.cask {a : St} (ok : OK a) {ti sz : Int32} : OK (oCask a ti sz) := by
  have g8 := ok.g.n
  rw [oCask]
  split
  · rename_i q
    obtain ⟨t, s, rfl, rfl, h1, h2, h3⟩ := isCk_of q
    rw [ix_nI (by omega), ix_nI (by omega)]
    split
    · exact ok.ref
    · exact (OK.ad ok.zu (by omega) h1 h2 h3 (by omega)).set
  · exact ok.ref
theorem OK.harv {a : St} (ok : OK a) {s n : Int32} : OK (oHarv a s n) := by
  have g8 := ok.g.n
  rw [oHarv]
  split
  · rename_i q
    rw [Bool.and_eq_true] at q
    obtain ⟨s', rfl, s1, s2, s3⟩ := iN_of q.1 (by omega)
    rw [ix_nI s3]
    split
    · exact ok.ref
    · have o := hvN_ok ok.g ok.t ok.y (s := s') (by omega) (by omega) (ixN n)
      refine OK.mk ⟨ok.g, ok.t, ok.y, ok.u, ok.ul, ok.im, ok.tn, ok.tp, fun m hm => ?_⟩
      cases hm
      exact ⟨g8, fun c hc => o.1.a ok.g hc⟩
  · exact ok.ref
theorem OK.tasted {a : St} (ok : OK a) {f n : Int32} : OK (oTasted a f n) := by
  have h6 := ok.g.nt
  rw [oTasted]
  split
  · rename_i q
    rw [Bool.and_eq_true] at q
    obtain ⟨f', rfl, -, f2, f3⟩ := iN_of q.1 (by omega)
    obtain ⟨n', rfl, -, n2, n3⟩ := iN_of q.2 (by omega)
    rw [ix_nI f3, ix_nI n3]
    split
    · exact ok.ref
    · refine OK.mk ⟨⟨ok.g.n, ok.g.ti, ok.g.sz, ?_, fun k hk => ?_, ok.g.nl, ok.g.lw, ok.g.np, ok.g.pl, ok.g.fo, ok.g.co, ok.g.mo, ok.g.pa⟩, ⟨ok.t.D, ok.t.b, ok.t.y⟩, ok.y, fun k hk => ⟨⟨(ok.u k hk).1.D, (ok.u k hk).1.b, (ok.u k hk).1.y⟩, (ok.u k hk).2⟩, ok.ul, ok.im, ok.tn, ok.tp, ok.dm⟩
      · show a.g.nt + 1 ≤ 6
        omega
      · have hk : k < a.g.nt + 1 := hk
        show (if 2 * k = 2 * a.g.nt then f' else if 2 * k = 2 * a.g.nt + 1 then n' else a.g.ta (2 * k)) < 3 ∧ (if 2 * k + 1 = 2 * a.g.nt then f' else if 2 * k + 1 = 2 * a.g.nt + 1 then n' else a.g.ta (2 * k + 1)) ≤ 999
        rw [if_neg (show ¬ 2 * k + 1 = 2 * a.g.nt by omega), if_neg (show ¬ 2 * k = 2 * a.g.nt + 1 by omega)]
        by_cases q1 : k = a.g.nt
        · rw [if_pos (by omega), if_pos (by omega)]
          omega
        · rw [if_neg (by omega), if_neg (by omega)]
          exact ok.g.ta k (by omega)
  · exact ok.ref
theorem OK.terms {a : St} (ok : OK a) {w v : Int32} : OK (oTerms a w v) := by
  rw [oTerms]
  split
  · rename_i q
    obtain ⟨n, rfl, hn, hw⟩ := isTm_of q
    rw [ix_nI (by omega), wTm]
    rcases hw with rfl | ⟨rfl, q1⟩ | ⟨rfl, q1⟩ | ⟨rfl, q1, q2⟩
    · rw [if_pos rfl]
      exact OK.mk ⟨ok.g, ⟨ok.t.D, ok.t.b, show n ≤ 5000 by omega⟩, hn, fun k hk => absurd hk (Nat.not_lt_zero _), Nat.zero_le _, ok.im, ok.tn, ok.tp, ok.dm⟩
    · rw [if_neg (by decide), if_pos rfl]
      exact OK.mk ⟨⟨ok.g.n, ok.g.ti, ok.g.sz, ok.g.nt, ok.g.ta, ok.g.nl, ok.g.lw, ok.g.np, ok.g.pl, ok.g.fo, q1, ok.g.mo, ok.g.pa⟩, ⟨ok.t.D, ok.t.b, ok.t.y⟩, ok.y, fun k hk => absurd hk (Nat.not_lt_zero _), Nat.zero_le _, ok.im, ok.tn, ok.tp, ok.dm⟩
    · rw [if_neg (by decide), if_neg (by decide), if_pos rfl]
      exact OK.mk ⟨⟨ok.g.n, ok.g.ti, ok.g.sz, ok.g.nt, ok.g.ta, ok.g.nl, ok.g.lw, ok.g.np, ok.g.pl, ok.g.fo, ok.g.co, q1, ok.g.pa⟩, ⟨ok.t.D, ok.t.b, ok.t.y⟩, ok.y, fun k hk => absurd hk (Nat.not_lt_zero _), Nat.zero_le _, ok.im, ok.tn, ok.tp, ok.dm⟩
    · rw [if_neg (by decide), if_neg (by decide), if_neg (by decide)]
      exact OK.mk ⟨⟨ok.g.n, ok.g.ti, ok.g.sz, ok.g.nt, ok.g.ta, ok.g.nl, ok.g.lw, ok.g.np, ok.g.pl, ok.g.fo, ok.g.co, ok.g.mo, q1, q2⟩, ⟨ok.t.D, ok.t.b, ok.t.y⟩, ok.y, fun k hk => absurd hk (Nat.not_lt_zero _), Nat.zero_le _, ok.im, ok.tn, ok.tp, ok.dm⟩
  · exact ok.ref
