/-! 85: what was tasted -/
set_option maxRecDepth 100000
/-- two more -/
def oTasted (a : St) (f n : Int32) : St := if (iN f 0 2 && iN n 0 999) = true then (if a.g.nt = 6 then a.ref 5 else (a.wg (a.g.wnt (a.g.nt + 1) fun k => if k = 2 * a.g.nt then ixN f else if k = 2 * a.g.nt + 1 then ixN n else a.g.ta k)).wst (nI 0)) else a.ref 1
def rTasted (a : St) (f n : Int32) : Int32 := if (iN f 0 2 && iN n 0 999) = true then (if a.g.nt = 6 then -nI 5 else nI (a.g.nt + 1)) else -nI 1
theorem m_tasted {T : Tt} {V : Vt} (hT : MT T) {a : St} (h : MR V a) (ok : OK a) {f n : Int32} : mOp (f_X5_tasted T V 94 f n) V (rTasted a f n) (oTasted a f n) := by
  have h := h.s0 ok.g (j := 0) (v := 0) (by omega)
  rw [f_X5_tasted, rq hT.1, sp]
  refine mOp.fr (W := uI V 94 0 0) (mF_uI (by omega)) ?_
  generalize uI V 94 0 0 = V at h ⊢
  have hV := h.hV
  have mf := h.mf
  have hn := mf.nt
  have h6 := ok.g.nt
  rw [pc m_inI, rTasted, oTasted]
  simp only [b1_0, f_X5_tasted_J29, cal_id]
  rw [show (0 : Int64).toInt = 0 from rfl, show (2 : Int64).toInt = 2 from rfl]
  cases hf : iN f 0 2 with
  | false => exact m_tellNo (w := 1) hT h ok.g (by omega) (by omega)
  | true =>
    rw [if_neg (by decide), pc m_inI, Bool.true_and, show (999 : Int64).toInt = 999 from rfl, show (0 : Int64).toInt = 0 from rfl]
    simp only [b1_0]
    cases hq : iN n 0 999 with
    | false => exact m_tellNo (w := 1) hT h ok.g (by omega) (by omega)
    | true =>
      obtain ⟨f', rfl, -, f2, f3⟩ := iN_of hf (by omega)
      obtain ⟨n', rfl, -, n2, n3⟩ := iN_of hq (by omega)
      rw [if_neg (by decide), if_pos rfl, if_pos rfl]
      simp (disch := omega) only [rq_t, drs, sp, pcs, cls, ↓reduceIte, not_true_eq_false, not_false_eq_true, and_true, true_and, and_false, false_and, or_true, true_or, or_false, false_or, eq_self, l0, l1, l2, l3, l4, l5, l6, l7, l8, l9, l10, l11, l12, l13, l14, l15, l16, l17, l18, l19, l20, l21, l22, l23, l24, l25, l26, l27, l28, l29, l30, l31, l32, l33, l34, l35, l36, l37, l40, l41, l42, l43, l45, l47, l48, l50, l57, l59, l60, l61, l62, l63, l85, l91, l93, l96, l97, l98, l99, l100, l120, l122, l146, l160, l165, l170, l178, l186, l198, l255, l400, l900, l948, l999, l1000, l2475, l2640, l2970, l3990, l9390, l18780, l19000, l999999, l1000000, l100000000, l2147483639, nI_add, pk_mul, ix_nI, leT, leF, ltT, ltF, eqT, eqF, nI_leI, nI_ltI, nI_eq, ngEq, ngEq', ngLt, ngLt', ngLe, ngLe', ngNg, nI_p, pk_sub, Nat.reduceAdd, Nat.reduceMul, Nat.reduceSub, uI1, uI2, uL1, uL2, uL3, uR1, uR2, uR3, rq_eq (MT0 hT), rq95 hT, rf2 hV, rq96 hT, rf3 hV, rq97 hT, rf4 hV, rq98 hT, rf5 hV, rq99 hT, rf6 hV, rq100 hT, rf7 hV, rq101 hT, rf9 hV, rq102 hT, rf10 hV, rq103 hT, rf12 hV, rq104 hT, rf22 hV, rq105 hT, rf24 hV, rq106 hT, rf25 hV, rq107 hT, rf27 hV, rq108 hT, rf28 hV, rq109 hT, rf31 hV, rq110 hT, rf32 hV, rq111 hT, rf33 hV, rq112 hT, rf35 hV, rq113 hT, rf36 hV, rq114 hT, rf37 hV, rq115 hT, rf41 hV, rq116 hT, rf44 hV, rq117 hT, rf45 hV, rq118 hT, rf51 hV, rq119 hT, rf53 hV, hn]
      by_cases q : a.g.nt = 6
      · rw [if_pos q, if_pos q, if_pos q]
        exact m_tellNo (w := 5) hT h ok.g (by omega) (by omega)
      · rw [if_neg q, if_neg q, if_neg q]
        have e : ∀ c j, ¬ (c = 96 ∧ (j = 1 ∨ j = 186 + 2 * a.g.nt ∨ j = 186 + 2 * a.g.nt + 1)) → (uI (uI (uI V 96 (186 + 2 * a.g.nt) (nI f')) 96 (186 + 2 * a.g.nt + 1) (nI n')) 96 1 (nI (a.g.nt + 1))).1 c j = V.1 c j := fun c j w => by rw [uI1, if_neg (by omega), uI1, if_neg (by omega), uI1, if_neg (by omega)]
        have h1 : MR (uI (uI (uI V 96 (186 + 2 * a.g.nt) (nI f')) 96 (186 + 2 * a.g.nt + 1) (nI n')) 96 1 (nI (a.g.nt + 1))) (a.wg (a.g.wnt (a.g.nt + 1) fun k => if k = 2 * a.g.nt then f' else if k = 2 * a.g.nt + 1 then n' else a.g.ta k)) := by
          have g8 := ok.g.n
          refine h.cg (fun c j q => e _ _ (by omega)) rfl ⟨(e _ _ (by omega)).trans mf.n, ?_, (e _ _ (by omega)).trans mf.nl, (e _ _ (by omega)).trans mf.np, (e _ _ (by omega)).trans mf.fo, (e _ _ (by omega)).trans mf.co, (e _ _ (by omega)).trans mf.mo, (e _ _ (by omega)).trans mf.pa, fun c hc => (e _ _ (by have hc : c < a.g.n := hc; omega)).trans (mf.ti c hc), fun c hc => (e _ _ (by have hc : c < a.g.n := hc; omega)).trans (mf.sz c hc), fun k hk => ?_, fun i hi => (mf.pl i hi).fr (fun j => e _ _ (by omega)), fun i hi => (mf.lw i hi).fr5 (fun j => e _ _ (by omega))⟩ ?_ ?_
          · show (uI _ 96 1 _).1 96 1 = nI (a.g.nt + 1)
            rw [uI1, if_pos ⟨rfl, rfl⟩]
          · have hk : k < 2 * (a.g.nt + 1) := hk
            show _ = nI (if k = 2 * a.g.nt then f' else if k = 2 * a.g.nt + 1 then n' else a.g.ta k)
            rw [uI1, if_neg (by omega), uI1, uI1]
            by_cases q1 : k = 2 * a.g.nt
            · rw [if_neg (by omega), if_pos ⟨rfl, by omega⟩, if_pos q1]
            · rw [if_neg q1]
              by_cases q2 : k = 2 * a.g.nt + 1
              · rw [if_pos ⟨rfl, by omega⟩, if_pos q2]
              · rw [if_neg (by omega), if_neg (by omega), if_neg q2]
                exact mf.ta k (by omega)
          · exact ⟨fun k hk => (e _ _ (by omega)).trans (h.mt.D k hk), (e _ _ (by omega)).trans h.mt.b, (e _ _ (by omega)).trans h.mt.y⟩
          · exact (h.mu.fr (fun c j q => e _ _ (by omega))).g rfl rfl rfl
        have og1 : okG (a.g.wnt (a.g.nt + 1) fun k => if k = 2 * a.g.nt then f' else if k = 2 * a.g.nt + 1 then n' else a.g.ta k) := by
          refine ⟨ok.g.n, ok.g.ti, ok.g.sz, ?_, fun k hk => ?_, ok.g.nl, ok.g.lw, ok.g.np, ok.g.pl, ok.g.fo, ok.g.co, ok.g.mo, ok.g.pa⟩
          · show a.g.nt + 1 ≤ 6
            omega
          · have hk : k < a.g.nt + 1 := hk
            show (if 2 * k = 2 * a.g.nt then f' else if 2 * k = 2 * a.g.nt + 1 then n' else a.g.ta (2 * k)) < 3 ∧ (if 2 * k + 1 = 2 * a.g.nt then f' else if 2 * k + 1 = 2 * a.g.nt + 1 then n' else a.g.ta (2 * k + 1)) ≤ 999
            rw [if_neg (show ¬ 2 * k + 1 = 2 * a.g.nt by omega), if_neg (show ¬ 2 * k = 2 * a.g.nt + 1 by omega)]
            by_cases q1 : k = a.g.nt
            · rw [if_pos (by omega), if_pos (by omega)]
              omega
            · rw [if_neg (by omega), if_neg (by omega)]
              exact ok.g.ta k (by omega)
        exact (m_tell hT h1 og1 (nI_0le (by omega))).fr ⟨fun c j q => e _ _ (by omega), fun _ _ _ => rfl, rfl⟩
