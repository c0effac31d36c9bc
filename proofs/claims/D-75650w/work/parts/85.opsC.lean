/-! 85: what was tasted, the component -/
set_option maxRecDepth 100000
theorem c_tasted {T : Tt} {V : Vt} {x : HS} {a : St} (h : CR T V x a) (ok : OK a) {f n : Int32} : cOp (f_X0_tasted T V 0 f n) T V (rTasted a f n) (oTasted a f n) := by
  have hC := h.hC
  have hU := h.hU
  have cf := h.cf
  have hn : V.1 2 7 = nI a.g.nt := cf.nt
  have h6 := ok.g.nt
  rw [f_X0_tasted, rq hC.k0, pc c_in, rTasted, oTasted]
  simp only [b1_0, f_X0_tasted_J20, cal_id]
  rw [show (0 : Int32).toInt = 0 from rfl, show (2 : Int32).toInt = 2 from rfl]
  cases hf : iN f 0 2 with
  | false => exact c_refuse (w := 1) h (by omega) (by omega)
  | true =>
    rw [if_neg (by decide), pc c_in, Bool.true_and, show (999 : Int32).toInt = 999 from rfl, show (0 : Int32).toInt = 0 from rfl]
    simp only [b1_0]
    cases hq : iN n 0 999 with
    | false => exact c_refuse (w := 1) h (by omega) (by omega)
    | true =>
      obtain ⟨f', rfl, -, f2, f3⟩ := iN_of hf (by omega)
      obtain ⟨n', rfl, -, n2, n3⟩ := iN_of hq (by omega)
      rw [if_neg (by decide), if_pos rfl, if_pos rfl]
      simp (disch := omega) only [rq_t, drs, sp, pcs, cls, ↓reduceIte, not_true_eq_false, not_false_eq_true, and_true, true_and, and_false, false_and, or_true, true_or, or_false, false_or, eq_self, l0, l1, l2, l3, l4, l5, l6, l7, l8, l9, l10, l11, l12, l13, l14, l15, l16, l17, l18, l19, l20, l21, l22, l23, l24, l25, l26, l27, l28, l29, l30, l31, l32, l33, l34, l35, l36, l37, l40, l41, l42, l43, l45, l47, l48, l50, l57, l59, l60, l61, l62, l63, l85, l91, l93, l96, l97, l98, l99, l100, l120, l122, l146, l160, l165, l170, l178, l186, l198, l255, l400, l900, l948, l999, l1000, l2475, l2640, l2970, l3990, l9390, l18780, l19000, l999999, l1000000, l100000000, l2147483639, nI_add, pk_mul, ix_nI, leT, leF, ltT, ltF, eqT, eqF, nI_leI, nI_ltI, nI_eq, ngEq, ngEq', ngLt, ngLt', ngLe, ngLe', ngNg, nI_p, pk_sub, Nat.reduceAdd, Nat.reduceMul, Nat.reduceSub, uI1, uI2, uL1, uL2, uL3, uR1, uR2, uR3, rq_eq hC.k0, rq_eq hC.k2, rq_eq hC.k3, rq_eq hC.k8, rq_eq hC.k10, rq_eq hC.k17, rq_eq hC.k19, rq_eq hC.k22, rq_eq hC.k23, rq_eq hC.k28, cq1 hC, cq4 hC, cq5 hC, cq6 hC, cq7 hC, cq12 hC, cq13 hC, cq14 hC, cq15 hC, cq16 hC, cq18 hC, cq20 hC, cq21 hC, cq24 hC, cq25 hC, cq26 hC, cq27 hC, cq29 hC, hU.r0_1, hU.r0_2, hU.r0_3, hU.r0_4, hU.r0_5, hU.r0_6, hU.r0_7, hU.r0_8, hU.r0_9, hU.r0_10, hU.r0_16, hU.r0_17, hU.r0_18, hU.r0_22, hU.r0_23, hU.r2_0, hU.r2_1, hU.r2_2, hU.r2_3, hU.r2_4, hU.r2_5, hU.r3_0, hU.r17_0, hU.r19_0, hU.r28_0, hU.r22_0, hU.r22_1, hn]
      by_cases q : a.g.nt = 6
      · rw [if_pos q, if_pos q, if_pos q]
        exact c_refuse (w := 5) h (by omega) (by omega)
      · rw [if_neg q, if_neg q, if_neg q]
        have e : ∀ c j, ¬ ((c = 2 ∧ j = 7) ∨ (c = 7 ∧ (j = 2 * a.g.nt ∨ j = 2 * a.g.nt + 1))) → (uI (uI (uI V 7 (2 * a.g.nt) (nI f')) 7 (2 * a.g.nt + 1) (nI n')) 2 7 (nI (a.g.nt + 1))).1 c j = V.1 c j := fun c j w => by rw [uI1, if_neg (by omega), uI1, if_neg (by omega), uI1, if_neg (by omega)]
        have hl := cCf.lp (W := uI (uI (uI V 7 (2 * a.g.nt) (nI f')) 7 (2 * a.g.nt + 1) (nI n')) 2 7 (nI (a.g.nt + 1))) h.P' cf (fun c j q => e _ _ (by omega)) rfl
        have h1 : CR T (uI (uI (uI V 7 (2 * a.g.nt) (nI f')) 7 (2 * a.g.nt + 1) (nI n')) 2 7 (nI (a.g.nt + 1))) x (a.wg (a.g.wnt (a.g.nt + 1) fun k => if k = 2 * a.g.nt then f' else if k = 2 * a.g.nt + 1 then n' else a.g.ta k)) := by
          refine h.cg (fun c j q => e _ _ (by omega)) rfl ⟨(e 2 6 (by omega)).trans cf.n, ?_, (e 2 8 (by omega)).trans cf.co, (e 2 9 (by omega)).trans cf.mo, (e 2 10 (by omega)).trans cf.pa, (e 2 11 (by omega)).trans cf.fo, fun c hc => (e 5 c (by omega)).trans (cf.ti c hc), fun c hc => (e 6 c (by omega)).trans (cf.sz c hc), fun k hk => ?_, hl.1, hl.2⟩
          · show (uI _ 2 7 _).1 2 7 = nI (a.g.nt + 1)
            rw [uI1, if_pos ⟨rfl, rfl⟩]
          · have hk : k < 2 * (a.g.nt + 1) := hk
            show (uI (uI (uI V 7 (2 * a.g.nt) (nI f')) 7 (2 * a.g.nt + 1) (nI n')) 2 7 (nI (a.g.nt + 1))).1 7 k = nI (if k = 2 * a.g.nt then f' else if k = 2 * a.g.nt + 1 then n' else a.g.ta k)
            rw [uI1, if_neg (by omega), uI1, uI1]
            by_cases q1 : k = 2 * a.g.nt
            · rw [if_neg (by omega), if_pos ⟨rfl, q1⟩, if_pos q1]
            · rw [if_neg q1]
              by_cases q2 : k = 2 * a.g.nt + 1
              · rw [if_pos ⟨rfl, q2⟩, if_pos q2]
              · rw [if_neg (by omega), if_neg (by omega), if_neg q2]
                exact cf.ta k (by omega)
        exact (c_done h1).fr ⟨fun c j q => e _ _ (by omega), fun _ _ _ => rfl, fun _ _ _ => rfl⟩
