/-! 63: tables changed -/
set_option maxRecDepth 100000
/-- only at these places may ints differ -/
def frI (S : Nat → Nat → Prop) (V V' : Vt) : Prop := (∀ h j, ¬ S h j → V'.1 h j = V.1 h j) ∧ V'.2 = V.2
theorem frI.mk {S : Nat → Nat → Prop} {V V' : Vt} (h1 : ∀ h j, ¬ S h j → V'.1 h j = V.1 h j) (h2 : V'.2 = V.2) : frI S V V' := ⟨h1, h2⟩
/-- the ages of a cask are put anew -/
def pA (D : Nat → Nat) (c i : Nat) (g : Nat → Nat) : Nat → Nat := fun k => if 20 * c ≤ k ∧ k < 20 * c + i then g (k - 20 * c) else D k
theorem pA_in {D : Nat → Nat} {c i a : Nat} {g : Nat → Nat} (h : a < i) : pA D c i g (20 * c + a) = g a := by
  rw [pA, if_pos (by omega), Nat.add_sub_cancel_left]
theorem pA_out {D : Nat → Nat} {c i k : Nat} {g : Nat → Nat} (h : k < 20 * c ∨ 20 * c + i ≤ k) : pA D c i g k = D k := by
  rw [pA, if_neg (by omega)]
abbrev gC (D : Nat → Nat) (c : Nat) : Nat → Nat := fun a => D (20 * c + a)
/-- what is left when n measures are drawn -/
def tDraw (D : Nat → Nat) (c n : Nat) : Nat → Nat := pA D c 20 fun a => D (20 * c + a) - outA (gC D c) n a
theorem tk_b {g : Nat → Nat} {n a : Nat} (ha : a < 20) (hn : n ≤ 999) (hg : sg 20 g ≤ 999000) : g a * n * 1000 < 2 ^ 62 := by
  have h1 := sg_one (f := g) ha
  have h2 : g a * n ≤ 999000 * 999 := Nat.mul_le_mul (by omega) hn
  omega
theorem sgtk {g : Nat → Nat} {n i : Nat} (hi : i ≤ 20) : sg i (tk g n) ≤ n * 1000 := Nat.le_trans (sg_mono hi) tk_sum
theorem mis_mono {g : Nat → Nat} {n i : Nat} (h : mis g n i = 0) : ∀ j, mis g n (i + j) = 0 := by
  intro j
  induction j with
  | zero => exact h
  | succ j ih =>
    rw [← Nat.add_assoc, mis, ih, if_neg (fun w => absurd w.1 (by omega))]
theorem mis_le {g : Nat → Nat} {n : Nat} : ∀ i, mis g n i ≤ n * 1000 := by
  intro i
  induction i with
  | zero => rw [mis]; omega
  | succ i ih => rw [mis]; split <;> omega
/-- out of a cask, when the first i ages from the eldest on are seen to -/
def outI (g : Nat → Nat) (n i a : Nat) : Nat := if 19 - a < i then outA g n a else tk g n a
theorem outI_20 {g : Nat → Nat} {n a : Nat} : outI g n 20 a = outA g n a := by rw [outI, if_pos (by omega)]
theorem outI_0 {g : Nat → Nat} {n a : Nat} : outI g n 0 a = tk g n a := by rw [outI, if_neg (by omega)]
theorem outI_s {g : Nat → Nat} {n i a : Nat} (h : a ≠ 19 - i) (ha : a < 20) (hi : i < 20) : outI g n (i + 1) a = outI g n i a := by
  rw [outI, outI]
  by_cases q : 19 - a < i
  · rw [if_pos q, if_pos (by omega)]
  · rw [if_neg q, if_neg (by omega)]
theorem outI_e {g : Nat → Nat} {n i a : Nat} (h : mis g n i = 0) (ha : a < 20) : outI g n i a = outA g n a := by
  rw [outI]
  by_cases q : 19 - a < i
  · rw [if_pos q]
  · rw [if_neg q, outA, if_neg]
    intro w
    have := mis_mono h (19 - a - i)
    rw [show i + (19 - a - i) = 19 - a by omega] at this
    omega
theorem pA_c {D : Nat → Nat} {c : Nat} {f g : Nat → Nat} (h : ∀ a, a < 20 → f a = g a) : pA D c 20 f = pA D c 20 g := by
  funext k
  rw [pA, pA]
  by_cases q : 20 * c ≤ k ∧ k < 20 * c + 20
  · rw [if_pos q, if_pos q, h _ (by omega)]
  · rw [if_neg q, if_neg q]
def dn (i : Nat) : Int32 := if i < 20 then nI (19 - i) else -nI 1
theorem dn_s {i : Nat} (h : i < 20) : nI (19 - i) + -nI 1 = dn (i + 1) := by
  rw [dn]
  by_cases q : i + 1 < 20
  · rw [if_pos q, nI_p (by omega), show 19 - i - 1 = 19 - (i + 1) by omega]
  · rw [if_neg q, show 19 - i = 0 by omega]
    rfl
set_option maxHeartbeats 1000000 in
theorem c_draws {T : Tt} {V : Vt} {t d x : Nat} (h : isTb T V t d) (hx1 : T.1 x = 100) (hx2 : T.2.1 x = 20) (hxd : x ≠ d) {D : Nat → Nat} (hD : cD V d D) {c n : Nat} (hc : c < 8) (hn : n ≤ 999) (h0 : 0 < n) (hb : n * 1000 ≤ tAll D c) (hB : tAll D c ≤ 999000) :
    Ret (f_X2_draws T V t (nI c) (nI n) x) fun V' => frI (fun h _ => h = d ∨ h = x) V V' ∧ cD V' d (tDraw D c n) ∧ ∀ a, a < 20 → V'.1 x a = nI (outA (gC D c) n a) := by
  have hS : sg 20 (gC D c) ≤ 999000 := hB
  have hS2 : n * 1000 ≤ sg 20 (gC D c) := hb
  have hqx : ∀ a, a < 20 → aIn T x 0 (nI a) := fun a ha => aIn_nI hx1 (by omega) (by omega)
  rw [f_X2_draws, rq h.1, pc (c_all h hD hc), sp, sp, nI_l (by omega), l1000, pk_mul]
  refine lq3 (f_X2_draws_L18 T t (nI c) (nI n) x (lN (tAll D c)) _)
    (fun i m a W => m = nI (n * 1000 - sg i (tk (gC D c) n)) ∧ a = nI i ∧ frI (fun h _ => h = d ∨ h = x) V W ∧ (∀ a, a < i → W.1 x a = nI (tk (gC D c) n a)) ∧ cD W d (pA D c i fun a => D (20 * c + a) - tk (gC D c) n a)) 20
    ?_ ?_ fuel _ _ _ (by decide) ⟨rfl, rfl, frI.mk (fun _ _ _ => rfl) rfl, fun a ha => absurd ha (by omega), fun k hk => by rw [pA_out (by omega)]; exact hD k hk⟩
  · intro i N m a W hi ⟨q1, q2, q3, q4, q5⟩ ih
    subst q1 q2
    have hg : D (20 * c + i) ≤ sg 20 (gC D c) := sg_one (f := gC D c) hi
    have hd : W.1 d (20 * c + i) = nI (D (20 * c + i)) := by rw [q5 _ (by omega), pA_out (by omega)]
    have hk : D (20 * c + i) * n * 1000 < 2 ^ 62 := tk_b (g := gC D c) hi hn hS
    have hs := sgtk (g := gC D c) (n := n) (i := i + 1) (by omega)
    have hle : tk (gC D c) n i ≤ D (20 * c + i) := tk_le (g := gC D c) (n := n) (a := i) hS2
    rw [sg_s] at hs
    have hte : D (20 * c + i) * n * 1000 / tAll D c = tk (gC D c) n i := rfl
    simp (disch := omega) only [f_X2_draws_L18, rq_t, drs, sp, pcs, cls, ↓reduceIte, not_true_eq_false, not_false_eq_true, and_true, true_and, and_false, false_and, or_true, true_or, or_false, false_or, eq_self, l0, l1, l2, l3, l4, l5, l6, l7, l8, l9, l10, l11, l12, l13, l14, l15, l16, l17, l18, l19, l20, l21, l22, l23, l24, l25, l26, l27, l28, l29, l30, l31, l32, l33, l34, l35, l36, l37, l40, l41, l42, l43, l45, l47, l48, l50, l57, l59, l60, l61, l62, l63, l85, l91, l93, l96, l97, l98, l99, l100, l120, l122, l146, l160, l165, l170, l178, l186, l198, l255, l400, l900, l948, l999, l1000, l2475, l2640, l2970, l3990, l9390, l18780, l19000, l999999, l1000000, l100000000, l2147483639, nI_add, pk_mul, ix_nI, leT, leF, ltT, ltF, eqT, eqF, nI_leI, nI_ltI, nI_eq, ngEq, ngEq', ngLt, ngLt', ngLe, ngLe', ngNg, nI_p, pk_sub, Nat.reduceAdd, Nat.reduceMul, Nat.reduceSub, uI1, uI2, uL1, uL2, uL3, uR1, uR2, uR3, lN_add, lN_mul, lN_i, nI_l, L0, L1, L10, L100, L1000, LM, q3.2, h.2.1, rqT h, rq (hqx _ _), hd, pk_lDiv, pk_lEQ, hte]
    refine ih _ _ _ ⟨?_, rfl, frI.mk ?_ ?_, ?_, ?_⟩
    · rw [sg_s]
      congr 1
      omega
    · intro h j hh
      simp only [uI1]
      rw [if_neg (by omega), if_neg (by omega)]
      exact q3.1 h j hh
    · exact q3.2
    · intro a ha
      simp (disch := omega) only [rq_t, drs, sp, pcs, cls, ↓reduceIte, not_true_eq_false, not_false_eq_true, and_true, true_and, and_false, false_and, or_true, true_or, or_false, false_or, eq_self, l0, l1, l2, l3, l4, l5, l6, l7, l8, l9, l10, l11, l12, l13, l14, l15, l16, l17, l18, l19, l20, l21, l22, l23, l24, l25, l26, l27, l28, l29, l30, l31, l32, l33, l34, l35, l36, l37, l40, l41, l42, l43, l45, l47, l48, l50, l57, l59, l60, l61, l62, l63, l85, l91, l93, l96, l97, l98, l99, l100, l120, l122, l146, l160, l165, l170, l178, l186, l198, l255, l400, l900, l948, l999, l1000, l2475, l2640, l2970, l3990, l9390, l18780, l19000, l999999, l1000000, l100000000, l2147483639, nI_add, pk_mul, ix_nI, leT, leF, ltT, ltF, eqT, eqF, nI_leI, nI_ltI, nI_eq, ngEq, ngEq', ngLt, ngLt', ngLe, ngLe', ngNg, nI_p, pk_sub, Nat.reduceAdd, Nat.reduceMul, Nat.reduceSub, uI1, uI2, uL1, uL2, uL3, uR1, uR2, uR3]
      by_cases e : a = i
      · rw [if_pos e, e]
      · rw [if_neg e]
        exact q4 a (by omega)
    · intro k hk
      simp (disch := omega) only [rq_t, drs, sp, pcs, cls, ↓reduceIte, not_true_eq_false, not_false_eq_true, and_true, true_and, and_false, false_and, or_true, true_or, or_false, false_or, eq_self, l0, l1, l2, l3, l4, l5, l6, l7, l8, l9, l10, l11, l12, l13, l14, l15, l16, l17, l18, l19, l20, l21, l22, l23, l24, l25, l26, l27, l28, l29, l30, l31, l32, l33, l34, l35, l36, l37, l40, l41, l42, l43, l45, l47, l48, l50, l57, l59, l60, l61, l62, l63, l85, l91, l93, l96, l97, l98, l99, l100, l120, l122, l146, l160, l165, l170, l178, l186, l198, l255, l400, l900, l948, l999, l1000, l2475, l2640, l2970, l3990, l9390, l18780, l19000, l999999, l1000000, l100000000, l2147483639, nI_add, pk_mul, ix_nI, leT, leF, ltT, ltF, eqT, eqF, nI_leI, nI_ltI, nI_eq, ngEq, ngEq', ngLt, ngLt', ngLe, ngLe', ngNg, nI_p, pk_sub, Nat.reduceAdd, Nat.reduceMul, Nat.reduceSub, uI1, uI2, uL1, uL2, uL3, uR1, uR2, uR3]
      by_cases e : k = 20 * c + i
      · rw [if_pos e, e, pA_in (by omega)]
      · rw [if_neg e, q5 k hk, pA, pA]
        congr 1
        by_cases q : 20 * c ≤ k ∧ k < 20 * c + i
        · rw [if_pos q, if_pos (by omega)]
        · rw [if_neg q, if_neg (by omega)]
  · intro N m a W ⟨q1, q2, q3, q4, q5⟩
    subst q1 q2
    simp (disch := omega) only [f_X2_draws_L18, rq_t, drs, sp, pcs, cls, ↓reduceIte, not_true_eq_false, not_false_eq_true, and_true, true_and, and_false, false_and, or_true, true_or, or_false, false_or, eq_self, l0, l1, l2, l3, l4, l5, l6, l7, l8, l9, l10, l11, l12, l13, l14, l15, l16, l17, l18, l19, l20, l21, l22, l23, l24, l25, l26, l27, l28, l29, l30, l31, l32, l33, l34, l35, l36, l37, l40, l41, l42, l43, l45, l47, l48, l50, l57, l59, l60, l61, l62, l63, l85, l91, l93, l96, l97, l98, l99, l100, l120, l122, l146, l160, l165, l170, l178, l186, l198, l255, l400, l900, l948, l999, l1000, l2475, l2640, l2970, l3990, l9390, l18780, l19000, l999999, l1000000, l100000000, l2147483639, nI_add, pk_mul, ix_nI, leT, leF, ltT, ltF, eqT, eqF, nI_leI, nI_ltI, nI_eq, ngEq, ngEq', ngLt, ngLt', ngLe, ngLe', ngNg, nI_p, pk_sub, Nat.reduceAdd, Nat.reduceMul, Nat.reduceSub, uI1, uI2, uL1, uL2, uL3, uR1, uR2, uR3]
    refine lq3 (f_X2_draws_L91 T t (nI c) x _)
      (fun i m a W => m = nI (mis (gC D c) n i) ∧ a = dn i ∧ frI (fun h _ => h = d ∨ h = x) V W ∧ (∀ a, a < 20 → W.1 x a = nI (outI (gC D c) n i a)) ∧ cD W d (pA D c 20 fun a => D (20 * c + a) - outI (gC D c) n i a)) 20
      ?_ ?_ fuel _ _ _ (by decide) ⟨rfl, rfl, q3, fun a ha => by rw [outI_0]; exact q4 a ha, fun k hk => (q5 k hk).trans (congrArg nI (congrFun (pA_c (fun a _ => by rw [outI_0])) k))⟩
    · intro i N m a W hi ⟨q1, q2, q3, q4, q5⟩ ih
      rw [dn, if_pos hi] at q2
      subst q1 q2
      have hm := mis_le (g := gC D c) (n := n) i
      have ht : tk (gC D c) n (19 - i) ≤ D (20 * c + (19 - i)) := tk_le (g := gC D c) hS2
      have hd : W.1 d (20 * c + (19 - i)) = nI (D (20 * c + (19 - i)) - tk (gC D c) n (19 - i)) := by rw [q5 _ (by omega), pA_in (by omega), outI, if_neg (by omega)]
      have hx : W.1 x (19 - i) = nI (tk (gC D c) n (19 - i)) := by rw [q4 _ (by omega), outI, if_neg (by omega)]
      have hgb : D (20 * c + (19 - i)) ≤ sg 20 (gC D c) := sg_one (f := gC D c) (by omega : 19 - i < 20)
      by_cases z : mis (gC D c) n i = 0
      · simp (disch := omega) only [f_X2_draws_L91, rq_t, drs, sp, pcs, cls, ↓reduceIte, not_true_eq_false, not_false_eq_true, and_true, true_and, and_false, false_and, or_true, true_or, or_false, false_or, eq_self, l0, l1, l2, l3, l4, l5, l6, l7, l8, l9, l10, l11, l12, l13, l14, l15, l16, l17, l18, l19, l20, l21, l22, l23, l24, l25, l26, l27, l28, l29, l30, l31, l32, l33, l34, l35, l36, l37, l40, l41, l42, l43, l45, l47, l48, l50, l57, l59, l60, l61, l62, l63, l85, l91, l93, l96, l97, l98, l99, l100, l120, l122, l146, l160, l165, l170, l178, l186, l198, l255, l400, l900, l948, l999, l1000, l2475, l2640, l2970, l3990, l9390, l18780, l19000, l999999, l1000000, l100000000, l2147483639, nI_add, pk_mul, ix_nI, leT, leF, ltT, ltF, eqT, eqF, nI_leI, nI_ltI, nI_eq, ngEq, ngEq', ngLt, ngLt', ngLe, ngLe', ngNg, nI_p, pk_sub, Nat.reduceAdd, Nat.reduceMul, Nat.reduceSub, uI1, uI2, uL1, uL2, uL3, uR1, uR2, uR3, z]
        exact Ret.ok ⟨q3, fun k hk => by rw [q5 k hk, tDraw, pA_c (fun a ha => by rw [outI_e z ha])], fun a ha => by rw [q4 a ha, outI_e z ha]⟩
      · by_cases w : tk (gC D c) n (19 - i) < D (20 * c + (19 - i))
        · have ho : outA (gC D c) n (19 - i) = tk (gC D c) n (19 - i) + 1 := by rw [outA, show 19 - (19 - i) = i by omega, if_pos ⟨by omega, w⟩]
          have hmi : mis (gC D c) n (i + 1) = mis (gC D c) n i - 1 := by rw [mis, if_pos ⟨by omega, w⟩]
          simp (disch := omega) only [f_X2_draws_L91, f_X2_draws_J146, rq_t, drs, sp, pcs, cls, ↓reduceIte, not_true_eq_false, not_false_eq_true, and_true, true_and, and_false, false_and, or_true, true_or, or_false, false_or, eq_self, l0, l1, l2, l3, l4, l5, l6, l7, l8, l9, l10, l11, l12, l13, l14, l15, l16, l17, l18, l19, l20, l21, l22, l23, l24, l25, l26, l27, l28, l29, l30, l31, l32, l33, l34, l35, l36, l37, l40, l41, l42, l43, l45, l47, l48, l50, l57, l59, l60, l61, l62, l63, l85, l91, l93, l96, l97, l98, l99, l100, l120, l122, l146, l160, l165, l170, l178, l186, l198, l255, l400, l900, l948, l999, l1000, l2475, l2640, l2970, l3990, l9390, l18780, l19000, l999999, l1000000, l100000000, l2147483639, nI_add, pk_mul, ix_nI, uI1, uI2, uL1, uL2, uL3, uR1, uR2, uR3, leT, leF, ltT, ltF, eqT, eqF, nI_leI, nI_ltI, nI_eq, pk_sub, q3.2, h.2.1, rqT h, rq (hqx _ _), hd, hx, dn_s hi]
          refine ih _ _ _ ⟨?_, ?_, frI.mk ?_ ?_, ?_, ?_⟩
          · rw [hmi, nI_p (by omega)]
          · rfl
          · intro h j hh
            simp only [uI1]
            rw [if_neg (by omega), if_neg (by omega)]
            exact q3.1 h j hh
          · exact q3.2
          · intro a ha
            simp (disch := omega) only [rq_t, drs, sp, pcs, cls, ↓reduceIte, not_true_eq_false, not_false_eq_true, and_true, true_and, and_false, false_and, or_true, true_or, or_false, false_or, eq_self, l0, l1, l2, l3, l4, l5, l6, l7, l8, l9, l10, l11, l12, l13, l14, l15, l16, l17, l18, l19, l20, l21, l22, l23, l24, l25, l26, l27, l28, l29, l30, l31, l32, l33, l34, l35, l36, l37, l40, l41, l42, l43, l45, l47, l48, l50, l57, l59, l60, l61, l62, l63, l85, l91, l93, l96, l97, l98, l99, l100, l120, l122, l146, l160, l165, l170, l178, l186, l198, l255, l400, l900, l948, l999, l1000, l2475, l2640, l2970, l3990, l9390, l18780, l19000, l999999, l1000000, l100000000, l2147483639, nI_add, pk_mul, ix_nI, leT, leF, ltT, ltF, eqT, eqF, nI_leI, nI_ltI, nI_eq, ngEq, ngEq', ngLt, ngLt', ngLe, ngLe', ngNg, nI_p, pk_sub, Nat.reduceAdd, Nat.reduceMul, Nat.reduceSub, uI1, uI2, uL1, uL2, uL3, uR1, uR2, uR3]
            by_cases e : a = 19 - i
            · rw [if_pos e, e, outI, if_pos (by omega), ho]
            · rw [if_neg e, outI_s e ha hi]
              exact q4 a ha
          · intro k hk
            simp (disch := omega) only [rq_t, drs, sp, pcs, cls, ↓reduceIte, not_true_eq_false, not_false_eq_true, and_true, true_and, and_false, false_and, or_true, true_or, or_false, false_or, eq_self, l0, l1, l2, l3, l4, l5, l6, l7, l8, l9, l10, l11, l12, l13, l14, l15, l16, l17, l18, l19, l20, l21, l22, l23, l24, l25, l26, l27, l28, l29, l30, l31, l32, l33, l34, l35, l36, l37, l40, l41, l42, l43, l45, l47, l48, l50, l57, l59, l60, l61, l62, l63, l85, l91, l93, l96, l97, l98, l99, l100, l120, l122, l146, l160, l165, l170, l178, l186, l198, l255, l400, l900, l948, l999, l1000, l2475, l2640, l2970, l3990, l9390, l18780, l19000, l999999, l1000000, l100000000, l2147483639, nI_add, pk_mul, ix_nI, leT, leF, ltT, ltF, eqT, eqF, nI_leI, nI_ltI, nI_eq, ngEq, ngEq', ngLt, ngLt', ngLe, ngLe', ngNg, nI_p, pk_sub, Nat.reduceAdd, Nat.reduceMul, Nat.reduceSub, uI1, uI2, uL1, uL2, uL3, uR1, uR2, uR3]
            by_cases e : k = 20 * c + (19 - i)
            · rw [if_pos e, e, pA_in (by omega), outI, if_pos (by omega), ho]
              congr 1
            · rw [if_neg e, q5 k hk, pA, pA]
              congr 1
              by_cases q : 20 * c ≤ k ∧ k < 20 * c + 20
              · rw [if_pos q, if_pos q, outI_s (by omega) (by omega) hi]
              · rw [if_neg q, if_neg q]
        · have ho : outA (gC D c) n (19 - i) = tk (gC D c) n (19 - i) := by rw [outA, if_neg (fun q => w q.2)]
          have hmi : mis (gC D c) n (i + 1) = mis (gC D c) n i := by rw [mis, if_neg (fun q => w q.2)]
          have hoi : ∀ a, a < 20 → outI (gC D c) n (i + 1) a = outI (gC D c) n i a := by
            intro a ha
            by_cases e : a = 19 - i
            · rw [outI, outI, e, if_pos (by omega), if_neg (by omega), ho]
            · exact outI_s e ha hi
          simp (disch := omega) only [f_X2_draws_L91, f_X2_draws_J146, rq_t, drs, sp, pcs, cls, ↓reduceIte, not_true_eq_false, not_false_eq_true, and_true, true_and, and_false, false_and, or_true, true_or, or_false, false_or, eq_self, l0, l1, l2, l3, l4, l5, l6, l7, l8, l9, l10, l11, l12, l13, l14, l15, l16, l17, l18, l19, l20, l21, l22, l23, l24, l25, l26, l27, l28, l29, l30, l31, l32, l33, l34, l35, l36, l37, l40, l41, l42, l43, l45, l47, l48, l50, l57, l59, l60, l61, l62, l63, l85, l91, l93, l96, l97, l98, l99, l100, l120, l122, l146, l160, l165, l170, l178, l186, l198, l255, l400, l900, l948, l999, l1000, l2475, l2640, l2970, l3990, l9390, l18780, l19000, l999999, l1000000, l100000000, l2147483639, nI_add, pk_mul, ix_nI, uI1, uI2, uL1, uL2, uL3, uR1, uR2, uR3, leT, leF, ltT, ltF, eqT, eqF, nI_leI, nI_ltI, nI_eq, pk_sub, q3.2, h.2.1, rqT h, rq (hqx _ _), hd, hx, dn_s hi]
          exact ih _ _ _ ⟨by rw [hmi], rfl, q3, fun a ha => by rw [hoi a ha]; exact q4 a ha, fun k hk => (q5 k hk).trans (congrArg nI (congrFun (pA_c (fun a ha => by rw [hoi a ha])) k))⟩
    · intro N m a W ⟨q1, q2, q3, q4, q5⟩
      subst q1 q2
      simp (disch := omega) only [f_X2_draws_L91, rq_t, drs, sp, pcs, cls, ↓reduceIte, not_true_eq_false, not_false_eq_true, and_true, true_and, and_false, false_and, or_true, true_or, or_false, false_or, eq_self, l0, l1, l2, l3, l4, l5, l6, l7, l8, l9, l10, l11, l12, l13, l14, l15, l16, l17, l18, l19, l20, l21, l22, l23, l24, l25, l26, l27, l28, l29, l30, l31, l32, l33, l34, l35, l36, l37, l40, l41, l42, l43, l45, l47, l48, l50, l57, l59, l60, l61, l62, l63, l85, l91, l93, l96, l97, l98, l99, l100, l120, l122, l146, l160, l165, l170, l178, l186, l198, l255, l400, l900, l948, l999, l1000, l2475, l2640, l2970, l3990, l9390, l18780, l19000, l999999, l1000000, l100000000, l2147483639, nI_add, pk_mul, ix_nI, leT, leF, ltT, ltF, eqT, eqF, nI_leI, nI_ltI, nI_eq, ngEq, ngEq', ngLt, ngLt', ngLe, ngLe', ngNg, nI_p, pk_sub, Nat.reduceAdd, Nat.reduceMul, Nat.reduceSub, uI1, uI2, uL1, uL2, uL3, uR1, uR2, uR3, dn]
      exact Ret.ok ⟨q3, fun k hk => by rw [q5 k hk, tDraw, pA_c (fun a ha => by rw [outI_20])], fun a ha => by rw [q4 a ha, outI_20]⟩
/-- wine comes into a cask -/
def tCome (D : Nat → Nat) (c : Nat) (g : Nat → Nat) : Nat → Nat := pA D c 20 fun a => D (20 * c + a) + g a
theorem c_comes {T : Tt} {V : Vt} {t d x : Nat} (h : isTb T V t d) (hx1 : T.1 x = 100) (hx2 : T.2.1 x = 20) (hxd : x ≠ d) {D g : Nat → Nat} (hD : cD V d D) (hg : ∀ a, a < 20 → V.1 x a = nI (g a)) {c : Nat} (hc : c < 8) :
    Ret (f_X2_comes T V t (nI c) x) fun V' => frI (fun h _ => h = d) V V' ∧ cD V' d (tCome D c g) := by
  have hqx : ∀ a, a < 20 → aIn T x 0 (nI a) := fun a ha => aIn_nI hx1 (by omega) (by omega)
  rw [f_X2_comes, rq h.1]
  refine lq2 (f_X2_comes_L2 T t (nI c) x _) (fun i a W => a = nI i ∧ frI (fun h _ => h = d) V W ∧ cD W d (pA D c i fun a => D (20 * c + a) + g a)) 20 ?_ ?_ fuel _ _ (by decide) ⟨rfl, frI.mk (fun _ _ _ => rfl) rfl, fun k hk => by rw [pA_out (by omega)]; exact hD k hk⟩
  · intro i N a W hi ⟨q2, q3, q5⟩ ih
    subst q2
    have hd : W.1 d (20 * c + i) = nI (D (20 * c + i)) := by rw [q5 _ (by omega), pA_out (by omega)]
    have hw : W.1 x i = nI (g i) := by rw [q3.1 _ _ hxd, hg i hi]
    simp (disch := omega) only [f_X2_comes_L2, rq_t, drs, sp, pcs, cls, ↓reduceIte, not_true_eq_false, not_false_eq_true, and_true, true_and, and_false, false_and, or_true, true_or, or_false, false_or, eq_self, l0, l1, l2, l3, l4, l5, l6, l7, l8, l9, l10, l11, l12, l13, l14, l15, l16, l17, l18, l19, l20, l21, l22, l23, l24, l25, l26, l27, l28, l29, l30, l31, l32, l33, l34, l35, l36, l37, l40, l41, l42, l43, l45, l47, l48, l50, l57, l59, l60, l61, l62, l63, l85, l91, l93, l96, l97, l98, l99, l100, l120, l122, l146, l160, l165, l170, l178, l186, l198, l255, l400, l900, l948, l999, l1000, l2475, l2640, l2970, l3990, l9390, l18780, l19000, l999999, l1000000, l100000000, l2147483639, nI_add, pk_mul, ix_nI, leT, leF, ltT, ltF, eqT, eqF, nI_leI, nI_ltI, nI_eq, ngEq, ngEq', ngLt, ngLt', ngLe, ngLe', ngNg, nI_p, pk_sub, Nat.reduceAdd, Nat.reduceMul, Nat.reduceSub, uI1, uI2, uL1, uL2, uL3, uR1, uR2, uR3, q3.2, h.2.1, rqT h, rq (hqx _ _), hd, hw]
    refine ih _ _ ⟨rfl, frI.mk ?_ q3.2, ?_⟩
    · intro h j hh
      simp only [uI1]
      rw [if_neg (by omega)]
      exact q3.1 h j hh
    · intro k hk
      simp (disch := omega) only [rq_t, drs, sp, pcs, cls, ↓reduceIte, not_true_eq_false, not_false_eq_true, and_true, true_and, and_false, false_and, or_true, true_or, or_false, false_or, eq_self, l0, l1, l2, l3, l4, l5, l6, l7, l8, l9, l10, l11, l12, l13, l14, l15, l16, l17, l18, l19, l20, l21, l22, l23, l24, l25, l26, l27, l28, l29, l30, l31, l32, l33, l34, l35, l36, l37, l40, l41, l42, l43, l45, l47, l48, l50, l57, l59, l60, l61, l62, l63, l85, l91, l93, l96, l97, l98, l99, l100, l120, l122, l146, l160, l165, l170, l178, l186, l198, l255, l400, l900, l948, l999, l1000, l2475, l2640, l2970, l3990, l9390, l18780, l19000, l999999, l1000000, l100000000, l2147483639, nI_add, pk_mul, ix_nI, leT, leF, ltT, ltF, eqT, eqF, nI_leI, nI_ltI, nI_eq, ngEq, ngEq', ngLt, ngLt', ngLe, ngLe', ngNg, nI_p, pk_sub, Nat.reduceAdd, Nat.reduceMul, Nat.reduceSub, uI1, uI2, uL1, uL2, uL3, uR1, uR2, uR3]
      by_cases e : k = 20 * c + i
      · rw [if_pos e, e, pA_in (by omega)]
      · rw [if_neg e, q5 k hk, pA, pA]
        congr 1
        by_cases q : 20 * c ≤ k ∧ k < 20 * c + i
        · rw [if_pos q, if_pos (by omega)]
        · rw [if_neg q, if_neg (by omega)]
  · intro N a W ⟨q2, q3, q5⟩
    subst q2
    simp (disch := omega) only [f_X2_comes_L2, rq_t, drs, sp, pcs, cls, ↓reduceIte, not_true_eq_false, not_false_eq_true, and_true, true_and, and_false, false_and, or_true, true_or, or_false, false_or, eq_self, l0, l1, l2, l3, l4, l5, l6, l7, l8, l9, l10, l11, l12, l13, l14, l15, l16, l17, l18, l19, l20, l21, l22, l23, l24, l25, l26, l27, l28, l29, l30, l31, l32, l33, l34, l35, l36, l37, l40, l41, l42, l43, l45, l47, l48, l50, l57, l59, l60, l61, l62, l63, l85, l91, l93, l96, l97, l98, l99, l100, l120, l122, l146, l160, l165, l170, l178, l186, l198, l255, l400, l900, l948, l999, l1000, l2475, l2640, l2970, l3990, l9390, l18780, l19000, l999999, l1000000, l100000000, l2147483639, nI_add, pk_mul, ix_nI, leT, leF, ltT, ltF, eqT, eqF, nI_leI, nI_ltI, nI_eq, ngEq, ngEq', ngLt, ngLt', ngLe, ngLe', ngNg, nI_p, pk_sub, Nat.reduceAdd, Nat.reduceMul, Nat.reduceSub, uI1, uI2, uL1, uL2, uL3, uR1, uR2, uR3]
    exact Ret.ok ⟨q3, q5⟩
/-- a year makes it elder -/
def agA (g : Nat → Nat) (a : Nat) : Nat := if a = 0 then 0 else if a = 19 then g 19 + g 18 else g (a - 1)
def tAge (D : Nat → Nat) (c : Nat) : Nat → Nat := pA D c 20 (agA (gC D c))
theorem c_ages {T : Tt} {V : Vt} {t d : Nat} (h : isTb T V t d) {D : Nat → Nat} (hD : cD V d D) {c : Nat} (hc : c < 8) :
    Ret (f_X2_ages T V t (nI c)) fun V' => frI (fun h _ => h = d) V V' ∧ cD V' d (tAge D c) := by
  have h19 := hD (20 * c + 19) (by omega)
  have h18 := hD (20 * c + 18) (by omega)
  simp (disch := omega) only [f_X2_ages, rq_eq h.1, rq_t, drs, sp, pcs, cls, ↓reduceIte, not_true_eq_false, not_false_eq_true, and_true, true_and, and_false, false_and, or_true, true_or, or_false, false_or, eq_self, l0, l1, l2, l3, l4, l5, l6, l7, l8, l9, l10, l11, l12, l13, l14, l15, l16, l17, l18, l19, l20, l21, l22, l23, l24, l25, l26, l27, l28, l29, l30, l31, l32, l33, l34, l35, l36, l37, l40, l41, l42, l43, l45, l47, l48, l50, l57, l59, l60, l61, l62, l63, l85, l91, l93, l96, l97, l98, l99, l100, l120, l122, l146, l160, l165, l170, l178, l186, l198, l255, l400, l900, l948, l999, l1000, l2475, l2640, l2970, l3990, l9390, l18780, l19000, l999999, l1000000, l100000000, l2147483639, nI_add, pk_mul, ix_nI, leT, leF, ltT, ltF, eqT, eqF, nI_leI, nI_ltI, nI_eq, ngEq, ngEq', ngLt, ngLt', ngLe, ngLe', ngNg, nI_p, pk_sub, Nat.reduceAdd, Nat.reduceMul, Nat.reduceSub, uI1, uI2, uL1, uL2, uL3, uR1, uR2, uR3, h.2.1, rqT h, show 20 * c + 20 - 1 = 20 * c + 19 by omega, show 20 * c + 20 - 2 = 20 * c + 18 by omega, h19, h18]
  refine lq2 (f_X2_ages_L33 T t (nI (20 * c)) _) (fun i a W => a = nI (18 - i) ∧ frI (fun h _ => h = d) V W ∧ cD W d (pA D c 20 fun a => if a = 19 then gC D c 19 + gC D c 18 else if 18 - i < a then gC D c (a - 1) else gC D c a)) 18 ?_ ?_ fuel _ _ (by decide) ⟨rfl, frI.mk (fun h j hh => ?_) rfl, fun k hk => ?_⟩
  · intro i N a W hi ⟨q2, q3, q5⟩ ih
    subst q2
    have hd : W.1 d (20 * c + (18 - i) - 1) = nI (gC D c (18 - i - 1)) := by
      rw [show 20 * c + (18 - i) - 1 = 20 * c + (18 - i - 1) by omega, q5 _ (by omega), pA_in (by omega), if_neg (by omega), if_neg (by omega)]
    simp (disch := omega) only [f_X2_ages_L33, rq_t, drs, sp, pcs, cls, ↓reduceIte, not_true_eq_false, not_false_eq_true, and_true, true_and, and_false, false_and, or_true, true_or, or_false, false_or, eq_self, l0, l1, l2, l3, l4, l5, l6, l7, l8, l9, l10, l11, l12, l13, l14, l15, l16, l17, l18, l19, l20, l21, l22, l23, l24, l25, l26, l27, l28, l29, l30, l31, l32, l33, l34, l35, l36, l37, l40, l41, l42, l43, l45, l47, l48, l50, l57, l59, l60, l61, l62, l63, l85, l91, l93, l96, l97, l98, l99, l100, l120, l122, l146, l160, l165, l170, l178, l186, l198, l255, l400, l900, l948, l999, l1000, l2475, l2640, l2970, l3990, l9390, l18780, l19000, l999999, l1000000, l100000000, l2147483639, nI_add, pk_mul, ix_nI, leT, leF, ltT, ltF, eqT, eqF, nI_leI, nI_ltI, nI_eq, ngEq, ngEq', ngLt, ngLt', ngLe, ngLe', ngNg, nI_p, pk_sub, Nat.reduceAdd, Nat.reduceMul, Nat.reduceSub, uI1, uI2, uL1, uL2, uL3, uR1, uR2, uR3, q3.2, h.2.1, rqT h, hd]
    refine ih _ _ ⟨by congr 1, frI.mk ?_ q3.2, ?_⟩
    · intro h j hh
      simp only [uI1]
      rw [if_neg (by omega)]
      exact q3.1 h j hh
    · intro k hk
      simp (disch := omega) only [rq_t, drs, sp, pcs, cls, ↓reduceIte, not_true_eq_false, not_false_eq_true, and_true, true_and, and_false, false_and, or_true, true_or, or_false, false_or, eq_self, l0, l1, l2, l3, l4, l5, l6, l7, l8, l9, l10, l11, l12, l13, l14, l15, l16, l17, l18, l19, l20, l21, l22, l23, l24, l25, l26, l27, l28, l29, l30, l31, l32, l33, l34, l35, l36, l37, l40, l41, l42, l43, l45, l47, l48, l50, l57, l59, l60, l61, l62, l63, l85, l91, l93, l96, l97, l98, l99, l100, l120, l122, l146, l160, l165, l170, l178, l186, l198, l255, l400, l900, l948, l999, l1000, l2475, l2640, l2970, l3990, l9390, l18780, l19000, l999999, l1000000, l100000000, l2147483639, nI_add, pk_mul, ix_nI, leT, leF, ltT, ltF, eqT, eqF, nI_leI, nI_ltI, nI_eq, ngEq, ngEq', ngLt, ngLt', ngLe, ngLe', ngNg, nI_p, pk_sub, Nat.reduceAdd, Nat.reduceMul, Nat.reduceSub, uI1, uI2, uL1, uL2, uL3, uR1, uR2, uR3]
      by_cases e : k = 20 * c + (18 - i)
      · rw [if_pos e, e, pA_in (by omega), if_neg (by omega), if_pos (by omega)]
      · rw [if_neg e, q5 k hk, pA, pA]
        congr 1
        by_cases q : 20 * c ≤ k ∧ k < 20 * c + 20
        · rw [if_pos q, if_pos q]
          by_cases w : k - 20 * c = 19
          · rw [if_pos w, if_pos w]
          · rw [if_neg w, if_neg w]
            by_cases w2 : 18 - i < k - 20 * c
            · rw [if_pos w2, if_pos (by omega)]
            · rw [if_neg w2, if_neg (by omega)]
        · rw [if_neg q, if_neg q]
  · intro N a W ⟨q2, q3, q5⟩
    subst q2
    simp (disch := omega) only [f_X2_ages_L33, rq_t, drs, sp, pcs, cls, ↓reduceIte, not_true_eq_false, not_false_eq_true, and_true, true_and, and_false, false_and, or_true, true_or, or_false, false_or, eq_self, l0, l1, l2, l3, l4, l5, l6, l7, l8, l9, l10, l11, l12, l13, l14, l15, l16, l17, l18, l19, l20, l21, l22, l23, l24, l25, l26, l27, l28, l29, l30, l31, l32, l33, l34, l35, l36, l37, l40, l41, l42, l43, l45, l47, l48, l50, l57, l59, l60, l61, l62, l63, l85, l91, l93, l96, l97, l98, l99, l100, l120, l122, l146, l160, l165, l170, l178, l186, l198, l255, l400, l900, l948, l999, l1000, l2475, l2640, l2970, l3990, l9390, l18780, l19000, l999999, l1000000, l100000000, l2147483639, nI_add, pk_mul, ix_nI, leT, leF, ltT, ltF, eqT, eqF, nI_leI, nI_ltI, nI_eq, ngEq, ngEq', ngLt, ngLt', ngLe, ngLe', ngNg, nI_p, pk_sub, Nat.reduceAdd, Nat.reduceMul, Nat.reduceSub, uI1, uI2, uL1, uL2, uL3, uR1, uR2, uR3, q3.2, h.2.1, rqT h]
    refine Ret.ok ⟨frI.mk ?_ q3.2, ?_⟩
    · intro h j hh
      simp only [uI1]
      rw [if_neg (by omega)]
      exact q3.1 h j hh
    · intro k hk
      simp (disch := omega) only [rq_t, drs, sp, pcs, cls, ↓reduceIte, not_true_eq_false, not_false_eq_true, and_true, true_and, and_false, false_and, or_true, true_or, or_false, false_or, eq_self, l0, l1, l2, l3, l4, l5, l6, l7, l8, l9, l10, l11, l12, l13, l14, l15, l16, l17, l18, l19, l20, l21, l22, l23, l24, l25, l26, l27, l28, l29, l30, l31, l32, l33, l34, l35, l36, l37, l40, l41, l42, l43, l45, l47, l48, l50, l57, l59, l60, l61, l62, l63, l85, l91, l93, l96, l97, l98, l99, l100, l120, l122, l146, l160, l165, l170, l178, l186, l198, l255, l400, l900, l948, l999, l1000, l2475, l2640, l2970, l3990, l9390, l18780, l19000, l999999, l1000000, l100000000, l2147483639, nI_add, pk_mul, ix_nI, leT, leF, ltT, ltF, eqT, eqF, nI_leI, nI_ltI, nI_eq, ngEq, ngEq', ngLt, ngLt', ngLe, ngLe', ngNg, nI_p, pk_sub, Nat.reduceAdd, Nat.reduceMul, Nat.reduceSub, uI1, uI2, uL1, uL2, uL3, uR1, uR2, uR3]
      by_cases e : k = 20 * c
      · rw [if_pos e, tAge, e]
        exact congrArg nI (pA_in (D := D) (c := c) (i := 20) (g := agA (gC D c)) (a := 0) (by omega)).symm
      · rw [if_neg e, q5 k hk, tAge, pA, pA]
        congr 1
        by_cases q : 20 * c ≤ k ∧ k < 20 * c + 20
        · rw [if_pos q, if_pos q, agA]
          by_cases w : k - 20 * c = 19
          · rw [if_pos w, if_neg (by omega), if_pos w]
          · rw [if_neg w, if_pos (by omega), if_neg (by omega), if_neg w]
        · rw [if_neg q, if_neg q]
  · simp only [uI1]
    rw [if_neg (by omega)]
  · simp only [uI1]
    by_cases e : k = 20 * c + 19
    · rw [if_pos ⟨trivial, e⟩, e, pA_in (by omega)]
      rfl
    · rw [if_neg (fun w => e w.2), hD k hk, pA]
      congr 1
      by_cases q : 20 * c ≤ k ∧ k < 20 * c + 20
      · rw [if_pos q, if_neg (by omega), if_neg (by omega)]
        show D k = D _
        congr 1
        omega
      · rw [if_neg q]
