/-! 64: the model's table changed -/
set_option maxRecDepth 100000
theorem MV.eq {V W : Vt} (h : MV V) (e : W.2 = V.2) : MV W := by
  unfold MV at *
  rw [e]
  exact h
/-- places of the row's drops -/
abbrev sD (h j : Nat) : Prop := h = 96 ∧ 10 ≤ j ∧ j < 170
theorem mn_out {g : Nat → Nat} {n : Nat} (h0 : 0 < n) (h : n * 1000 ≤ sg 20 g) : mnOf (outA g n) = nI ((sg 20 fun a => a * outA g n a) / n) := by
  rw [mnOf, out_sum h, if_neg (by omega)]
  have : (sg 20 fun a => 1000 * a * outA g n a) = (sg 20 fun a => a * outA g n a) * 1000 := by
    rw [← sg_mul]
    exact sg_congr fun i _ => by rw [Nat.mul_assoc, Nat.mul_comm]
  rw [this, Nat.mul_div_mul_right _ _ (by omega)]
/-- the drops, when the i eldest ages are seen to -/
def pD (D : Nat → Nat) (c n i : Nat) : Nat → Nat := pA D c 20 fun a => if 19 - a < i then D (20 * c + a) - outA (gC D c) n a else D (20 * c + a)
theorem pD_0 {D : Nat → Nat} {c n : Nat} : pD D c n 0 = D := by
  funext k
  rw [pD, pA]
  split
  · rw [if_neg (by omega)]
    congr 1
    omega
  · rfl
theorem pD_20 {D : Nat → Nat} {c n : Nat} : pD D c n 20 = tDraw D c n := pA_c fun a _ => by rw [if_pos (by omega)]
set_option maxHeartbeats 1000000 in
theorem m_takeOut_L17 {T : Tt} {V : Vt} (hT : MT T) (hV : MV V) {D : Nat → Nat} (hD : mD V D) {c n : Nat} (hc : c < 8) (hn : n ≤ 999) (h0 : 0 < n) (hS2 : n * 1000 ≤ sg 20 (gC D c)) (hS : sg 20 (gC D c) ≤ 999000) {k : Int32 → Vt → Option (Int32 × Vt)} {R : Int32 × Vt → Prop}
    (hk : ∀ W, frI (fun h _ => h = 115) V W → (∀ a, a < 20 → W.1 115 a = nI (tk (gC D c) n a)) → Ret (k (nI (mis (gC D c) n 0)) W) R) :
    Ret (f_X5_takeOut_L17 T 94 (nI c) (nI n) (lN (tAll D c)) k fuel (nI (1000 * n)) 0 V) R := by
  refine lq3 (f_X5_takeOut_L17 T 94 (nI c) (nI n) (lN (tAll D c)) k)
    (fun i m a W => m = nI (1000 * n - sg i (tk (gC D c) n)) ∧ a = nI i ∧ frI (fun h _ => h = 115) V W ∧ (∀ a, a < i → W.1 115 a = nI (tk (gC D c) n a))) 20
    ?_ ?_ fuel _ _ _ (by decide) ⟨rfl, rfl, frI.mk (fun _ _ _ => rfl) rfl, fun a ha => absurd ha (by omega)⟩
  · intro i N m a W hi ⟨q1, q2, q3, q4⟩ ih
    subst q1 q2
    have hV := hV.eq q3.2
    have hD : mD W D := fun k hk => by rw [q3.1 _ _ (by omega)]; exact hD k hk
    have hg : D (20 * c + i) ≤ sg 20 (gC D c) := sg_one (f := gC D c) hi
    have hk : D (20 * c + i) * n * 1000 < 2 ^ 62 := tk_b (g := gC D c) hi hn hS
    have hs := sgtk (g := gC D c) (n := n) (i := i + 1) (by omega)
    have hle : tk (gC D c) n i ≤ D (20 * c + i) := tk_le (g := gC D c) (n := n) (a := i) hS2
    have hB : tAll D c ≤ 999000 := hS
    have hb : n * 1000 ≤ tAll D c := hS2
    rw [sg_s] at hs
    have hte : D (20 * c + i) * n * 1000 / tAll D c = tk (gC D c) n i := rfl
    simp (disch := omega) only [f_X5_takeOut_L17, rq_t, drs, sp, pcs, cls, ↓reduceIte, not_true_eq_false, not_false_eq_true, and_true, true_and, and_false, false_and, or_true, true_or, or_false, false_or, eq_self, l0, l1, l2, l3, l4, l5, l6, l7, l8, l9, l10, l11, l12, l13, l14, l15, l16, l17, l18, l19, l20, l21, l22, l23, l24, l25, l26, l27, l28, l29, l30, l31, l32, l33, l34, l35, l36, l37, l40, l41, l42, l43, l45, l47, l48, l50, l57, l59, l60, l61, l62, l63, l85, l91, l93, l96, l97, l98, l99, l100, l120, l122, l146, l160, l165, l170, l178, l186, l198, l255, l400, l900, l948, l999, l1000, l2475, l2640, l2970, l3990, l9390, l18780, l19000, l999999, l1000000, l100000000, l2147483639, nI_add, pk_mul, ix_nI, leT, leF, ltT, ltF, eqT, eqF, nI_leI, nI_ltI, nI_eq, ngEq, ngEq', ngLt, ngLt', ngLe, ngLe', ngNg, nI_p, pk_sub, Nat.reduceAdd, Nat.reduceMul, Nat.reduceSub, uI1, uI2, uL1, uL2, uL3, uR1, uR2, uR3, rq_eq (MT0 hT), rq95 hT, rf2 hV, rq96 hT, rf3 hV, rq97 hT, rf4 hV, rq98 hT, rf5 hV, rq99 hT, rf6 hV, rq100 hT, rf7 hV, rq101 hT, rf9 hV, rq102 hT, rf10 hV, rq103 hT, rf12 hV, rq104 hT, rf22 hV, rq105 hT, rf24 hV, rq106 hT, rf25 hV, rq107 hT, rf27 hV, rq108 hT, rf28 hV, rq109 hT, rf31 hV, rq110 hT, rf32 hV, rq111 hT, rf33 hV, rq112 hT, rf35 hV, rq113 hT, rf36 hV, rq114 hT, rf37 hV, rq115 hT, rf41 hV, rq116 hT, rf44 hV, rq117 hT, rf45 hV, rq118 hT, rf51 hV, rq119 hT, rf53 hV, lN_add, lN_mul, lN_i, nI_l, L0, L1, L10, L100, L1000, LM, m_drops hT hV hD hc, pk_lDiv, pk_lEQ, hte]
    refine ih _ _ _ ⟨?_, rfl, frI.mk ?_ q3.2, ?_⟩
    · rw [sg_s]
      congr 1
      omega
    · intro h j hh
      simp only [uI1]
      rw [if_neg (by omega)]
      exact q3.1 h j hh
    · intro a ha
      simp (disch := omega) only [rq_t, drs, sp, pcs, cls, ↓reduceIte, not_true_eq_false, not_false_eq_true, and_true, true_and, and_false, false_and, or_true, true_or, or_false, false_or, eq_self, l0, l1, l2, l3, l4, l5, l6, l7, l8, l9, l10, l11, l12, l13, l14, l15, l16, l17, l18, l19, l20, l21, l22, l23, l24, l25, l26, l27, l28, l29, l30, l31, l32, l33, l34, l35, l36, l37, l40, l41, l42, l43, l45, l47, l48, l50, l57, l59, l60, l61, l62, l63, l85, l91, l93, l96, l97, l98, l99, l100, l120, l122, l146, l160, l165, l170, l178, l186, l198, l255, l400, l900, l948, l999, l1000, l2475, l2640, l2970, l3990, l9390, l18780, l19000, l999999, l1000000, l100000000, l2147483639, nI_add, pk_mul, ix_nI, leT, leF, ltT, ltF, eqT, eqF, nI_leI, nI_ltI, nI_eq, ngEq, ngEq', ngLt, ngLt', ngLe, ngLe', ngNg, nI_p, pk_sub, Nat.reduceAdd, Nat.reduceMul, Nat.reduceSub, uI1, uI2, uL1, uL2, uL3, uR1, uR2, uR3]
      by_cases e : a = i
      · rw [if_pos e, e]
      · rw [if_neg e]
        exact q4 a (by omega)
  · intro N m a W ⟨q1, q2, q3, q4⟩
    subst q1 q2
    simp (disch := omega) only [f_X5_takeOut_L17, rq_t, drs, sp, pcs, cls, ↓reduceIte, not_true_eq_false, not_false_eq_true, and_true, true_and, and_false, false_and, or_true, true_or, or_false, false_or, eq_self, l0, l1, l2, l3, l4, l5, l6, l7, l8, l9, l10, l11, l12, l13, l14, l15, l16, l17, l18, l19, l20, l21, l22, l23, l24, l25, l26, l27, l28, l29, l30, l31, l32, l33, l34, l35, l36, l37, l40, l41, l42, l43, l45, l47, l48, l50, l57, l59, l60, l61, l62, l63, l85, l91, l93, l96, l97, l98, l99, l100, l120, l122, l146, l160, l165, l170, l178, l186, l198, l255, l400, l900, l948, l999, l1000, l2475, l2640, l2970, l3990, l9390, l18780, l19000, l999999, l1000000, l100000000, l2147483639, nI_add, pk_mul, ix_nI, leT, leF, ltT, ltF, eqT, eqF, nI_leI, nI_ltI, nI_eq, ngEq, ngEq', ngLt, ngLt', ngLe, ngLe', ngNg, nI_p, pk_sub, Nat.reduceAdd, Nat.reduceMul, Nat.reduceSub, uI1, uI2, uL1, uL2, uL3, uR1, uR2, uR3]
    have := hk W q3 q4
    rw [mis, Nat.mul_comm n 1000] at this
    exact this
set_option maxHeartbeats 1000000 in
theorem m_takeOut_L74 {T : Tt} {V W0 : Vt} (hT : MT T) (hV : MV V) {D : Nat → Nat} (hD : mD V D) {c n : Nat} (hc : c < 8) (hn : n ≤ 999) (h0 : 0 < n) (hS2 : n * 1000 ≤ sg 20 (gC D c)) (hS : sg 20 (gC D c) ≤ 999000) {k : Int64 → Vt → Option (Int32 × Vt)} {R : Int32 × Vt → Prop}
    (h3 : frI (fun h _ => h = 115) V W0) (h4 : ∀ a, a < 20 → W0.1 115 a = nI (tk (gC D c) n a))
    (hk : ∀ W, frI (fun h j => sD h j ∨ h = 115) V W → (∀ a, a < 20 → W.1 115 a = nI (outA (gC D c) n a)) → mD W (tDraw D c n) → Ret (k (lN (sg 20 fun a => a * outA (gC D c) n a)) W) R) :
    Ret (f_X5_takeOut_L74 T 94 (nI c) (nI n) k fuel (nI (mis (gC D c) n 0)) 0 19 W0) R := by
  have hD1 : mD W0 D := fun k hk => by rw [h3.1 _ _ (by omega)]; exact hD k hk
  refine lq4 (f_X5_takeOut_L74 T 94 (nI c) (nI n) k)
      (fun i m s a W => m = nI (mis (gC D c) n i) ∧ s = lN (sg i fun j => (19 - j) * outA (gC D c) n (19 - j)) ∧ a = dn i ∧ frI (fun h j => sD h j ∨ h = 115) V W ∧ (∀ a, a < 20 → W.1 115 a = nI (outI (gC D c) n i a)) ∧ mD W (pD D c n i)) 20
      ?_ ?_ fuel _ _ _ _ (by decide) ⟨rfl, rfl, rfl, frI.mk (fun h j hh => h3.1 h j (by omega)) h3.2, fun a ha => by rw [outI_0]; exact h4 a ha, by rw [pD_0]; exact hD1⟩
  · intro i N m s a W hi ⟨q1, qs, q2, q3, q4, q5⟩ ih
    rw [dn, if_pos hi] at q2
    subst q1 q2 qs
    have hV := hV.eq q3.2
    have hm := mis_le (g := gC D c) (n := n) i
    have ht : tk (gC D c) n (19 - i) ≤ D (20 * c + (19 - i)) := tk_le (g := gC D c) hS2
    have hol : outA (gC D c) n (19 - i) ≤ D (20 * c + (19 - i)) := out_le (g := gC D c) hS2
    have hpd : pD D c n i (20 * c + (19 - i)) = D (20 * c + (19 - i)) := by rw [pD, pA_in (by omega), if_neg (by omega)]
    have hd : W.1 96 (10 + 20 * c + (19 - i)) = nI (D (20 * c + (19 - i))) := by rw [show 10 + 20 * c + (19 - i) = 10 + (20 * c + (19 - i)) by omega, q5 _ (by omega), hpd]
    have hx : W.1 115 (19 - i) = nI (tk (gC D c) n (19 - i)) := by rw [q4 _ (by omega), outI, if_neg (by omega)]
    have hgb : D (20 * c + (19 - i)) ≤ sg 20 (gC D c) := sg_one (f := gC D c) (by omega : 19 - i < 20)
    have hfin : ∀ (m' : Int32) (s' : Int64) (W' : Vt), m' = nI (mis (gC D c) n (i + 1)) → s' = lN (sg (i + 1) fun j => (19 - j) * outA (gC D c) n (19 - j)) → frI (fun h j => sD h j ∨ h = 115) V W' → (∀ j, j ≠ 19 - i → W'.1 115 j = W.1 115 j) → W'.1 115 (19 - i) = nI (outA (gC D c) n (19 - i)) → (∀ j, j ≠ 10 + 20 * c + (19 - i) → W'.1 96 j = W.1 96 j) → W'.1 96 (10 + 20 * c + (19 - i)) = nI (D (20 * c + (19 - i)) - outA (gC D c) n (19 - i)) →
        Ret (f_X5_takeOut_L74 T 94 (nI c) (nI n) k N m' s' (dn (i + 1)) W') R := by
      intro m' s' W' em es w1 w2 w3 w4 w5
      refine ih _ _ _ _ ⟨em, es, rfl, w1, ?_, ?_⟩
      · intro a ha
        by_cases e : a = 19 - i
        · rw [e, w3, outI, if_pos (by omega)]
        · rw [w2 a e, outI_s e ha hi]
          exact q4 a ha
      · intro k hk
        by_cases e : k = 20 * c + (19 - i)
        · rw [e, show 10 + (20 * c + (19 - i)) = 10 + 20 * c + (19 - i) by omega, w5, pD, pA_in (by omega), if_pos (by omega)]
        · rw [w4 _ (by omega), q5 k hk, pD, pD, pA, pA]
          congr 1
          by_cases q : 20 * c ≤ k ∧ k < 20 * c + 20
          · rw [if_pos q, if_pos q]
            by_cases w : 19 - (k - 20 * c) < i
            · rw [if_pos w, if_pos (by omega)]
            · rw [if_neg w, if_neg (by omega)]
          · rw [if_neg q, if_neg q]
    by_cases w : 0 < mis (gC D c) n i ∧ tk (gC D c) n (19 - i) < D (20 * c + (19 - i))
    · have ho : outA (gC D c) n (19 - i) = tk (gC D c) n (19 - i) + 1 := by rw [outA, show 19 - (19 - i) = i by omega, if_pos w]
      have hmi : mis (gC D c) n (i + 1) = mis (gC D c) n i - 1 := by rw [mis, if_pos w]
      have w1 := w.1
      have w2 := w.2
      simp (disch := omega) only [f_X5_takeOut_L74, f_X5_takeOut_J115, rq_t, drs, sp, pcs, cls, ↓reduceIte, not_true_eq_false, not_false_eq_true, and_true, true_and, and_false, false_and, or_true, true_or, or_false, false_or, eq_self, l0, l1, l2, l3, l4, l5, l6, l7, l8, l9, l10, l11, l12, l13, l14, l15, l16, l17, l18, l19, l20, l21, l22, l23, l24, l25, l26, l27, l28, l29, l30, l31, l32, l33, l34, l35, l36, l37, l40, l41, l42, l43, l45, l47, l48, l50, l57, l59, l60, l61, l62, l63, l85, l91, l93, l96, l97, l98, l99, l100, l120, l122, l146, l160, l165, l170, l178, l186, l198, l255, l400, l900, l948, l999, l1000, l2475, l2640, l2970, l3990, l9390, l18780, l19000, l999999, l1000000, l100000000, l2147483639, nI_add, pk_mul, ix_nI, leT, leF, ltT, ltF, eqT, eqF, nI_leI, nI_ltI, nI_eq, ngEq, ngEq', ngLt, ngLt', ngLe, ngLe', ngNg, nI_p, pk_sub, Nat.reduceAdd, Nat.reduceMul, Nat.reduceSub, uI1, uI2, uL1, uL2, uL3, uR1, uR2, uR3, rq_eq (MT0 hT), rq95 hT, rf2 hV, rq96 hT, rf3 hV, rq97 hT, rf4 hV, rq98 hT, rf5 hV, rq99 hT, rf6 hV, rq100 hT, rf7 hV, rq101 hT, rf9 hV, rq102 hT, rf10 hV, rq103 hT, rf12 hV, rq104 hT, rf22 hV, rq105 hT, rf24 hV, rq106 hT, rf25 hV, rq107 hT, rf27 hV, rq108 hT, rf28 hV, rq109 hT, rf31 hV, rq110 hT, rf32 hV, rq111 hT, rf33 hV, rq112 hT, rf35 hV, rq113 hT, rf36 hV, rq114 hT, rf37 hV, rq115 hT, rf41 hV, rq116 hT, rf44 hV, rq117 hT, rf45 hV, rq118 hT, rf51 hV, rq119 hT, rf53 hV, lN_add, lN_mul, lN_i, nI_l, L0, L1, L10, L100, L1000, LM, m_drops hT hV q5 hc, hpd, hd, hx, dn_s hi]
      refine hfin _ _ _ (by rw [hmi]) (by rw [sg_s, ho]) (frI.mk (fun h j hh => ?_) q3.2) (fun j hj => ?_) ?_ (fun j hj => ?_) ?_
      · simp only [uI1]
        rw [if_neg (by omega), if_neg (by omega)]
        exact q3.1 h j hh
      · simp (disch := omega) only [rq_t, drs, sp, pcs, cls, ↓reduceIte, not_true_eq_false, not_false_eq_true, and_true, true_and, and_false, false_and, or_true, true_or, or_false, false_or, eq_self, l0, l1, l2, l3, l4, l5, l6, l7, l8, l9, l10, l11, l12, l13, l14, l15, l16, l17, l18, l19, l20, l21, l22, l23, l24, l25, l26, l27, l28, l29, l30, l31, l32, l33, l34, l35, l36, l37, l40, l41, l42, l43, l45, l47, l48, l50, l57, l59, l60, l61, l62, l63, l85, l91, l93, l96, l97, l98, l99, l100, l120, l122, l146, l160, l165, l170, l178, l186, l198, l255, l400, l900, l948, l999, l1000, l2475, l2640, l2970, l3990, l9390, l18780, l19000, l999999, l1000000, l100000000, l2147483639, nI_add, pk_mul, ix_nI, leT, leF, ltT, ltF, eqT, eqF, nI_leI, nI_ltI, nI_eq, ngEq, ngEq', ngLt, ngLt', ngLe, ngLe', ngNg, nI_p, pk_sub, Nat.reduceAdd, Nat.reduceMul, Nat.reduceSub, uI1, uI2, uL1, uL2, uL3, uR1, uR2, uR3]
      · simp (disch := omega) only [rq_t, drs, sp, pcs, cls, ↓reduceIte, not_true_eq_false, not_false_eq_true, and_true, true_and, and_false, false_and, or_true, true_or, or_false, false_or, eq_self, l0, l1, l2, l3, l4, l5, l6, l7, l8, l9, l10, l11, l12, l13, l14, l15, l16, l17, l18, l19, l20, l21, l22, l23, l24, l25, l26, l27, l28, l29, l30, l31, l32, l33, l34, l35, l36, l37, l40, l41, l42, l43, l45, l47, l48, l50, l57, l59, l60, l61, l62, l63, l85, l91, l93, l96, l97, l98, l99, l100, l120, l122, l146, l160, l165, l170, l178, l186, l198, l255, l400, l900, l948, l999, l1000, l2475, l2640, l2970, l3990, l9390, l18780, l19000, l999999, l1000000, l100000000, l2147483639, nI_add, pk_mul, ix_nI, leT, leF, ltT, ltF, eqT, eqF, nI_leI, nI_ltI, nI_eq, ngEq, ngEq', ngLt, ngLt', ngLe, ngLe', ngNg, nI_p, pk_sub, Nat.reduceAdd, Nat.reduceMul, Nat.reduceSub, uI1, uI2, uL1, uL2, uL3, uR1, uR2, uR3, ho]
      · simp (disch := omega) only [rq_t, drs, sp, pcs, cls, ↓reduceIte, not_true_eq_false, not_false_eq_true, and_true, true_and, and_false, false_and, or_true, true_or, or_false, false_or, eq_self, l0, l1, l2, l3, l4, l5, l6, l7, l8, l9, l10, l11, l12, l13, l14, l15, l16, l17, l18, l19, l20, l21, l22, l23, l24, l25, l26, l27, l28, l29, l30, l31, l32, l33, l34, l35, l36, l37, l40, l41, l42, l43, l45, l47, l48, l50, l57, l59, l60, l61, l62, l63, l85, l91, l93, l96, l97, l98, l99, l100, l120, l122, l146, l160, l165, l170, l178, l186, l198, l255, l400, l900, l948, l999, l1000, l2475, l2640, l2970, l3990, l9390, l18780, l19000, l999999, l1000000, l100000000, l2147483639, nI_add, pk_mul, ix_nI, leT, leF, ltT, ltF, eqT, eqF, nI_leI, nI_ltI, nI_eq, ngEq, ngEq', ngLt, ngLt', ngLe, ngLe', ngNg, nI_p, pk_sub, Nat.reduceAdd, Nat.reduceMul, Nat.reduceSub, uI1, uI2, uL1, uL2, uL3, uR1, uR2, uR3]
      · simp (disch := omega) only [rq_t, drs, sp, pcs, cls, ↓reduceIte, not_true_eq_false, not_false_eq_true, and_true, true_and, and_false, false_and, or_true, true_or, or_false, false_or, eq_self, l0, l1, l2, l3, l4, l5, l6, l7, l8, l9, l10, l11, l12, l13, l14, l15, l16, l17, l18, l19, l20, l21, l22, l23, l24, l25, l26, l27, l28, l29, l30, l31, l32, l33, l34, l35, l36, l37, l40, l41, l42, l43, l45, l47, l48, l50, l57, l59, l60, l61, l62, l63, l85, l91, l93, l96, l97, l98, l99, l100, l120, l122, l146, l160, l165, l170, l178, l186, l198, l255, l400, l900, l948, l999, l1000, l2475, l2640, l2970, l3990, l9390, l18780, l19000, l999999, l1000000, l100000000, l2147483639, nI_add, pk_mul, ix_nI, leT, leF, ltT, ltF, eqT, eqF, nI_leI, nI_ltI, nI_eq, ngEq, ngEq', ngLt, ngLt', ngLe, ngLe', ngNg, nI_p, pk_sub, Nat.reduceAdd, Nat.reduceMul, Nat.reduceSub, uI1, uI2, uL1, uL2, uL3, uR1, uR2, uR3, ho]
    · have ho : outA (gC D c) n (19 - i) = tk (gC D c) n (19 - i) := by rw [outA, show 19 - (19 - i) = i by omega, if_neg w]
      have hmi : mis (gC D c) n (i + 1) = mis (gC D c) n i := by rw [mis, if_neg w]
      have goal : Ret (f_X5_takeOut_J115 T W 94 (nI c) (nI n) (nI (mis (gC D c) n i)) (lN (sg i fun j => (19 - j) * outA (gC D c) n (19 - j))) (nI (19 - i)) (f_X5_takeOut_L74 T 94 (nI c) (nI n) k N) k) R := by
        simp (disch := omega) only [f_X5_takeOut_J115, rq_t, drs, sp, pcs, cls, ↓reduceIte, not_true_eq_false, not_false_eq_true, and_true, true_and, and_false, false_and, or_true, true_or, or_false, false_or, eq_self, l0, l1, l2, l3, l4, l5, l6, l7, l8, l9, l10, l11, l12, l13, l14, l15, l16, l17, l18, l19, l20, l21, l22, l23, l24, l25, l26, l27, l28, l29, l30, l31, l32, l33, l34, l35, l36, l37, l40, l41, l42, l43, l45, l47, l48, l50, l57, l59, l60, l61, l62, l63, l85, l91, l93, l96, l97, l98, l99, l100, l120, l122, l146, l160, l165, l170, l178, l186, l198, l255, l400, l900, l948, l999, l1000, l2475, l2640, l2970, l3990, l9390, l18780, l19000, l999999, l1000000, l100000000, l2147483639, nI_add, pk_mul, ix_nI, leT, leF, ltT, ltF, eqT, eqF, nI_leI, nI_ltI, nI_eq, ngEq, ngEq', ngLt, ngLt', ngLe, ngLe', ngNg, nI_p, pk_sub, Nat.reduceAdd, Nat.reduceMul, Nat.reduceSub, uI1, uI2, uL1, uL2, uL3, uR1, uR2, uR3, rq_eq (MT0 hT), rq95 hT, rf2 hV, rq96 hT, rf3 hV, rq97 hT, rf4 hV, rq98 hT, rf5 hV, rq99 hT, rf6 hV, rq100 hT, rf7 hV, rq101 hT, rf9 hV, rq102 hT, rf10 hV, rq103 hT, rf12 hV, rq104 hT, rf22 hV, rq105 hT, rf24 hV, rq106 hT, rf25 hV, rq107 hT, rf27 hV, rq108 hT, rf28 hV, rq109 hT, rf31 hV, rq110 hT, rf32 hV, rq111 hT, rf33 hV, rq112 hT, rf35 hV, rq113 hT, rf36 hV, rq114 hT, rf37 hV, rq115 hT, rf41 hV, rq116 hT, rf44 hV, rq117 hT, rf45 hV, rq118 hT, rf51 hV, rq119 hT, rf53 hV, lN_add, lN_mul, lN_i, nI_l, L0, L1, L10, L100, L1000, LM, hpd, hd, hx, dn_s hi]
        refine hfin _ _ _ (by rw [hmi]) (by rw [sg_s, ho]) (frI.mk (fun h j hh => ?_) q3.2) (fun j hj => ?_) ?_ (fun j hj => ?_) ?_
        · simp only [uI1]
          rw [if_neg (by omega)]
          exact q3.1 h j hh
        · simp (disch := omega) only [rq_t, drs, sp, pcs, cls, ↓reduceIte, not_true_eq_false, not_false_eq_true, and_true, true_and, and_false, false_and, or_true, true_or, or_false, false_or, eq_self, l0, l1, l2, l3, l4, l5, l6, l7, l8, l9, l10, l11, l12, l13, l14, l15, l16, l17, l18, l19, l20, l21, l22, l23, l24, l25, l26, l27, l28, l29, l30, l31, l32, l33, l34, l35, l36, l37, l40, l41, l42, l43, l45, l47, l48, l50, l57, l59, l60, l61, l62, l63, l85, l91, l93, l96, l97, l98, l99, l100, l120, l122, l146, l160, l165, l170, l178, l186, l198, l255, l400, l900, l948, l999, l1000, l2475, l2640, l2970, l3990, l9390, l18780, l19000, l999999, l1000000, l100000000, l2147483639, nI_add, pk_mul, ix_nI, leT, leF, ltT, ltF, eqT, eqF, nI_leI, nI_ltI, nI_eq, ngEq, ngEq', ngLt, ngLt', ngLe, ngLe', ngNg, nI_p, pk_sub, Nat.reduceAdd, Nat.reduceMul, Nat.reduceSub, uI1, uI2, uL1, uL2, uL3, uR1, uR2, uR3]
        · simp (disch := omega) only [rq_t, drs, sp, pcs, cls, ↓reduceIte, not_true_eq_false, not_false_eq_true, and_true, true_and, and_false, false_and, or_true, true_or, or_false, false_or, eq_self, l0, l1, l2, l3, l4, l5, l6, l7, l8, l9, l10, l11, l12, l13, l14, l15, l16, l17, l18, l19, l20, l21, l22, l23, l24, l25, l26, l27, l28, l29, l30, l31, l32, l33, l34, l35, l36, l37, l40, l41, l42, l43, l45, l47, l48, l50, l57, l59, l60, l61, l62, l63, l85, l91, l93, l96, l97, l98, l99, l100, l120, l122, l146, l160, l165, l170, l178, l186, l198, l255, l400, l900, l948, l999, l1000, l2475, l2640, l2970, l3990, l9390, l18780, l19000, l999999, l1000000, l100000000, l2147483639, nI_add, pk_mul, ix_nI, leT, leF, ltT, ltF, eqT, eqF, nI_leI, nI_ltI, nI_eq, ngEq, ngEq', ngLt, ngLt', ngLe, ngLe', ngNg, nI_p, pk_sub, Nat.reduceAdd, Nat.reduceMul, Nat.reduceSub, uI1, uI2, uL1, uL2, uL3, uR1, uR2, uR3, ho, hx]
        · simp (disch := omega) only [rq_t, drs, sp, pcs, cls, ↓reduceIte, not_true_eq_false, not_false_eq_true, and_true, true_and, and_false, false_and, or_true, true_or, or_false, false_or, eq_self, l0, l1, l2, l3, l4, l5, l6, l7, l8, l9, l10, l11, l12, l13, l14, l15, l16, l17, l18, l19, l20, l21, l22, l23, l24, l25, l26, l27, l28, l29, l30, l31, l32, l33, l34, l35, l36, l37, l40, l41, l42, l43, l45, l47, l48, l50, l57, l59, l60, l61, l62, l63, l85, l91, l93, l96, l97, l98, l99, l100, l120, l122, l146, l160, l165, l170, l178, l186, l198, l255, l400, l900, l948, l999, l1000, l2475, l2640, l2970, l3990, l9390, l18780, l19000, l999999, l1000000, l100000000, l2147483639, nI_add, pk_mul, ix_nI, leT, leF, ltT, ltF, eqT, eqF, nI_leI, nI_ltI, nI_eq, ngEq, ngEq', ngLt, ngLt', ngLe, ngLe', ngNg, nI_p, pk_sub, Nat.reduceAdd, Nat.reduceMul, Nat.reduceSub, uI1, uI2, uL1, uL2, uL3, uR1, uR2, uR3]
        · simp (disch := omega) only [rq_t, drs, sp, pcs, cls, ↓reduceIte, not_true_eq_false, not_false_eq_true, and_true, true_and, and_false, false_and, or_true, true_or, or_false, false_or, eq_self, l0, l1, l2, l3, l4, l5, l6, l7, l8, l9, l10, l11, l12, l13, l14, l15, l16, l17, l18, l19, l20, l21, l22, l23, l24, l25, l26, l27, l28, l29, l30, l31, l32, l33, l34, l35, l36, l37, l40, l41, l42, l43, l45, l47, l48, l50, l57, l59, l60, l61, l62, l63, l85, l91, l93, l96, l97, l98, l99, l100, l120, l122, l146, l160, l165, l170, l178, l186, l198, l255, l400, l900, l948, l999, l1000, l2475, l2640, l2970, l3990, l9390, l18780, l19000, l999999, l1000000, l100000000, l2147483639, nI_add, pk_mul, ix_nI, leT, leF, ltT, ltF, eqT, eqF, nI_leI, nI_ltI, nI_eq, ngEq, ngEq', ngLt, ngLt', ngLe, ngLe', ngNg, nI_p, pk_sub, Nat.reduceAdd, Nat.reduceMul, Nat.reduceSub, uI1, uI2, uL1, uL2, uL3, uR1, uR2, uR3, ho]
      by_cases z : mis (gC D c) n i = 0
      · simp (disch := omega) only [f_X5_takeOut_L74, rq_t, drs, sp, pcs, cls, ↓reduceIte, not_true_eq_false, not_false_eq_true, and_true, true_and, and_false, false_and, or_true, true_or, or_false, false_or, eq_self, l0, l1, l2, l3, l4, l5, l6, l7, l8, l9, l10, l11, l12, l13, l14, l15, l16, l17, l18, l19, l20, l21, l22, l23, l24, l25, l26, l27, l28, l29, l30, l31, l32, l33, l34, l35, l36, l37, l40, l41, l42, l43, l45, l47, l48, l50, l57, l59, l60, l61, l62, l63, l85, l91, l93, l96, l97, l98, l99, l100, l120, l122, l146, l160, l165, l170, l178, l186, l198, l255, l400, l900, l948, l999, l1000, l2475, l2640, l2970, l3990, l9390, l18780, l19000, l999999, l1000000, l100000000, l2147483639, nI_add, pk_mul, ix_nI, leT, leF, ltT, ltF, eqT, eqF, nI_leI, nI_ltI, nI_eq, ngEq, ngEq', ngLt, ngLt', ngLe, ngLe', ngNg, nI_p, pk_sub, Nat.reduceAdd, Nat.reduceMul, Nat.reduceSub, uI1, uI2, uL1, uL2, uL3, uR1, uR2, uR3, z]
        rw [z] at goal
        exact goal
      · have w2 : D (20 * c + (19 - i)) ≤ tk (gC D c) n (19 - i) := by omega
        simp (disch := omega) only [f_X5_takeOut_L74, rq_t, drs, sp, pcs, cls, ↓reduceIte, not_true_eq_false, not_false_eq_true, and_true, true_and, and_false, false_and, or_true, true_or, or_false, false_or, eq_self, l0, l1, l2, l3, l4, l5, l6, l7, l8, l9, l10, l11, l12, l13, l14, l15, l16, l17, l18, l19, l20, l21, l22, l23, l24, l25, l26, l27, l28, l29, l30, l31, l32, l33, l34, l35, l36, l37, l40, l41, l42, l43, l45, l47, l48, l50, l57, l59, l60, l61, l62, l63, l85, l91, l93, l96, l97, l98, l99, l100, l120, l122, l146, l160, l165, l170, l178, l186, l198, l255, l400, l900, l948, l999, l1000, l2475, l2640, l2970, l3990, l9390, l18780, l19000, l999999, l1000000, l100000000, l2147483639, nI_add, pk_mul, ix_nI, leT, leF, ltT, ltF, eqT, eqF, nI_leI, nI_ltI, nI_eq, ngEq, ngEq', ngLt, ngLt', ngLe, ngLe', ngNg, nI_p, pk_sub, Nat.reduceAdd, Nat.reduceMul, Nat.reduceSub, uI1, uI2, uL1, uL2, uL3, uR1, uR2, uR3, rq_eq (MT0 hT), rq95 hT, rf2 hV, rq96 hT, rf3 hV, rq97 hT, rf4 hV, rq98 hT, rf5 hV, rq99 hT, rf6 hV, rq100 hT, rf7 hV, rq101 hT, rf9 hV, rq102 hT, rf10 hV, rq103 hT, rf12 hV, rq104 hT, rf22 hV, rq105 hT, rf24 hV, rq106 hT, rf25 hV, rq107 hT, rf27 hV, rq108 hT, rf28 hV, rq109 hT, rf31 hV, rq110 hT, rf32 hV, rq111 hT, rf33 hV, rq112 hT, rf35 hV, rq113 hT, rf36 hV, rq114 hT, rf37 hV, rq115 hT, rf41 hV, rq116 hT, rf44 hV, rq117 hT, rf45 hV, rq118 hT, rf51 hV, rq119 hT, rf53 hV, m_drops hT hV q5 hc, hpd, hx]
        exact goal
  · intro N m s a W ⟨q1, qs, q2, q3, q4, q5⟩
    subst q1 qs q2
    have hsr := sg_rev (f := fun a => a * outA (gC D c) n a) 20
    simp only [Nat.reduceSub] at hsr
    simp (disch := omega) only [f_X5_takeOut_L74, rq_t, drs, sp, pcs, cls, ↓reduceIte, not_true_eq_false, not_false_eq_true, and_true, true_and, and_false, false_and, or_true, true_or, or_false, false_or, eq_self, l0, l1, l2, l3, l4, l5, l6, l7, l8, l9, l10, l11, l12, l13, l14, l15, l16, l17, l18, l19, l20, l21, l22, l23, l24, l25, l26, l27, l28, l29, l30, l31, l32, l33, l34, l35, l36, l37, l40, l41, l42, l43, l45, l47, l48, l50, l57, l59, l60, l61, l62, l63, l85, l91, l93, l96, l97, l98, l99, l100, l120, l122, l146, l160, l165, l170, l178, l186, l198, l255, l400, l900, l948, l999, l1000, l2475, l2640, l2970, l3990, l9390, l18780, l19000, l999999, l1000000, l100000000, l2147483639, nI_add, pk_mul, ix_nI, leT, leF, ltT, ltF, eqT, eqF, nI_leI, nI_ltI, nI_eq, ngEq, ngEq', ngLt, ngLt', ngLe, ngLe', ngNg, nI_p, pk_sub, Nat.reduceAdd, Nat.reduceMul, Nat.reduceSub, uI1, uI2, uL1, uL2, uL3, uR1, uR2, uR3, dn, hsr]
    exact hk W q3 (fun a ha => by rw [q4 a ha, outI_20]) (by rw [← pD_20]; exact q5)
theorem m_takeOut {T : Tt} {V : Vt} (hT : MT T) (hV : MV V) {D : Nat → Nat} (hD : mD V D) {c n : Nat} (hc : c < 8) (hn : n ≤ 999) (h0 : 0 < n) (hb : n * 1000 ≤ tAll D c) (hB : tAll D c ≤ 999000) :
    Ret (f_X5_takeOut T V 94 (nI c) (nI n)) fun p => p.1 = mnOf (outA (gC D c) n) ∧ frI (fun h j => sD h j ∨ h = 115) V p.2 ∧ mD p.2 (tDraw D c n) ∧ ∀ a, a < 20 → p.2.1 115 a = nI (outA (gC D c) n a) := by
  have hS : sg 20 (gC D c) ≤ 999000 := hB
  have hS2 : n * 1000 ≤ sg 20 (gC D c) := hb
  rw [f_X5_takeOut, rq hT.1, pc (m_all hT hV hD hc), sp, sp, nI_l (by omega), l1000, pk_mul]
  refine m_takeOut_L17 hT hV hD hc hn h0 hS2 hS fun W h3 h4 => ?_
  refine m_takeOut_L74 hT hV hD hc hn h0 hS2 hS h3 h4 fun W' h5 h6 h7 => ?_
  have hsb : (sg 20 fun a => a * outA (gC D c) n a) ≤ 19 * (n * 1000) := by
    rw [← out_sum hS2, Nat.mul_comm 19, ← sg_mul]
    exact sg_le fun i hi => by rw [Nat.mul_comm]; exact Nat.mul_le_mul_left _ (by omega)
  simp (disch := omega) only [rq_t, drs, sp, pcs, cls, ↓reduceIte, not_true_eq_false, not_false_eq_true, and_true, true_and, and_false, false_and, or_true, true_or, or_false, false_or, eq_self, l0, l1, l2, l3, l4, l5, l6, l7, l8, l9, l10, l11, l12, l13, l14, l15, l16, l17, l18, l19, l20, l21, l22, l23, l24, l25, l26, l27, l28, l29, l30, l31, l32, l33, l34, l35, l36, l37, l40, l41, l42, l43, l45, l47, l48, l50, l57, l59, l60, l61, l62, l63, l85, l91, l93, l96, l97, l98, l99, l100, l120, l122, l146, l160, l165, l170, l178, l186, l198, l255, l400, l900, l948, l999, l1000, l2475, l2640, l2970, l3990, l9390, l18780, l19000, l999999, l1000000, l100000000, l2147483639, nI_add, pk_mul, ix_nI, leT, leF, ltT, ltF, eqT, eqF, nI_leI, nI_ltI, nI_eq, ngEq, ngEq', ngLt, ngLt', ngLe, ngLe', ngNg, nI_p, pk_sub, Nat.reduceAdd, Nat.reduceMul, Nat.reduceSub, uI1, uI2, uL1, uL2, uL3, uR1, uR2, uR3, lN_add, lN_mul, lN_i, nI_l, L0, L1, L10, L100, L1000, LM, pk_lDiv, pk_lEQ]
  refine Ret.ok ⟨?_, h5, h7, h6⟩
  rw [mn_out h0 hS2]
