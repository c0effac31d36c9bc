/-! 97: the component tells orders what they see -/
set_option maxRecDepth 100000
theorem c_tells_L {P : Nat → Prop} {T : Tt} {V : Vt} {la pa : Nat} {g : Cfg} {t d : Nat} {b : Tab} (h : cPp P T V la pa g t d b) {dn lt : Int32} (h4 : ∀ j, j < 4 → V.2.1 24 j = vO g b dn lt j) {k : Vt → Option Vt} {R : Vt → Prop}
    (hR : ∀ W, frM nF lC V W → (∀ j, j < 28 → W.2.1 24 j = vO g b dn lt j) → Ret (k W) R) : Ret (f_X0_tellsOrder_L42 T 0 t 24 k fuel (nI 0) V) R := by
  have hC := h.C
  have g8 := h.g.n
  refine lq2 (f_X0_tellsOrder_L42 T 0 t 24 k) (fun i z W => z = nI i ∧ frM nF lC V W ∧ (∀ j, j < 4 → W.2.1 24 j = vO g b dn lt j) ∧ ∀ c, c < i → W.2.1 24 (4 + c) = vO g b dn lt (4 + c) ∧ W.2.1 24 (12 + c) = vO g b dn lt (12 + c) ∧ W.2.1 24 (20 + c) = vO g b dn lt (20 + c)) 8 ?_ ?_ fuel _ _ (by decide) ⟨rfl, frM.rfl', h4, fun c hc => absurd hc (by omega)⟩
  · intro i N z W hi ⟨q1, q2, q3, q4⟩ ih
    subst q1
    have fin : ∀ (v1 v2 v3 : Int64), v1 = vO g b dn lt (4 + i) → v2 = vO g b dn lt (12 + i) → v3 = vO g b dn lt (20 + i) → Ret (f_X0_tellsOrder_L42 T 0 t 24 k N (nI (i + 1)) (uL (uL (uL W 24 (4 + i) v1) 24 (12 + i) v2) 24 (20 + i) v3)) R := by
      intro v1 v2 v3 e1 e2 e3
      refine ih _ _ ⟨rfl, ⟨fun c j w => q2.1 c j w, fun c j w => ?_, q2.2.2⟩, fun j hj => ?_, fun c hc => ?_⟩
      · rw [uL2, if_neg (fun z => w z.1), uL2, if_neg (fun z => w z.1), uL2, if_neg (fun z => w z.1)]
        exact q2.2.1 c j w
      · rw [uL2, if_neg (by omega), uL2, if_neg (by omega), uL2, if_neg (by omega)]
        exact q3 j hj
      · simp only [uL2]
        by_cases e : c = i
        · subst e
          refine ⟨?_, ?_, ?_⟩
          · rw [if_neg (by omega), if_neg (by omega), if_pos ⟨trivial, rfl⟩, e1]
          · rw [if_neg (by omega), if_pos ⟨trivial, rfl⟩, e2]
          · rw [if_pos ⟨trivial, rfl⟩, e3]
        · have := q4 c (by omega)
          refine ⟨?_, ?_, ?_⟩
          · rw [if_neg (by omega), if_neg (by omega), if_neg (by omega)]
            exact this.1
          · rw [if_neg (by omega), if_neg (by omega), if_neg (by omega)]
            exact this.2.1
          · rw [if_neg (by omega), if_neg (by omega), if_neg (by omega)]
            exact this.2.2
    have hp : ∀ X, frM nF lC V X → cPp P T X la pa g t d b := fun X f => h.fr f (fun _ _ w => absurd w id) h.b (h.ct.fr (fun j => f.1 _ _ id) (fun j => f.1 _ _ id) (fun j => by rw [f.2.2]))
    have hu : ∀ (X : Vt) (j : Nat) (v : Int64), frM nF lC V X → frM nF lC V (uL X 24 j v) := fun X j v f => ⟨f.1, fun c k w => by rw [uL2, if_neg (fun z => w z.1)]; exact f.2.1 c k w, f.2.2⟩
    have hck : ∀ X, frM nF lC V X → f_X0_isCask T X 0 (nI i) = some (b1 (isKa g (nI i))) := fun X f => c_isCask hC (hp X f).U h.g (hp X f).cf
    rw [f_X0_tellsOrder_L42, if_neg (by rw [l8]; exact nI_ge hi (by omega)), pc (hck W q2)]
    by_cases q : i < g.n
    · have hB := h.b.a h.g q
      have hD := h.b.D i q
      have hs := h.g.sz i q
      have p0 := hp W q2
      have f1 := fun v => hu W (4 + i) v q2
      have f2 := fun v w => hu _ (12 + i) w (f1 v)
      rw [isKa_nI g8 q, if_neg (by decide), pc (c_full p0.ct.k p0.ct.D hi hB), f_X0_tellsOrder_J77, l4, nI_add, cq24 hC (by omega), sp, ix_nI (by omega), pc (hck _ (f1 _)), isKa_nI g8 q, if_neg (by decide), dr (hp _ (f1 _)).U.r0_2, rq hC.k2, dr (hp _ (f1 _)).U.r2_2, cq6 hC hi, pc (c_all (hp _ (f1 _)).ct.k (hp _ (f1 _)).ct.D hi)]
      have es : ∀ v, (uL W 24 (4 + i) v).1 6 (ixN (nI i)) = nI (g.sz i) := fun v => by rw [ix_nI (by omega)]; exact (hp _ (f1 v)).cf.sz i q
      rw [es, l1000, pk_mul, pk_sub (by omega), pk_div (by omega) (by omega) (by omega), f_X0_tellsOrder_J126, l12, nI_add, cq24 hC (by omega), sp, ix_nI (by omega), pc (hck _ (f2 _ _)), isKa_nI g8 q, if_neg (by decide), pc (c_years (hp _ (f2 _ _)).ct.k (hp _ (f2 _ _)).ct.D hi hB), f_X0_tellsOrder_J156, l20, nI_add, cq24 hC (by omega), sp, ix_nI (by omega), l1, nI_add, sp]
      refine fin _ _ _ ?_ ?_ ?_
      · rw [vO, if_neg (by omega), if_neg (by omega), if_neg (by omega), if_neg (by omega), if_pos (by omega), show 4 + i - 4 = i by omega, if_pos q]
      · rw [vO, if_neg (by omega), if_neg (by omega), if_neg (by omega), if_neg (by omega), if_neg (by omega), if_pos (by omega), show 12 + i - 12 = i by omega, if_pos q, nI_l (by omega), Nat.mul_comm]
      · rw [vO, if_neg (by omega), if_neg (by omega), if_neg (by omega), if_neg (by omega), if_neg (by omega), if_neg (by omega), show 20 + i - 20 = i by omega, if_pos q]
    · have hk : isKa g (nI i) = false := by
        rw [isKa, iN_nI (by omega)]
        exact decide_eq_false (by omega)
      have f1 := fun v => hu W (4 + i) v q2
      have f2 := fun v w => hu _ (12 + i) w (f1 v)
      rw [hk, if_pos (by decide), f_X0_tellsOrder_J77, l4, nI_add, cq24 hC (by omega), sp, ix_nI (by omega), pc (hck _ (f1 _)), hk, if_pos (by decide), f_X0_tellsOrder_J126, l12, nI_add, cq24 hC (by omega), sp, ix_nI (by omega), pc (hck _ (f2 _ _)), hk, if_pos (by decide), f_X0_tellsOrder_J156, l20, nI_add, cq24 hC (by omega), sp, ix_nI (by omega), l1, nI_add, sp]
      refine fin _ _ _ ?_ ?_ ?_
      · rw [vO, if_neg (by omega), if_neg (by omega), if_neg (by omega), if_neg (by omega), if_pos (by omega), show 4 + i - 4 = i by omega, if_neg q]
      · rw [vO, if_neg (by omega), if_neg (by omega), if_neg (by omega), if_neg (by omega), if_neg (by omega), if_pos (by omega), show 12 + i - 12 = i by omega, if_neg q]
      · rw [vO, if_neg (by omega), if_neg (by omega), if_neg (by omega), if_neg (by omega), if_neg (by omega), if_neg (by omega), show 20 + i - 20 = i by omega, if_neg q]
  · intro N z W ⟨q1, q2, q3, q4⟩
    subst q1
    simp (disch := omega) only [f_X0_tellsOrder_L42, rq_t, drs, sp, pcs, cls, ↓reduceIte, not_true_eq_false, not_false_eq_true, and_true, true_and, and_false, false_and, or_true, true_or, or_false, false_or, eq_self, l0, l1, l2, l3, l4, l5, l6, l7, l8, l9, l10, l11, l12, l13, l14, l15, l16, l17, l18, l19, l20, l21, l22, l23, l24, l25, l26, l27, l28, l29, l30, l31, l32, l33, l34, l35, l36, l37, l40, l41, l42, l43, l45, l47, l48, l50, l57, l59, l60, l61, l62, l63, l85, l91, l93, l96, l97, l98, l99, l100, l120, l122, l146, l160, l165, l170, l178, l186, l198, l255, l400, l900, l948, l999, l1000, l2475, l2640, l2970, l3990, l9390, l18780, l19000, l999999, l1000000, l100000000, l2147483639, nI_add, pk_mul, ix_nI, leT, leF, ltT, ltF, eqT, eqF, nI_leI, nI_ltI, nI_eq, ngEq, ngEq', ngLt, ngLt', ngLe, ngLe', ngNg, nI_p, pk_sub, Nat.reduceAdd, Nat.reduceMul, Nat.reduceSub, uI1, uI2, uL1, uL2, uL3, uR1, uR2, uR3]
    refine hR W q2 fun j hj => ?_
    by_cases a1 : j < 4
    · exact q3 j a1
    by_cases a2 : j < 12
    · have := (q4 (j - 4) (by omega)).1
      rw [show 4 + (j - 4) = j by omega] at this
      exact this
    by_cases a3 : j < 20
    · have := (q4 (j - 12) (by omega)).2.1
      rw [show 12 + (j - 12) = j by omega] at this
      exact this
    · have := (q4 (j - 20) (by omega)).2.2
      rw [show 20 + (j - 20) = j by omega] at this
      exact this
