/-! 94: what to taste next -/
set_option maxRecDepth 100000
def bit (b : Int32) (c : Nat) : Bool := decide ((b >>> (nI c &&& 31)) &&& 1 = 1)
/-- how many of the first o casks are like c by a fact -/
def al (a : St) (b : Int32) (f c : Nat) : Nat → Nat
  | 0 => 0
  | o + 1 => al a b f c o + (if bit b o = true ∧ fct a c f = fct a o f then 1 else 0)
def ma (a : St) (b : Int32) (f : Nat) : Nat → Nat
  | 0 => 0
  | c + 1 => if bit b c = true ∧ ma a b f c < al a b f c a.g.n then al a b f c a.g.n else ma a b f c
theorem al_le {a : St} {b : Int32} {f c : Nat} : ∀ o, al a b f c o ≤ o := by
  intro o
  induction o with
  | zero => exact Nat.le_refl _
  | succ o ih => rw [al]; split <;> omega
theorem ma_le {a : St} {b : Int32} {f : Nat} : ∀ c, ma a b f c ≤ a.g.n := by
  intro c
  induction c with
  | zero => exact Nat.zero_le _
  | succ c ih =>
    have := al_le (a := a) (b := b) (f := f) (c := c) a.g.n
    rw [ma]
    split <;> omega
theorem c_alike_L {T : Tt} {V : Vt} {x : HS} {a : St} (h : CR T V x a) (ok : OK a) {b : Int32} {f c : Nat} (hf : f < 3) (hc : c < a.g.n) {x3 : Int32} {kc : Int32 → Int32 → Option Int32} {kx k : Int32 → Option Int32} : f_X0_mostAlike_L23 T V 0 b (nI f) x3 (nI c) kc kx k fuel (nI 0) (nI 0) = k (nI (al a b f c a.g.n)) := by
  have hC := h.hC
  have hU := h.hU
  have g8 := ok.g.n
  have hn : V.1 2 6 = nI a.g.n := h.cf.n
  refine lp (fun n (p : Int32 × Int32) => f_X0_mostAlike_L23 T V 0 b (nI f) x3 (nI c) kc kx k n p.1 p.2) (fun i => (nI (al a b f c i), nI i)) a.g.n ?_ ?_ _ (Nat.lt_of_le_of_lt g8 (by decide))
  · intro i n hi
    dsimp only
    rw [f_X0_mostAlike_L23, dr hU.r0_2, rq hC.k2, hn, if_neg (nI_ge hi (by omega)), pc (c_factOf h ok hc hf), pc (c_factOf h ok hi hf), al]
    simp only [f_X0_mostAlike_J68, f_X0_mostAlike_J69, sp]
    by_cases q : bit b i = true
    · have q' := of_decide_eq_true q
      rw [if_pos q']
      by_cases w : fct a c f = fct a i f
      · rw [if_pos w, if_pos ⟨q, w⟩, l1, nI_add, nI_add]
      · rw [if_neg w, if_neg (fun z => w z.2), l0, nI_add, l1, nI_add]
    · have q' : ¬ ((b >>> (nI i &&& 31)) &&& 1 = 1) := fun z => q (decide_eq_true z)
      rw [if_neg q', if_neg (fun z => q z.1), l0, nI_add, l1, nI_add]
  · intro n
    dsimp only
    rw [f_X0_mostAlike_L23, dr hU.r0_2, rq hC.k2, hn, if_pos (nI_le (Nat.le_refl _) (by omega))]
theorem c_mostAlike {T : Tt} {V : Vt} {x : HS} {a : St} (h : CR T V x a) (ok : OK a) {b : Int32} {f : Nat} (hf : f < 3) : f_X0_mostAlike T V 0 b (nI f) = some (nI (ma a b f a.g.n)) := by
  have hC := h.hC
  have hU := h.hU
  have g8 := ok.g.n
  have hn : V.1 2 6 = nI a.g.n := h.cf.n
  rw [f_X0_mostAlike, rq hC.k0]
  refine lp (fun n (p : Int32 × Int32) => f_X0_mostAlike_L5 T V 0 b (nI f) _ n p.1 p.2) (fun i => (nI (ma a b f i), nI i)) a.g.n ?_ ?_ _ (Nat.lt_of_le_of_lt g8 (by decide))
  · intro i n hi
    have h1 := al_le (a := a) (b := b) (f := f) (c := i) a.g.n
    have h2 := ma_le (a := a) (b := b) (f := f) i
    dsimp only
    rw [f_X0_mostAlike_L5, dr hU.r0_2, rq hC.k2, hn, if_neg (nI_ge hi (by omega)), show (0 : Int32) = nI 0 from rfl, c_alike_L h ok hf hi, ma]
    simp only [f_X0_mostAlike_J98, sp, nI_ltI (show ma a b f i < 2 ^ 31 by omega) (show al a b f i a.g.n < 2 ^ 31 by omega)]
    by_cases q : bit b i = true
    · have q' := of_decide_eq_true q
      rw [if_pos q', l1, nI_add]
      by_cases w : ma a b f i < al a b f i a.g.n
      · rw [if_pos w, if_pos ⟨q, w⟩]
      · rw [if_neg w, if_neg (fun z => w z.2)]
    · have q' : ¬ ((b >>> (nI i &&& 31)) &&& 1 = 1) := fun z => q (decide_eq_true z)
      rw [if_neg q', if_neg (fun z => q z.1), l1, nI_add]
  · intro n
    dsimp only
    rw [f_X0_mostAlike_L5, dr hU.r0_2, rq hC.k2, hn, if_pos (nI_le (Nat.le_refl _) (by omega))]
theorem m_is {T : Tt} {V : Vt} {b : Int32} {c : Nat} : f_X5_is T V b (nI c) = some (b1 (bit b c)) := by
  rw [f_X5_is, bit]
  by_cases q : (b >>> (nI c &&& 31)) &&& 1 = 1
  · rw [if_pos q, decide_eq_true q]
    rfl
  · rw [if_neg q, decide_eq_false q]
    rfl
theorem m_alike_L {T : Tt} {V : Vt} (hT : MT T) {a : St} (h : MR V a) (ok : OK a) {b : Int32} {f c : Nat} (hf : f < 3) (hc : c < a.g.n) {x3 : Int32} {kc : Int32 → Int32 → Option Int32} {kx k : Int32 → Option Int32} : f_X5_mostAlike_L22 T V 94 b (nI f) x3 (nI c) kc kx k fuel (nI 0) (nI 0) = k (nI (if bit b c = true then al a b f c a.g.n else 0)) := by
  have hV := h.hV
  have g8 := ok.g.n
  have hn := h.mf.n
  refine lp (fun n (p : Int32 × Int32) => f_X5_mostAlike_L22 T V 94 b (nI f) x3 (nI c) kc kx k n p.1 p.2) (fun i => (nI (if bit b c = true then al a b f c i else 0), nI i)) a.g.n (r := k (nI (if bit b c = true then al a b f c a.g.n else 0))) ?_ ?_ fuel (Nat.lt_of_le_of_lt g8 (by decide)) |> Eq.trans (by show f_X5_mostAlike_L22 T V 94 b (nI f) x3 (nI c) kc kx k fuel (nI 0) (nI 0) = f_X5_mostAlike_L22 T V 94 b (nI f) x3 (nI c) kc kx k fuel (nI (if bit b c = true then al a b f c 0 else 0)) (nI 0); congr 1; congr 1; split <;> rfl)
  · intro i n hi
    dsimp only
    simp (disch := omega) only [f_X5_mostAlike_L22, rq_t, drs, sp, pcs, cls, ↓reduceIte, not_true_eq_false, not_false_eq_true, and_true, true_and, and_false, false_and, or_true, true_or, or_false, false_or, eq_self, l0, l1, l2, l3, l4, l5, l6, l7, l8, l9, l10, l11, l12, l13, l14, l15, l16, l17, l18, l19, l20, l21, l22, l23, l24, l25, l26, l27, l28, l29, l30, l31, l32, l33, l34, l35, l36, l37, l40, l41, l42, l43, l45, l47, l48, l50, l57, l59, l60, l61, l62, l63, l85, l91, l93, l96, l97, l98, l99, l100, l120, l122, l146, l160, l165, l170, l178, l186, l198, l255, l400, l900, l948, l999, l1000, l2475, l2640, l2970, l3990, l9390, l18780, l19000, l999999, l1000000, l100000000, l2147483639, nI_add, pk_mul, ix_nI, leT, leF, ltT, ltF, eqT, eqF, nI_leI, nI_ltI, nI_eq, ngEq, ngEq', ngLt, ngLt', ngLe, ngLe', ngNg, nI_p, pk_sub, Nat.reduceAdd, Nat.reduceMul, Nat.reduceSub, uI1, uI2, uL1, uL2, uL3, uR1, uR2, uR3, rq_eq (MT0 hT), rq95 hT, rf2 hV, rq96 hT, rf3 hV, rq97 hT, rf4 hV, rq98 hT, rf5 hV, rq99 hT, rf6 hV, rq100 hT, rf7 hV, rq101 hT, rf9 hV, rq102 hT, rf10 hV, rq103 hT, rf12 hV, rq104 hT, rf22 hV, rq105 hT, rf24 hV, rq106 hT, rf25 hV, rq107 hT, rf27 hV, rq108 hT, rf28 hV, rq109 hT, rf31 hV, rq110 hT, rf32 hV, rq111 hT, rf33 hV, rq112 hT, rf35 hV, rq113 hT, rf36 hV, rq114 hT, rf37 hV, rq115 hT, rf41 hV, rq116 hT, rf44 hV, rq117 hT, rf45 hV, rq118 hT, rf51 hV, rq119 hT, rf53 hV, hn, m_is, m_tasteOf hT h ok hi hf, m_tasteOf hT h ok hc hf]
    simp only [f_X5_mostAlike_J74, f_X5_mostAlike_J75, sp, al]
    by_cases q0 : bit b c = true
    · rw [q0, if_neg (by decide), if_pos rfl, if_pos rfl]
      by_cases q : bit b i = true
      · rw [q, if_neg (by decide)]
        by_cases w : fct a c f = fct a i f
        · rw [if_pos w.symm, if_pos ⟨rfl, w⟩, l1, nI_add, nI_add]
        · rw [if_neg (fun z => w z.symm), if_neg (fun z => w z.2), l0, nI_add, l1, nI_add]
      · rw [Bool.eq_false_iff.mpr q, if_pos (by decide), if_neg (fun z => absurd z.1 (by decide)), l0, nI_add, l1, nI_add]
    · rw [Bool.eq_false_iff.mpr q0, if_pos (by decide), if_neg (by decide), if_neg (by decide), l0, nI_add, l1, nI_add]
  · intro n
    dsimp only
    simp (disch := omega) only [f_X5_mostAlike_L22, rq_t, drs, sp, pcs, cls, ↓reduceIte, not_true_eq_false, not_false_eq_true, and_true, true_and, and_false, false_and, or_true, true_or, or_false, false_or, eq_self, l0, l1, l2, l3, l4, l5, l6, l7, l8, l9, l10, l11, l12, l13, l14, l15, l16, l17, l18, l19, l20, l21, l22, l23, l24, l25, l26, l27, l28, l29, l30, l31, l32, l33, l34, l35, l36, l37, l40, l41, l42, l43, l45, l47, l48, l50, l57, l59, l60, l61, l62, l63, l85, l91, l93, l96, l97, l98, l99, l100, l120, l122, l146, l160, l165, l170, l178, l186, l198, l255, l400, l900, l948, l999, l1000, l2475, l2640, l2970, l3990, l9390, l18780, l19000, l999999, l1000000, l100000000, l2147483639, nI_add, pk_mul, ix_nI, leT, leF, ltT, ltF, eqT, eqF, nI_leI, nI_ltI, nI_eq, ngEq, ngEq', ngLt, ngLt', ngLe, ngLe', ngNg, nI_p, pk_sub, Nat.reduceAdd, Nat.reduceMul, Nat.reduceSub, uI1, uI2, uL1, uL2, uL3, uR1, uR2, uR3, rq_eq (MT0 hT), rq95 hT, rf2 hV, rq96 hT, rf3 hV, rq97 hT, rf4 hV, rq98 hT, rf5 hV, rq99 hT, rf6 hV, rq100 hT, rf7 hV, rq101 hT, rf9 hV, rq102 hT, rf10 hV, rq103 hT, rf12 hV, rq104 hT, rf22 hV, rq105 hT, rf24 hV, rq106 hT, rf25 hV, rq107 hT, rf27 hV, rq108 hT, rf28 hV, rq109 hT, rf31 hV, rq110 hT, rf32 hV, rq111 hT, rf33 hV, rq112 hT, rf35 hV, rq113 hT, rf36 hV, rq114 hT, rf37 hV, rq115 hT, rf41 hV, rq116 hT, rf44 hV, rq117 hT, rf45 hV, rq118 hT, rf51 hV, rq119 hT, rf53 hV, hn]
theorem m_mostAlike {T : Tt} {V : Vt} (hT : MT T) {a : St} (h : MR V a) (ok : OK a) {b : Int32} {f : Nat} (hf : f < 3) : f_X5_mostAlike T V 94 b (nI f) = some (nI (ma a b f a.g.n)) := by
  have hV := h.hV
  have g8 := ok.g.n
  have hn := h.mf.n
  rw [f_X5_mostAlike, rq hT.1]
  refine lp (fun n (p : Int32 × Int32) => f_X5_mostAlike_L5 T V 94 b (nI f) _ n p.1 p.2) (fun i => (nI (ma a b f i), nI i)) a.g.n ?_ ?_ _ (Nat.lt_of_le_of_lt g8 (by decide))
  · intro i n hi
    have h1 := al_le (a := a) (b := b) (f := f) (c := i) a.g.n
    have h2 := ma_le (a := a) (b := b) (f := f) i
    dsimp only
    simp (disch := omega) only [f_X5_mostAlike_L5, rq_t, drs, sp, pcs, cls, ↓reduceIte, not_true_eq_false, not_false_eq_true, and_true, true_and, and_false, false_and, or_true, true_or, or_false, false_or, eq_self, l0, l1, l2, l3, l4, l5, l6, l7, l8, l9, l10, l11, l12, l13, l14, l15, l16, l17, l18, l19, l20, l21, l22, l23, l24, l25, l26, l27, l28, l29, l30, l31, l32, l33, l34, l35, l36, l37, l40, l41, l42, l43, l45, l47, l48, l50, l57, l59, l60, l61, l62, l63, l85, l91, l93, l96, l97, l98, l99, l100, l120, l122, l146, l160, l165, l170, l178, l186, l198, l255, l400, l900, l948, l999, l1000, l2475, l2640, l2970, l3990, l9390, l18780, l19000, l999999, l1000000, l100000000, l2147483639, nI_add, pk_mul, ix_nI, leT, leF, ltT, ltF, eqT, eqF, nI_leI, nI_ltI, nI_eq, ngEq, ngEq', ngLt, ngLt', ngLe, ngLe', ngNg, nI_p, pk_sub, Nat.reduceAdd, Nat.reduceMul, Nat.reduceSub, uI1, uI2, uL1, uL2, uL3, uR1, uR2, uR3, rq_eq (MT0 hT), rq95 hT, rf2 hV, rq96 hT, rf3 hV, rq97 hT, rf4 hV, rq98 hT, rf5 hV, rq99 hT, rf6 hV, rq100 hT, rf7 hV, rq101 hT, rf9 hV, rq102 hT, rf10 hV, rq103 hT, rf12 hV, rq104 hT, rf22 hV, rq105 hT, rf24 hV, rq106 hT, rf25 hV, rq107 hT, rf27 hV, rq108 hT, rf28 hV, rq109 hT, rf31 hV, rq110 hT, rf32 hV, rq111 hT, rf33 hV, rq112 hT, rf35 hV, rq113 hT, rf36 hV, rq114 hT, rf37 hV, rq115 hT, rf41 hV, rq116 hT, rf44 hV, rq117 hT, rf45 hV, rq118 hT, rf51 hV, rq119 hT, rf53 hV, hn]
    rw [m_alike_L hT h ok hf hi, ma]
    simp only [f_X5_mostAlike_J96, sp]
    by_cases q : bit b i = true
    · rw [if_pos q]
      by_cases w : ma a b f i < al a b f i a.g.n
      · rw [if_neg (nI_ge w (by omega)), if_pos ⟨q, w⟩, l1, nI_add]
      · rw [if_pos (nI_le (by omega) (by omega)), if_neg (fun z => w z.2), l1, nI_add]
    · rw [if_neg q, if_pos (nI_le (by omega) (by omega)), if_neg (fun z => q z.1), l1, nI_add]
  · intro n
    dsimp only
    simp (disch := omega) only [f_X5_mostAlike_L5, rq_t, drs, sp, pcs, cls, ↓reduceIte, not_true_eq_false, not_false_eq_true, and_true, true_and, and_false, false_and, or_true, true_or, or_false, false_or, eq_self, l0, l1, l2, l3, l4, l5, l6, l7, l8, l9, l10, l11, l12, l13, l14, l15, l16, l17, l18, l19, l20, l21, l22, l23, l24, l25, l26, l27, l28, l29, l30, l31, l32, l33, l34, l35, l36, l37, l40, l41, l42, l43, l45, l47, l48, l50, l57, l59, l60, l61, l62, l63, l85, l91, l93, l96, l97, l98, l99, l100, l120, l122, l146, l160, l165, l170, l178, l186, l198, l255, l400, l900, l948, l999, l1000, l2475, l2640, l2970, l3990, l9390, l18780, l19000, l999999, l1000000, l100000000, l2147483639, nI_add, pk_mul, ix_nI, leT, leF, ltT, ltF, eqT, eqF, nI_leI, nI_ltI, nI_eq, ngEq, ngEq', ngLt, ngLt', ngLe, ngLe', ngNg, nI_p, pk_sub, Nat.reduceAdd, Nat.reduceMul, Nat.reduceSub, uI1, uI2, uL1, uL2, uL3, uR1, uR2, uR3, rq_eq (MT0 hT), rq95 hT, rf2 hV, rq96 hT, rf3 hV, rq97 hT, rf4 hV, rq98 hT, rf5 hV, rq99 hT, rf6 hV, rq100 hT, rf7 hV, rq101 hT, rf9 hV, rq102 hT, rf10 hV, rq103 hT, rf12 hV, rq104 hT, rf22 hV, rq105 hT, rf24 hV, rq106 hT, rf25 hV, rq107 hT, rf27 hV, rq108 hT, rf28 hV, rq109 hT, rf31 hV, rq110 hT, rf32 hV, rq111 hT, rf33 hV, rq112 hT, rf35 hV, rq113 hT, rf36 hV, rq114 hT, rf37 hV, rq115 hT, rf41 hV, rq116 hT, rf44 hV, rq117 hT, rf45 hV, rq118 hT, rf51 hV, rq119 hT, rf53 hV, hn]
/-- the fact that parts them best, and how well, of the first f + 1 -/
def bst (a : St) (b : Int32) : Nat → Nat × Nat
  | 0 => (0, ma a b 0 a.g.n)
  | f + 1 => if ma a b (f + 1) a.g.n < (bst a b f).2 then (f + 1, ma a b (f + 1) a.g.n) else bst a b f
theorem bst_le {a : St} {b : Int32} : ∀ f, (bst a b f).1 ≤ f ∧ (bst a b f).2 ≤ a.g.n := by
  intro f
  induction f with
  | zero => exact ⟨Nat.le_refl _, ma_le _⟩
  | succ f ih =>
    rw [bst]
    split
    · exact ⟨Nat.le_refl _, ma_le _⟩
    · exact ⟨by omega, ih.2⟩
def rTaste (a : St) (w : Int32) : Int32 := if iN w 0 1 then (if bts a a.g.n = 0 then -nI 1 else if w = 0 then nI (bst a (bts a a.g.n) 2).1 else nI (bst a (bts a a.g.n) 2).2) else -nI 1
theorem c_taste {T : Tt} {V : Vt} {x : HS} {a : St} (h : CR T V x a) (ok : OK a) {w : Int32} : f_X0_taste T V 0 w = some (rTaste a w) := by
  have g8 := ok.g.n
  rw [f_X0_taste, rq h.hC.k0, pc c_in, rTaste, show (0 : Int32).toInt = 0 from rfl, show (1 : Int32).toInt = 1 from rfl]
  cases hw : iN w 0 1 with
  | false => rfl
  | true =>
    rw [if_neg (by decide), if_pos rfl, pc (c_canBe h ok)]
    generalize bts a a.g.n = b
    obtain ⟨N, hN⟩ : ∃ n, fuel = n + 4 := ⟨fuel - 4, by decide⟩
    rw [hN]
    by_cases q : b = 0
    · rw [f_X0_taste_L26, if_neg (by decide), if_pos q, f_X0_taste_J68, if_pos rfl, if_pos q]
      rfl
    · have b0 := bst_le (a := a) (b := b) 0
      have b1' := bst_le (a := a) (b := b) 1
      have b2 := bst_le (a := a) (b := b) 2
      have m1 := ma_le (a := a) (b := b) (f := 1) a.g.n
      have m2 := ma_le (a := a) (b := b) (f := 2) a.g.n
      have m0 := ma_le (a := a) (b := b) (f := 0) a.g.n
      have s1 : f_X0_mostAlike T V 0 b 0 = some (nI (ma a b 0 a.g.n)) := c_mostAlike (f := 0) h ok (by omega)
      have s2 : f_X0_mostAlike T V 0 b (nI 1) = some (nI (ma a b 1 a.g.n)) := c_mostAlike h ok (by omega)
      have s3 : f_X0_mostAlike T V 0 b (nI 2) = some (nI (ma a b 2 a.g.n)) := c_mostAlike h ok (by omega)
      rw [if_neg q]
      have step : ∀ (N f : Nat) (k : Int32 → Int32 → Option Int32), f < 2 → f_X0_mostAlike T V 0 b (nI (f + 1)) = some (nI (ma a b (f + 1) a.g.n)) → f_X0_taste_L26 T V 0 w b k (N + 1) (nI (bst a b f).1) (nI (bst a b f).2) (nI (f + 1)) = f_X0_taste_L26 T V 0 w b k N (nI (bst a b (f + 1)).1) (nI (bst a b (f + 1)).2) (nI (f + 2)) := by
        intro N f k hf hs
        have hb := bst_le (a := a) (b := b) f
        have hm := ma_le (a := a) (b := b) (f := f + 1) a.g.n
        rw [f_X0_taste_L26, if_neg (by rw [l3]; exact nI_ge (by omega) (by omega)), if_neg q, pc hs, bst]
        simp only [f_X0_taste_J62, sp]
        by_cases z : ma a b (f + 1) a.g.n < (bst a b f).2
        · rw [if_pos (nI_lt z (by omega)), if_pos z, l1, nI_add]
        · rw [if_neg (nI_nlt (by omega) (by omega)), if_neg z, l1, nI_add]
      rw [f_X0_taste_L26, if_neg (by decide), if_neg q, pc s1, if_pos (by rw [l1000000]; exact nI_lt (by omega) (by omega)), f_X0_taste_J62, sp]
      rw [show (0 : Int32) = nI (bst a b 0).1 from rfl, show nI (ma a b 0 a.g.n) = nI (bst a b 0).2 from rfl, show nI (bst a b 0).1 + 1 = nI (0 + 1) from rfl, step (N + 2) 0 _ (by omega) s2, step (N + 1) 1 _ (by omega) s3, f_X0_taste_L26, if_pos (by decide), f_X0_taste_J68]
      have n1 : ¬ nI (bst a b (1 + 1)).1 = -1 := fun e => by
        have b2 : (bst a b (1 + 1)).1 ≤ 2 := b2.1
        have e2 := congrArg Int32.toInt e
        rw [nI_toInt (by omega), m1T] at e2
        omega
      rw [if_neg n1]
      by_cases z : w = 0
      · rw [if_pos (show w = nI (bst a b 0).1 from z), if_pos z]
      · rw [if_neg (show ¬ w = nI (bst a b 0).1 from z), if_neg z]
theorem m_taste {T : Tt} {V : Vt} (hT : MT T) {a : St} (h : MR V a) (ok : OK a) {w : Int32} : mOp (f_X5_taste T V 94 w) V (rTaste a w) a := by
  have h := h.s0 ok.g (j := 0) (v := 0) (by omega)
  have g8 := ok.g.n
  rw [f_X5_taste, rq hT.1, sp]
  refine mOp.fr (W := uI V 94 0 0) (mF_uI (by omega)) ?_
  generalize uI V 94 0 0 = V at h ⊢
  rw [pc (m_canBe' hT h ok), pc m_inI, rTaste, show (0 : Int64).toInt = 0 from rfl, show (1 : Int64).toInt = 1 from rfl]
  cases hw : iN w 0 1 with
  | false => exact mOp.k h
  | true =>
    rw [if_neg (by decide), if_pos rfl]
    generalize bts a a.g.n = b
    by_cases q : b = 0
    · rw [if_pos q, if_pos q]
      exact mOp.k h
    · rw [if_neg q, if_neg q]
      obtain ⟨N, hN⟩ : ∃ n, fuel = n + 4 := ⟨fuel - 4, by decide⟩
      rw [hN]
      have b2 := bst_le (a := a) (b := b) 2
      have m0 := ma_le (a := a) (b := b) (f := 0) a.g.n
      have s1 : f_X5_mostAlike T V 94 b 0 = some (nI (ma a b 0 a.g.n)) := m_mostAlike (f := 0) hT h ok (by omega)
      have s2 : f_X5_mostAlike T V 94 b (nI 1) = some (nI (ma a b 1 a.g.n)) := m_mostAlike hT h ok (by omega)
      have s3 : f_X5_mostAlike T V 94 b (nI 2) = some (nI (ma a b 2 a.g.n)) := m_mostAlike hT h ok (by omega)
      have step : ∀ (N f : Nat) (k : Int32 → Int32 → Option (Int32 × Vt)), f < 2 → f_X5_mostAlike T V 94 b (nI (f + 1)) = some (nI (ma a b (f + 1) a.g.n)) → f_X5_taste_L36 T V 94 w b k (N + 1) (nI (bst a b f).2) (nI (bst a b f).1) (nI (f + 1)) = f_X5_taste_L36 T V 94 w b k N (nI (bst a b (f + 1)).2) (nI (bst a b (f + 1)).1) (nI (f + 2)) := by
        intro N f k hf hs
        have hb := bst_le (a := a) (b := b) f
        have hm := ma_le (a := a) (b := b) (f := f + 1) a.g.n
        rw [f_X5_taste_L36, if_neg (by rw [l3]; exact nI_ge (by omega) (by omega)), pc hs, bst]
        simp only [f_X5_taste_J64, f_X5_taste_J78, sp]
        by_cases z : ma a b (f + 1) a.g.n < (bst a b f).2
        · rw [if_neg (nI_ge z (by omega)), if_neg (nI_ge z (by omega)), if_pos z, l1, nI_add]
        · rw [if_pos (nI_le (by omega) (by omega)), if_pos (nI_le (by omega) (by omega)), if_neg z, l1, nI_add]
      rw [f_X5_taste_L36, if_neg (by decide), pc s1, if_neg (by rw [l100000000]; exact nI_ge (by omega) (by omega)), f_X5_taste_J64, if_neg (by rw [l100000000]; exact nI_ge (by omega) (by omega)), f_X5_taste_J78, sp]
      have e0 := step (N + 2) 0 (fun z14 z15 => if w = 0 then (some (z15, V)) else (some (z14, V))) (by omega) s2
      have e1 := step (N + 1) 1 (fun z14 z15 => if w = 0 then (some (z15, V)) else (some (z14, V))) (by omega) s3
      refine Eq.mpr (congrArg (fun z => mOp z V _ a) (e0.trans e1)) ?_
      rw [f_X5_taste_L36, if_pos (by decide)]
      by_cases z : w = 0
      · rw [if_pos z, if_pos z]
        exact mOp.k h
      · rw [if_neg z, if_neg z]
        exact mOp.k h
