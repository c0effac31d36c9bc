/-! 78: wine poured, racked, bottled, on both sides -/
set_option maxRecDepth 100000
abbrev tH (t d : Nat) : Prop := d = t + 1 ∧ (t = 3 ∨ (17 ≤ t ∧ t < 21) ∨ (28 ≤ t ∧ t < 93))
theorem nI_if {p : Prop} [Decidable p] {a b : Nat} : (if p then nI a else nI b) = nI (if p then a else b) := by split <;> rfl
def pD1 (D : Nat → Nat) (c n : Nat) : Nat → Nat := fun k => if k = 20 * c then D k + 1000 * n else D k
def tPour (t : Tab) (c n : Nat) : Tab := ⟨pD1 t.D c n, t.b, t.y⟩
def tRack (t : Tab) (f o n : Nat) : Tab := ⟨tCome (tDraw t.D f n) o (outA (gC t.D f) n), t.b, t.y⟩
def tBot (t : Tab) (c n : Nat) : Tab := ⟨tDraw t.D c n, if t.b + n < 999999 then t.b + n else 999999, t.y⟩
theorem tAll_o {D E : Nat → Nat} {c : Nat} (h : ∀ a, a < 20 → E (20 * c + a) = D (20 * c + a)) : tAll E c = tAll D c := sg_congr h
theorem all_pour {D : Nat → Nat} {c n : Nat} : tAll (pD1 D c n) c = tAll D c + 1000 * n := by
  have : ∀ m, m ≤ 19 → sg (m + 1) (fun a => pD1 D c n (20 * c + a)) = sg (m + 1) (fun a => D (20 * c + a)) + 1000 * n := by
    intro m
    induction m with
    | zero => intro _; simp [sg, pD1]
    | succ m ih =>
      intro hm
      rw [sg_s, sg_s _ (fun a => D (20 * c + a)), ih (by omega)]
      have : pD1 D c n (20 * c + (m + 1)) = D (20 * c + (m + 1)) := by rw [pD1, if_neg (by omega)]
      rw [this]
      omega
  exact this 19 (by omega)
theorem all_pour' {D : Nat → Nat} {c n e : Nat} (h : e ≠ c) : tAll (pD1 D c n) e = tAll D e := tAll_o fun a ha => by rw [pD1, if_neg (by omega)]
theorem all_pA' {D : Nat → Nat} {c e : Nat} {g : Nat → Nat} (h : e ≠ c) : tAll (pA D c 20 g) e = tAll D e := tAll_o fun a ha => by rw [pA_out (by omega)]
theorem all_pA {D : Nat → Nat} {c : Nat} {g : Nat → Nat} : tAll (pA D c 20 g) c = sg 20 g := sg_congr fun a ha => by rw [pA_in ha]
theorem sg_sub {n : Nat} {f g : Nat → Nat} (h : ∀ a, g a ≤ f a) : sg n (fun a => f a - g a) + sg n g = sg n f := by
  induction n with
  | zero => rfl
  | succ n ih =>
    have := h n
    rw [sg_s, sg_s, sg_s]
    omega
theorem all_draw {D : Nat → Nat} {c n : Nat} (h : n * 1000 ≤ tAll D c) : tAll (tDraw D c n) c + 1000 * n = tAll D c := by
  rw [tDraw, all_pA]
  have h1 := out_sum (g := gC D c) (n := n) h
  have h2 := sg_sub (n := 20) (f := gC D c) (g := outA (gC D c) n) fun a => out_le h
  have h3 : sg 20 (gC D c) = tAll D c := rfl
  have h4 : sg 20 (fun a => D (20 * c + a) - outA (gC D c) n a) = sg 20 (fun a => gC D c a - outA (gC D c) n a) := rfl
  omega
theorem all_come {D : Nat → Nat} {c : Nat} {g : Nat → Nat} : tAll (tCome D c g) c = tAll D c + sg 20 g := by
  rw [tCome, all_pA, sg_plus]
  rfl
theorem ok_pour {g : Cfg} {t : Tab} (h : okB g t) {c n : Nat} (q : roo g t c n = true) : okB g (tPour t c n) := by
  have q := of_decide_eq_true q
  refine ⟨fun e he => ?_, h.b, h.y⟩
  show tAll (pD1 t.D c n) e ≤ _
  by_cases w : e = c
  · rw [w, all_pour]
    exact q
  · rw [all_pour' w]
    exact h.D e he
theorem gvs_l {g : Cfg} {t : Tab} {c n : Nat} (q : gvs g t c n = true) : n * 1000 ≤ tAll t.D c := by
  rw [gvs, Bool.and_eq_true] at q
  have := of_decide_eq_true q.2
  omega
theorem ok_rack {g : Cfg} {t : Tab} (h : okB g t) {f o n : Nat} (hf : f ≠ o) (q : gvs g t f n = true) (q2 : roo g t o n = true) : okB g (tRack t f o n) := by
  have q1 := gvs_l q
  have q2 := of_decide_eq_true q2
  have q3 := all_draw q1
  refine ⟨fun e he => ?_, h.b, h.y⟩
  show tAll (tCome (tDraw t.D f n) o (outA (gC t.D f) n)) e ≤ _
  have hd := h.D e he
  by_cases w : e = o
  · rw [w, all_come, out_sum (g := gC t.D f) q1, tDraw, all_pA' (by omega)]
    omega
  · rw [tCome, all_pA' w]
    by_cases w2 : e = f
    · rw [w2] at hd ⊢
      omega
    · rw [tDraw, all_pA' w2]
      exact hd
theorem ok_bot {g : Cfg} {t : Tab} (h : okB g t) {c n : Nat} (q : gvs g t c n = true) : okB g (tBot t c n) := by
  have q1 := gvs_l q
  have q3 := all_draw q1
  refine ⟨fun e he => ?_, ?_, h.y⟩
  · show tAll (tDraw t.D c n) e ≤ _
    have hd := h.D e he
    by_cases w2 : e = c
    · rw [w2] at hd ⊢
      omega
    · rw [tDraw, all_pA' w2]
      exact hd
  · show (if t.b + n < 999999 then t.b + n else 999999) ≤ 999999
    split <;> omega
theorem c_pours {T : Tt} {V : Vt} (hC : CT T) {t d : Nat} (hH : tH t d) {b : Tab} (ct : cTb T V t d b) {c n : Nat} (hc : c < 8) (hB : tAll b.D c + 1000 * n ≤ 999000) :
    Ret (f_X0_pours T V 0 t (nI c) (nI n)) fun p => p.1 = tFull (tPour b c n).D c ∧ frM (fun h _ => h = d) nF V p.2 ∧ cTb T p.2 t d (tPour b c n) := by
  have h1 := ct.D (20 * c) (by omega)
  simp (disch := omega) only [f_X0_pours, rq_t, drs, sp, pcs, cls, ↓reduceIte, not_true_eq_false, not_false_eq_true, and_true, true_and, and_false, false_and, or_true, true_or, or_false, false_or, eq_self, l0, l1, l2, l3, l4, l5, l6, l7, l8, l9, l10, l11, l12, l13, l14, l15, l16, l17, l18, l19, l20, l21, l22, l23, l24, l25, l26, l27, l28, l29, l30, l31, l32, l33, l34, l35, l36, l37, l40, l41, l42, l43, l45, l47, l48, l50, l57, l59, l60, l61, l62, l63, l85, l91, l93, l96, l97, l98, l99, l100, l120, l122, l146, l160, l165, l170, l178, l186, l198, l255, l400, l900, l948, l999, l1000, l2475, l2640, l2970, l3990, l9390, l18780, l19000, l999999, l1000000, l100000000, l2147483639, nI_add, pk_mul, ix_nI, leT, leF, ltT, ltF, eqT, eqF, nI_leI, nI_ltI, nI_eq, ngEq, ngEq', ngLt, ngLt', ngLe, ngLe', ngNg, nI_p, pk_sub, Nat.reduceAdd, Nat.reduceMul, Nat.reduceSub, uI1, uI2, uL1, uL2, uL3, uR1, uR2, uR3, rq_eq hC.k0, rq_eq ct.k.1, ct.k.2.1, rqT ct.k, h1]
  have ct' : cTb T (uI V d (20 * c) (nI (b.D (20 * c) + n * 1000))) t d (tPour b c n) := by
    refine ⟨ct.k, ?_, ?_, ?_⟩
    · intro k hk
      rw [uI1]
      show _ = nI (pD1 b.D c n k)
      rw [pD1]
      by_cases e : k = 20 * c
      · rw [if_pos ⟨rfl, e⟩, if_pos e, e, Nat.mul_comm n]
      · rw [if_neg (fun w => e w.2), if_neg e]
        exact ct.D k hk
    · rw [uI1, if_neg (by omega)]
      exact ct.b
    · rw [uI1, if_neg (by omega)]
      exact ct.y
  rw [pc (c_full ct'.k ct'.D hc (by show tAll (pD1 b.D c n) c ≤ _; rw [all_pour]; exact hB))]
  refine Ret.ok ⟨rfl, ⟨fun h j q => ?_, fun _ _ _ => rfl, rfl⟩, ct'⟩
  rw [uI1, if_neg (fun w => q w.1)]
theorem frI.m {S : Nat → Nat → Prop} {V W : Vt} (h : frI S V W) : frM S nF V W := ⟨h.1, fun _ _ _ => by rw [h.2], by rw [h.2]⟩
theorem c_racks {T : Tt} {V : Vt} (hC : CT T) (hU : CV V) {t d : Nat} (hH : tH t d) {b : Tab} (ct : cTb T V t d b) {f o n : Nat} (hf : f < 8) (ho : o < 8) (hfo : f ≠ o) (h0 : 0 < n) (hn : n ≤ 999) (hl : n * 1000 ≤ tAll b.D f) (hB : tAll b.D f ≤ 999000) (hR : tAll b.D o + 1000 * n ≤ 999000) :
    Ret (f_X0_racks T V 0 t (nI f) (nI o) (nI n)) fun p => p.1 = tMean (tRack b f o n).D o ∧ frM (fun h _ => h = d ∨ h = 25) nF V p.2 ∧ cTb T p.2 t d (tRack b f o n) := by
  rw [f_X0_racks, rq hC.k0, dr hU.r0_17]
  refine Ret.p (c_draws ct.k hC.k25 hC.n25 (by omega) ct.D hf hn h0 hl hB) ?_
  intro W ⟨f1, D1, o1⟩
  have k1 : isTb T W t d := ⟨ct.k.1, by rw [f1.2]; exact ct.k.2.1, ct.k.2.2⟩
  have hU1 := hU.eq3 (W := W) (by rw [f1.2])
  rw [dr hU1.r0_17]
  refine Ret.p (c_comes k1 hC.k25 hC.n25 (by omega) D1 o1 ho) ?_
  intro U ⟨f2, D2⟩
  have k2 : isTb T U t d := ⟨ct.k.1, by rw [f2.2, f1.2]; exact ct.k.2.1, ct.k.2.2⟩
  have hall : tAll (tCome (tDraw b.D f n) o (outA (gC b.D f) n)) o ≤ 999000 := by
    rw [all_come, out_sum (g := gC b.D f) hl, tDraw, all_pA' (by omega)]
    omega
  rw [pc (c_mean k2 D2 ho (by omega))]
  refine Ret.ok ⟨rfl, ⟨fun h j q => ?_, fun h j q => ?_, ?_⟩, k2, D2, ?_, ?_⟩
  · rw [f2.1 _ _ (by omega), f1.1 _ _ (by omega)]
  · rw [f2.2, f1.2]
  · rw [f2.2, f1.2]
  · rw [f2.1 _ _ (by omega), f1.1 _ _ (by omega)]
    exact ct.b
  · rw [f2.1 _ _ (by omega), f1.1 _ _ (by omega)]
    exact ct.y
theorem c_bottles {T : Tt} {V : Vt} (hC : CT T) (hU : CV V) {t d : Nat} (hH : tH t d) {b : Tab} (ct : cTb T V t d b) (hb : b.b ≤ 999999) {c n : Nat} (hc : c < 8) (h0 : 0 < n) (hn : n ≤ 999) (hl : n * 1000 ≤ tAll b.D c) (hB : tAll b.D c ≤ 999000) :
    Ret (f_X0_bottles T V 0 t (nI c) (nI n)) fun p => p.1 = mnOf (outA (gC b.D c) n) ∧ frM (fun h j => h = d ∨ h = 25 ∨ (h = t ∧ j = 1)) nF V p.2 ∧ cTb T p.2 t d (tBot b c n) := by
  rw [f_X0_bottles, rq hC.k0, dr hU.r0_17]
  refine Ret.p (c_draws ct.k hC.k25 hC.n25 (by omega) ct.D hc hn h0 hl hB) ?_
  intro W ⟨f1, D1, o1⟩
  have k1 : isTb T W t d := ⟨ct.k.1, by rw [f1.2]; exact ct.k.2.1, ct.k.2.2⟩
  have hU1 := hU.eq3 (W := W) (by rw [f1.2])
  have hb1 : W.1 t 1 = nI b.b := by rw [f1.1 _ _ (by omega)]; exact ct.b
  rw [rq ct.k.1, hb1]
  simp (disch := omega) only [rq_t, drs, sp, pcs, cls, ↓reduceIte, not_true_eq_false, not_false_eq_true, and_true, true_and, and_false, false_and, or_true, true_or, or_false, false_or, eq_self, l0, l1, l2, l3, l4, l5, l6, l7, l8, l9, l10, l11, l12, l13, l14, l15, l16, l17, l18, l19, l20, l21, l22, l23, l24, l25, l26, l27, l28, l29, l30, l31, l32, l33, l34, l35, l36, l37, l40, l41, l42, l43, l45, l47, l48, l50, l57, l59, l60, l61, l62, l63, l85, l91, l93, l96, l97, l98, l99, l100, l120, l122, l146, l160, l165, l170, l178, l186, l198, l255, l400, l900, l948, l999, l1000, l2475, l2640, l2970, l3990, l9390, l18780, l19000, l999999, l1000000, l100000000, l2147483639, nI_add, pk_mul, ix_nI, leT, leF, ltT, ltF, eqT, eqF, nI_leI, nI_ltI, nI_eq, ngEq, ngEq', ngLt, ngLt', ngLe, ngLe', ngNg, nI_p, pk_sub, Nat.reduceAdd, Nat.reduceMul, Nat.reduceSub, uI1, uI2, uL1, uL2, uL3, uR1, uR2, uR3, hU1.r0_17]
  have hos := out_sum (g := gC b.D c) hl
  rw [nI_if, pc (c_meanOf (g := outA (gC b.D c) n) (L := 20) hC.k25 hC.n25 (by omega) (by omega) (fun a ha => by rw [Nat.zero_add, uI1, if_neg (by omega)]; exact o1 a ha) (by rw [hos]; omega))]
  refine Ret.ok ⟨rfl, ⟨fun h j q => ?_, fun h j q => ?_, ?_⟩, k1, fun k hk => ?_, ?_, ?_⟩
  · rw [uI1, if_neg (by omega), f1.1 _ _ (by omega)]
  · rw [uI2, f1.2]
  · rw [uI2, f1.2]
  · rw [uI1, if_neg (by omega)]
    exact D1 k hk
  · rw [uI1, if_pos ⟨rfl, rfl⟩]
    rfl
  · rw [uI1, if_neg (by omega), f1.1 _ _ (by omega)]
    exact ct.y
/-- the model's -/
theorem m_pourIt {T : Tt} {V : Vt} (hT : MT T) (hV : MV V) {b : Tab} (mt : mTb V b) {c n : Nat} (hc : c < 8) (hB : tAll b.D c + 1000 * n ≤ 999000) :
    Ret (f_X5_pourIt T V 94 (nI c) (nI n)) fun p => p.1 = tFull (tPour b c n).D c ∧ frM sD nF V p.2 ∧ mTb p.2 (tPour b c n) := by
  have h1 := mt.D (20 * c) (by omega)
  simp (disch := omega) only [f_X5_pourIt, rq_t, drs, sp, pcs, cls, ↓reduceIte, not_true_eq_false, not_false_eq_true, and_true, true_and, and_false, false_and, or_true, true_or, or_false, false_or, eq_self, l0, l1, l2, l3, l4, l5, l6, l7, l8, l9, l10, l11, l12, l13, l14, l15, l16, l17, l18, l19, l20, l21, l22, l23, l24, l25, l26, l27, l28, l29, l30, l31, l32, l33, l34, l35, l36, l37, l40, l41, l42, l43, l45, l47, l48, l50, l57, l59, l60, l61, l62, l63, l85, l91, l93, l96, l97, l98, l99, l100, l120, l122, l146, l160, l165, l170, l178, l186, l198, l255, l400, l900, l948, l999, l1000, l2475, l2640, l2970, l3990, l9390, l18780, l19000, l999999, l1000000, l100000000, l2147483639, nI_add, pk_mul, ix_nI, leT, leF, ltT, ltF, eqT, eqF, nI_leI, nI_ltI, nI_eq, ngEq, ngEq', ngLt, ngLt', ngLe, ngLe', ngNg, nI_p, pk_sub, Nat.reduceAdd, Nat.reduceMul, Nat.reduceSub, uI1, uI2, uL1, uL2, uL3, uR1, uR2, uR3, rq_eq (MT0 hT), rq95 hT, rf2 hV, rq96 hT, rf3 hV, rq97 hT, rf4 hV, rq98 hT, rf5 hV, rq99 hT, rf6 hV, rq100 hT, rf7 hV, rq101 hT, rf9 hV, rq102 hT, rf10 hV, rq103 hT, rf12 hV, rq104 hT, rf22 hV, rq105 hT, rf24 hV, rq106 hT, rf25 hV, rq107 hT, rf27 hV, rq108 hT, rf28 hV, rq109 hT, rf31 hV, rq110 hT, rf32 hV, rq111 hT, rf33 hV, rq112 hT, rf35 hV, rq113 hT, rf36 hV, rq114 hT, rf37 hV, rq115 hT, rf41 hV, rq116 hT, rf44 hV, rq117 hT, rf45 hV, rq118 hT, rf51 hV, rq119 hT, rf53 hV, h1]
  have mt' : mTb (uI V 96 (10 + 20 * c) (nI (b.D (20 * c) + 1000 * n))) (tPour b c n) := by
    refine ⟨?_, ?_, ?_⟩
    · intro k hk
      rw [uI1]
      show _ = nI (pD1 b.D c n k)
      rw [pD1]
      by_cases e : k = 20 * c
      · rw [if_pos ⟨rfl, by omega⟩, if_pos e, e]
      · rw [if_neg (by omega), if_neg e]
        exact mt.D k hk
    · rw [uI1, if_neg (by omega)]
      exact mt.b
    · rw [uI1, if_neg (by omega)]
      exact mt.y
  have ha : tAll (tPour b c n).D c ≤ 999000 := by show tAll (pD1 b.D c n) c ≤ _; rw [all_pour]; exact hB
  rw [pc (m_all (V := uI V 96 _ _) hT (hV.eq3 rfl) mt'.D hc)]
  simp (disch := omega) only [pk_div]
  refine Ret.ok ⟨rfl, ⟨fun h j q => ?_, fun _ _ _ => rfl, rfl⟩, mt'⟩
  rw [uI1, if_neg (by omega)]
theorem m_rackIt {T : Tt} {V : Vt} (hT : MT T) (hV : MV V) {b : Tab} (mt : mTb V b) {f o n : Nat} (hf : f < 8) (ho : o < 8) (hfo : f ≠ o) (h0 : 0 < n) (hn : n ≤ 999) (hl : n * 1000 ≤ tAll b.D f) (hB : tAll b.D f ≤ 999000) (hR : tAll b.D o + 1000 * n ≤ 999000) :
    Ret (f_X5_rackIt T V 94 (nI f) (nI o) (nI n)) fun p => p.1 = tMean (tRack b f o n).D o ∧ frM (fun h j => sD h j ∨ h = 115) nF V p.2 ∧ mTb p.2 (tRack b f o n) := by
  rw [f_X5_rackIt, rq hT.1]
  refine Ret.c (m_takeOut hT hV mt.D hf hn h0 hl hB) ?_
  intro z W ⟨_, f1, D1, o1⟩
  dsimp only at f1 D1 o1
  have hall : tAll (tCome (tDraw b.D f n) o (outA (gC b.D f) n)) o ≤ 999000 := by
    rw [all_come, out_sum (g := gC b.D f) hl, tDraw, all_pA' (by omega)]
    omega
  refine lq2 (f_X5_rackIt_L10 T 94 (nI o) _) (fun i a U => a = nI i ∧ frI (fun h j => sD h j ∨ h = 115) V U ∧ (∀ a, a < 20 → U.1 115 a = nI (outA (gC b.D f) n a)) ∧ mD U (pA (tDraw b.D f n) o i fun a => tDraw b.D f n (20 * o + a) + outA (gC b.D f) n a)) 20 ?_ ?_ fuel _ _ (by decide) ⟨rfl, f1, o1, fun k hk => by rw [pA_out (by omega)]; exact D1 k hk⟩
  · intro i N a U hi ⟨q2, q3, q4, q5⟩ ih
    subst q2
    have hV := hV.eq q3.2
    have hd : U.1 96 (10 + 20 * o + i) = nI (tDraw b.D f n (20 * o + i)) := by rw [show 10 + 20 * o + i = 10 + (20 * o + i) by omega, q5 _ (by omega), pA_out (by omega)]
    have hx := q4 i hi
    simp (disch := omega) only [f_X5_rackIt_L10, rq_t, drs, sp, pcs, cls, ↓reduceIte, not_true_eq_false, not_false_eq_true, and_true, true_and, and_false, false_and, or_true, true_or, or_false, false_or, eq_self, l0, l1, l2, l3, l4, l5, l6, l7, l8, l9, l10, l11, l12, l13, l14, l15, l16, l17, l18, l19, l20, l21, l22, l23, l24, l25, l26, l27, l28, l29, l30, l31, l32, l33, l34, l35, l36, l37, l40, l41, l42, l43, l45, l47, l48, l50, l57, l59, l60, l61, l62, l63, l85, l91, l93, l96, l97, l98, l99, l100, l120, l122, l146, l160, l165, l170, l178, l186, l198, l255, l400, l900, l948, l999, l1000, l2475, l2640, l2970, l3990, l9390, l18780, l19000, l999999, l1000000, l100000000, l2147483639, nI_add, pk_mul, ix_nI, leT, leF, ltT, ltF, eqT, eqF, nI_leI, nI_ltI, nI_eq, ngEq, ngEq', ngLt, ngLt', ngLe, ngLe', ngNg, nI_p, pk_sub, Nat.reduceAdd, Nat.reduceMul, Nat.reduceSub, uI1, uI2, uL1, uL2, uL3, uR1, uR2, uR3, rq_eq (MT0 hT), rq95 hT, rf2 hV, rq96 hT, rf3 hV, rq97 hT, rf4 hV, rq98 hT, rf5 hV, rq99 hT, rf6 hV, rq100 hT, rf7 hV, rq101 hT, rf9 hV, rq102 hT, rf10 hV, rq103 hT, rf12 hV, rq104 hT, rf22 hV, rq105 hT, rf24 hV, rq106 hT, rf25 hV, rq107 hT, rf27 hV, rq108 hT, rf28 hV, rq109 hT, rf31 hV, rq110 hT, rf32 hV, rq111 hT, rf33 hV, rq112 hT, rf35 hV, rq113 hT, rf36 hV, rq114 hT, rf37 hV, rq115 hT, rf41 hV, rq116 hT, rf44 hV, rq117 hT, rf45 hV, rq118 hT, rf51 hV, rq119 hT, rf53 hV, hd, hx]
    refine ih _ _ ⟨rfl, frI.mk ?_ q3.2, ?_, ?_⟩
    · intro h j hh
      simp only [uI1]
      rw [if_neg (by omega)]
      exact q3.1 h j hh
    · intro a ha
      simp (disch := omega) only [rq_t, drs, sp, pcs, cls, ↓reduceIte, not_true_eq_false, not_false_eq_true, and_true, true_and, and_false, false_and, or_true, true_or, or_false, false_or, eq_self, l0, l1, l2, l3, l4, l5, l6, l7, l8, l9, l10, l11, l12, l13, l14, l15, l16, l17, l18, l19, l20, l21, l22, l23, l24, l25, l26, l27, l28, l29, l30, l31, l32, l33, l34, l35, l36, l37, l40, l41, l42, l43, l45, l47, l48, l50, l57, l59, l60, l61, l62, l63, l85, l91, l93, l96, l97, l98, l99, l100, l120, l122, l146, l160, l165, l170, l178, l186, l198, l255, l400, l900, l948, l999, l1000, l2475, l2640, l2970, l3990, l9390, l18780, l19000, l999999, l1000000, l100000000, l2147483639, nI_add, pk_mul, ix_nI, leT, leF, ltT, ltF, eqT, eqF, nI_leI, nI_ltI, nI_eq, ngEq, ngEq', ngLt, ngLt', ngLe, ngLe', ngNg, nI_p, pk_sub, Nat.reduceAdd, Nat.reduceMul, Nat.reduceSub, uI1, uI2, uL1, uL2, uL3, uR1, uR2, uR3]
      exact q4 a ha
    · intro k hk
      simp only [uI1]
      by_cases e : k = 20 * o + i
      · rw [if_pos ⟨trivial, by omega⟩, e, pA_in (by omega)]
      · rw [if_neg (fun w => by omega), q5 k hk, pA, pA]
        congr 1
        by_cases q : 20 * o ≤ k ∧ k < 20 * o + i
        · rw [if_pos q, if_pos (by omega)]
        · rw [if_neg q, if_neg (by omega)]
  · intro N a U ⟨q2, q3, q4, q5⟩
    subst q2
    have hV := hV.eq q3.2
    have q5 : mD U (tCome (tDraw b.D f n) o (outA (gC b.D f) n)) := q5
    simp (disch := omega) only [f_X5_rackIt_L10, rq_t, drs, sp, pcs, cls, ↓reduceIte, not_true_eq_false, not_false_eq_true, and_true, true_and, and_false, false_and, or_true, true_or, or_false, false_or, eq_self, l0, l1, l2, l3, l4, l5, l6, l7, l8, l9, l10, l11, l12, l13, l14, l15, l16, l17, l18, l19, l20, l21, l22, l23, l24, l25, l26, l27, l28, l29, l30, l31, l32, l33, l34, l35, l36, l37, l40, l41, l42, l43, l45, l47, l48, l50, l57, l59, l60, l61, l62, l63, l85, l91, l93, l96, l97, l98, l99, l100, l120, l122, l146, l160, l165, l170, l178, l186, l198, l255, l400, l900, l948, l999, l1000, l2475, l2640, l2970, l3990, l9390, l18780, l19000, l999999, l1000000, l100000000, l2147483639, nI_add, pk_mul, ix_nI, leT, leF, ltT, ltF, eqT, eqF, nI_leI, nI_ltI, nI_eq, ngEq, ngEq', ngLt, ngLt', ngLe, ngLe', ngNg, nI_p, pk_sub, Nat.reduceAdd, Nat.reduceMul, Nat.reduceSub, uI1, uI2, uL1, uL2, uL3, uR1, uR2, uR3]
    rw [pc (m_mean hT hV q5 ho (by omega))]
    exact Ret.ok ⟨rfl, q3.m, q5, (q3.1 _ _ (by omega)).trans mt.b, (q3.1 _ _ (by omega)).trans mt.y⟩
abbrev mnI (a b : Int32) : Int32 := if a ≤ b then a else b
theorem m_bottleIt {T : Tt} {V : Vt} (hT : MT T) (hV : MV V) {b : Tab} (mt : mTb V b) (hb : b.b ≤ 999999) {c n : Nat} (hc : c < 8) (h0 : 0 < n) (hn : n ≤ 999) (hl : n * 1000 ≤ tAll b.D c) (hB : tAll b.D c ≤ 999000) :
    Ret (f_X5_bottleIt T V 94 (nI c) (nI n)) fun p => p.1 = mnOf (outA (gC b.D c) n) ∧ frM (fun h j => sD h j ∨ h = 115 ∨ (h = 96 ∧ j = 9) ∨ (h = 94 ∧ (j = 42 ∨ j = 43))) nF V p.2 ∧ mTb p.2 (tBot b c n) ∧ p.2.1 94 42 = V.1 94 42 + nI n ∧ p.2.1 94 43 = mnI (V.1 94 43) (mnOf (outA (gC b.D c) n)) := by
  rw [f_X5_bottleIt, rq hT.1]
  refine Ret.c (m_takeOut hT hV mt.D hc hn h0 hl hB) ?_
  intro z W ⟨e, f1, D1, o1⟩
  dsimp only at e f1 D1 o1
  subst e
  have hV := hV.eq f1.2
  have hb1 : W.1 96 9 = nI b.b := by rw [f1.1 _ _ (by omega)]; exact mt.b
  have e42 : W.1 94 42 = V.1 94 42 := f1.1 _ _ (by omega)
  have e43 : W.1 94 43 = V.1 94 43 := f1.1 _ _ (by omega)
  have hbd : bdN (lN (b.b + n)) 999999 = if b.b + n < 999999 then b.b + n else 999999 := by
    rw [bdN, if_neg (by rw [L0, pk_lLT (by omega) (by omega)]; omega), pk_lT (by omega)]
    simp only [pk_lLT (show 999999 < 2 ^ 63 by omega) (show b.b + n < 2 ^ 63 by omega)]
    split <;> split <;> omega
  have hend : ∀ x, x = mnI (V.1 94 43) (mnOf (outA (gC b.D c) n)) → Ret (f_X5_bottleIt_J58 T (uI (uI W 96 9 (nI (if b.b + n < 999999 then b.b + n else 999999))) 94 42 (V.1 94 42 + nI n)) (mnOf (outA (gC b.D c) n)) 94 x) fun p => p.1 = mnOf (outA (gC b.D c) n) ∧ frM (fun h j => sD h j ∨ h = 115 ∨ (h = 96 ∧ j = 9) ∨ (h = 94 ∧ (j = 42 ∨ j = 43))) nF V p.2 ∧ mTb p.2 (tBot b c n) ∧ p.2.1 94 42 = V.1 94 42 + nI n ∧ p.2.1 94 43 = mnI (V.1 94 43) (mnOf (outA (gC b.D c) n)) := by
    intro x hx
    rw [f_X5_bottleIt_J58, rq hT.1, sp]
    refine Ret.ok ⟨rfl, ⟨fun h j q => ?_, fun h j q => ?_, ?_⟩, ⟨fun k hk => ?_, ?_, ?_⟩, ?_, ?_⟩
    · simp only [uI1]
      rw [if_neg (by omega), if_neg (by omega), if_neg (by omega)]
      exact f1.1 _ _ (by omega)
    · simp only [uI2, f1.2]
    · simp only [uI2, f1.2]
    · simp only [uI1]
      rw [if_neg (by omega), if_neg (by omega), if_neg (by omega)]
      exact D1 k hk
    · simp (disch := omega) only [rq_t, drs, sp, pcs, cls, ↓reduceIte, not_true_eq_false, not_false_eq_true, and_true, true_and, and_false, false_and, or_true, true_or, or_false, false_or, eq_self, l0, l1, l2, l3, l4, l5, l6, l7, l8, l9, l10, l11, l12, l13, l14, l15, l16, l17, l18, l19, l20, l21, l22, l23, l24, l25, l26, l27, l28, l29, l30, l31, l32, l33, l34, l35, l36, l37, l40, l41, l42, l43, l45, l47, l48, l50, l57, l59, l60, l61, l62, l63, l85, l91, l93, l96, l97, l98, l99, l100, l120, l122, l146, l160, l165, l170, l178, l186, l198, l255, l400, l900, l948, l999, l1000, l2475, l2640, l2970, l3990, l9390, l18780, l19000, l999999, l1000000, l100000000, l2147483639, nI_add, pk_mul, ix_nI, leT, leF, ltT, ltF, eqT, eqF, nI_leI, nI_ltI, nI_eq, ngEq, ngEq', ngLt, ngLt', ngLe, ngLe', ngNg, nI_p, pk_sub, Nat.reduceAdd, Nat.reduceMul, Nat.reduceSub, uI1, uI2, uL1, uL2, uL3, uR1, uR2, uR3]
      rfl
    · simp (disch := omega) only [rq_t, drs, sp, pcs, cls, ↓reduceIte, not_true_eq_false, not_false_eq_true, and_true, true_and, and_false, false_and, or_true, true_or, or_false, false_or, eq_self, l0, l1, l2, l3, l4, l5, l6, l7, l8, l9, l10, l11, l12, l13, l14, l15, l16, l17, l18, l19, l20, l21, l22, l23, l24, l25, l26, l27, l28, l29, l30, l31, l32, l33, l34, l35, l36, l37, l40, l41, l42, l43, l45, l47, l48, l50, l57, l59, l60, l61, l62, l63, l85, l91, l93, l96, l97, l98, l99, l100, l120, l122, l146, l160, l165, l170, l178, l186, l198, l255, l400, l900, l948, l999, l1000, l2475, l2640, l2970, l3990, l9390, l18780, l19000, l999999, l1000000, l100000000, l2147483639, nI_add, pk_mul, ix_nI, leT, leF, ltT, ltF, eqT, eqF, nI_leI, nI_ltI, nI_eq, ngEq, ngEq', ngLt, ngLt', ngLe, ngLe', ngNg, nI_p, pk_sub, Nat.reduceAdd, Nat.reduceMul, Nat.reduceSub, uI1, uI2, uL1, uL2, uL3, uR1, uR2, uR3]
      exact (f1.1 _ _ (by omega)).trans mt.y
    · simp (disch := omega) only [rq_t, drs, sp, pcs, cls, ↓reduceIte, not_true_eq_false, not_false_eq_true, and_true, true_and, and_false, false_and, or_true, true_or, or_false, false_or, eq_self, l0, l1, l2, l3, l4, l5, l6, l7, l8, l9, l10, l11, l12, l13, l14, l15, l16, l17, l18, l19, l20, l21, l22, l23, l24, l25, l26, l27, l28, l29, l30, l31, l32, l33, l34, l35, l36, l37, l40, l41, l42, l43, l45, l47, l48, l50, l57, l59, l60, l61, l62, l63, l85, l91, l93, l96, l97, l98, l99, l100, l120, l122, l146, l160, l165, l170, l178, l186, l198, l255, l400, l900, l948, l999, l1000, l2475, l2640, l2970, l3990, l9390, l18780, l19000, l999999, l1000000, l100000000, l2147483639, nI_add, pk_mul, ix_nI, leT, leF, ltT, ltF, eqT, eqF, nI_leI, nI_ltI, nI_eq, ngEq, ngEq', ngLt, ngLt', ngLe, ngLe', ngNg, nI_p, pk_sub, Nat.reduceAdd, Nat.reduceMul, Nat.reduceSub, uI1, uI2, uL1, uL2, uL3, uR1, uR2, uR3]
    · simp (disch := omega) only [rq_t, drs, sp, pcs, cls, ↓reduceIte, not_true_eq_false, not_false_eq_true, and_true, true_and, and_false, false_and, or_true, true_or, or_false, false_or, eq_self, l0, l1, l2, l3, l4, l5, l6, l7, l8, l9, l10, l11, l12, l13, l14, l15, l16, l17, l18, l19, l20, l21, l22, l23, l24, l25, l26, l27, l28, l29, l30, l31, l32, l33, l34, l35, l36, l37, l40, l41, l42, l43, l45, l47, l48, l50, l57, l59, l60, l61, l62, l63, l85, l91, l93, l96, l97, l98, l99, l100, l120, l122, l146, l160, l165, l170, l178, l186, l198, l255, l400, l900, l948, l999, l1000, l2475, l2640, l2970, l3990, l9390, l18780, l19000, l999999, l1000000, l100000000, l2147483639, nI_add, pk_mul, ix_nI, leT, leF, ltT, ltF, eqT, eqF, nI_leI, nI_ltI, nI_eq, ngEq, ngEq', ngLt, ngLt', ngLe, ngLe', ngNg, nI_p, pk_sub, Nat.reduceAdd, Nat.reduceMul, Nat.reduceSub, uI1, uI2, uL1, uL2, uL3, uR1, uR2, uR3]
      exact hx
  have hbn : f_X5_bounded T W (nI (b.b + n)).toInt64 (nI 0) (nI 999999) = some (nI (if b.b + n < 999999 then b.b + n else 999999)) := by
    rw [nI_l (by omega), ← l0, m_bounded (by omega), hbd]
  simp (disch := omega) only [rq_t, drs, sp, pcs, cls, ↓reduceIte, not_true_eq_false, not_false_eq_true, and_true, true_and, and_false, false_and, or_true, true_or, or_false, false_or, eq_self, l0, l1, l2, l3, l4, l5, l6, l7, l8, l9, l10, l11, l12, l13, l14, l15, l16, l17, l18, l19, l20, l21, l22, l23, l24, l25, l26, l27, l28, l29, l30, l31, l32, l33, l34, l35, l36, l37, l40, l41, l42, l43, l45, l47, l48, l50, l57, l59, l60, l61, l62, l63, l85, l91, l93, l96, l97, l98, l99, l100, l120, l122, l146, l160, l165, l170, l178, l186, l198, l255, l400, l900, l948, l999, l1000, l2475, l2640, l2970, l3990, l9390, l18780, l19000, l999999, l1000000, l100000000, l2147483639, nI_add, pk_mul, ix_nI, leT, leF, ltT, ltF, eqT, eqF, nI_leI, nI_ltI, nI_eq, ngEq, ngEq', ngLt, ngLt', ngLe, ngLe', ngNg, nI_p, pk_sub, Nat.reduceAdd, Nat.reduceMul, Nat.reduceSub, uI1, uI2, uL1, uL2, uL3, uR1, uR2, uR3, rq_eq (MT0 hT), rq95 hT, rf2 hV, rq96 hT, rf3 hV, rq97 hT, rf4 hV, rq98 hT, rf5 hV, rq99 hT, rf6 hV, rq100 hT, rf7 hV, rq101 hT, rf9 hV, rq102 hT, rf10 hV, rq103 hT, rf12 hV, rq104 hT, rf22 hV, rq105 hT, rf24 hV, rq106 hT, rf25 hV, rq107 hT, rf27 hV, rq108 hT, rf28 hV, rq109 hT, rf31 hV, rq110 hT, rf32 hV, rq111 hT, rf33 hV, rq112 hT, rf35 hV, rq113 hT, rf36 hV, rq114 hT, rf37 hV, rq115 hT, rf41 hV, rq116 hT, rf44 hV, rq117 hT, rf45 hV, rq118 hT, rf51 hV, rq119 hT, rf53 hV, hb1, hbn, e42, e43]
  rw [mnI] at hend
  by_cases q : V.1 94 43 ≤ mnOf (outA (gC b.D c) n)
  · rw [if_pos q]
    exact hend _ (by rw [if_pos q])
  · rw [if_neg q]
    exact hend _ (by rw [if_neg q])
