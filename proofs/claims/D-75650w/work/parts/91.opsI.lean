/-! 91: the tape is fed -/
set_option maxRecDepth 100000
theorem by8_t {n : Nat} (h : n < 256) : (by8 n).toInt = if n < 128 then (n : Int) else (n : Int) - 256 := by
  rw [by8]
  by_cases q : n < 128
  · rw [if_pos q, if_pos q, nI_toInt (by omega)]
  · rw [if_neg q, if_neg q, ngT (by omega)]
    omega
theorem bN_8 (y : Int32) : bN (bN y) = by8 (y.toBitVec.toNat % 256) := by
  have h1 : bN (bN y) = bN y := by
    show (y.toInt8.toInt32.toInt8).toInt32 = y.toInt8.toInt32
    rw [Int8.toInt8_toInt32]
  rw [h1]
  apply Int32.toInt_inj.mp
  rw [by8_t (by omega)]
  show y.toInt8.toInt32.toInt = _
  rw [Int8.toInt_toInt32, Int32.toInt_toInt8]
  have h2 : y.toInt = y.toBitVec.toInt := rfl
  have h3 := BitVec.toInt_eq_toNat_cond y.toBitVec
  have h4 := y.toBitVec.isLt
  rw [h2, h3, Int.bmod]
  simp only [Nat.reducePow, Nat.reduceMul] at *
  split <;> split <;> split <;> omega
def by4 (v : Int32) (j : Nat) : Nat := (v >>> (nI (24 - 8 * j) &&& 31)).toBitVec.toNat % 256
def fdI (a : St) (v : Int32) (i : Nat) : St := a.wtp (a.tn + i) fun k => if a.tn ≤ k ∧ k < a.tn + i then by4 v (k - a.tn) else a.tp k
theorem CR.ftp {T : Tt} {V : Vt} {x : HS} {a : St} (h : CR T V x a) {n b : Nat} : CR T (uI (uI V 21 n (by8 b)) 0 11 (nI (n + 1))) x (a.wtp (n + 1) fun k => if k = n then b else a.tp k) := by
  have e : ∀ c j, ¬ (c = 21 ∨ (c = 0 ∧ j = 11)) → (uI (uI V 21 n (by8 b)) 0 11 (nI (n + 1))).1 c j = V.1 c j := fun c j q => by rw [uI1, if_neg (by omega), uI1, if_neg (by omega)]
  have er : ∀ c j, (uI (uI V 21 n (by8 b)) 0 11 (nI (n + 1))).2.2 c j = V.2.2 c j := fun _ _ => rfl
  refine h.ups (fun c j q => e _ _ (by omega)) er rfl (h.cf.fc h.P' (fun c j q => e _ _ (by omega)) (fun c j q => er _ _)) (h.ct.fr (fun j => e _ _ (by omega)) (fun j => e _ _ (by omega)) (fun j => er _ _)) (h.cu.fr (fun c j q => e _ _ (by omega)) (fun c j => er c j)) ((e _ _ (by omega)).trans h.st) (fun i hi => (e _ _ (by omega)).trans (h.rf i hi)) (by rw [uI1, if_pos ⟨rfl, rfl⟩]; rfl) (fun i hi => ?_) ((e _ _ (by omega)).trans h.fa) ((e _ _ (by omega)).trans h.le) ((e _ _ (by omega)).trans h.so) ((e _ _ (by omega)).trans h.dm) (fun i hi q => (e _ _ (by omega)).trans (h.dd i hi q))
  rw [uI1, if_neg (by omega), uI1]
  show _ = by8 (if i = n then b else a.tp i)
  by_cases q : i = n
  · rw [if_pos ⟨rfl, q⟩, if_pos q]
  · rw [if_neg (fun z => q z.2), if_neg q]
    exact h.tp i hi
theorem MR.ftp {V : Vt} {a : St} (h : MR V a) (og : okG a.g) {n b : Nat} : MR (uI (uI V 103 n (nI b)) 94 13 (nI (n + 1))) (a.wtp (n + 1) fun k => if k = n then b else a.tp k) := by
  have e : ∀ c j, ¬ (c = 103 ∨ (c = 94 ∧ j = 13)) → (uI (uI V 103 n (nI b)) 94 13 (nI (n + 1))).1 c j = V.1 c j := fun c j q => by rw [uI1, if_neg (by omega), uI1, if_neg (by omega)]
  refine h.up rfl (fun c j q => e _ _ (by omega)) (fun _ _ _ => rfl) rfl (h.mf.fr og (fun j _ _ _ => e _ _ (by omega))) (h.mt.fr (fun j => e _ _ (by omega))) (h.mu.fr (fun c j q => e _ _ (by omega))) ((e _ _ (by omega)).trans h.st) (fun i hi => (e _ _ (by omega)).trans (h.rf i hi)) ((e _ _ (by omega)).trans h.od) (by rw [uI1, if_pos ⟨rfl, rfl⟩]; rfl) (fun i hi => ?_) ((e _ _ (by omega)).trans h.fa) ((e _ _ (by omega)).trans h.le) ((e _ _ (by omega)).trans h.so) ((e _ _ (by omega)).trans h.dm) (fun i hi q => (e _ _ (by omega)).trans (h.dd i hi q))
  rw [uI1, if_neg (by omega), uI1]
  show _ = nI (if i = n then b else a.tp i)
  by_cases q : i = n
  · rw [if_pos ⟨rfl, q⟩, if_pos q]
  · rw [if_neg (fun z => q z.2), if_neg q]
    exact h.tp i hi
def d8 (i : Nat) : Int32 := if i < 4 then nI (24 - 8 * i) else -nI 8
theorem d8_s {i : Nat} (h : i < 4) : nI (24 - 8 * i) + (-8 : Int32) = d8 (i + 1) := by
  have : i = 0 ∨ i = 1 ∨ i = 2 ∨ i = 3 := by omega
  rcases this with e | e | e | e <;> subst e <;> decide
theorem fdI_s {a : St} {v : Int32} {i : Nat} : (fdI a v i).wtp (a.tn + i + 1) (fun k => if k = a.tn + i then by4 v i else (fdI a v i).tp k) = fdI a v (i + 1) := by
  show St.wtp a _ _ = St.wtp a _ _
  congr 1
  funext k
  show (if k = a.tn + i then by4 v i else if a.tn ≤ k ∧ k < a.tn + i then by4 v (k - a.tn) else a.tp k) = if a.tn ≤ k ∧ k < a.tn + (i + 1) then by4 v (k - a.tn) else a.tp k
  by_cases q : k = a.tn + i
  · rw [if_pos q, if_pos (by omega), q, Nat.add_sub_cancel_left]
  · rw [if_neg q]
    by_cases w : a.tn ≤ k ∧ k < a.tn + i
    · rw [if_pos w, if_pos (by omega)]
    · rw [if_neg w, if_neg (by omega)]
theorem fdI_0 {a : St} {v : Int32} : fdI a v 0 = a := by
  have : (fun k => if a.tn ≤ k ∧ k < a.tn + 0 then by4 v (k - a.tn) else a.tp k) = a.tp := by
    funext k
    rw [if_neg (by omega)]
  show St.wtp a (a.tn + 0) _ = a
  rw [this]
  rfl
theorem c_four {T : Tt} {V : Vt} {x : HS} {a : St} (h : CR T V x a) (hn : a.tn + 4 ≤ 400) {v : Int32} : Ret (f_X0_four T V 0 v) fun W => CR T W x (fdI a v 4) ∧ cFr V W := by
  rw [f_X0_four, rq h.hC.k0]
  refine lq2 (f_X0_four_L3 T 0 v _) (fun i z W => z = d8 i ∧ CR T W x (fdI a v i) ∧ cFr V W) 4 ?_ ?_ fuel _ _ (by decide) ⟨rfl, by rw [fdI_0]; exact h, cFr.rfl'⟩
  · intro i N z W hi ⟨q1, q2, q3⟩ ih
    rw [d8, if_pos hi] at q1
    subst q1
    have tn : W.1 0 11 = nI (a.tn + i) := q2.tn
    have hneg : ¬ nI (24 - 8 * i) < 0 := nI_pos (by omega)
    rw [f_X0_four_L3, if_neg hneg, dr q2.hU.r0_10, tn, cq21 q2.hC (by omega), sp, ix_nI (by omega), bN_8]
    have e11 : (uI W 21 (a.tn + i) (by8 (by4 v i))).1 0 11 = nI (a.tn + i) := by rw [uI1, if_neg (by omega)]; exact tn
    rw [sp, show ((v >>> (nI (24 - 8 * i) &&& 31)).toBitVec.toNat % 256) = by4 v i from rfl, e11, l1, nI_add, sp, d8_s hi]
    refine ih _ _ ⟨rfl, ?_, q3.tr ((cF_uI (by omega)).tr (cF_uI (by omega)))⟩
    rw [← fdI_s]
    exact q2.ftp
  · intro N z W ⟨q1, q2, q3⟩
    subst q1
    rw [f_X0_four_L3, if_pos (by decide)]
    exact Ret.ok ⟨q2, q3⟩
theorem m_four {T : Tt} {V : Vt} (hT : MT T) {a : St} (h : MR V a) (og : okG a.g) (hn : a.tn + 4 ≤ 400) {v : Int32} : Ret (f_X5_four T V 94 v) fun W => MR W (fdI a v 4) ∧ mFr V W := by
  rw [f_X5_four, rq hT.1]
  refine lq2 (f_X5_four_L3 T 94 v _) (fun i z W => z = d8 i ∧ MR W (fdI a v i) ∧ mFr V W) 4 ?_ ?_ fuel _ _ (by decide) ⟨rfl, by rw [fdI_0]; exact h, mFr.rfl'⟩
  · intro i N z W hi ⟨q1, q2, q3⟩ ih
    rw [d8, if_pos hi] at q1
    subst q1
    have tn : W.1 94 13 = nI (a.tn + i) := q2.tn
    have hneg : ¬ nI (24 - 8 * i) < 0 := nI_pos (by omega)
    rw [f_X5_four_L3, if_neg hneg, dr (rf12 q2.hV), tn, rq103 hT (by omega), sp, ix_nI (by omega), pk_and _ (m := 255) 8 (by decide)]
    have e13 : (uI W 103 (a.tn + i) (nI (by4 v i))).1 94 13 = nI (a.tn + i) := by rw [uI1, if_neg (by omega)]; exact tn
    rw [sp, show nI ((v >>> (nI (24 - 8 * i) &&& 31)).toBitVec.toNat % 2 ^ 8) = nI (by4 v i) from rfl, e13, l1, nI_add, sp, d8_s hi]
    refine ih _ _ ⟨rfl, ?_, q3.tr ((mF_uI (by omega)).tr (mF_uI (by omega)))⟩
    rw [← fdI_s]
    exact q2.ftp og
  · intro N z W ⟨q1, q2, q3⟩
    subst q1
    rw [f_X5_four_L3, if_pos (by decide)]
    exact Ret.ok ⟨q2, q3⟩
def fd5 (a : St) (v w x y z : Int32) : St := fdI (fdI (fdI (fdI (fdI a v 4) w 4) x 4) y 4) z 4
def rFeed (a : St) : Int32 := if a.tn + 20 ≤ 400 then nI (a.tn + 20) else -nI 1
def oFeed (a : St) (v w x y z : Int32) : St := if a.tn + 20 ≤ 400 then fd5 a v w x y z else a
theorem c_feed {T : Tt} {V : Vt} {x : HS} {a : St} (h : CR T V x a) (ok : OK a) {p q r s t : Int32} : cOp (f_X0_feed T V 0 p q r s t) T V (rFeed a) (oFeed a p q r s t) := by
  have hn := ok.tn
  rw [f_X0_feed, rq h.hC.k0, h.tn, l20, l400, nI_add, rFeed, oFeed]
  by_cases w : a.tn + 20 ≤ 400
  · rw [if_pos (nI_le w (by omega)), if_pos w, if_pos w]
    refine Ret.p (c_four h (by omega)) fun W1 ⟨h1, f1⟩ => ?_
    refine Ret.p (c_four h1 (by show a.tn + 4 + 4 ≤ 400; omega)) fun W2 ⟨h2, f2⟩ => ?_
    refine Ret.p (c_four h2 (by show a.tn + 4 + 4 + 4 ≤ 400; omega)) fun W3 ⟨h3, f3⟩ => ?_
    refine Ret.p (c_four h3 (by show a.tn + 4 + 4 + 4 + 4 ≤ 400; omega)) fun W4 ⟨h4, f4⟩ => ?_
    refine Ret.p (c_four h4 (by show a.tn + 4 + 4 + 4 + 4 + 4 ≤ 400; omega)) fun W5 ⟨h5, f5⟩ => ?_
    exact Ret.ok ⟨h5.tn, ⟨x, h5⟩, (((f1.tr f2).tr f3).tr f4).tr f5⟩
  · rw [if_neg (nI_ge (by omega) (by omega)), if_neg w, if_neg w]
    exact cOp.k h
theorem m_feed {T : Tt} {V : Vt} (hT : MT T) {a : St} (h : MR V a) (ok : OK a) {p q r s t : Int32} : mOp (f_X5_feed T V 94 p q r s t) V (rFeed a) (oFeed a p q r s t) := by
  have hn := ok.tn
  have h := h.s0 ok.g (j := 0) (v := 0) (by omega)
  rw [f_X5_feed, rq hT.1, sp]
  refine mOp.fr (W := uI V 94 0 0) (mF_uI (by omega)) ?_
  generalize uI V 94 0 0 = V at h ⊢
  rw [h.tn, l20, l400, nI_add, rFeed, oFeed]
  by_cases w : a.tn + 20 ≤ 400
  · rw [if_pos (nI_le w (by omega)), if_pos w, if_pos w]
    refine Ret.p (m_four hT h ok.g (by omega)) fun W1 ⟨h1, f1⟩ => ?_
    refine Ret.p (m_four hT h1 ok.g (by show a.tn + 4 + 4 ≤ 400; omega)) fun W2 ⟨h2, f2⟩ => ?_
    refine Ret.p (m_four hT h2 ok.g (by show a.tn + 4 + 4 + 4 ≤ 400; omega)) fun W3 ⟨h3, f3⟩ => ?_
    refine Ret.p (m_four hT h3 ok.g (by show a.tn + 4 + 4 + 4 + 4 ≤ 400; omega)) fun W4 ⟨h4, f4⟩ => ?_
    refine Ret.p (m_four hT h4 ok.g (by show a.tn + 4 + 4 + 4 + 4 + 4 ≤ 400; omega)) fun W5 ⟨h5, f5⟩ => ?_
    exact Ret.ok ⟨h5.tn, h5, (((f1.tr f2).tr f3).tr f4).tr f5⟩
  · rw [if_neg (nI_ge (by omega) (by omega)), if_neg w, if_neg w]
    exact mOp.k h
theorem OK.fd {a : St} (ok : OK a) {v : Int32} (hn : a.tn + 4 ≤ 400) : OK (fdI a v 4) := by
  refine OK.mk ⟨ok.g, ok.t, ok.y, ok.u, ok.ul, ok.im, hn, fun i => ?_, ok.dm⟩
  show (if a.tn ≤ i ∧ i < a.tn + 4 then by4 v (i - a.tn) else a.tp i) < 256
  split
  · rw [by4]
    omega
  · exact ok.tp i
theorem OK.feed {a : St} (ok : OK a) {v w x y z : Int32} : OK (oFeed a v w x y z) := by
  rw [oFeed]
  split
  · rename_i q
    rw [fd5]
    refine OK.fd (OK.fd (OK.fd (OK.fd (OK.fd ok ?_) ?_) ?_) ?_) ?_
    · omega
    · show a.tn + 4 + 4 ≤ 400
      omega
    · show a.tn + 4 + 4 + 4 ≤ 400
      omega
    · show a.tn + 4 + 4 + 4 + 4 ≤ 400
      omega
    · show a.tn + 4 + 4 + 4 + 4 + 4 ≤ 400
      omega
  · exact ok
