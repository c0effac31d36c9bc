/-! 98: lists: add, clear, addAll -/
set_option maxRecDepth 100000
theorem isLs.ft {T T' : Tt} {V : Vt} {o a c n : Nat} {el : Nat → Nat} (h : isLs T V o a c n el) (eo : T'.1 o = T.1 o) (ea : T'.1 a = T.1 a) (en : T'.2.1 a = T.2.1 a) : isLs T' V o a c n el := by
  obtain ⟨h1, h2, h3, h4, h5, h6, h7, h8⟩ := h
  exact ⟨eo.trans h1, h2, ea.trans h3, en.trans h4, h5, h6, h7, h8⟩
theorem isLs.el {T : Tt} {V : Vt} {o a c n : Nat} {el el' : Nat → Nat} (h : isLs T V o a c n el) (e : ∀ i, i < n → el' i = el i) : isLs T V o a c n el' := by
  obtain ⟨h1, h2, h3, h4, h5, h6, h7, h8⟩ := h
  refine ⟨h1, h2, h3, h4, h5, h6, h7, fun i hi => (h8 i hi).trans ?_⟩
  by_cases q : i < n
  · rw [if_pos q, if_pos q, e i q]
  · rw [if_neg q, if_neg q]
theorem c_add11 {T : Tt} {V : Vt} {o a c n x : Nat} {el : Nat → Nat} (h : isLs T V o a c n el) (hne : o ≠ a) (hn : n < c) (hx : isO T x) :
    Ret (f_J2_add_2_J11 T V o x a (nI n)) fun q => isLs T q.1.1 o a c (n + 1) (fun i => if i = n then x else el i) ∧ q.1.2 = T ∧ (∀ h, h = o ∨ h = a → True) ∧ frO (fun h => h = o ∨ h = a) T.2.2 V q.1.1 ∧ q.2 = (0, 0) := by
  obtain ⟨h1, h2, h3, h4, h5, h6, h7, h8⟩ := h
  rw [f_J2_add_2_J11, rq (aIn_nI h3 (by omega) (by omega)), rq hx, sp, ix_nI (by omega), rq h1, show nI n + (1 : Int32) = nI (n + 1) from nI_add _ _, sp]
  refine Ret.ok ⟨⟨h1, ?_, h3, h4, ?_, by omega, h7, fun i hi => ?_⟩, rfl, fun _ _ => trivial, (frO_R fun _ => Or.inr rfl).tr (frO_I fun _ => Or.inl rfl) (Nat.le_refl _), rfl⟩
  · show (uR V a n (some x)).2.2 o 1 = _
    rw [uR3, if_neg (fun w => hne w.1)]
    exact h2
  · show (uI _ o 2 _).1 o 2 = _
    rw [uI1, if_pos ⟨rfl, rfl⟩]
  · show (uR V a n (some x)).2.2 a i = _
    rw [uR3]
    have := h8 i hi
    by_cases q : i = n
    · rw [if_pos ⟨rfl, q⟩, if_pos (by omega)]
      show _ = some (if i = n then x else el i)
      rw [if_pos q]
    · rw [if_neg (fun w => q w.2), this]
      by_cases w : i < n
      · rw [if_pos w, if_pos (by omega)]
        show _ = some (if i = n then x else el i)
        rw [if_neg q]
      · rw [if_neg w, if_neg (by omega)]
/-- what a list is after something came into it: its array is the same, or it is the next cell -/
theorem c_add {T : Tt} {V : Vt} {o a c n x : Nat} {el : Nat → Nat} (h : isLs T V o a c n el) (ho : o < T.2.2) (ha : a < T.2.2) (hne : o ≠ a) (h1c : 1 ≤ c) (hn : n < 500) (hel : ∀ i, i < n → isO T (el i) ∧ el i < T.2.2) (hx : isO T x) (hxl : x < T.2.2) :
    Ret (f_J2_add T V o x) fun q => ∃ a' c', isLs q.1.2.2 q.1.2.1 o a' c' (n + 1) (fun i => if i = n then x else el i) ∧ 1 ≤ c' ∧ exT T q.1.2.2 ∧ (a' = a ∨ (a' = T.2.2 ∧ T.2.2 < q.1.2.2.2.2)) ∧ frO (fun h => h = o ∨ h = a) T.2.2 V q.1.2.1 ∧ q.2.1 ≤ 1 ∧ q.2.2 ≤ 2 * n + 1 := by
  obtain ⟨h1, h2, h3, h4, h5, h6, h7, h8⟩ := id h
  have hU : isLs T (uI V o 0 (V.1 o 0 + 1)) o a c n el := ⟨h1, h2, h3, h4, by rw [uI1, if_neg (by omega)]; exact h5, h6, h7, h8⟩
  have fU : frO (fun h => h = o ∨ h = a) T.2.2 V (uI V o 0 (V.1 o 0 + 1)) := frO_I fun _ => Or.inl rfl
  rw [f_J2_add, rq h1, sp]
  generalize uI V o 0 (V.1 o 0 + 1) = U at hU fU ⊢
  obtain ⟨u1, u2, u3, u4, u5, u6, u7, u8⟩ := id hU
  rw [dr u2, u5, f_J2_add_2, rq u1, rq u3, u4]
  by_cases q : n = c
  · have hel' : ∀ i y, i < c → U.2.2 a i = some y → isO T y ∧ y < T.2.2 := fun i y hi hy => by
      rw [u8 i hi, if_pos (by omega)] at hy
      cases hy
      exact hel i (by omega)
    rw [if_pos (by rw [q]), f_J2_grow_2, rq u1, u5, show nI n + (1 : Int32) = nI (n + 1) from nI_add _ _]
    refine Ret.dv (R := fun z => ∃ a' c', isLs z.1.2 z.1.1 o a' c' (n + 1) (fun i => if i = n then x else el i) ∧ 1 ≤ c' ∧ exT T z.1.2 ∧ (a' = a ∨ (a' = T.2.2 ∧ T.2.2 < z.1.2.2.2)) ∧ frO (fun h => h = o ∨ h = a) T.2.2 V z.1.1 ∧ z.2.1 ≤ 1 ∧ z.2.2 ≤ 2 * n + 1) (Ret.d (R := fun z => z.1.1 = T.2.2 ∧ z.1.2.2 = aT T 104 (grC c (n + 1)) ∧ frO (fun h => h = o) T.2.2 U z.1.2.1 ∧ (∀ j, z.1.2.1.1 o j = U.1 o j) ∧ z.1.2.1.2.2 o 1 = some T.2.2 ∧ (∀ i, i < grC c (n + 1) → z.1.2.1.2.2 T.2.2 i = if i < c then U.2.2 a i else none) ∧ z.2 = (1, grC c (n + 1))) (Ret.d (c_grow u1 ho u2 u3 u4 ha h1c (show c < n + 1 by omega) (by omega) hel') ?_) ?_) ?_
    · intro r W T' n' k ⟨q1, q2, q3, q4, q5, q6, q7⟩
      exact Ret.ok ⟨q1, q2, q3, q4, q5, q6, by cases q7; show (0 + 1, 0 + grC c (n + 1)) = _; rw [Nat.zero_add, Nat.zero_add]⟩
    · intro r W T' n' k ⟨q1, q2, q3, q4, q5, q6, q7⟩
      dsimp only at q1 q2 q3 q4 q5 q6 q7
      subst q1 q2
      cases q7
      have hg : grC c (n + 1) ≤ 2 * n + 1 ∧ n < grC c (n + 1) := by
        rw [grC, if_pos (by omega)]
        split <;> omega
      have hW : isLs (aT T 104 (grC c (n + 1))) W o T.2.2 (grC c (n + 1)) n el := by
        refine ⟨(aT_ex.2 o ho).1.trans u1, q5, aT_k, aT_n, (q4 2).trans u5, by omega, by omega, fun i hi => ?_⟩
        rw [q6 i hi]
        by_cases w : i < n
        · rw [if_pos (by omega), if_pos w, u8 i (by omega), if_pos w]
        · rw [if_neg (by omega), if_neg w]
      refine (c_add11 hW (by omega) (by omega) (isO_ex aT_ex hxl hx)).im fun z ⟨z1, z2, _, z4, z5⟩ => ⟨T.2.2, grC c (n + 1), ?_, by omega, ?_, Or.inr ⟨rfl, ?_⟩, ?_, ?_, ?_⟩
      · rw [z2]
        exact z1
      · rw [z2]
        exact aT_ex
      · rw [z2]
        exact Nat.lt_succ_self _
      · exact (fU.tr (q3.mo (Nat.le_refl _) fun _ _ w => Or.inl w) (Nat.le_refl _)).tr (z4.mo (Nat.le_succ _) fun b hb w => w.imp id fun e => absurd (e ▸ hb) (Nat.lt_irrefl _)) (Nat.le_refl _)
      · rw [z5]
        exact Nat.le_refl _
      · rw [z5]
        show 0 + grC c (n + 1) ≤ _
        omega
    · intro W T' n' k ⟨a', c', q1, q2, q3, q4, q5, q6, q7⟩
      exact Ret.ok ⟨a', c', q1, q2, q3, q4, q5, by show 0 + n' ≤ 1; rw [Nat.zero_add]; exact q6, by show 0 + k ≤ _; rw [Nat.zero_add]; exact q7⟩
  · rw [if_neg (by rw [nI_eq (by omega) (by omega)]; exact q)]
    refine Ret.dv (c_add11 hU hne (by omega) hx) ?_
    intro W T' n' k ⟨q1, q2, _, q4, q5⟩
    dsimp only at q1 q2 q4 q5
    subst q2
    cases q5
    exact Ret.ok ⟨a, c, q1, h1c, exT.rfl', Or.inl rfl, fU.tr q4 (Nat.le_refl _), Nat.zero_le _, Nat.zero_le _⟩
theorem c_clear {T : Tt} {V : Vt} {o a c n : Nat} {el : Nat → Nat} (h : isLs T V o a c n el) (hne : o ≠ a) : Ret (f_J2_clear T V o) fun W => isLs T W o a c 0 el ∧ frO (fun h => h = o ∨ h = a) T.2.2 V W ∧ W.2.1 = V.2.1 := by
  obtain ⟨h1, h2, h3, h4, h5, h6, h7, h8⟩ := h
  have eU : ∀ j, (uI (uI V o 0 (V.1 o 0 + 1)) o 2 (0 : Int32)).2.2 a j = V.2.2 a j := fun j => rfl
  have e2 : (uI V o 0 (V.1 o 0 + 1)).1 o 2 = nI n := by rw [uI1, if_neg (by omega)]; exact h5
  have h2' : (uI V o 0 (V.1 o 0 + 1)).2.2 o 1 = some a := h2
  have fU : frO (fun h => h = o ∨ h = a) T.2.2 V (uI (uI V o 0 (V.1 o 0 + 1)) o 2 (0 : Int32)) := (frO_I fun _ => Or.inl rfl).tr (frO_I fun _ => Or.inl rfl) (Nat.le_refl _)
  have eo : (uI (uI V o 0 (V.1 o 0 + 1)) o 2 (0 : Int32)).1 o 2 = nI 0 := by rw [uI1, if_pos ⟨rfl, rfl⟩]; rfl
  have el2 : (uI (uI V o 0 (V.1 o 0 + 1)) o 2 (0 : Int32)).2.1 = V.2.1 := rfl
  have er : (uI (uI V o 0 (V.1 o 0 + 1)) o 2 (0 : Int32)).2.2 o 1 = some a := h2
  rw [f_J2_clear, rq h1, sp, dr h2', sp, sp, e2]
  generalize uI (uI V o 0 (V.1 o 0 + 1)) o 2 (0 : Int32) = U at eU fU eo el2 er ⊢
  refine lq2 (f_J2_clear_L27 T a (nI n) fun U9 => some U9) (fun i z W => z = nI i ∧ frO (fun h => h = o ∨ h = a) T.2.2 V W ∧ W.1 o 2 = nI 0 ∧ W.2.1 = V.2.1 ∧ W.2.2 o 1 = some a ∧ ∀ j, W.2.2 a j = if j < i then none else V.2.2 a j) n ?_ ?_ fuel _ _ (Nat.lt_of_le_of_lt (Nat.le_trans h6 h7) (by decide)) ⟨rfl, fU, eo, el2, er, fun j => by rw [if_neg (Nat.not_lt_zero _)]; exact eU j⟩
  · intro i N z W hi ⟨q1, q2, q3, q4, q5, q6⟩ ih
    subst q1
    rw [f_J2_clear_L27, if_neg (nI_ge hi (by omega)), rq (aIn_nI h3 (by omega) (by omega)), sp, ix_nI (by omega), show nI i + (1 : Int32) = nI (i + 1) from nI_add _ _, sp]
    refine ih _ _ ⟨rfl, q2.tr (frO_R fun _ => Or.inr rfl) (Nat.le_refl _), q3, q4, ?_, fun j => ?_⟩
    · rw [uR3, if_neg (fun w => hne w.1)]
      exact q5
    · rw [uR3]
      by_cases w : j = i
      · rw [if_pos ⟨rfl, w⟩, if_pos (by omega)]
      · rw [if_neg (fun z => w z.2), q6 j]
        by_cases y : j < i
        · rw [if_pos y, if_pos (by omega)]
        · rw [if_neg y, if_neg (by omega)]
  · intro N z W ⟨q1, q2, q3, q4, q5, q6⟩
    subst q1
    rw [f_J2_clear_L27, if_pos (nI_le (Nat.le_refl _) (by omega))]
    refine Ret.ok ⟨⟨h1, q5, h3, h4, q3, Nat.zero_le _, h7, fun j hj => ?_⟩, q2, q4⟩
    rw [q6 j, if_neg (Nat.not_lt_zero _)]
    by_cases y : j < n
    · rw [if_pos y]
    · rw [if_neg y, h8 j hj, if_neg y]
theorem c_addJ {T : Tt} {V : Vt} {o a c r n : Nat} {el : Nat → Nat} {e0 : Nat → Nat} (h : isLs T V o a c 0 e0) (hne : o ≠ a) (hr : r ≠ a) (kr : T.1 r = 104) (lr : T.2.1 r = n) (er : ∀ i, i < n → V.2.2 r i = some (el i)) (hn : n ≤ c) (hel : ∀ i, i < n → isO T (el i)) :
    Ret (f_J2_addAll_J56 T V o r (nI n) a (nI 0)) fun q => isLs T q.1.2.1 o a c n el ∧ q.1.2.2 = T ∧ frO (fun h => h = o ∨ h = a) T.2.2 V q.1.2.1 ∧ q.2 = (0, 0) := by
  obtain ⟨h1, h2, h3, h4, h5, h6, h7, h8⟩ := h
  rw [f_J2_addAll_J56, rq ⟨kr, h3, by decide, by decide, nI_pos (by omega), by rw [ix_nI (by omega), lr]; show 0 + n ≤ n; omega, by rw [h4, ix_nI (by omega), ix_nI (by omega)]; omega⟩]
  rw [rq (okEl_mk fun i y hi hy => ?_), sp, rq h1, sp, show ixN (0 : Int32) = 0 from rfl, show ixN (nI 0) = 0 from rfl, ix_nI (by omega), nI_add, Nat.zero_add]
  · refine Ret.ok ⟨⟨h1, ?_, h3, h4, ?_, hn, h7, fun i hi => ?_⟩, rfl, ?_, rfl⟩
    · show (cpR V r 0 a 0 n).2.2 o 1 = _
      rw [cp_r, if_neg (fun w => hne w.1)]
      exact h2
    · show (uI _ o 2 _).1 o 2 = _
      rw [uI1, if_pos ⟨rfl, rfl⟩]
    · show (cpR V r 0 a 0 n).2.2 a i = _
      by_cases q : i < n
      · rw [cp_r, if_pos ⟨rfl, Nat.zero_le _, by omega⟩, if_pos q, Nat.sub_zero, Nat.zero_add, er i q]
      · rw [cp_r, if_neg (fun w => q (by have := w.2.2; omega)), if_neg q, h8 i hi, if_neg (Nat.not_lt_zero _)]
    · intro b j w z
      have z1 : b ≠ o := fun e => z (Or.inl e)
      have z2 : b ≠ a := fun e => z (Or.inr e)
      refine ⟨?_, rfl, ?_⟩
      · show (uI _ o 2 _).1 b j = _
        rw [uI1, if_neg (fun w => z1 w.1)]
        rfl
      · show (cpR V r 0 a 0 n).2.2 b j = _
        rw [cp_r, if_neg (fun w => z2 w.1)]
  · rw [ix_nI (by omega)] at hi
    have hy : V.2.2 r (0 + i) = some y := hy
    rw [Nat.zero_add, er i hi] at hy
    cases hy
    exact hel i hi
theorem c_addAll {T : Tt} {V : Vt} {o a c : Nat} {e0 : Nat → Nat} (h : isLs T V o a c 0 e0) {o2 a2 c2 n : Nat} {el : Nat → Nat} (h' : isLs T V o2 a2 c2 n el) (hn : n ≤ 100) (ho : o < T.2.2) (ha : a < T.2.2) (ho2 : o2 < T.2.2) (ha2 : a2 < T.2.2) (hne : o ≠ a) (d1 : o2 ≠ o) (d2 : o2 ≠ a) (d3 : a2 ≠ o) (d4 : a2 ≠ a) (h1c : 1 ≤ c) (hel : ∀ i, i < n → isO T (el i) ∧ el i < T.2.2) :
    Ret (f_J2_addAll T V o o2) fun q => ∃ a' c', isLs q.1.2.2 q.1.2.1 o a' c' n el ∧ 1 ≤ c' ∧ exT T q.1.2.2 ∧ (a' = a ∨ (T.2.2 ≤ a' ∧ a' < q.1.2.2.2.2)) ∧ frO (fun h => h = o ∨ h = a) T.2.2 V q.1.2.1 ∧ q.2.1 ≤ 2 ∧ q.2.2 ≤ 3 * n := by
  obtain ⟨h1, h2, h3, h4, h5, h6, h7, h8⟩ := id h
  obtain ⟨s1, s2, s3, s4, s5, s6, s7, s8⟩ := id h'
  have hel2 : ∀ i y, i < c2 → V.2.2 a2 i = some y → isO T y ∧ y < T.2.2 := fun i y hi hy => by
    rw [s8 i hi] at hy
    by_cases w : i < n
    · rw [if_pos w] at hy
      cases hy
      exact hel i w
    · rw [if_neg w] at hy
      cases hy
  rw [f_J2_addAll, rq h1]
  refine Ret.d (R := fun z => z.1.1 = T.2.2 ∧ z.1.2.2 = aT T 104 n ∧ frO (fun _ => False) T.2.2 V z.1.2.1 ∧ (∀ i, i < n → z.1.2.1.2.2 T.2.2 i = if i < c2 then V.2.2 a2 i else none) ∧ z.2 = (1, n)) ?_ ?_
  · rw [f_J2_toArray, rq s1, dr s2, s5]
    refine Ret.d (c_copyOf s3 s4 ha2 s7 (by omega) hel2) ?_
    intro r W T' n' k ⟨q1, q2, q3, q4, q5⟩
    exact Ret.ok ⟨q1, q2, q3, q4, by cases q5; show (0 + 1, 0 + n) = _; rw [Nat.zero_add, Nat.zero_add]⟩
  · intro r W T' n' k ⟨q1, q2, q3, q4, q5⟩
    dsimp only at q1 q2 q3 q4 q5
    subst q1 q2
    cases q5
    have hT1 : exT T (aT T 104 n) := aT_ex
    have k1 := (hT1.2 o ho).1.trans h1
    rw [rq k1, sp, rq aT_k, aT_n, sp]
    have fW : frO (fun h => h = o ∨ h = a) T.2.2 V (uI W o 0 (W.1 o 0 + (1 : Int32))) := (q3.mo (Nat.le_refl _) fun _ _ w => absurd w id).tr (frO_I fun _ => Or.inl rfl) (Nat.le_refl _)
    have hW : isLs (aT T 104 n) (uI W o 0 (W.1 o 0 + (1 : Int32))) o a c 0 e0 := ⟨k1, (q3 o 1 ho id).2.2.trans h2, (hT1.2 a ha).1.trans h3, (hT1.2 a ha).2.trans h4, by rw [uI1, if_neg (by omega)]; exact (q3 o 2 ho id).1.trans h5, Nat.zero_le _, h7, fun i hi => (q3 a i ha id).2.2.trans (h8 i hi)⟩
    have er : ∀ i, i < n → (uI W o 0 (W.1 o 0 + (1 : Int32))).2.2 T.2.2 i = some (el i) := fun i hi => by
      show W.2.2 T.2.2 i = _
      rw [q4 i hi, if_pos (by omega), s8 i (by omega), if_pos hi]
    generalize uI W o 0 (W.1 o 0 + (1 : Int32)) = U at fW hW er ⊢
    obtain ⟨w1, w2, w3, w4, w5, w6, w7, w8⟩ := id hW
    by_cases z : n = 0
    · subst z
      rw [if_pos (by decide)]
      exact Ret.ok ⟨a, c, hW.el fun i hi => absurd hi (Nat.not_lt_zero _), h1c, hT1, Or.inl rfl, fW, by show 0 + 1 ≤ 2; omega, by show 0 + 0 ≤ _; omega⟩
    · rw [if_neg (nI_ne0 (by omega) (by omega)), dr w2, rq w3, w5, sp, w4, pk_sub (Nat.zero_le _), Nat.sub_zero]
      by_cases y : n ≤ c
      · rw [if_pos (nI_le y (by omega))]
        refine (c_addJ hW hne (by omega) aT_k aT_n er y (fun i hi => isO_ex hT1 (hel i hi).2 (hel i hi).1)).im fun p ⟨p1, p2, p3, p4⟩ => ⟨a, c, ?_, h1c, ?_, Or.inl rfl, ?_, ?_, ?_⟩
        · rw [p2]
          exact p1
        · rw [p2]
          exact hT1
        · exact fW.tr p3 (Nat.le_succ _)
        · rw [p4]
          show 0 + 1 ≤ 2
          omega
        · rw [p4]
          show 0 + n ≤ _
          omega
      · have hel3 : ∀ i y, i < c → U.2.2 a i = some y → isO (aT T 104 n) y ∧ y < (aT T 104 n).2.2 := fun i y hi hy => by
          rw [w8 i hi, if_neg (Nat.not_lt_zero _)] at hy
          cases hy
        rw [if_neg (nI_ge (by omega) (by omega)), nI_add, Nat.zero_add]
        refine Ret.d (c_grow w1 (Nat.lt_succ_of_lt ho) w2 w3 w4 (Nat.lt_succ_of_lt ha) h1c (show c < n by omega) (by omega) hel3) ?_
        intro r X T' n' k ⟨x1, x2, x3, x4, x5, x6, x7⟩
        dsimp only at x1 x2 x3 x4 x5 x6 x7
        subst x1 x2
        cases x7
        have hg : grC c n ≤ 2 * n ∧ n ≤ grC c n := by
          rw [grC, if_pos (by omega)]
          split <;> omega
        have hT2 : exT (aT T 104 n) (aT (aT T 104 n) 104 (grC c n)) := aT_ex
        have ro : T.2.2 < (aT T 104 n).2.2 := Nat.lt_succ_self _
        have hX : isLs (aT (aT T 104 n) 104 (grC c n)) X o (aT T 104 n).2.2 (grC c n) 0 e0 := by
          refine ⟨(hT2.2 o (Nat.lt_succ_of_lt ho)).1.trans w1, x5, aT_k, aT_n, (x4 2).trans w5, Nat.zero_le _, by omega, fun i hi => ?_⟩
          rw [x6 i hi, if_neg (Nat.not_lt_zero _)]
          split
          · rename_i y0
            rw [w8 i y0, if_neg (Nat.not_lt_zero _)]
          · rfl
        refine (c_addJ hX (by show o ≠ T.2.2 + 1; omega) (by show T.2.2 ≠ T.2.2 + 1; omega) ((hT2.2 _ ro).1.trans aT_k) ((hT2.2 _ ro).2.trans aT_n) (fun i hi => ((x3 _ i ro (by omega)).2.2).trans (er i hi)) hg.2 (fun i hi => isO_ex hT2 (Nat.lt_succ_of_lt (hel i hi).2) (isO_ex hT1 (hel i hi).2 (hel i hi).1))).im fun p ⟨p1, p2, p3, p4⟩ => ⟨T.2.2 + 1, grC c n, ?_, by omega, ?_, Or.inr ⟨Nat.le_succ _, ?_⟩, ?_, ?_, ?_⟩
        · rw [p2]
          exact p1
        · rw [p2]
          exact hT1.tr hT2
        · rw [p2]
          show T.2.2 + 1 < T.2.2 + 1 + 1
          omega
        · refine fW.tr ((x3.mo (Nat.le_succ _) fun _ _ w => Or.inl w).tr (p3.mo (show T.2.2 ≤ T.2.2 + 1 + 1 by omega) fun b hb w => w.imp id fun e => absurd (show b = T.2.2 + 1 from e) (by omega)) (Nat.le_refl _)) (Nat.le_refl _)
        · rw [p4]
          show 0 + 1 + 1 ≤ 2
          omega
        · rw [p4]
          show 0 + grC c n + n ≤ _
          omega
