/-! 98: a new state of the component; images -/
set_option maxRecDepth 100000
theorem c_J2init {T : Tt} {V : Vt} {o : Nat} (ko : T.1 o = 20) (ho : o < T.2.2) (hz : V.1 o 2 = 0) {el : Nat → Nat} : Ret (f_J2_init T V o (2 : Int32)) fun q => q.1.2 = aT T 104 2 ∧ isLs q.1.2 q.1.1 o T.2.2 2 0 el ∧ frO (fun h => h = o) T.2.2 V q.1.1 ∧ q.2 = (1, 2) := by
  rw [f_J2_init, rq ko, f_J1_init, rq ko, f_J0_init, rq ko, pcs, sp, pcs, if_neg (by decide), rq (by decide), show ixN (2 : Int32) = 2 from rfl, sp, sp, sp, rq ((aT_ex.2 o ho).1.trans ko), sp]
  refine Ret.i (Ret.ok ⟨rfl, ⟨(aT_ex.2 o ho).1.trans ko, ?_, aT_k, aT_n, ?_, by omega, by omega, fun i hi => ?_⟩, ?_, rfl⟩)
  · show (uR _ o 1 _).2.2 o 1 = _
    rw [uR3, if_pos ⟨rfl, rfl⟩]
  · show (zV (uI V o 0 0) T.2.2).1 o 2 = _
    rw [zV1, if_neg (by omega), uI1, if_neg (by omega), hz]
    rfl
  · show (uR _ o 1 _).2.2 T.2.2 i = _
    rw [uR3, if_neg (by omega), zV3, if_pos rfl, if_neg (Nat.not_lt_zero _)]
  · show frO (fun h => h = o) T.2.2 V (uR (zV (uI V o 0 0) T.2.2) o 1 (some T.2.2))
    exact ((frO_I (S := fun h => h = o) fun _ => rfl).tr (frO_z.mo (Nat.le_refl _) fun _ _ w => w) (Nat.le_refl _)).tr (frO_R fun _ => rfl) (Nat.le_refl _)
/-- a cell is made, its owner keeps it -/
theorem mk_own {V : Vt} {o q f : Nat} (h : o ≠ q) : (uR (zV V q) o f (some q)).2.2 o f = some q ∧ (∀ j, j ≠ f → (uR (zV V q) o f (some q)).2.2 o j = V.2.2 o j) ∧ frO (fun h => h = o) q V (uR (zV V q) o f (some q)) ∧ (∀ j, (uR (zV V q) o f (some q)).1 q j = 0) ∧ ∀ j, (uR (zV V q) o f (some q)).2.2 q j = none := by
  refine ⟨by rw [uR3, if_pos ⟨rfl, rfl⟩], fun j hj => by rw [uR3, if_neg (fun w => hj w.2), zV3, if_neg h], frO_z.tr (frO_R fun _ => rfl) (Nat.le_refl _), fun j => ?_, fun j => by rw [uR3, if_neg (fun w => h w.1.symm), zV3, if_pos rfl]⟩
  rw [uR1, zV1, if_pos rfl]
theorem c_X2init {T : Tt} {V : Vt} {o : Nat} (ko : T.1 o = 3) (ho : o < T.2.2) : Ret (f_X2_init T V o) fun q => q.1.2 = aT T 100 160 ∧ q.1.1.2.2 o 0 = some T.2.2 ∧ frO (fun h => h = o) T.2.2 V q.1.1 ∧ q.2 = (1, 160) := by
  rw [f_X2_init, rq ko, rq (by decide), show ixN (160 : Int32) = 160 from rfl, sp, sp, sp, rq ((aT_ex.2 o ho).1.trans ko), sp]
  have k := mk_own (V := V) (o := o) (q := T.2.2) (f := 0) (by omega)
  exact Ret.i (Ret.ok ⟨rfl, k.1, k.2.2.1, rfl⟩)
theorem kk_of {T U W : Tt} {k m : Nat} (e : U = aT T k m) (x : exT U W) : W.1 T.2.2 = k ∧ W.2.1 T.2.2 = m := by
  subst e
  exact ⟨(x.2 _ (Nat.lt_succ_self _)).1.trans aT_k, (x.2 _ (Nat.lt_succ_self _)).2.trans aT_n⟩
set_option maxHeartbeats 1000000 in
theorem c_X1init {T : Tt} {V : Vt} {o : Nat} (ko : T.1 o = 2) (ho : o < T.2.2) {el : Nat → Nat} : Ret (f_X1_init T V o) fun q => exT T q.1.2 ∧ q.1.2.2.2 = T.2.2 + 9 ∧ frO (fun h => h = o) T.2.2 V q.1.1 ∧
    (q.1.1.2.2 o 0 = some T.2.2 ∧ q.1.1.2.2 o 1 = some (T.2.2 + 2) ∧ q.1.1.2.2 o 2 = some (T.2.2 + 3) ∧ q.1.1.2.2 o 3 = some (T.2.2 + 4) ∧ q.1.1.2.2 o 4 = some (T.2.2 + 5) ∧ q.1.1.2.2 o 5 = some (T.2.2 + 7)) ∧
    isTb q.1.2 q.1.1 T.2.2 (T.2.2 + 1) ∧ (q.1.2.1 (T.2.2 + 2) = 100 ∧ q.1.2.2.1 (T.2.2 + 2) = 8) ∧ (q.1.2.1 (T.2.2 + 3) = 100 ∧ q.1.2.2.1 (T.2.2 + 3) = 8) ∧ (q.1.2.1 (T.2.2 + 4) = 100 ∧ q.1.2.2.1 (T.2.2 + 4) = 12) ∧
    isLs q.1.2 q.1.1 (T.2.2 + 5) (T.2.2 + 6) 2 0 el ∧ isLs q.1.2 q.1.1 (T.2.2 + 7) (T.2.2 + 8) 2 0 el ∧ q.2.1 ≤ 9 ∧ q.2.2 ≤ 250 := by
  rw [f_X1_init, rq ko]
  refine Ret.i ?_
  rw [sp, sp, sp]
  have x1 : exT T (aT T 3 0) := aT_ex
  obtain ⟨t1, e1⟩ : ∃ t, t = aT T 3 0 := ⟨_, rfl⟩
  rw [← e1] at x1 ⊢
  have m1 : t1.2.2 = T.2.2 + 1 := by rw [e1]; rfl
  have k1 : t1.1 T.2.2 = 3 := by rw [e1]; exact aT_k
  refine Ret.dv (c_X2init k1 (by omega)) ?_
  intro U6 t2 n2 s2 ⟨e2, a6, f6, c2⟩
  dsimp only at e2 a6 f6 c2
  cases c2
  have x2 : exT t1 t2 := by rw [e2]; exact aT_ex
  have m2 : t2.2.2 = T.2.2 + 2 := by rw [e2, show (aT t1 100 160).2.2 = t1.2.2 + 1 from rfl, m1]
  have ko2 : t2.1 o = 2 := ((x1.tr x2).2 o ho).1.trans ko
  rw [rq ko2, sp, rq (by decide), show ixN (8 : Int32) = 8 from rfl]
  have f9 : frO (fun h => h = o) T.2.2 V (uR U6 o 0 (some T.2.2)) := ((frO_z (S := fun h => h = o)).tr (f6.mo (by omega) fun a w q => by omega) (Nat.le_refl _)).tr (frO_R fun _ => rfl) (Nat.le_refl _)
  have r0 : (uR U6 o 0 (some T.2.2)).2.2 o 0 = some T.2.2 := by rw [uR3, if_pos ⟨rfl, rfl⟩]
  have d9 : (uR U6 o 0 (some T.2.2)).2.2 T.2.2 0 = some (T.2.2 + 1) := by rw [uR3, if_neg (by omega), a6, m1]
  generalize uR U6 o 0 (some T.2.2) = U9 at f9 r0 d9 ⊢
  refine Ret.i ?_
  rw [sp, sp, sp, m2]
  have x3 : exT t2 (aT t2 100 8) := aT_ex
  obtain ⟨t3, e3⟩ : ∃ t, t = aT t2 100 8 := ⟨_, rfl⟩
  rw [← e3] at x3 ⊢
  have m3 : t3.2.2 = T.2.2 + 3 := by rw [e3, show (aT t2 100 8).2.2 = t2.2.2 + 1 from rfl, m2]
  have ko3 : t3.1 o = 2 := (x3.2 o (by omega)).1.trans ko2
  have o15 := mk_own (V := U9) (o := o) (q := T.2.2 + 2) (f := 1) (by omega)
  rw [rq ko3, sp]
  generalize uR (zV U9 (T.2.2 + 2)) o 1 (some (T.2.2 + 2)) = U15 at o15 ⊢
  rw [rq (by decide)]
  refine Ret.i ?_
  rw [sp, sp, sp, m3]
  have x4 : exT t3 (aT t3 100 8) := aT_ex
  obtain ⟨t4, e4⟩ : ∃ t, t = aT t3 100 8 := ⟨_, rfl⟩
  rw [← e4] at x4 ⊢
  have m4 : t4.2.2 = T.2.2 + 4 := by rw [e4, show (aT t3 100 8).2.2 = t3.2.2 + 1 from rfl, m3]
  have ko4 : t4.1 o = 2 := (x4.2 o (by omega)).1.trans ko3
  have o21 := mk_own (V := U15) (o := o) (q := T.2.2 + 3) (f := 2) (by omega)
  rw [rq ko4, sp]
  generalize uR (zV U15 (T.2.2 + 3)) o 2 (some (T.2.2 + 3)) = U21 at o21 ⊢
  rw [rq (by decide), show ixN (12 : Int32) = 12 from rfl]
  refine Ret.i ?_
  rw [sp, sp, sp, m4]
  have x5 : exT t4 (aT t4 100 12) := aT_ex
  obtain ⟨t5, e5⟩ : ∃ t, t = aT t4 100 12 := ⟨_, rfl⟩
  rw [← e5] at x5 ⊢
  have m5 : t5.2.2 = T.2.2 + 5 := by rw [e5, show (aT t4 100 12).2.2 = t4.2.2 + 1 from rfl, m4]
  have ko5 : t5.1 o = 2 := (x5.2 o (by omega)).1.trans ko4
  have o27 := mk_own (V := U21) (o := o) (q := T.2.2 + 4) (f := 3) (by omega)
  rw [rq ko5, sp]
  generalize uR (zV U21 (T.2.2 + 4)) o 3 (some (T.2.2 + 4)) = U27 at o27 ⊢
  refine Ret.i ?_
  rw [sp, sp, sp, m5]
  have x6 : exT t5 (aT t5 20 0) := aT_ex
  obtain ⟨t6, e6⟩ : ∃ t, t = aT t5 20 0 := ⟨_, rfl⟩
  rw [← e6] at x6 ⊢
  have m6 : t6.2.2 = T.2.2 + 6 := by rw [e6, show (aT t5 20 0).2.2 = t5.2.2 + 1 from rfl, m5]
  have k6 : t6.1 (T.2.2 + 5) = 20 := by rw [e6, ← m5]; exact aT_k
  refine Ret.dv (c_J2init (el := el) k6 (by omega) (by rw [zV1, if_pos rfl])) ?_
  intro U33 t7 n7 s7 ⟨e7, l33, f33, c7⟩
  dsimp only at e7 l33 f33 c7
  cases c7
  rw [m6] at l33
  have x7 : exT t6 t7 := by rw [e7]; exact aT_ex
  have m7 : t7.2.2 = T.2.2 + 7 := by rw [e7, show (aT t6 104 2).2.2 = t6.2.2 + 1 from rfl, m6]
  have ko7 : t7.1 o = 2 := ((x6.tr x7).2 o (by omega)).1.trans ko5
  have f33' : frO (fun _ => False) (T.2.2 + 5) U27 U33 := (frO_z (S := fun _ => False)).tr (f33.mo (by omega) fun a w q => by omega) (Nat.le_refl _)
  rw [rq ko7, sp]
  have r36 : (uR U33 o 4 (some (T.2.2 + 5))).2.2 o 4 = some (T.2.2 + 5) := by rw [uR3, if_pos ⟨rfl, rfl⟩]
  have q36 : ∀ j, j ≠ 4 → (uR U33 o 4 (some (T.2.2 + 5))).2.2 o j = U27.2.2 o j := fun j hj => by rw [uR3, if_neg (fun w => hj w.2)]; exact (f33' o j (by omega) id).2.2
  have f36 : frO (fun h => h = o) (T.2.2 + 5) U27 (uR U33 o 4 (some (T.2.2 + 5))) := (f33'.mo (Nat.le_refl _) fun _ _ w => absurd w id).tr (frO_R fun _ => rfl) (Nat.le_refl _)
  have l36 : isLs t7 (uR U33 o 4 (some (T.2.2 + 5))) (T.2.2 + 5) (T.2.2 + 6) 2 0 el := l33.fr (fun j => rfl) (fun j => by rw [uR3, if_neg (by omega)]) (fun j => by rw [uR3, if_neg (by omega)])
  generalize uR U33 o 4 (some (T.2.2 + 5)) = U36 at r36 q36 f36 l36 ⊢
  refine Ret.i ?_
  rw [sp, sp, sp, m7]
  have x8 : exT t7 (aT t7 20 0) := aT_ex
  obtain ⟨t8, e8⟩ : ∃ t, t = aT t7 20 0 := ⟨_, rfl⟩
  rw [← e8] at x8 ⊢
  have m8 : t8.2.2 = T.2.2 + 8 := by rw [e8, show (aT t7 20 0).2.2 = t7.2.2 + 1 from rfl, m7]
  have k8 : t8.1 (T.2.2 + 7) = 20 := by rw [e8, ← m7]; exact aT_k
  refine Ret.dv (c_J2init (el := el) k8 (by omega) (by rw [zV1, if_pos rfl])) ?_
  intro U42 t9 n9 s9 ⟨e9, l42, f42, c9⟩
  dsimp only at e9 l42 f42 c9
  cases c9
  rw [m8] at l42
  have x9 : exT t8 t9 := by rw [e9]; exact aT_ex
  have m9 : t9.2.2 = T.2.2 + 9 := by rw [e9, show (aT t8 104 2).2.2 = t8.2.2 + 1 from rfl, m8]
  have ko9 : t9.1 o = 2 := ((x8.tr x9).2 o (by omega)).1.trans ko7
  have f42' : frO (fun _ => False) (T.2.2 + 7) U36 U42 := (frO_z (S := fun _ => False)).tr (f42.mo (by omega) fun a w q => by omega) (Nat.le_refl _)
  rw [rq ko9, sp, sp, sp, sp]
  have y9 : exT t2 t9 := (((((x3.tr x4).tr x5).tr x6).tr x7).tr x8).tr x9
  have w1 : ∀ h j, h ≠ o → (uI (uI (uI (uR U42 o 5 (some (T.2.2 + 7))) o 8 (1 : Int32)) o 10 (85 : Int32)) o 11 ((-1) : Int32)).1 h j = U42.1 h j := fun h j w => by rw [uI1, if_neg (fun z => w z.1), uI1, if_neg (fun z => w z.1), uI1, if_neg (fun z => w z.1)]; rfl
  have w3 : ∀ h j, (uI (uI (uI (uR U42 o 5 (some (T.2.2 + 7))) o 8 (1 : Int32)) o 10 (85 : Int32)) o 11 ((-1) : Int32)).2.2 h j = if h = o ∧ j = 5 then some (T.2.2 + 7) else U42.2.2 h j := fun h j => by
    show (uR U42 o 5 _).2.2 h j = _
    rw [uR3]
  have wf : frO (fun h => h = o) (T.2.2 + 9) U42 (uI (uI (uI (uR U42 o 5 (some (T.2.2 + 7))) o 8 (1 : Int32)) o 10 (85 : Int32)) o 11 ((-1) : Int32)) := fun h j _ z => ⟨w1 h j z, rfl, by rw [w3, if_neg (fun y => z y.1)]⟩
  generalize uI (uI (uI (uR U42 o 5 (some (T.2.2 + 7))) o 8 (1 : Int32)) o 10 (85 : Int32)) o 11 ((-1) : Int32) = Z at w1 w3 wf ⊢
  have rZ : ∀ j, j < 4 → Z.2.2 o j = U27.2.2 o j := fun j hj => by rw [w3, if_neg (by omega), (f42' o j (by omega) id).2.2, q36 j (by omega)]
  have g15 : frO (fun h => h = o) (T.2.2 + 2) U9 U15 := o15.2.2.1
  have g21 : frO (fun h => h = o) (T.2.2 + 2) U9 U21 := g15.tr (o21.2.2.1.mo (by omega) fun _ _ w => w) (Nat.le_refl _)
  have g27 : frO (fun h => h = o) (T.2.2 + 2) U9 U27 := g21.tr (o27.2.2.1.mo (by omega) fun _ _ w => w) (Nat.le_refl _)
  have g36 : frO (fun h => h = o) (T.2.2 + 2) U9 U36 := g27.tr (f36.mo (by omega) fun _ _ w => w) (Nat.le_refl _)
  have g42 : frO (fun h => h = o) (T.2.2 + 2) U9 U42 := g36.tr (f42'.mo (by omega) fun _ _ w => absurd w id) (Nat.le_refl _)
  have gZ : frO (fun h => h = o) (T.2.2 + 2) U9 Z := g42.tr (wf.mo (by omega) fun _ _ w => w) (Nat.le_refl _)
  have lt5 : T.2.2 + 5 < T.2.2 + 7 := by omega
  have l42' : isLs t7 U42 (T.2.2 + 5) (T.2.2 + 6) 2 0 el := l36.fr (fun j => (f42' _ j lt5 id).1) (fun j => (f42' _ j lt5 id).2.2) (fun j => (f42' _ j (by omega) id).2.2)
  have lZ : isLs t9 Z (T.2.2 + 5) (T.2.2 + 6) 2 0 el := (l42'.ft ((x8.tr x9).2 _ (by omega)).1 ((x8.tr x9).2 _ (by omega)).1 ((x8.tr x9).2 _ (by omega)).2).fr (fun j => w1 _ j (by omega)) (fun j => by rw [w3, if_neg (by omega)]) (fun j => by rw [w3, if_neg (by omega)])
  have lZ2 : isLs t9 Z (T.2.2 + 7) (T.2.2 + 8) 2 0 el := l42.fr (fun j => w1 _ j (by omega)) (fun j => by rw [w3, if_neg (by omega)]) (fun j => by rw [w3, if_neg (by omega)])
  have kt := kk_of e1 (x2.tr y9)
  have kd := kk_of e2 y9
  have k3 := kk_of e3 (((((x4.tr x5).tr x6).tr x7).tr x8).tr x9)
  have k4 := kk_of e4 ((((x5.tr x6).tr x7).tr x8).tr x9)
  have k5 := kk_of e5 (((x6.tr x7).tr x8).tr x9)
  rw [m1] at kd
  rw [m2] at k3
  rw [m3] at k4
  rw [m4] at k5
  refine Ret.ok ⟨(x1.tr x2).tr y9, m9, f9.tr (gZ.mo (by omega) fun _ _ w => w) (Nat.le_refl _), ⟨?_, ?_, ?_, ?_, ?_, ?_⟩, ⟨kt.1, ?_, kd.1, kd.2⟩, k3, k4, k5, lZ, lZ2, ?_, ?_⟩
  · rw [rZ 0 (by omega), o27.2.1 0 (by omega), o21.2.1 0 (by omega), o15.2.1 0 (by omega), r0]
  · rw [rZ 1 (by omega), o27.2.1 1 (by omega), o21.2.1 1 (by omega), o15.1]
  · rw [rZ 2 (by omega), o27.2.1 2 (by omega), o21.1]
  · rw [rZ 3 (by omega), o27.1]
  · rw [w3, if_neg (by omega), (f42' o 4 (by omega) id).2.2, r36]
  · rw [w3, if_pos ⟨rfl, rfl⟩]
  · exact ((gZ T.2.2 0 (by omega) (by omega)).2.2).trans d9
  · show 0 + 1 + 1 + 1 + 1 + 1 + 1 + 1 + 1 + 1 ≤ 9
    omega
  · show 0 + 2 + 3 + 2 + 3 + 12 + 8 + 8 + 160 + 3 ≤ 250
    omega
