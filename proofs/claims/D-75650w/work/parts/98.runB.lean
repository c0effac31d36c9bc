/-! 98: orders that are run, the component -/
set_option maxRecDepth 100000
abbrev Od3 : Type := Option ((Int32 × Vt × Tt) × Nat × Nat)
theorem isOd.kp {B : Nat → Prop} (hB : ∀ c, B c → 120 ≤ c) {T : Tt} {V W : Vt} {hh : Nat} {o : Od} (ho : isOd B T V hh o) (f : cKp V W) : isOd B T W hh o := ho.fr (fun c j q => f.1 _ _ (by have := hB c q; omega)) (fun c j q => f.2.2 _ _ (by have := hB c q; omega))
theorem isPl.kp {B : Nat → Prop} (hB : ∀ c, B c → 120 ≤ c) {T : Tt} {V W : Vt} {hh : Nat} {p : Pl} (ho : isPl B T V hh p) (f : cKp V W) : isPl B T W hh p := ho.fr (fun c j q => f.1 _ _ (by have := hB c q; omega)) (fun c j q => f.2.2 _ _ (by have := hB c q; omega))
theorem CR.pp {T : Tt} {V : Vt} {x : HS} {a : St} (h : CR T V x a) (ok : OK a) : cPp x.P T V x.la x.pa a.g 3 4 a.t := ⟨h.hC, h.hU, h.P', ok.g, h.cf, ok.t, h.ct⟩
theorem c_runsOrder {T : Tt} {V : Vt} {x : HS} {a : St} (h : CR T V x a) (ok : OK a) {B : Nat → Prop} {hh : Nat} {o : Od} (ho : isOd B T V hh o) (oko : okO o) {v : Vals} (hs : cSet T V v) : kOp (f_X0_runsOrder T V 0 hh) T V x (actR a o v) (actN a o v) := by
  have hC := h.hC
  have hU := h.hU
  have o4 := oko.1
  rw [f_X0_runsOrder, rq hC.k0, rq ho.2.1, ho.2.2.1, actR, actN]
  have h1 : o.1 = 0 ∨ o.1 = 1 ∨ o.1 = 2 ∨ o.1 = 3 := by omega
  by_cases q3 : o.1 = 3
  · rw [if_pos (by rw [q3]; rfl), if_pos q3, if_pos q3, cal_id]
    exact c_passesKept h ok
  · have t0 : f_X18_told T V hh (0 : Int32) 22 = some (sO o v 0) := c_sO hs ho oko (k := 0) (by omega) (by rcases h1 with e | e | e | e <;> first | (rw [e]; rfl) | exact absurd e q3)
    have t1 : f_X18_told T V hh (1 : Int32) 22 = some (sO o v 1) := c_sO hs ho oko (k := 1) (by omega) (by rcases h1 with e | e | e | e <;> first | (rw [e]; rfl) | exact absurd e q3)
    rw [if_neg (by rw [l3, nI_eq (by omega) (by omega)]; exact q3), if_neg q3, if_neg q3, dr hU.r0_16, pc t0, dr hU.r0_16, pc t1]
    by_cases q : o.1 = 0
    · rw [if_pos (by rw [q]; rfl), if_pos q, if_pos q, cal_id]
      exact c_poursKept h ok
    · rw [if_neg (by rw [l0, nI_eq (by omega) (by omega)]; exact q), if_neg q, if_neg q]
      by_cases q2 : o.1 = 2
      · rw [if_pos (by rw [q2]; rfl), if_neg (by omega), if_neg (by omega), cal_id]
        exact c_bottlesKept h ok
      · have q1 : o.1 = 1 := by omega
        have t2 : f_X18_told T V hh (2 : Int32) 22 = some (sO o v 2) := c_sO hs ho oko (k := 2) (by omega) (by rw [q1]; rfl)
        rw [if_neg (by rw [l2, nI_eq (by omega) (by omega)]; exact q2), if_pos q1, if_pos q1, dr hU.r0_16, pc t2, cal_id]
        exact c_racksKept h ok
theorem c_ordIn {T : Tt} {V : Vt} {x : HS} {a : St} {s : Os} {d : Nat} (hs : okE a s d) (hd : d ≤ 1000) (hc : ∃ q, CR T V (x.wp q) s.a) {B : Nat → Prop} (hB : ∀ c, B c → 120 ≤ c) {hh : Nat} {o : Od} (ho : isOd B T V hh o) (oko : okO o) {x2 : Nat} {x3 x6 : Int32} {kc114 : Int32 → Int32 → Int32 → Vt → Od3} {kx1 kx2 : Int32 → Vt → Od3} {kx3 : Vt → Od3} {kx4 : Int32 → Int32 → Vt → Od3} {R : (Int32 × Vt × Tt) × Nat × Nat → Prop}
    (hx : oIt o s o.2.2.1 = none → ∀ W q b, CR T W (x.wp q) b → alik a b → cKp V W → Ret (kx3 W) R)
    (hr : ∀ s', oIt o s o.2.2.1 = some s' → ∀ W q, CR T W (x.wp q) s'.a → cKp V W → Ret (kx4 (nI s'.dn) s'.lt W) R) :
    Ret (f_X0_orders_L143 T 0 x2 x3 x6 hh kc114 kx1 kx2 kx3 kx4 fuel (nI s.dn) s.lt (nI 0) V) R := by
  have h20 := oko.2.2.2.2.1
  refine lq4 (f_X0_orders_L143 T 0 x2 x3 x6 hh kc114 kx1 kx2 kx3 kx4) (fun i u v z W => ∃ s', oIt o s i = some s' ∧ u = nI s'.dn ∧ v = s'.lt ∧ z = nI i ∧ (∃ q, CR T W (x.wp q) s'.a) ∧ cKp V W) o.2.2.1 ?_ ?_ fuel _ _ _ _ (Nat.lt_of_le_of_lt h20 (by decide)) ⟨s, rfl, rfl, rfl, rfl, hc, cKp.rfl'⟩
  · intro i N u v z W hi ⟨s', e1, q1, q2, q3, ⟨q, hW⟩, fW⟩ ih
    subst q1 q2 q3
    have okW := hs.it i s' e1
    have hoW := ho.kp hB fW
    have f1 : ¬ (W.1 hh 2 ≤ nI i) := by
      rw [hoW.2.2.2.1]
      exact (nI_ge (by omega) (by omega))
    rw [f_X0_orders_L143, rq hoW.2.1, if_neg f1, pc (c_table hW.hC hW.hU)]
    refine Ret.p (c_tellsOrder (hW.pp okW.ok) (dn := nI s'.dn) (lt := s'.lt)) ?_
    intro U ⟨f, hv⟩
    have hU := hW.fk f
    have fU : cKp V U := fW.tr (cKp.m f fun _ _ q => absurd q id)
    have hst := cSet_of (hU.pp okW.ok) hv
    have hoU := ho.kp hB fU
    have e2 : nI i + (1 : Int32) = nI (i + 1) := nI_add _ _
    have e3 : nI s'.dn + (1 : Int32) = nI (s'.dn + 1) := nI_add _ _
    have eI : oIt o s (i + 1) = oOnce s' o := by rw [oIt, e1]; rfl
    rw [rq hU.hC.k0, dr hU.hU.r0_16, pc (c_isNow hst hoU)]
    rw [show vO s'.a.g s'.a.t (nI s'.dn) s'.lt = vS s' from rfl] at hst ⊢
    by_cases w : nowO o (vS s') = true
    · rw [w, if_neg (by decide)]
      refine Ret.c (c_runsOrder hU okW.ok hoU oko hst) ?_
      intro r X ⟨er, ⟨q', hX⟩, fX⟩
      dsimp only at er hX fX
      subst er
      have fX := fU.tr fX
      have hoX := ho.kp hB fX
      by_cases w2 : actW s'.a o (vS s') = 0
      · have eo : oOnce s' o = some ⟨actN s'.a o (vS s'), s'.dn + 1, if o.1 = 2 then actR s'.a o (vS s') else s'.lt⟩ := by rw [oOnce, if_pos w, if_pos w2]
        rw [if_pos (actR_pos okW.ok w2), hoX.2.2.1]
        have hn : Ret (f_X0_orders_L143 T 0 x2 x3 x6 hh kc114 kx1 kx2 kx3 kx4 N (nI (s'.dn + 1)) (if o.1 = 2 then actR s'.a o (vS s') else s'.lt) (nI (i + 1)) X) R := ih _ _ _ _ ⟨_, eI.trans eo, rfl, rfl, rfl, ⟨q', hX⟩, fX⟩
        by_cases q2 : o.1 = 2
        · rw [if_pos (by rw [q2]; rfl), f_X0_orders_J227, e3, sp, f_X0_orders_J232, e2, sp]
          rw [if_pos q2] at hn
          exact hn
        · have o4 := oko.1
          rw [if_neg (by rw [l2, nI_eq (by omega) (by omega)]; exact q2), f_X0_orders_J227, e3, sp, f_X0_orders_J232, e2, sp]
          rw [if_neg q2] at hn
          exact hn
      · have eo : oOnce s' o = none := by rw [oOnce, if_pos w, if_neg w2]
        have no := act_no w2
        rw [no.2] at hX
        rw [if_neg no.1]
        refine hx ?_ X q' s'.a hX okW.al fX
        have := oIt_no (eI.trans eo) (o.2.2.1 - (i + 1))
        rw [show i + 1 + (o.2.2.1 - (i + 1)) = o.2.2.1 by omega] at this
        exact this
    · have w' : nowO o (vS s') = false := by cases hn : nowO o (vS s') <;> simp_all
      have eo : oOnce s' o = some s' := by rw [oOnce, if_neg w]
      rw [w', if_pos (by decide), f_X0_orders_J232, e2, sp]
      exact ih _ _ _ _ ⟨s', eI.trans eo, rfl, rfl, rfl, ⟨q, hU⟩, fU⟩
  · intro N u v z W ⟨s', e1, q1, q2, q3, ⟨q, hW⟩, fW⟩
    subst q1 q2 q3
    have hoW := ho.kp hB fW
    have f1 : W.1 hh 2 ≤ nI o.2.2.1 := by
      rw [hoW.2.2.2.1]
      exact (nI_le (Nat.le_refl _) (by omega))
    rw [f_X0_orders_L143, rq hoW.2.1, if_pos f1]
    exact hr s' e1 W q hW fW
/-- orders as the reader has them -/
def isRr (B : Nat → Prop) (T : Tt) (V : Vt) (h : Nat) (p : Pl) : Prop := B h ∧ T.1 h = 18 ∧ ∃ (ls a c : Nat) (el : Nat → Nat), V.2.2 h 7 = some ls ∧ B ls ∧ B a ∧ isLs T V ls a c p.1 el ∧ ∀ i, i < p.1 → isOd B T V (el i) (p.2 i)
theorem isRr.kp {B : Nat → Prop} (hB : ∀ c, B c → 120 ≤ c) {T : Tt} {V W : Vt} {hh : Nat} {p : Pl} (ho : isRr B T V hh p) (f : cKp V W) : isRr B T W hh p := by
  have e1 : ∀ c j, B c → W.1 c j = V.1 c j := fun c j q => f.1 _ _ (by have := hB c q; omega)
  have e2 : ∀ c j, B c → W.2.2 c j = V.2.2 c j := fun c j q => f.2.2 _ _ (by have := hB c q; omega)
  obtain ⟨b, k, ls, a, c, el, e, b1, b2, hl, hc⟩ := ho
  exact ⟨b, k, ls, a, c, el, (e2 _ _ b).trans e, b1, b2, hl.fr (fun j => e1 _ j b1) (fun j => e2 _ j b1) (fun j => e2 _ j b2), fun i hi => (hc i hi).fr e1 e2⟩
theorem c_ordOut {T : Tt} {V : Vt} {x : HS} {a : St} {s : Os} (hs : okE a s 0) (hc : ∃ q, CR T V (x.wp q) s.a) {B : Nat → Prop} (hB : ∀ c, B c → 120 ≤ c) {hh : Nat} {p : Pl} (ho : isRr B T V hh p) (okp : okP p) {x3 : Int32} {kx1 kx2 : Int32 → Vt → Od3} {R : (Int32 × Vt × Tt) × Nat × Nat → Prop}
    (hx : ∀ k, oSeq p s p.1 = .inl k → ∀ W q b, CR T W (x.wp q) b → alik a b → cKp V W → Ret (kx1 (nI k) W) R)
    (hr : ∀ s', oSeq p s p.1 = .inr s' → ∀ W q, CR T W (x.wp q) s'.a → cKp V W → Ret (kx2 (nI s'.dn) W) R) :
    Ret (f_X0_orders_L114 T 0 hh x3 kx1 kx2 fuel (nI s.dn) s.lt (nI 0) V) R := by
  have h12 := okp.1
  refine lq4 (f_X0_orders_L114 T 0 hh x3 kx1 kx2) (fun i u v z W => ∃ s', oSeq p s i = .inr s' ∧ u = nI s'.dn ∧ v = s'.lt ∧ z = nI i ∧ (∃ q, CR T W (x.wp q) s'.a) ∧ cKp V W) p.1 ?_ ?_ fuel _ _ _ _ (Nat.lt_of_le_of_lt h12 (by decide)) ⟨s, rfl, rfl, rfl, rfl, hc, cKp.rfl'⟩
  · intro i N u v z W hi ⟨s', e1, q1, q2, q3, hW, fW⟩ ih
    subst q1 q2 q3
    have okW := hs.seq okp i s' (by omega) e1
    obtain ⟨-, k, ls, ar, cc, el, e2, -, -, hls, hod⟩ := ho.kp hB fW
    have hoi := hod i hi
    rw [f_X0_orders_L114, rq k, dr e2, pc (c_size hls), if_neg (nI_ge hi (by omega)), dr e2, pc (c_get hls hi), rq hoi.2.1, l0]
    refine c_ordIn okW (by omega) hW hB hoi (okp.2 i hi) ?_ ?_
    · intro w X q b hX ab fX
      refine hx i ?_ X q b hX ab (fW.tr fX)
      have e3 : oSeq p s (i + 1) = .inl i := by rw [oSeq, e1]; dsimp only; rw [w]
      have := oSeq_no e3 (p.1 - (i + 1))
      rw [show i + 1 + (p.1 - (i + 1)) = p.1 by omega] at this
      exact this
    · intro s2 w X q hX fX
      rw [l1, nI_add, sp]
      exact ih _ _ _ _ ⟨s2, by rw [oSeq, e1]; dsimp only; rw [w], rfl, rfl, rfl, ⟨q, hX⟩, fW.tr fX⟩
  · intro N u v z W ⟨s', e1, q1, q2, q3, ⟨q, hW⟩, fW⟩
    subst q1 q2 q3
    obtain ⟨-, k, ls, ar, cc, el, e2, -, -, hls, hod⟩ := ho.kp hB fW
    rw [f_X0_orders_L114, rq k, dr e2, pc (c_size hls), if_pos (nI_le (Nat.le_refl _) (by omega))]
    exact hr s' e1 W q hW fW
/-- what was kept before orders ran: the table, the undone ones -/
abbrev cBf (T : Tt) (V : Vt) (a : St) : Prop := (cTb T V 17 18 a.t) ∧ (∀ k, k < a.u.n → cTb T V (32 + 4 * k) (33 + 4 * k) (a.u.s k)) ∧ (∀ k, k < a.u.n → V.1 16 k = nI (a.u.w k))
theorem cBf.t {T : Tt} {V : Vt} {a : St} (h__ : cBf T V a) : cTb T V 17 18 a.t := h__.1
theorem cBf.u {T : Tt} {V : Vt} {a : St} (h__ : cBf T V a) : ∀ k, k < a.u.n → cTb T V (32 + 4 * k) (33 + 4 * k) (a.u.s k) := h__.2.1
theorem cBf.w {T : Tt} {V : Vt} {a : St} (h__ : cBf T V a) : ∀ k, k < a.u.n → V.1 16 k = nI (a.u.w k) := h__.2.2
theorem cBf.fr {T : Tt} {V W : Vt} {a : St} (h : cBf T V a) (hn : a.u.n ≤ 16) (e : ∀ c j, c = 16 ∨ c = 17 ∨ c = 18 ∨ (32 ≤ c ∧ c < 94 ∧ (c % 4 = 0 ∨ c % 4 = 1)) → W.1 c j = V.1 c j) (er : ∀ c j, c ≠ 13 → W.2.2 c j = V.2.2 c j) : cBf T W a :=
  ⟨h.t.fr (fun j => e _ _ (by omega)) (fun j => e _ _ (by omega)) (fun j => er _ _ (by omega)), fun k hk => (h.u k hk).fr (fun j => e _ _ (by omega)) (fun j => e _ _ (by omega)) (fun j => er _ _ (by omega)), fun k hk => (e _ _ (by omega)).trans (h.w k hk)⟩
theorem CR.wut {T : Tt} {V W : Vt} {x : HS} {b : St} (h : CR T V x b) (e : ∀ c j, ¬ (c = 3 ∨ c = 4 ∨ c = 15 ∨ c = 16 ∨ c = 17 ∨ c = 18 ∨ (c = 0 ∧ j = 15) ∨ (30 ≤ c ∧ c < 94)) → W.1 c j = V.1 c j) (el : W.2 = V.2) {u : Un} {t : Tab} (ct : cTb T W 3 4 t) (cu : cUn T W x.p u) : CR T W x ((b.wu u).wt t) := by
  have er : ∀ c j, W.2.2 c j = V.2.2 c j := fun c j => by rw [el]
  exact h.ups (b := (b.wu u).wt t) (fun c j q => e _ _ (by omega)) er rfl (h.cf.fc h.P' (fun c j q => e _ _ (by omega)) (fun c j q => er _ _)) ct cu ((e _ _ (by omega)).trans h.st) (fun i hi => (e _ _ (by omega)).trans (h.rf i hi)) ((e _ _ (by omega)).trans h.tn) (fun i hi => (e _ _ (by omega)).trans (h.tp i hi)) ((e _ _ (by omega)).trans h.fa) ((e _ _ (by omega)).trans h.le) ((e _ _ (by omega)).trans h.so) ((e _ _ (by omega)).trans h.dm) (fun i hi q => (e _ _ (by omega)).trans (h.dd i hi q))
set_option maxHeartbeats 1000000 in
theorem c_putsBack {T : Tt} {V : Vt} {x : HS} {a b : St} (h : CR T V x b) (ab : alik a b) (hn : a.u.n ≤ 16) (bf : cBf T V a) : Ret (f_X0_putsBack T V 0 (nI a.u.n)) fun W => CR T W x a ∧ cFr V W := by
  have hC := h.hC
  have hU := h.hU
  have hp := h.cu.b
  have hinj := h.cu.i
  rw [f_X0_putsBack, rq hC.k0, pc (c_table hC hU), dr hU.r0_8]
  refine Ret.p (c_takes (t := 3) (d := 4) h.ct.k bf.t (by omega) (by omega) (by omega)) ?_
  intro W ⟨f, ct⟩
  have er0 : ∀ c j, W.2.2 c j = V.2.2 c j := fun c j => by rw [f.2]
  have bf0 : cBf T W a := bf.fr hn (fun c j q => f.1 _ _ (by omega)) (fun c j _ => er0 _ _)
  refine lq2 (f_X0_putsBack_L13 T 0 (nI a.u.n) _) (fun i z X => z = nI i ∧ (∀ c j, ¬ uH c → X.1 c j = W.1 c j) ∧ X.2 = W.2 ∧ ∀ k, k < i → cTb T X (30 + 4 * x.p k) (31 + 4 * x.p k) (a.u.s k)) a.u.n ?_ ?_ fuel _ _ (Nat.lt_of_le_of_lt hn (by decide)) ⟨rfl, fun _ _ _ => rfl, rfl, fun k hk => absurd hk (Nat.not_lt_zero _)⟩
  · intro i N z X hi ⟨q1, q2, q3, q4⟩ ih
    subst q1
    have er : ∀ c j, X.2.2 c j = V.2.2 c j := fun c j => by rw [q3, er0]
    have hUX : CV X := hU.e13 fun c j _ => er c j
    have hpi := hp i (by omega)
    have e13 : X.2.2 13 (ixN (nI i)) = some (30 + 4 * x.p i) := by rw [ix_nI (by omega), er]; exact h.cu.r i (by omega)
    have e14 : X.2.2 14 (ixN (nI i)) = some (32 + 4 * i) := by rw [ix_nI (by omega)]; exact (hUX.ro i (by omega)).2
    have bfX : cBf T X a := bf0.fr hn (fun c j q => q2 _ _ (by omega)) (fun c j _ => by rw [q3])
    rw [f_X0_putsBack_L13, if_neg (nI_ge hi (by omega)), dr hUX.r0_4, cq13 hC (by omega), dr e13, dr hUX.r0_5, cq14 hC (by omega), dr e14]
    refine Ret.p (c_takes (uTb hC hUX hpi) (bfX.u i hi) (by omega) (by omega) (by omega)) ?_
    intro Y ⟨fY, ctY⟩
    rw [l1, nI_add, sp]
    refine ih _ _ ⟨rfl, fun c j w => (fY.1 _ _ (by omega)).trans (q2 c j w), fY.2.trans q3, fun k hk => ?_⟩
    by_cases e : k = i
    · rw [e]
      exact ctY
    · have hpk := hp k (by omega)
      have hne : x.p k ≠ x.p i := fun w => e (hinj _ _ (by omega) (by omega) w)
      exact (q4 k (by omega)).fr (fun j => fY.1 _ _ (by omega)) (fun j => fY.1 _ _ (by omega)) (fun j => by rw [fY.2])
  · intro N z X ⟨q1, q2, q3, q4⟩
    subst q1
    have er : ∀ c j, X.2.2 c j = V.2.2 c j := fun c j => by rw [q3, er0]
    have hUX : CV X := hU.e13 fun c j _ => er c j
    have hcp : cpIn T 0 16 15 (0 : Int32) (0 : Int32) (16 : Int32) := ⟨hC.k16, hC.k15, by decide, by decide, by decide, by rw [hC.n16]; decide, by rw [hC.n15]; decide⟩
    rw [f_X0_putsBack_L13, if_pos (nI_le (Nat.le_refl _) (by omega)), dr hUX.r0_7, dr hUX.r0_6, rq hcp, sp, sp]
    rw [show ixN (0 : Int32) = 0 from rfl, show ixN (16 : Int32) = 16 from rfl]
    have bfX : cBf T X a := bf0.fr hn (fun c j q => q2 _ _ (by omega)) (fun c j _ => by rw [q3])
    have eZ : ∀ c j, ¬ (c = 15 ∨ (c = 0 ∧ j = 15)) → (uI (cpI X 16 0 15 0 16) 0 15 (nI a.u.n)).1 c j = X.1 c j := fun c j w => by rw [uI1, if_neg (by omega), cp_u, if_neg (by omega)]
    have e2 : (uI (cpI X 16 0 15 0 16) 0 15 (nI a.u.n)).2 = V.2 := by rw [uI2, cp_2, q3, f.2]
    have eV : ∀ c j, ¬ (c = 3 ∨ c = 4 ∨ c = 15 ∨ c = 16 ∨ c = 17 ∨ c = 18 ∨ (c = 0 ∧ j = 15) ∨ (30 ≤ c ∧ c < 94)) → (uI (cpI X 16 0 15 0 16) 0 15 (nI a.u.n)).1 c j = V.1 c j := fun c j w => by rw [eZ _ _ (by omega), q2 _ _ (by omega), f.1 _ _ (by omega)]
    have ct3 : cTb T (uI (cpI X 16 0 15 0 16) 0 15 (nI a.u.n)) 3 4 a.t := ct.fr (fun j => (eZ _ _ (by omega)).trans (q2 _ _ (by omega))) (fun j => (eZ _ _ (by omega)).trans (q2 _ _ (by omega))) (fun j => by rw [e2, f.2])
    have cu : cUn T (uI (cpI X 16 0 15 0 16) 0 15 (nI a.u.n)) x.p a.u := by
      refine ⟨by rw [uI1, if_pos ⟨rfl, rfl⟩], hn, hp, hinj, fun k hk => by rw [e2]; exact h.cu.r k hk, fun k hk => ?_, fun k hk => ?_⟩
      · have hpk := hp k (by omega)
        exact (q4 k hk).fr (fun j => eZ _ _ (by omega)) (fun j => eZ _ _ (by omega)) (fun j => by rw [e2, q3, f.2])
      · rw [uI1, if_neg (by omega), cp_u, if_pos ⟨rfl, by omega⟩]
        exact bfX.w k hk
    refine Ret.ok ⟨?_, fun c j w => eV _ _ (by omega), fun c j _ => by rw [e2], fun c j _ => by rw [e2]⟩
    obtain ⟨u, t, rfl⟩ := ab
    exact h.wut eV e2 ct3 cu
theorem c_befL {T : Tt} {V : Vt} {x : HS} {a : St} (h : CR T V x a) {x2 : Nat} {k : Vt → Od3} {R : (Int32 × Vt × Tt) × Nat × Nat → Prop}
    (hR : ∀ W, (∀ c j, ¬ (32 ≤ c ∧ c < 94 ∧ (c % 4 = 0 ∨ c % 4 = 1)) → W.1 c j = V.1 c j) → W.2 = V.2 → (∀ k, k < a.u.n → cTb T W (32 + 4 * k) (33 + 4 * k) (a.u.s k)) → Ret (k W) R) :
    Ret (f_X0_orders_L56 T 0 x2 k fuel (nI 0) V) R := by
  have hC := h.hC
  have hU := h.hU
  have hn := h.cu.l
  refine lq2 (f_X0_orders_L56 T 0 x2 k) (fun i z X => z = nI i ∧ (∀ c j, ¬ (32 ≤ c ∧ c < 94 ∧ (c % 4 = 0 ∨ c % 4 = 1)) → X.1 c j = V.1 c j) ∧ X.2 = V.2 ∧ ∀ k, k < i → cTb T X (32 + 4 * k) (33 + 4 * k) (a.u.s k)) a.u.n ?_ ?_ fuel _ _ (Nat.lt_of_le_of_lt hn (by decide)) ⟨rfl, fun _ _ _ => rfl, rfl, fun k hk => absurd hk (Nat.not_lt_zero _)⟩
  · intro i N z X hi ⟨q1, q2, q3, q4⟩ ih
    subst q1
    have er : ∀ c j, X.2.2 c j = V.2.2 c j := fun c j => by rw [q3]
    have hUX : CV X := hU.e13 fun c j _ => er c j
    have hpi := h.cu.b i (by omega)
    have e15 : X.1 0 15 = nI a.u.n := (q2 _ _ (by omega)).trans h.cu.n
    have e13 : X.2.2 13 (ixN (nI i)) = some (30 + 4 * x.p i) := by rw [ix_nI (by omega), er]; exact h.cu.r i (by omega)
    have e14 : X.2.2 14 (ixN (nI i)) = some (32 + 4 * i) := by rw [ix_nI (by omega)]; exact (hUX.ro i (by omega)).2
    have ctX : cTb T X (30 + 4 * x.p i) (31 + 4 * x.p i) (a.u.s i) := (h.cu.t i hi).fr (fun j => q2 _ _ (by omega)) (fun j => q2 _ _ (by omega)) (fun j => er _ _)
    rw [f_X0_orders_L56, rq hC.k0, e15, if_neg (nI_ge hi (by omega)), dr hUX.r0_5, cq14 hC (by omega), dr e14, dr hUX.r0_4, cq13 hC (by omega), dr e13]
    refine Ret.p (c_takes (oTb hC hUX (show i < 16 by omega)) ctX (by omega) (by omega) (by omega)) ?_
    intro Y ⟨fY, ctY⟩
    rw [l1, nI_add, sp]
    refine ih _ _ ⟨rfl, fun c j w => (fY.1 _ _ (by omega)).trans (q2 c j w), fY.2.trans q3, fun k hk => ?_⟩
    by_cases e : k = i
    · rw [e]
      exact ctY
    · exact (q4 k (by omega)).fr (fun j => fY.1 _ _ (by omega)) (fun j => fY.1 _ _ (by omega)) (fun j => by rw [fY.2])
  · intro N z X ⟨q1, q2, q3, q4⟩
    subst q1
    have e15 : X.1 0 15 = nI a.u.n := (q2 _ _ (by omega)).trans h.cu.n
    rw [f_X0_orders_L56, rq hC.k0, e15, if_pos (nI_le (Nat.le_refl _) (by omega))]
    exact hR X q2 q3 q4
