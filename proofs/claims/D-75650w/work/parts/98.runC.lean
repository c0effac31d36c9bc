/-! 98: orders that are run, the component, whole -/
set_option maxRecDepth 100000
def oRun (p : Pl) (a : St) : Int32 × St := match oSeq p ⟨a, 0, -nI 1⟩ p.1 with
  | .inl k => (-nI 3, (a.wso (nI k)).ref 3)
  | .inr s => (nI s.dn, s.a.wst (nI 0))
theorem okE0 {a : St} (ok : OK a) : okE a ⟨a, 0, -nI 1⟩ 0 := ⟨ok, alik.rfl', Nat.le_refl _, Or.inl rfl⟩
theorem oRun_ok {p : Pl} (hp : okP p) {a : St} (ok : OK a) : OK (oRun p a).2 := by
  rw [oRun]
  cases h : oSeq p ⟨a, 0, -nI 1⟩ p.1 with
  | inl k => exact OK.mk ⟨ok.g, ok.t, ok.y, ok.u, ok.ul, ok.im, ok.tn, ok.tp, ok.dm⟩
  | inr s => exact ((okE0 ok).seq hp _ _ (Nat.le_refl _) h).ok.wst
set_option maxHeartbeats 1000000 in
theorem c_ordRun {T : Tt} {V : Vt} {x : HS} {a : St} (h : CR T V x a) (ok : OK a) {B : Nat → Prop} (hB : ∀ c, B c → 120 ≤ c) {hh : Nat} {p : Pl} (ho : isRr B T V hh p) (okp : okP p) :
    Ret (drf (V.2.2 0 8) (fun r19 => pcl (f_X0_table T V 0) (fun r21 => pcl (f_X2_takes T V r19 r21) (fun U24 => f_X0_orders_L56 T 0 hh (fun U37 => drf (U37.2.2 0 6) (fun r38 => drf (U37.2.2 0 7) (fun r39 => req (cpIn T 0 r38 r39 (0 : Int32) (0 : Int32) (16 : Int32)) (stp (cpI U37 r38 (ixN (0 : Int32)) r39 (ixN (0 : Int32)) (ixN (16 : Int32))) (fun U41 => stp (U41.1 0 15) (fun z42 => f_X0_orders_L114 T 0 hh z42 (fun z76 U77 => pcl (f_X0_putsBack T U77 0 z42) (fun U80 => stp (uI U80 0 14 z76) (fun U81 => cal (f_X0_refuse T U81 0 ((-3) : Int32)) (fun z83 U84 => some ((z83, U84, T), 0, 0))))) (fun z85 U86 => cal (f_X0_done T U86 0 z85) (fun z88 U89 => some ((z88, U89, T), 0, 0))) fuel (0 : Int32) ((-1) : Int32) (0 : Int32) U41)))))) fuel (0 : Int32) U24)))) fun q : (Int32 × Vt × Tt) × Nat × Nat => q.1.1 = (oRun p a).1 ∧ (∃ x', CR T q.1.2.1 x' (oRun p a).2) ∧ cFr V q.1.2.1 ∧ q.1.2.2 = T ∧ q.2 = (0, 0) := by
  have hC := h.hC
  have hU := h.hU
  have hn := h.cu.l
  rw [dr hU.r0_8, pc (c_table hC hU)]
  refine Ret.p (c_takes (t := 17) (d := 18) ⟨hC.k17, hU.r17_0, hC.k18, hC.n18⟩ h.ct (by omega) (by omega) (by omega)) ?_
  intro W ⟨f, ct⟩
  have er0 : ∀ c j, W.2.2 c j = V.2.2 c j := fun c j => by rw [f.2]
  have h1 : CR T W x a := h.wut (u := a.u) (t := a.t) (fun c j w => f.1 _ _ (by omega)) f.2 (h.ct.fr (fun j => f.1 _ _ (by omega)) (fun j => f.1 _ _ (by omega)) (fun j => er0 _ _)) (h.cu.fr (fun c j w => f.1 _ _ (by omega)) er0)
  refine c_befL h1 fun X eX e2X uX => ?_
  have erX : ∀ c j, X.2.2 c j = W.2.2 c j := fun c j => by rw [e2X]
  have hUX : CV X := h1.hU.e13 fun c j _ => erX c j
  have hcp : cpIn T 0 15 16 (0 : Int32) (0 : Int32) (16 : Int32) := ⟨hC.k15, hC.k16, by decide, by decide, by decide, by rw [hC.n15]; decide, by rw [hC.n16]; decide⟩
  rw [dr hUX.r0_6, dr hUX.r0_7, rq hcp, sp, sp, show ixN (0 : Int32) = 0 from rfl, show ixN (16 : Int32) = 16 from rfl]
  have eY : ∀ c j, ¬ c = 16 → (cpI X 15 0 16 0 16).1 c j = X.1 c j := fun c j w => by rw [cp_u, if_neg (by omega)]
  have e16 : ∀ j, j < 16 → (cpI X 15 0 16 0 16).1 16 j = X.1 15 j := fun j hj => by rw [cp_u, if_pos ⟨rfl, hj⟩]
  have e2Y : (cpI X 15 0 16 0 16).2 = X.2 := cp_2
  generalize cpI X 15 0 16 0 16 = Y at eY e16 e2Y ⊢
  have eV : ∀ c j, ¬ (c = 16 ∨ c = 17 ∨ c = 18 ∨ (32 ≤ c ∧ c < 94 ∧ (c % 4 = 0 ∨ c % 4 = 1))) → Y.1 c j = V.1 c j := fun c j w => by rw [eY _ _ (by omega), eX _ _ (by omega), f.1 _ _ (by omega)]
  have e2 : Y.2 = V.2 := by rw [e2Y, e2X, f.2]
  have er : ∀ c j, Y.2.2 c j = V.2.2 c j := fun c j => by rw [e2]
  have hY : CR T Y x a := by
    refine h.wut (u := a.u) (t := a.t) (fun c j w => eV _ _ (by omega)) e2 (h.ct.fr (fun j => eV _ _ (by omega)) (fun j => eV _ _ (by omega)) (fun j => er _ _)) (h.cu.fr (fun c j w => ?_) er)
    exact eV _ _ (by omega)
  have bf : cBf T Y a := by
    refine ⟨ct.fr (fun j => ?_) (fun j => ?_) (fun j => by rw [e2Y, e2X]), fun k hk => (uX k hk).fr (fun j => eY _ _ (by omega)) (fun j => eY _ _ (by omega)) (fun j => by rw [e2Y]), fun k hk => ?_⟩
    · rw [eY _ _ (by omega), eX _ _ (by omega)]
    · rw [eY _ _ (by omega), eX _ _ (by omega)]
    · rw [e16 _ (by omega), eX _ _ (by omega), f.1 _ _ (by omega)]
      exact h.cu.w k hk
  have fY : cFr V Y := ⟨fun c j w => eV _ _ (by omega), fun c j w => by rw [e2], fun c j w => er _ _⟩
  have hoY : isRr B T Y hh p := by
    have q1 : ∀ c j, B c → Y.1 c j = V.1 c j := fun c j q => eV _ _ (by have := hB c q; omega)
    obtain ⟨b, k, ls, ar, c, el, e, b1, b2, hl, hc⟩ := ho
    exact ⟨b, k, ls, ar, c, el, (er _ _).trans e, b1, b2, hl.fr (fun j => q1 _ j b1) (fun j => er _ j) (fun j => er _ j), fun i hi => (hc i hi).fr q1 (fun c j _ => er c j)⟩
  rw [hY.cu.n]
  refine c_ordOut (s := ⟨a, 0, -nI 1⟩) (okE0 ok) ⟨x.p, hY⟩ hB hoY okp ?_ ?_
  · intro k e W q b hW ab fW
    have bfW : cBf T W a := bf.fr hn (fun c j w => fW.1 _ _ (by omega)) (fun c j w => fW.2.2 _ _ w)
    refine Ret.p (c_putsBack hW ab hn bfW) ?_
    intro Z ⟨hZ, fZ⟩
    rw [sp, oRun, e]
    dsimp only
    refine Ret.c (c_refuse (w := 3) (hZ.s14 (v := nI k)) (by omega) (by omega)) ?_
    intro r Q ⟨e1, hQ, fQ⟩
    dsimp only at e1 hQ fQ
    subst e1
    exact Ret.ok ⟨rfl, hQ, ((fY.tr fW.c).tr fZ).tr ((cF_uI (by omega)).tr fQ), rfl, rfl⟩
  · intro s' e W q hW fW
    rw [oRun, e]
    dsimp only
    refine Ret.c (c_done (v := nI s'.dn) hW) ?_
    intro r Q ⟨e1, hQ, fQ⟩
    dsimp only at e1 hQ fQ
    subst e1
    exact Ret.ok ⟨rfl, hQ, (fY.tr fW.c).tr fQ, rfl, rfl⟩
