/-! 98: a year by a plan on paper, the component -/
set_option maxRecDepth 100000
theorem cPr.fr {P : Nat → Prop} {T : Tt} {V W : Vt} {la pa : Nat} {g : Cfg} {s : Pp} (h : cPr P T V la pa g s) (f : frM nF lC V W) : cPr P T W la pa g s :=
  ⟨h.h.fr f (fun _ _ w => absurd w id) h.h.b (h.h.ct.fr (fun j => f.1 _ _ id) (fun j => f.1 _ _ id) (fun j => by rw [f.2.2])), (f.1 _ _ id).trans h.y, (f.1 _ _ id).trans h.m, (f.1 _ _ id).trans h.k⟩
theorem isOd.fc {P : Nat → Prop} (hP : ∀ c, P c → 120 ≤ c) {T : Tt} {V W : Vt} {hh : Nat} {o : Od} (ho : isOd P T V hh o) (f : frM sPc lC V W) : isOd P T W hh o := ho.fr (fun c j q => f.1 _ _ (by have := hP c q; omega)) (fun c j _ => by rw [f.2.2])
theorem isPl.fc {P : Nat → Prop} (hP : ∀ c, P c → 120 ≤ c) {T : Tt} {V W : Vt} {hh : Nat} {o : Pl} (ho : isPl P T V hh o) (f : frM sPc lC V W) : isPl P T W hh o := ho.fr (fun c j q => f.1 _ _ (by have := hP c q; omega)) (fun c j _ => by rw [f.2.2])
theorem pAct_sk {g : Cfg} {s : Pp} {o : Od} {v : Vals} : (pAct g s o v).sk = if whyO g s.b o v = 0 then s.sk else true := by
  rw [pAct]
  by_cases w : whyO g s.b o v = 0
  · rw [if_pos w, if_pos w]
    split
    · rfl
    · split <;> rfl
  · rw [if_neg w, if_neg w]
theorem pAct_dn {g : Cfg} {s : Pp} {o : Od} {v : Vals} : (pAct g s o v).dn = if whyO g s.b o v = 0 then s.dn + 1 else s.dn := by
  rw [pAct]
  by_cases w : whyO g s.b o v = 0
  · rw [if_pos w, if_pos w]
    split
    · rfl
    · split <;> rfl
  · rw [if_neg w, if_neg w]
theorem pAct_lt {g : Cfg} {s : Pp} {o : Od} {v : Vals} (h : ¬ (whyO g s.b o v = 0 ∧ ¬ o.1 = 0 ∧ ¬ o.1 = 1)) : (pAct g s o v).lt = s.lt := by
  rw [pAct]
  by_cases w : whyO g s.b o v = 0
  · rw [if_pos w]
    by_cases q : o.1 = 0
    · rw [if_pos q]
    · rw [if_neg q]
      by_cases q1 : o.1 = 1
      · rw [if_pos q1]
      · exact absurd ⟨w, q, q1⟩ h
  · rw [if_neg w]
set_option maxHeartbeats 1000000 in
theorem c_once {P : Nat → Prop} {T : Tt} {V : Vt} {la pa : Nat} {g : Cfg} {s : Pp} {d e : Nat} (h : cPr P T V la pa g s) (hq : okQ g s d e) (hd : d ≤ 1000000) {hh : Nat} {o : Od} (ho : isOd P T V hh o) (ok : okO o) (h3 : o.1 < 3) {x1 t : Nat} {x4 : Int32} {kc12 : Int32 → Int32 → Int32 → Vt → Option (Vt)} {kx12 : Vt → Option (Vt)} {kc41 : Int32 → Int32 → Int32 → Vt → Option (Vt)} {kx41 : Int32 → Int32 → Vt → Option (Vt)} {R : Vt → Prop}
    (hR : ∀ W, frM sPc lC V W → cPr P T W la pa g (pOnce g s o) → Ret (kc41 (nI (pOnce g s o).dn) (pOnce g s o).lt (nI (t + 1)) W) R) :
    Ret (drf (V.2.2 0 9) (fun r14 => pcl (f_X0_tellsOrder T V 0 r14 (nI s.dn) s.lt) (fun U17 => drf (U17.2.2 0 16) (fun r18 => pcl (f_X18_isNow T U17 hh r18) (fun z20 => if z20 = 0 then (f_X0_runsYear_J146 T U17 0 x1 (nI s.dn) s.lt x4 hh (nI t) kc12 kx12 kc41 kx41) else (cal (f_X0_triesOrder T U17 0 hh) (fun z23 U24 => if 0 ≤ z23 then (f_X0_runsYear_J108 T U24 0 x1 (nI s.dn) s.lt x4 hh (nI t) z23 0 (U24.1 0 21) (0 : Int32) kc12 kx12 kc41 kx41) else (f_X0_runsYear_J108 T U24 0 x1 (nI s.dn) s.lt x4 hh (nI t) z23 0 (U24.1 0 21) (1 : Int32) kc12 kx12 kc41 kx41)))))))) R := by
  have hC := h.h.C
  have hP := h.h.P.1
  rw [dr h.h.U.r0_9]
  refine Ret.p (c_tellsOrder h.h) ?_
  intro W ⟨f, hv⟩
  have hW := h.fr f
  have fW : frM sPc lC V W := f.mono (fun _ _ q => absurd q id) (fun _ _ q => q)
  have hs := cSet_of hW.h hv
  have hoW := ho.fc hP fW
  have hkW := hoW.2.1
  rw [dr hW.h.U.r0_16, pc (c_isNow hs hoW)]
  have e1 : nI t + (1 : Int32) = nI (t + 1) := nI_add _ _
  have j146 : ∀ (a b : Int32) X, f_X0_runsYear_J146 T X 0 x1 a b x4 hh (nI t) kc12 kx12 kc41 kx41 = kc41 a b (nI (t + 1)) X := fun a b X => by rw [f_X0_runsYear_J146, e1, sp]
  by_cases w : nowO o (vP g s) = true
  · have ep : pOnce g s o = pAct g s o (vP g s) := by rw [pOnce, if_pos w]
    rw [ep] at hR
    rw [show vO g s.b (nI s.dn) s.lt = vP g s from rfl, w, if_neg (by decide)]
    refine Ret.c (c_tries hW hq hoW ok h3 hs) ?_
    intro z X ⟨c1, c2, c3, c4, c5, c6⟩
    dsimp only at c1 c2 c3 c4 c5 c6
    have k21 : X.1 0 21 = b1 s.sk := c6.trans hW.k
    have hoX := hoW.fc hP c2
    have hkX := hoX.2.1
    have h0X := hoX.2.2.1
    have okA := hq.act h.h.g h3 (v := vP g s)
    have fX : ∀ v, frM sPc lC V (uI X 0 21 v) := fun v => ⟨fun c j z => by rw [uI1, if_neg (by omega), c2.1 _ _ z, fW.1 _ _ z], fun c j z => by rw [uI2, c2.2.1 _ _ z, fW.2.1 _ _ z], by rw [uI2, c2.2.2, fW.2.2]⟩
    have hX : ∀ v, v = b1 (pAct g s o (vP g s)).sk → cPr P T (uI X 0 21 v) la pa g (pAct g s o (vP g s)) := fun v ev => ⟨h.h.fr (fX v) (fun c j z => by omega) okA.b (c3.fr (fun j => by rw [uI1, if_neg (by omega)]) (fun j => by rw [uI1, if_neg (by omega)]) (fun j => rfl)), by rw [uI1, if_neg (by omega)]; exact c4, by rw [uI1, if_neg (by omega)]; exact c5, by rw [uI1, if_pos ⟨rfl, rfl⟩]; exact ev⟩
    have hk1 : ∀ v, (uI X 0 21 v).1 hh 0 = nI o.1 := fun v => by
      rw [uI1, if_neg (by omega)]
      exact h0X
    by_cases w2 : whyO g s.b o (vP g s) = 0
    · rw [if_pos w2] at c1
      have esk : (pAct g s o (vP g s)).sk = s.sk := by rw [pAct_sk, if_pos w2]
      have edn : (pAct g s o (vP g s)).dn = s.dn + 1 := by rw [pAct_dn, if_pos w2]
      have eb : b1 s.sk ||| (0 : Int32) = b1 s.sk := by cases s.sk <;> decide
      rw [if_pos c1.1, k21, f_X0_runsYear_J108, rq hC.k0, eb, rq (b1_B _), sp, if_neg (by rw [Int32.not_lt]; exact c1.1), rq hkX, hk1]
      have hR2 := hR _ (fX (b1 s.sk)) (hX _ (by rw [esk]))
      rw [edn] at hR2
      have j132 : ∀ l U, f_X0_runsYear_J132 T U 0 x1 (nI s.dn) x4 hh (nI t) z l kc12 kx12 kc41 kx41 = kc41 (nI (s.dn + 1)) l (nI (t + 1)) U := fun l U => by
        rw [f_X0_runsYear_J132, if_pos c1.1, f_X0_runsYear_J144, show nI s.dn + (1 : Int32) = nI (s.dn + 1) from nI_add _ _, sp, j146]
      by_cases q : o.1 = 2
      · rw [q, if_pos (by decide), j132, c1.2 q]
        exact hR2
      · have el : (pAct g s o (vP g s)).lt = s.lt := pAct_lt (by omega)
        rw [if_neg (by rw [l2, nI_eq (by omega) (by omega)]; exact q), f_X0_runsYear_J131, j132, ← el]
        exact hR2
    · rw [if_neg w2] at c1
      have c1' : ¬ 0 ≤ z := by rw [Int32.not_le]; exact c1
      have esk : (pAct g s o (vP g s)).sk = true := by rw [pAct_sk, if_neg w2]
      have edn : (pAct g s o (vP g s)).dn = s.dn := by rw [pAct_dn, if_neg w2]
      have el : (pAct g s o (vP g s)).lt = s.lt := pAct_lt (fun z => w2 z.1)
      have eb : b1 s.sk ||| (1 : Int32) = b1 true := by cases s.sk <;> decide
      have e0 : nI s.dn + (0 : Int32) = nI s.dn := Int32.add_zero _
      rw [if_neg c1', k21, f_X0_runsYear_J108, rq hC.k0, eb, rq (b1_B _), sp, if_pos c1, f_X0_runsYear_J131, f_X0_runsYear_J132, if_neg c1', f_X0_runsYear_J144, e0, sp, j146]
      have hR2 := hR _ (fX (b1 true)) (hX _ (by rw [esk]))
      rw [edn, el] at hR2
      exact hR2
  · have w' : nowO o (vP g s) = false := by cases hn : nowO o (vP g s) <;> simp_all
    have ep : pOnce g s o = s := by rw [pOnce, if_neg w]
    rw [ep] at hR
    rw [show vO g s.b (nI s.dn) s.lt = vP g s from rfl, w', if_pos (by decide), j146]
    exact hR W fW hW
theorem c_ordL {P : Nat → Prop} {T : Tt} {V : Vt} {la pa : Nat} {g : Cfg} {s : Pp} {d e : Nat} (h : cPr P T V la pa g s) (hq : okQ g s d e) (hd : d ≤ 1000) {hh : Nat} {o : Od} (ho : isOd P T V hh o) (ok : okO o) {x1 : Nat} {x4 : Int32} {kc12 : Int32 → Int32 → Int32 → Vt → Option (Vt)} {kx12 : Vt → Option (Vt)} {kx41 : Int32 → Int32 → Vt → Option (Vt)} {R : Vt → Prop}
    (hR : ∀ W, frM sPc lC V W → cPr P T W la pa g (pOd g s o) → Ret (kx41 (nI (pOd g s o).dn) (pOd g s o).lt W) R) :
    Ret (f_X0_runsYear_L41 T 0 x1 x4 hh kc12 kx12 kx41 fuel (nI s.dn) s.lt (nI 0) V) R := by
  have hP := h.h.P.1
  have o4 := ok.1
  have h20 := ok.2.2.2.2.1
  have h01 := ok.2.2.2.1
  rw [pOd] at hR
  by_cases q3 : o.1 = 3
  · rw [if_pos q3] at hR
    have f1 : ¬ (V.1 hh 2 ≤ (nI 0 : Int32)) := by
      rw [ho.2.2.2.1]
      exact (nI_ge (by omega) (by omega))
    show Ret (f_X0_runsYear_L41 T 0 x1 x4 hh kc12 kx12 kx41 (99999 + 1) (nI s.dn) s.lt (nI 0) V) R
    rw [f_X0_runsYear_L41, rq ho.2.1, if_neg f1, ho.2.2.1, q3, if_pos (by decide)]
    exact hR V frM.rfl' h
  · rw [if_neg q3] at hR
    refine lq4 (f_X0_runsYear_L41 T 0 x1 x4 hh kc12 kx12 kx41) (fun i a b c W => a = nI (pIt g o s i).dn ∧ b = (pIt g o s i).lt ∧ c = nI i ∧ frM sPc lC V W ∧ cPr P T W la pa g (pIt g o s i)) o.2.2.1 ?_ ?_ fuel _ _ _ _ (Nat.lt_of_le_of_lt h20 (by decide)) ⟨rfl, rfl, rfl, frM.rfl', h⟩
    · intro i N a b c W hi ⟨q1, q2, q4, q5, q6⟩ ih
      subst q1 q2 q4
      have hoW := ho.fc hP q5
      have f1 : ¬ (W.1 hh 2 ≤ nI i) := by
        rw [hoW.2.2.2.1]
        exact (nI_ge (by omega) (by omega))
      have f2 : ¬ (nI o.1 = (3 : Int32)) := by
        rw [l3, nI_eq (by omega) (by omega)]
        exact q3
      rw [f_X0_runsYear_L41, rq hoW.2.1, if_neg f1, hoW.2.2.1, if_neg f2]
      refine c_once q6 (hq.it h.h.g (by omega) i) (by omega) hoW ok (by omega) fun X fX hX => ?_
      exact ih _ _ _ _ ⟨rfl, rfl, rfl, q5.t fX, hX⟩
    · intro N a b c W ⟨q1, q2, q4, q5, q6⟩
      subst q1 q2 q4
      have hoW := ho.fc hP q5
      have f1 : W.1 hh 2 ≤ nI o.2.2.1 := by
        rw [hoW.2.2.2.1]
        exact (nI_le (Nat.le_refl _) (by omega))
      rw [f_X0_runsYear_L41, rq hoW.2.1, if_pos f1]
      exact hR W q5 q6
theorem c_yearL {P : Nat → Prop} {T : Tt} {V : Vt} {la pa : Nat} {g : Cfg} {s : Pp} {e : Nat} (h : cPr P T V la pa g s) (hq : okQ g s 0 e) {hh : Nat} {p : Pl} (hp : isPl P T V hh p) (ok : okP p) {kx : Vt → Option (Vt)} {R : Vt → Prop}
    (hR : ∀ W, frM sPc lC V W → cPr P T W la pa g (pYrI g p s p.1) → Ret (kx W) R) :
    Ret (f_X0_runsYear_L12 T 0 hh kx fuel (nI s.dn) s.lt (nI 0) V) R := by
  have hP := h.h.P.1
  have h12 := ok.1
  refine lq4 (f_X0_runsYear_L12 T 0 hh kx) (fun i a b c W => a = nI (pYrI g p s i).dn ∧ b = (pYrI g p s i).lt ∧ c = nI i ∧ frM sPc lC V W ∧ cPr P T W la pa g (pYrI g p s i)) p.1 ?_ ?_ fuel _ _ _ _ (Nat.lt_of_le_of_lt h12 (by decide)) ⟨rfl, rfl, rfl, frM.rfl', h⟩
  · intro i N a b c W hi ⟨q1, q2, q4, q5, q6⟩ ih
    subst q1 q2 q4
    obtain ⟨-, k, ls, ar, cc, el, e1, -, -, hls, ho⟩ := hp.fc hP q5
    have hoi := ho i hi
    rw [f_X0_runsYear_L12, rq k, dr e1, pc (c_size hls), if_neg (nI_ge hi (by omega)), dr e1, pc (c_get hls hi), rq hoi.2.1, l0]
    refine c_ordL q6 (hq.yrI h.h.g ok i (by omega)) (by omega) hoi (ok.2 i hi) fun X fX hX => ?_
    rw [f_X0_runsYear_J152, l1, nI_add, sp]
    exact ih _ _ _ _ ⟨rfl, rfl, rfl, q5.t fX, hX⟩
  · intro N a b c W ⟨q1, q2, q4, q5, q6⟩
    subst q1 q2 q4
    obtain ⟨-, k, ls, ar, cc, el, e1, -, -, hls, ho⟩ := hp.fc hP q5
    rw [f_X0_runsYear_L12, rq k, dr e1, pc (c_size hls), if_pos (nI_le (Nat.le_refl _) (by omega))]
    exact hR W q5 q6
abbrev cPs (P : Nat → Prop) (T : Tt) (V : Vt) (la pa : Nat) (g : Cfg) (s : Pp) : Prop := (cPp P T V la pa g 19 20 s.b) ∧ (V.1 0 19 = s.yl) ∧ (V.1 0 20 = nI (s.lm.getD 1000000))
theorem cPs.h {P : Nat → Prop} {T : Tt} {V : Vt} {la pa : Nat} {g : Cfg} {s : Pp} (h__ : cPs P T V la pa g s) : cPp P T V la pa g 19 20 s.b := h__.1
theorem cPs.y {P : Nat → Prop} {T : Tt} {V : Vt} {la pa : Nat} {g : Cfg} {s : Pp} (h__ : cPs P T V la pa g s) : V.1 0 19 = s.yl := h__.2.1
theorem cPs.m {P : Nat → Prop} {T : Tt} {V : Vt} {la pa : Nat} {g : Cfg} {s : Pp} (h__ : cPs P T V la pa g s) : V.1 0 20 = nI (s.lm.getD 1000000) := h__.2.2
theorem cPr.s {P : Nat → Prop} {T : Tt} {V : Vt} {la pa : Nat} {g : Cfg} {s : Pp} (h : cPr P T V la pa g s) : cPs P T V la pa g s := ⟨h.h, h.y, h.m⟩
theorem c_year {P : Nat → Prop} {T : Tt} {V : Vt} {la pa : Nat} {g : Cfg} {s : Pp} {d e : Nat} (h : cPs P T V la pa g s) (hq : okQ g s d e) (he : e < 5000) {hh : Nat} {p : Pl} (hp : isPl P T V hh p) (ok : okP p) :
    Ret (f_X0_runsYear T V 0 hh) fun W => frM sPc lC V W ∧ cPr P T W la pa g (pYear g p s) := by
  have hC := h.h.C
  have hP := h.h.P.1
  have f0 : frM sPc lC V (uI V 0 21 (0 : Int32)) := ⟨fun c j z => by rw [uI1, if_neg (by omega)], fun _ _ _ => rfl, rfl⟩
  have h1 : cPr P T (uI V 0 21 (0 : Int32)) la pa g (pNew s) := ⟨h.h.fr f0 (fun c j z => by omega) h.h.b (h.h.ct.fr (fun j => by rw [uI1, if_neg (by omega)]) (fun j => by rw [uI1, if_neg (by omega)]) (fun j => rfl)), by rw [uI1, if_neg (by omega)]; exact h.y, by rw [uI1, if_neg (by omega)]; exact h.m, by rw [uI1, if_pos ⟨rfl, rfl⟩]; rfl⟩
  rw [f_X0_runsYear, rq hC.k0, sp]
  refine c_yearL h1 hq.new (hp.fc hP f0) ok fun W f hW => ?_
  have okW := hq.new.yrI h.h.g ok p.1 (Nat.le_refl _)
  have h12 := ok.1
  have hy := okW.y
  rw [dr hW.h.U.r0_9]
  refine Ret.c (c_ends hW.h.C hW.h.U hW.h.P hW.h.g hW.h.cf (t := 19) (d := 20) (by omega) hW.h.b hW.h.ct) ?_
  intro z X ⟨_, fX, ct⟩
  dsimp only at fX ct
  have fX' : frM sPc lC W X := fX.mono (fun c j z => by omega) (fun _ _ z => z)
  refine Ret.ok ⟨(f0.t f).t fX', ⟨hW.h.fr fX' (fun c j z => by omega) (ok_end okW.b (by omega)) ct, (fX.1 _ _ (by omega)).trans hW.y, (fX.1 _ _ (by omega)).trans hW.m, (fX.1 _ _ (by omega)).trans hW.k⟩⟩
