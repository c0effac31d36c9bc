/-! 96: what was on paper is put back; harvests of the model -/
set_option maxRecDepth 100000
theorem MR.put {W X : Vt} {a : St} {t t' : Tab} (h : MR W (a.wt t')) (og : okG a.g) (f : frI (fun h j => h = 96 ∧ 5 ≤ j ∧ j < 170) W X) (sn : ∀ i, i < 165 → X.1 96 (5 + i) = snap a.g t i) : MR X (a.wt t) := by
  obtain ⟨tb, t1, t2, t3⟩ := snap_tb sn
  have e := f.1
  have mfV : mCf W a.g := h.mf
  have mf : mCf X a.g := by
    have hmid : mCf (uI (uI (uI X 96 6 (W.1 96 6)) 96 7 (W.1 96 7)) 96 8 (W.1 96 8)) a.g := mfV.fr og fun j w1 w2 w3 => by
      simp only [uI1]
      by_cases c8 : j = 8
      · rw [if_pos ⟨trivial, c8⟩, c8]
      · rw [if_neg (by omega)]
        by_cases c7 : j = 7
        · rw [if_pos ⟨trivial, c7⟩, c7]
        · rw [if_neg (by omega)]
          by_cases c6 : j = 6
          · rw [if_pos ⟨trivial, c6⟩, c6]
          · rw [if_neg (by omega)]
            exact e _ _ (by omega)
    rw [uI_id (V := X) (t1.trans mfV.co.symm), uI_id (V := X) (t2.trans mfV.mo.symm), uI_id (V := X) (t3.trans mfV.pa.symm)] at hmid
    exact hmid
  exact h.up (b := a.wt t) (by rw [f.2]) (fun c j q => e _ _ (by omega)) (fun c j q => by rw [f.2]) rfl mf tb (h.mu.fr (fun c j q => e _ _ (by omega))) ((e _ _ (by omega)).trans h.st) (fun i hi => (e _ _ (by omega)).trans (h.rf i hi)) ((e _ _ (by omega)).trans h.od) ((e _ _ (by omega)).trans h.tn) (fun i hi => (e _ _ (by omega)).trans (h.tp i hi)) ((e _ _ (by omega)).trans h.fa) ((e _ _ (by omega)).trans h.le) ((e _ _ (by omega)).trans h.so) ((e _ _ (by omega)).trans h.dm) (fun i hi q => (e _ _ (by omega)).trans (h.dd i hi q))
theorem MR.wdm {V W : Vt} {a : St} (h : MR V a) (og : okG a.g) {m : Nat} {d : Nat → Nat} (e : ∀ c j, ¬ (c = 119 ∨ (c = 94 ∧ j = 54)) → W.1 c j = V.1 c j) (el : W.2 = V.2) (e54 : W.1 94 54 = nI m) (hd : ∀ i, i < 160 → W.1 119 i = nI (d i)) : MR W (a.wdm (some m) d) :=
  h.up (b := a.wdm (some m) d) (by rw [el]) (fun c j q => e _ _ (by omega)) (fun c j q => by rw [el]) rfl (h.mf.fr og (fun j _ _ _ => e _ _ (by omega))) (h.mt.fr (fun j => e _ _ (by omega))) (h.mu.fr (fun c j q => e _ _ (by omega))) ((e _ _ (by omega)).trans h.st) (fun i hi => (e _ _ (by omega)).trans (h.rf i hi)) ((e _ _ (by omega)).trans h.od) ((e _ _ (by omega)).trans h.tn) (fun i hi => (e _ _ (by omega)).trans (h.tp i hi)) ((e _ _ (by omega)).trans h.fa) ((e _ _ (by omega)).trans h.le) ((e _ _ (by omega)).trans h.so) e54 (fun i hi _ => hd i hi)
theorem m_harvests {T : Tt} {V : Vt} (hT : MT T) {a : St} (h : MR V a) (ok : OK a) {s n : Int32} : mOp (f_X5_harvests T V 94 s n) V (rHarv a s n) (oHarv a s n) := by
  have h := h.s0 ok.g (j := 0) (v := 0) (by omega)
  rw [f_X5_harvests, rq hT.1, sp]
  refine mOp.fr (W := uI V 94 0 0) (mF_uI (by omega)) ?_
  generalize uI V 94 0 0 = V at h ⊢
  have g8 := ok.g.n
  rw [pc m_inI, rHarv, oHarv, show (0 : Int64).toInt = 0 from rfl, show (1000000 : Int64).toInt = 1000000 from rfl]
  simp only [b1_0, f_X5_harvests_J29, cal_id]
  cases hs : iN s 0 1000000 with
  | false => exact m_tellNo (w := 1) hT h ok.g (by omega) (by omega)
  | true =>
    rw [if_neg (by decide), pc m_inI, Bool.true_and, show (1 : Int64).toInt = 1 from rfl, show (60 : Int64).toInt = 60 from rfl]
    simp only [b1_0]
    cases hm : iN n 1 60 with
    | false => exact m_tellNo (w := 1) hT h ok.g (by omega) (by omega)
    | true =>
      obtain ⟨s', rfl, s1, s2, s3⟩ := iN_of hs (by omega)
      obtain ⟨n', rfl, n1, n2, n3⟩ := iN_of hm (by omega)
      have hz : V.1 96 (ixN (0 : Int32)) = nI a.g.n := h.mf.n
      rw [if_neg (by decide), if_pos rfl, if_pos rfl, dr (rf3 h.hV), show req (aIn T 96 0 (0 : Int32)) = req (aIn T 96 0 (nI 0)) from rfl, rq96 hT (by omega), hz, ix_nI s3, ix_nI n3]
      by_cases q : a.g.n = 0
      · rw [if_pos (by rw [q]; rfl), if_pos q, if_pos q]
        exact m_tellNo (w := 3) hT h ok.g (by omega) (by omega)
      · rw [if_neg (nI_ne0 (by omega) (by omega)), if_neg q, if_neg q]
        refine Ret.p (m_keepAll (k := 16) hT h.hV (by omega)) ?_
        intro W ⟨f, ks⟩
        have hW : MR W a := by
          have e := f.1
          have og := ok.g
          exact h.up (by rw [f.2]) (fun c j w => e _ _ (by omega)) (fun c j w => by rw [f.2]) rfl (h.mf.fr og (fun j _ _ _ => e _ _ (by omega))) (h.mt.fr (fun j => e _ _ (by omega))) (h.mu.fr (fun c j q => e _ _ (by omega))) ((e _ _ (by omega)).trans h.st) (fun i hi => (e _ _ (by omega)).trans (h.rf i hi)) ((e _ _ (by omega)).trans h.od) ((e _ _ (by omega)).trans h.tn) (fun i hi => (e _ _ (by omega)).trans (h.tp i hi)) ((e _ _ (by omega)).trans h.fa) ((e _ _ (by omega)).trans h.le) ((e _ _ (by omega)).trans h.so) ((e _ _ (by omega)).trans h.dm) (fun i hi q => (e _ _ (by omega)).trans (h.dd i hi q))
        have sn : ∀ i, i < 165 → W.1 99 (2640 + i) = snap a.g a.t i := fun i hi => (ks i hi).trans (snap_row h.mf h.mt hi)
        have fW : mFr V W := ⟨fun c j w => f.1 _ _ (by omega), fun c j w => by rw [f.2], by rw [f.2]⟩
        refine mOp.fr fW ?_
        rw [sp, sp, sp, nI_l (by omega)]
        have h1 := ((hW.l52 (v := lN s')).s0 ok.g (j := 42) (v := 0) (by omega)).s0 ok.g (j := 43) (v := 100000000) (by omega)
        have e52 : (uI (uI (uL W 94 52 (lN s')) 94 42 0) 94 43 100000000).2.1 94 52 = lN s' := by rw [uI2, uI2, uL2, if_pos ⟨rfl, rfl⟩]
        have e42 : (uI (uI (uL W 94 52 (lN s')) 94 42 0) 94 43 100000000).1 94 42 = nI 0 := by rw [uI1, if_neg (by omega), uI1, if_pos ⟨rfl, rfl⟩]; rfl
        have e99 : ∀ j, (uI (uI (uL W 94 52 (lN s')) 94 42 0) 94 43 100000000).1 99 j = W.1 99 j := fun j => by rw [uI1, if_neg (by omega), uI1, if_neg (by omega), uL1]
        have fX : mFr W (uI (uI (uL W 94 52 (lN s')) 94 42 0) 94 43 100000000) := ⟨fun c j w => by rw [uI1, if_neg (by omega), uI1, if_neg (by omega), uL1], fun c j w => by rw [uI2, uI2, uL2, if_neg (by omega)], rfl⟩
        generalize uI (uI (uL W 94 52 (lN s')) 94 42 0) 94 43 100000000 = X at h1 e52 e42 e99 fX ⊢
        refine mOp.fr fX (m_harv_L hT ok (s := s') (by omega) (by omega) (by omega) h1 e52 e42 fun Y h2 y42 yf yF => ?_)
        have o := hvN_ok ok.g ok.t ok.y (s := s') (by omega) (by omega) n'
        generalize hvN a.g a.t s' n' = r at h2 y42 o ⊢
        refine mOp.fr yF ?_
        rw [f_X5_harvests_J158]
        refine m_harv160 hT h2.hV h2.mt.D fun Z fz dz => ?_
        have hZ0 : Z.1 96 (ixN (0 : Int32)) = nI a.g.n := (fz.1 _ _ (by omega)).trans h2.mf.n
        have hVZ : MV Z := h2.hV.eq fz.2
        rw [dr (rf3 hVZ), show req (aIn T 96 0 (0 : Int32)) = req (aIn T 96 0 (nI 0)) from rfl, rq96 hT (by omega), hZ0, sp]
        have h3 : MR (uI Z 94 54 (nI a.g.n)) ((a.wt r.1).wdm (some a.g.n) r.1.D) := h2.wdm ok.g (fun c j w => by rw [uI1, if_neg (by omega), fz.1 _ _ (by omega)]) (by rw [uI2, fz.2]) (by rw [uI1, if_pos ⟨rfl, rfl⟩]) (fun i hi => by rw [uI1, if_neg (by omega)]; exact dz i hi)
        have z42 : (uI Z 94 54 (nI a.g.n)).1 94 42 = nI r.2.2 := by rw [uI1, if_neg (by omega), fz.1 _ _ (by omega)]; exact y42
        have z99 : ∀ i, i < 165 → (uI Z 94 54 (nI a.g.n)).1 99 (2640 + i) = snap a.g a.t i := fun i hi => by rw [uI1, if_neg (by omega), fz.1 _ _ (by omega), yf _ _ (by omega), e99]; exact sn i hi
        have fZ : mFr Y (uI Z 94 54 (nI a.g.n)) := ⟨fun c j w => by rw [uI1, if_neg (by omega), fz.1 _ _ (by omega)], fun c j w => by rw [uI2, fz.2], by rw [uI2, fz.2]⟩
        generalize uI Z 94 54 (nI a.g.n) = Q at h3 z42 z99 fZ ⊢
        refine mOp.fr fZ (Ret.p (m_putBack (k := 16) hT h3.hV (by omega)) ?_)
        intro P ⟨fp, kp⟩
        have h4 : MR P (a.wdm (some a.g.n) r.1.D) := MR.put (a := a.wdm (some a.g.n) r.1.D) (t := a.t) (t' := r.1) h3 ok.g fp (fun i hi => (kp i hi).trans (z99 i hi))
        have p42 : P.1 94 42 = nI r.2.2 := (fp.1 _ _ (by omega)).trans z42
        rw [p42, cal_id]
        exact (m_tell hT h4 ok.g (nI_0le (by omega))).fr ⟨fun c j w => fp.1 _ _ (by omega), fun c j w => by rw [fp.2], by rw [fp.2]⟩
