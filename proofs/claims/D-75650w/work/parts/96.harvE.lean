/-! 96: harvests of the model -/
set_option maxRecDepth 100000
theorem OK.wt {a : St} (ok : OK a) {t : Tab} (h : okB a.g t) (hy : t.y ≤ 999) : OK (a.wt t) := OK.mk ⟨ok.g, h, hy, ok.u, ok.ul, ok.im, ok.tn, ok.tp, ok.dm⟩
theorem MR.l52 {V : Vt} {a : St} (h : MR V a) {v : Int64} : MR (uL V 94 52 v) a :=
  h.up rfl (fun _ _ _ => rfl) (fun c j q => by rw [uL2, if_neg (by omega)]) rfl h.mf h.mt h.mu h.st h.rf h.od h.tn h.tp h.fa h.le h.so h.dm h.dd
theorem MR.pp {T : Tt} {V : Vt} (hT : MT T) {a : St} {b : Tab} (h : MR V (a.wt b)) (og : okG a.g) (hb : okB a.g b) : mPp T V a.g b := ⟨hT, h.hV, og, h.mf, hb, h.mt, by rw [h.od]; exact Or.inl rfl⟩
theorem MR.pa {V W : Vt} {a : St} {b b' : Tab} (h : MR V (a.wt b)) (og : okG a.g) (f : frM sPm lF V W) (mt : mTb W b') : MR W (a.wt b') := by
  have e := f.1
  exact h.up (b := a.wt b') f.2.2 (fun c j q => e _ _ (by omega)) (fun c j q => f.2.1 _ _ (by omega)) rfl (h.mf.fr og fun j h1 h2 h3 => e _ _ (by omega)) mt (h.mu.fr (fun c j q => e _ _ (by omega))) ((e _ _ (by omega)).trans h.st) (fun i hi => (e _ _ (by omega)).trans (h.rf i hi)) ((e _ _ (by omega)).trans h.od) ((e _ _ (by omega)).trans h.tn) (fun i hi => (e _ _ (by omega)).trans (h.tp i hi)) ((e _ _ (by omega)).trans h.fa) ((e _ _ (by omega)).trans h.le) ((e _ _ (by omega)).trans h.so) ((e _ _ (by omega)).trans h.dm) (fun i hi q => (e _ _ (by omega)).trans (h.dd i hi q))
abbrev sYr (h j : Nat) : Prop := sPm h j
theorem m_harv1 {T : Tt} {V : Vt} (hT : MT T) {a : St} (og : okG a.g) {b : Tab} (hb : okB a.g b) (h : MR V (a.wt b)) {s : Nat} (h52 : V.2.1 94 52 = lN s) (hs : s ≤ 1000003) (h0 : 0 < a.g.n) {kk : Vt → Option (Int32 × Vt)} {R : Int32 × Vt → Prop}
    (hR : ∀ W, MR W (a.wt (tEnd a.g (hvS a.g b s).1)) → W.2.1 94 52 = lN (dw (dw (dw (dw s)))) → W.1 94 42 = V.1 94 42 + nI (hvS a.g b s).2 → (∀ c j, ¬ sPm c j → W.1 c j = V.1 c j) → mFr V W → Ret (kk W) R) :
    Ret (drf (V.2.2 94 3) (fun r24 => req (aIn T r24 0 (0 : Int32)) (cal (f_X5_draw T V 94 (V.1 r24 (ixN (0 : Int32)))) (fun z27 U28 => drf (U28.2.2 94 3) (fun r29 => req (aIn T r29 0 (0 : Int32)) (cal (f_X5_draw T U28 94 (U28.1 r29 (ixN (0 : Int32)))) (fun z32 U33 => cal (f_X5_draw T U33 94 (9 : Int32)) (fun z35 U36 => stp (z35 + (1 : Int32)) (fun z37 => cal (f_X5_draw T U36 94 (4 : Int32)) (fun z39 U40 => pcl (f_X5_drawnAct T U40 94 z39 z27 z32 z37) (fun U43 => cal (f_X5_passIt T U43 94) (fun _ U46 => kk U46)))))))))))) R := by
  have g8 := og.n
  have e52 : ∀ (W : Vt) v, (uL W 94 52 v).2.1 94 52 = v := fun W v => by rw [uL2, if_pos ⟨rfl, rfl⟩]
  have hz : ∀ {W : Vt}, MR W (a.wt b) → W.1 96 (ixN (0 : Int32)) = nI a.g.n := fun q => q.mf.n
  have r0 : ∀ {β : Type} {k : Option β}, req (aIn T 96 0 (0 : Int32)) k = k := fun {β k} => rq96 (n := 0) hT (by omega)
  rw [hvS] at hR
  have d1 := dw_lt s
  have D1 := m_draw (n := a.g.n) hT h52 hs h0 (by omega)
  generalize dw s = s1 at d1 D1 hR
  have d2 := dw_lt s1
  have D2 : ∀ W : Vt, W.2.1 94 52 = lN s1 → f_X5_draw T W 94 (nI a.g.n) = some (nI (dw s1 % a.g.n), uL W 94 52 (lN (dw s1))) := fun W q => m_draw hT q (by omega) h0 (by omega)
  generalize dw s1 = s2 at d2 D2 hR
  have d3 := dw_lt s2
  have D3 : ∀ W : Vt, W.2.1 94 52 = lN s2 → f_X5_draw T W 94 (nI 9) = some (nI (dw s2 % 9), uL W 94 52 (lN (dw s2))) := fun W q => m_draw hT q (by omega) (by omega) (by omega)
  generalize dw s2 = s3 at d3 D3 hR
  have D4 : ∀ W : Vt, W.2.1 94 52 = lN s3 → f_X5_draw T W 94 (nI 4) = some (nI (dw s3 % 4), uL W 94 52 (lN (dw s3))) := fun W q => m_draw hT q (by omega) (by omega) (by omega)
  generalize dw s3 = s4 at D4 hR
  have hh : ∀ (W : Vt) v, frM nF (fun c j => c = 94 ∧ j = 52) V W → frM nF (fun c j => c = 94 ∧ j = 52) V (uL W 94 52 v) := fun W v f => ⟨f.1, fun c j q => by rw [uL2, if_neg q]; exact f.2.1 c j q, f.2.2⟩
  rw [dr (rf3 h.hV), r0, hz h, cl D1]
  have h1 := h.l52 (v := lN s1)
  have f1 := hh V (lN s1) frM.rfl'
  have e1 := e52 V (lN s1)
  generalize uL V 94 52 (lN s1) = V1 at h1 f1 e1 ⊢
  rw [dr (rf3 h1.hV), r0, hz h1, cl (D2 V1 e1)]
  have h2 := h1.l52 (v := lN s2)
  have f2 := hh V1 (lN s2) f1
  have e2 := e52 V1 (lN s2)
  generalize uL V1 94 52 (lN s2) = V2 at h2 f2 e2 ⊢
  rw [show (9 : Int32) = nI 9 from rfl, cl (D3 V2 e2)]
  have h3 := h2.l52 (v := lN s3)
  have f3 := hh V2 (lN s3) f2
  have e3 := e52 V2 (lN s3)
  generalize uL V2 94 52 (lN s3) = V3 at h3 f3 e3 ⊢
  rw [sp, show nI (s3 % 9) + (1 : Int32) = nI (s3 % 9 + 1) from nI_add _ _, show (4 : Int32) = nI 4 from rfl, cl (D4 V3 e3)]
  have h4 := h3.l52 (v := lN s4)
  have f4 := hh V3 (lN s4) f3
  have e4 := e52 V3 (lN s4)
  generalize uL V3 94 52 (lN s4) = W at h4 f4 e4 ⊢
  have c1 : s1 % a.g.n < a.g.n := Nat.mod_lt _ h0
  have c2 : s2 % a.g.n < a.g.n := Nat.mod_lt _ h0
  have okh := hvT_ok og hb (how := s4 % 4) c1 c2 (show s3 % 9 + 1 ≤ 9 by omega)
  refine Ret.p (m_drawnAct (h4.pp hT og hb) (how := s4 % 4) (by omega) c1 c2 (by omega)) ?_
  intro X ⟨mt, fX, y42⟩
  have h5 := h4.pa og fX mt
  generalize hvT a.g b (s4 % 4) (s1 % a.g.n) (s2 % a.g.n) (s3 % 9 + 1) = r at hR okh mt y42 h5
  refine Ret.c (m_passIt hT h5.hV og h5.mf okh.1 h5.mt (by rw [h5.od]; exact Or.inl rfl)) ?_
  intro z Y ⟨_, fY, mY⟩
  dsimp only at fY mY
  have fY' : frM sPm lF X Y := fY.mono (fun c j q => by omega) (fun _ _ q => q)
  have fr : ∀ c j, ¬ sPm c j → Y.1 c j = V.1 c j := fun c j q => by rw [fY'.1 _ _ q, fX.1 _ _ q, f4.1 _ _ id]
  refine hR Y (h5.pa og fY' mY) ?_ ?_ fr ⟨fun c j q => fr _ _ (by omega), fun c j q => by rw [fY'.2.1 _ _ (by omega), fX.2.1 _ _ (by omega), f4.2.1 _ _ (by omega)], by rw [fY'.2.2, fX.2.2, f4.2.2]⟩
  · rw [fY'.2.1 _ _ (by omega), fX.2.1 _ _ (by omega)]
    exact e4
  · rw [fY.1 _ _ (by omega), y42, f4.1 _ _ id]
