/-! 98: a state takes over another's, whole -/
set_option maxRecDepth 100000
theorem isSh.lt' {T : Tt} {V : Vt} {cl : Nat → Nat} {b : Nat} {x : SH} (h : isSh T V cl b x) {c : Nat} (q : oS x c) : c < T.2.2 := by
  rcases q with q | q | q | q | q | q | q | q | q | q <;> subst q
  · exact h.s.2.1
  · exact h.t.2
  · exact h.d.2
  · exact h.ti.2.1
  · exact h.sz.2.1
  · exact h.ta.2.1
  · exact h.ll.2
  · exact h.la.2.1
  · exact h.pl.2
  · exact h.pa.2.1
theorem isLaw_o {B : Nat → Prop} {T : Tt} {V : Vt} {h : Nat} {l : Lw} (q : isLaw B T V h l) : isO T h := by
  unfold isO
  rw [q.2.1]
  omega
theorem isPl_o {B : Nat → Prop} {T : Tt} {V : Vt} {h : Nat} {l : Pl} (q : isPl B T V h l) : isO T h := by
  unfold isO
  rw [q.2.1]
  omega
theorem rng_no {a b b' : Nat} (h : b + 10 ≤ b' ∨ b' + 10 ≤ b) (h1 : b ≤ a ∧ a < b + 10) (h2 : b' ≤ a ∧ a < b' + 10) : False := by omega
theorem rng_0 {a b : Nat} (h : 1 ≤ b) (h1 : b ≤ a ∧ a < b + 10) (h2 : a = 0) : False := by omega
theorem ne_ge {a b n : Nat} (h : n ≤ a) (g : b < n) : a ≠ b := by omega
theorem le4 {a b : Nat} (h : a ≤ 2) (g : b ≤ 2) : 0 + a + b ≤ 4 := by omega
theorem le30 {a b n m : Nat} (h : a ≤ 3 * n) (g : b ≤ 3 * m) (hn : n ≤ 4) (hm : m ≤ 6) : 0 + a + b ≤ 30 := by omega
set_option maxHeartbeats 2000000 in
theorem c_takesS {P : Nat → Prop} {T : Tt} {V : Vt} {cl : Nat → Nat} {b b' s t d ti sz ta ll la pl pa : Nat} {xs : SH} {g : Cfg} {tb : Tab} (hd : isSh T V cl b ⟨s, t, d, ti, sz, ta, ll, la, pl, pa⟩) (hs : isSh T V cl b' xs) (hb : b + 10 ≤ b' ∨ b' + 10 ≤ b) (h1 : 1 ≤ b) (h1' : 1 ≤ b') (hP : ∀ h, P h → cl h = 0 ∧ h < T.2.2) (kt : isTb T V t d) (ld : ∃ c n el, isLs T V ll la c n el) (pd : ∃ c n el, isLs T V pl pa c n el) (cs : cCf P T V xs g) (ct : cTb T V xs.t xs.d tb) (hg : okG g) :
    Ret (f_X1_takes T V s xs.s) fun q => ∃ la' pa', cCf P q.1.2 q.1.1 ⟨s, t, d, ti, sz, ta, ll, la', pl, pa'⟩ g ∧ cTb q.1.2 q.1.1 t d tb ∧ exT T q.1.2 ∧ (la' = la ∨ (T.2.2 ≤ la' ∧ la' < q.1.2.2.2)) ∧ (pa' = pa ∨ (T.2.2 ≤ pa' ∧ pa' < q.1.2.2.2)) ∧ la' ≠ pa' ∧ 1 ≤ q.1.2.2.1 la' ∧ 1 ≤ q.1.2.2.1 pa' ∧ frO (oS ⟨s, t, d, ti, sz, ta, ll, la, pl, pa⟩) T.2.2 V q.1.1 ∧ (∀ j, q.1.1.2.2 s j = V.2.2 s j) ∧ q.2.1 ≤ 4 ∧ q.2.2 ≤ 30 := by
  have nb : ∀ i j : Nat, i ≠ j → b + i ≠ b + j := fun i j h e => h (Nat.add_left_cancel e)
  have n_s_t : s ≠ t := cl_ne (cl := cl) hd.s.1 hd.t.1 (nb 0 1 (by decide))
  have n_s_d : s ≠ d := cl_ne (cl := cl) hd.s.1 hd.d.1 (nb 0 2 (by decide))
  have n_s_ti : s ≠ ti := cl_ne (cl := cl) hd.s.1 hd.ti.1 (nb 0 3 (by decide))
  have n_s_sz : s ≠ sz := cl_ne (cl := cl) hd.s.1 hd.sz.1 (nb 0 4 (by decide))
  have n_s_ta : s ≠ ta := cl_ne (cl := cl) hd.s.1 hd.ta.1 (nb 0 5 (by decide))
  have n_s_ll : s ≠ ll := cl_ne (cl := cl) hd.s.1 hd.ll.1 (nb 0 6 (by decide))
  have n_s_la : s ≠ la := cl_ne (cl := cl) hd.s.1 hd.la.1 (nb 0 7 (by decide))
  have n_s_pl : s ≠ pl := cl_ne (cl := cl) hd.s.1 hd.pl.1 (nb 0 8 (by decide))
  have n_s_pa : s ≠ pa := cl_ne (cl := cl) hd.s.1 hd.pa.1 (nb 0 9 (by decide))
  have n_t_d : t ≠ d := cl_ne (cl := cl) hd.t.1 hd.d.1 (nb 1 2 (by decide))
  have n_t_ti : t ≠ ti := cl_ne (cl := cl) hd.t.1 hd.ti.1 (nb 1 3 (by decide))
  have n_t_sz : t ≠ sz := cl_ne (cl := cl) hd.t.1 hd.sz.1 (nb 1 4 (by decide))
  have n_t_ta : t ≠ ta := cl_ne (cl := cl) hd.t.1 hd.ta.1 (nb 1 5 (by decide))
  have n_t_ll : t ≠ ll := cl_ne (cl := cl) hd.t.1 hd.ll.1 (nb 1 6 (by decide))
  have n_t_la : t ≠ la := cl_ne (cl := cl) hd.t.1 hd.la.1 (nb 1 7 (by decide))
  have n_t_pl : t ≠ pl := cl_ne (cl := cl) hd.t.1 hd.pl.1 (nb 1 8 (by decide))
  have n_t_pa : t ≠ pa := cl_ne (cl := cl) hd.t.1 hd.pa.1 (nb 1 9 (by decide))
  have n_d_ti : d ≠ ti := cl_ne (cl := cl) hd.d.1 hd.ti.1 (nb 2 3 (by decide))
  have n_d_sz : d ≠ sz := cl_ne (cl := cl) hd.d.1 hd.sz.1 (nb 2 4 (by decide))
  have n_d_ta : d ≠ ta := cl_ne (cl := cl) hd.d.1 hd.ta.1 (nb 2 5 (by decide))
  have n_d_ll : d ≠ ll := cl_ne (cl := cl) hd.d.1 hd.ll.1 (nb 2 6 (by decide))
  have n_d_la : d ≠ la := cl_ne (cl := cl) hd.d.1 hd.la.1 (nb 2 7 (by decide))
  have n_d_pl : d ≠ pl := cl_ne (cl := cl) hd.d.1 hd.pl.1 (nb 2 8 (by decide))
  have n_d_pa : d ≠ pa := cl_ne (cl := cl) hd.d.1 hd.pa.1 (nb 2 9 (by decide))
  have n_ti_sz : ti ≠ sz := cl_ne (cl := cl) hd.ti.1 hd.sz.1 (nb 3 4 (by decide))
  have n_ti_ta : ti ≠ ta := cl_ne (cl := cl) hd.ti.1 hd.ta.1 (nb 3 5 (by decide))
  have n_ti_ll : ti ≠ ll := cl_ne (cl := cl) hd.ti.1 hd.ll.1 (nb 3 6 (by decide))
  have n_ti_la : ti ≠ la := cl_ne (cl := cl) hd.ti.1 hd.la.1 (nb 3 7 (by decide))
  have n_ti_pl : ti ≠ pl := cl_ne (cl := cl) hd.ti.1 hd.pl.1 (nb 3 8 (by decide))
  have n_ti_pa : ti ≠ pa := cl_ne (cl := cl) hd.ti.1 hd.pa.1 (nb 3 9 (by decide))
  have n_sz_ta : sz ≠ ta := cl_ne (cl := cl) hd.sz.1 hd.ta.1 (nb 4 5 (by decide))
  have n_sz_ll : sz ≠ ll := cl_ne (cl := cl) hd.sz.1 hd.ll.1 (nb 4 6 (by decide))
  have n_sz_la : sz ≠ la := cl_ne (cl := cl) hd.sz.1 hd.la.1 (nb 4 7 (by decide))
  have n_sz_pl : sz ≠ pl := cl_ne (cl := cl) hd.sz.1 hd.pl.1 (nb 4 8 (by decide))
  have n_sz_pa : sz ≠ pa := cl_ne (cl := cl) hd.sz.1 hd.pa.1 (nb 4 9 (by decide))
  have n_ta_ll : ta ≠ ll := cl_ne (cl := cl) hd.ta.1 hd.ll.1 (nb 5 6 (by decide))
  have n_ta_la : ta ≠ la := cl_ne (cl := cl) hd.ta.1 hd.la.1 (nb 5 7 (by decide))
  have n_ta_pl : ta ≠ pl := cl_ne (cl := cl) hd.ta.1 hd.pl.1 (nb 5 8 (by decide))
  have n_ta_pa : ta ≠ pa := cl_ne (cl := cl) hd.ta.1 hd.pa.1 (nb 5 9 (by decide))
  have n_ll_la : ll ≠ la := cl_ne (cl := cl) hd.ll.1 hd.la.1 (nb 6 7 (by decide))
  have n_ll_pl : ll ≠ pl := cl_ne (cl := cl) hd.ll.1 hd.pl.1 (nb 6 8 (by decide))
  have n_ll_pa : ll ≠ pa := cl_ne (cl := cl) hd.ll.1 hd.pa.1 (nb 6 9 (by decide))
  have n_la_pl : la ≠ pl := cl_ne (cl := cl) hd.la.1 hd.pl.1 (nb 7 8 (by decide))
  have n_la_pa : la ≠ pa := cl_ne (cl := cl) hd.la.1 hd.pa.1 (nb 7 9 (by decide))
  have n_pl_pa : pl ≠ pa := cl_ne (cl := cl) hd.pl.1 hd.pa.1 (nb 8 9 (by decide))
  have ls := hd.s.2.1
  have lt := hd.t.2
  have ldd := hd.d.2
  have lti := hd.ti.2.1
  have lsz := hd.sz.2.1
  have lta := hd.ta.2.1
  have lll := hd.ll.2
  have lla := hd.la.2.1
  have lpl := hd.pl.2
  have lpa := hd.pa.2.1
  dsimp only [SH.s, SH.t, SH.d, SH.ti, SH.sz, SH.ta, SH.ll, SH.la, SH.pl, SH.pa] at ls lt ldd lti lsz lta lll lla lpl lpa
  have r0 : V.2.2 s 0 = some t := hd.r.1
  have r1 : V.2.2 s 1 = some ti := hd.r.2.1
  have r2 : V.2.2 s 2 = some sz := hd.r.2.2.1
  have r3 : V.2.2 s 3 = some ta := hd.r.2.2.2.1
  have r4 : V.2.2 s 4 = some ll := hd.r.2.2.2.2.1
  have r5 : V.2.2 s 5 = some pl := hd.r.2.2.2.2.2
  have nl6 := hg.nl
  have np4 := hg.np
  have g8 := hg.n
  have g6 := hg.nt
  -- other cells
  have fS : ∀ W : Vt, frO (oS ⟨s, t, d, ti, sz, ta, ll, la, pl, pa⟩) T.2.2 V W → ∀ y, (oS xs y ∨ P y) → ∀ j, W.1 y j = V.1 y j ∧ W.2.1 y j = V.2.1 y j ∧ W.2.2 y j = V.2.2 y j := fun W f y q j => by
    rcases q with q | q
    · exact f y j (hs.lt' q) fun z => by
        exact rng_no hb (hd.cl' z) (hs.cl' q)
    · exact f y j (hP y q).2 fun z => by
        exact rng_0 h1 (hd.cl' z) (hP y q).1
  have dS : ∀ y z, oS xs y → oS (⟨s, t, d, ti, sz, ta, ll, la, pl, pa⟩ : SH) z → y ≠ z := fun y z q w e => by
    rw [e] at q
    exact rng_no hb (hd.cl' w) (hs.cl' q)
  have o := @oS.s ⟨s, t, d, ti, sz, ta, ll, la, pl, pa⟩
  have ot : oS (⟨s, t, d, ti, sz, ta, ll, la, pl, pa⟩ : SH) t := oS.t
  have od : oS (⟨s, t, d, ti, sz, ta, ll, la, pl, pa⟩ : SH) d := oS.d
  have oti : oS (⟨s, t, d, ti, sz, ta, ll, la, pl, pa⟩ : SH) ti := oS.ti
  have osz : oS (⟨s, t, d, ti, sz, ta, ll, la, pl, pa⟩ : SH) sz := oS.sz
  have ota : oS (⟨s, t, d, ti, sz, ta, ll, la, pl, pa⟩ : SH) ta := oS.ta
  have oll : oS (⟨s, t, d, ti, sz, ta, ll, la, pl, pa⟩ : SH) ll := oS.ll
  have ola : oS (⟨s, t, d, ti, sz, ta, ll, la, pl, pa⟩ : SH) la := oS.la
  have opl : oS (⟨s, t, d, ti, sz, ta, ll, la, pl, pa⟩ : SH) pl := oS.pl
  have opa : oS (⟨s, t, d, ti, sz, ta, ll, la, pl, pa⟩ : SH) pa := oS.pa
  rw [f_X1_takes, rq hd.s.2.2, dr r0, rq hs.s.2.2, dr hs.r.1]
  refine Ret.p (c_takes kt ct n_t_d (fun e => dS _ _ oS.t ot e.symm) (dS _ _ oS.t od)) ?_
  intro U6 ⟨f1, ct6⟩
  have g1 : frO (fun h => h = t ∨ h = d) T.2.2 V U6 := frO_f f1 fun a j w q => q.elim Or.inr fun z => Or.inl z.1
  have G1 : frO (oS ⟨s, t, d, ti, sz, ta, ll, la, pl, pa⟩) T.2.2 V U6 := g1.mo (Nat.le_refl _) fun a _ q => by
    rcases q with q | q <;> rw [q]
    · exact ot
    · exact od
  have a6 : ∀ j, U6.2.2 s j = V.2.2 s j := fun j => by rw [f1.2]
  have c1 : cpIn T 0 xs.ti ti (0 : Int32) (0 : Int32) (8 : Int32) := ⟨hs.ti.2.2.1, hd.ti.2.2.1, by decide, by decide, by decide, by rw [hs.ti.2.2.2]; decide, by rw [show T.2.1 ti = 8 from hd.ti.2.2.2]; decide⟩
  have c2 : cpIn T 0 xs.sz sz (0 : Int32) (0 : Int32) (8 : Int32) := ⟨hs.sz.2.2.1, hd.sz.2.2.1, by decide, by decide, by decide, by rw [hs.sz.2.2.2]; decide, by rw [show T.2.1 sz = 8 from hd.sz.2.2.2]; decide⟩
  have k12 : T.2.1 ta = 12 := hd.ta.2.2.2
  have c3 : cpIn T 0 xs.ta ta (0 : Int32) (0 : Int32) (nI 12) := ⟨hs.ta.2.2.1, hd.ta.2.2.1, by decide, by decide, by decide, by rw [hs.ta.2.2.2]; decide, by rw [k12]; decide⟩
  have kta : T.1 ta = 100 := hd.ta.2.2.1
  have c3' : cpIn T 0 xs.ta ta (0 : Int32) (0 : Int32) (nI (T.2.1 ta)) := by rw [k12]; exact c3
  rw [dr ((fS U6 G1 _ (Or.inl oS.s) 1).2.2.trans hs.r.2.1), dr ((a6 1).trans r1), rq c1, sp]
  have e10 : ∀ h j, (cpI U6 xs.ti (ixN (0 : Int32)) ti (ixN (0 : Int32)) (ixN (8 : Int32))).1 h j = if h = ti ∧ j < 8 then U6.1 xs.ti j else U6.1 h j := fun h j => cp_u
  have b10 : (cpI U6 xs.ti (ixN (0 : Int32)) ti (ixN (0 : Int32)) (ixN (8 : Int32))).2 = U6.2 := cp_2
  have g2 : frO (fun h => h = ti) T.2.2 U6 (cpI U6 xs.ti (ixN (0 : Int32)) ti (ixN (0 : Int32)) (ixN (8 : Int32))) := frO_c fun _ => rfl
  generalize cpI U6 xs.ti (ixN (0 : Int32)) ti (ixN (0 : Int32)) (ixN (8 : Int32)) = U10 at e10 b10 g2 ⊢
  have G2 : frO (oS ⟨s, t, d, ti, sz, ta, ll, la, pl, pa⟩) T.2.2 V U10 := G1.tr (g2.mo (Nat.le_refl _) fun a _ q => by rw [q]; exact oti) (Nat.le_refl _)
  have a10 : ∀ j, U10.2.2 s j = V.2.2 s j := fun j => by rw [b10, a6]
  rw [dr ((fS U10 G2 _ (Or.inl oS.s) 2).2.2.trans hs.r.2.2.1), dr ((a10 2).trans r2), rq c2, sp]
  have e14 : ∀ h j, (cpI U10 xs.sz (ixN (0 : Int32)) sz (ixN (0 : Int32)) (ixN (8 : Int32))).1 h j = if h = sz ∧ j < 8 then U10.1 xs.sz j else U10.1 h j := fun h j => cp_u
  have b14 : (cpI U10 xs.sz (ixN (0 : Int32)) sz (ixN (0 : Int32)) (ixN (8 : Int32))).2 = U10.2 := cp_2
  have g3 : frO (fun h => h = sz) T.2.2 U10 (cpI U10 xs.sz (ixN (0 : Int32)) sz (ixN (0 : Int32)) (ixN (8 : Int32))) := frO_c fun _ => rfl
  generalize cpI U10 xs.sz (ixN (0 : Int32)) sz (ixN (0 : Int32)) (ixN (8 : Int32)) = U14 at e14 b14 g3 ⊢
  have G3 : frO (oS ⟨s, t, d, ti, sz, ta, ll, la, pl, pa⟩) T.2.2 V U14 := G2.tr (g3.mo (Nat.le_refl _) fun a _ q => by rw [q]; exact osz) (Nat.le_refl _)
  have a14 : ∀ j, U14.2.2 s j = V.2.2 s j := fun j => by rw [b14, a10]
  rw [dr ((fS U14 G3 _ (Or.inl oS.s) 3).2.2.trans hs.r.2.2.2.1), dr ((a14 3).trans r3), dr ((a14 3).trans r3), rq kta, rq c3', sp]
  have e20 : ∀ h j, (cpI U14 xs.ta (ixN (0 : Int32)) ta (ixN (0 : Int32)) (ixN (nI (T.2.1 ta)))).1 h j = if h = ta ∧ j < 12 then U14.1 xs.ta j else U14.1 h j := fun h j => by rw [k12]; exact cp_u
  have b20 : (cpI U14 xs.ta (ixN (0 : Int32)) ta (ixN (0 : Int32)) (ixN (nI (T.2.1 ta)))).2 = U14.2 := cp_2
  have g4 : frO (fun h => h = ta) T.2.2 U14 (cpI U14 xs.ta (ixN (0 : Int32)) ta (ixN (0 : Int32)) (ixN (nI (T.2.1 ta)))) := frO_c (k := ixN (nI (T.2.1 ta))) fun _ => rfl
  generalize cpI U14 xs.ta (ixN (0 : Int32)) ta (ixN (0 : Int32)) (ixN (nI (T.2.1 ta))) = U20 at e20 b20 g4 ⊢
  have G4 : frO (oS ⟨s, t, d, ti, sz, ta, ll, la, pl, pa⟩) T.2.2 V U20 := G3.tr (g4.mo (Nat.le_refl _) fun a _ q => by rw [q]; exact ota) (Nat.le_refl _)
  have a20 : ∀ h j, U20.2.2 h j = V.2.2 h j := fun h j => by rw [b20, b14, b10, f1.2]
  have i20 : ∀ h j, h ≠ t → h ≠ d → h ≠ ti → h ≠ sz → h ≠ ta → U20.1 h j = V.1 h j := fun h j z1 z2 z3 z4 z5 => by rw [e20, if_neg (fun w => z5 w.1), e14, if_neg (fun w => z4 w.1), e10, if_neg (fun w => z3 w.1), f1.1 _ _ (fun w => w.elim z2 fun y => z1 y.1)]
  have i6 : ∀ y j, oS xs y → U6.1 y j = V.1 y j := fun y j q => (fS U6 G1 y (Or.inl q) j).1
  have i10 : ∀ y j, oS xs y → U10.1 y j = V.1 y j := fun y j q => (fS U10 G2 y (Or.inl q) j).1
  have i14 : ∀ y j, oS xs y → U14.1 y j = V.1 y j := fun y j q => (fS U14 G3 y (Or.inl q) j).1
  have vti : ∀ c, c < g.n → U20.1 ti c = nI (g.ti c) := fun c hc => by rw [e20, if_neg (fun w => n_ti_ta w.1), e14, if_neg (fun w => n_ti_sz w.1), e10, if_pos ⟨rfl, Nat.lt_of_lt_of_le hc g8⟩, i6 _ _ oS.ti]; exact cs.ti c hc
  have vsz : ∀ c, c < g.n → U20.1 sz c = nI (g.sz c) := fun c hc => by rw [e20, if_neg (fun w => n_sz_ta w.1), e14, if_pos ⟨rfl, Nat.lt_of_lt_of_le hc g8⟩, i10 _ _ oS.sz]; exact cs.sz c hc
  have vta : ∀ k, k < 2 * g.nt → U20.1 ta k = nI (g.ta k) := fun k hk => by rw [e20, if_pos ⟨rfl, Nat.lt_of_lt_of_le hk (Nat.mul_le_mul_left 2 g6)⟩, i14 _ _ oS.ta]; exact cs.ta k hk
  have vt : ∀ j, U20.1 t j = U6.1 t j := fun j => by rw [e20, if_neg (fun w => n_t_ta w.1), e14, if_neg (fun w => n_t_sz w.1), e10, if_neg (fun w => n_t_ti w.1)]
  have vd : ∀ j, U20.1 d j = U6.1 d j := fun j => by rw [e20, if_neg (fun w => n_d_ta w.1), e14, if_neg (fun w => n_d_sz w.1), e10, if_neg (fun w => n_d_ti w.1)]
  have ct20 : cTb T U20 t d tb := ct6.fr vt vd (fun j => by rw [a20, f1.2])
  -- laws
  obtain ⟨c0, n0, el0, hl0⟩ := ld
  have hl20 : isLs T U20 ll la c0 n0 el0 := hl0.fr (fun j => i20 _ _ (Ne.symm n_t_ll) (Ne.symm n_d_ll) (Ne.symm n_ti_ll) (Ne.symm n_sz_ll) (Ne.symm n_ta_ll)) (fun j => a20 _ _) (fun j => a20 _ _)
  rw [dr ((a20 s 4).trans r4)]
  refine Ret.p (c_clear hl20 n_ll_la) ?_
  intro U24 ⟨hl24, g5, _⟩
  have G5 : frO (oS ⟨s, t, d, ti, sz, ta, ll, la, pl, pa⟩) T.2.2 V U24 := G4.tr (g5.mo (Nat.le_refl _) fun a _ q => by
    rcases q with q | q <;> rw [q]
    · exact oll
    · exact ola) (Nat.le_refl _)
  have a24 : ∀ j, U24.2.2 s j = V.2.2 s j := fun j => ((g5 s j ls (fun w => w.elim n_s_ll n_s_la)).2.2).trans (a20 s j)
  obtain ⟨cS, elS, hlS, hlwS⟩ := cs.lw
  have hlS24 : isLs T U24 xs.ll xs.la cS g.nl elS := hlS.fr (fun j => (fS U24 G5 _ (Or.inl oS.ll) j).1) (fun j => (fS U24 G5 _ (Or.inl oS.ll) j).2.2) (fun j => (fS U24 G5 _ (Or.inl oS.la) j).2.2)
  rw [dr ((a24 4).trans r4), dr ((fS U24 G5 _ (Or.inl oS.s) 4).2.2.trans hs.r.2.2.2.2.1)]
  refine Ret.d (c_addAll hl24 hlS24 (Nat.le_trans nl6 (by decide)) lll lla hs.ll.2 hs.la.2.1 n_ll_la (dS _ _ oS.ll oll) (dS _ _ oS.ll ola) (dS _ _ oS.la oll) (dS _ _ oS.la ola) (by have := hd.la.2.2; rw [show T.2.1 la = c0 from hl0.2.2.2.1] at this; exact this) (fun i hi => ⟨isLaw_o (hlwS i hi), (hP _ (hlwS i hi).1).2⟩)) ?_
  intro z29 U29 T30 n1 k1 ⟨la', cL, hl29, q1, q2, q3, q4, q5, q6⟩
  dsimp only at hl29 q2 q3 q4 q5 q6
  have G6 : frO (oS ⟨s, t, d, ti, sz, ta, ll, la, pl, pa⟩) T.2.2 V U29 := G5.tr (q4.mo (Nat.le_refl _) fun a _ q => by
    rcases q with q | q <;> rw [q]
    · exact oll
    · exact ola) (Nat.le_refl _)
  have g56 : ∀ h j, h < T.2.2 → h ≠ ll → h ≠ la → U29.1 h j = U20.1 h j ∧ U29.2.2 h j = U20.2.2 h j := fun h j w z1 z2 => ⟨(q4 h j w (fun y => y.elim z1 z2)).1.trans (g5 h j w (fun y => y.elim z1 z2)).1, (q4 h j w (fun y => y.elim z1 z2)).2.2.trans (g5 h j w (fun y => y.elim z1 z2)).2.2⟩
  have a29 : ∀ j, U29.2.2 s j = V.2.2 s j := fun j => ((g56 s j ls n_s_ll n_s_la).2).trans (a20 s j)
  have lt30 : ∀ h, h < T.2.2 → h < T30.2.2 := fun h w => Nat.lt_of_lt_of_le w q2.1
  rw [rq ((q2.2 s ls).1.trans hd.s.2.2), dr ((a29 5).trans r5)]
  -- plans
  obtain ⟨c0', n0', el0', hp0⟩ := pd
  have hp29 : isLs T30 U29 pl pa c0' n0' el0' := (hp0.ft (q2.2 pl lpl).1 (q2.2 pa lpa).1 (q2.2 pa lpa).2).fr (fun j => ((g56 pl j lpl (Ne.symm n_ll_pl) (Ne.symm n_la_pl)).1).trans (i20 _ _ (Ne.symm n_t_pl) (Ne.symm n_d_pl) (Ne.symm n_ti_pl) (Ne.symm n_sz_pl) (Ne.symm n_ta_pl))) (fun j => ((g56 pl j lpl (Ne.symm n_ll_pl) (Ne.symm n_la_pl)).2).trans (a20 _ _)) (fun j => ((g56 pa j lpa (Ne.symm n_ll_pa) (Ne.symm n_la_pa)).2).trans (a20 _ _))
  refine Ret.p (c_clear hp29 n_pl_pa) ?_
  intro U35 ⟨hp35, g7, _⟩
  have G7 : frO (oS ⟨s, t, d, ti, sz, ta, ll, la, pl, pa⟩) T.2.2 V U35 := G6.tr (g7.mo q2.1 fun a _ q => by
    rcases q with q | q <;> rw [q]
    · exact opl
    · exact opa) (Nat.le_refl _)
  have a35 : ∀ j, U35.2.2 s j = V.2.2 s j := fun j => ((g7 s j (lt30 s ls) (fun y => y.elim n_s_pl n_s_pa)).2.2).trans (a29 j)
  obtain ⟨cP, elP, hpS, hplS⟩ := cs.pl
  have hpS35 : isLs T30 U35 xs.pl xs.pa cP g.np elP := (hpS.ft (q2.2 _ hs.pl.2).1 (q2.2 _ hs.pa.2.1).1 (q2.2 _ hs.pa.2.1).2).fr (fun j => (fS U35 G7 _ (Or.inl oS.pl) j).1) (fun j => (fS U35 G7 _ (Or.inl oS.pl) j).2.2) (fun j => (fS U35 G7 _ (Or.inl oS.pa) j).2.2)
  rw [dr ((a35 5).trans r5), rq ((q2.2 _ hs.s.2.1).1.trans hs.s.2.2), dr ((fS U35 G7 _ (Or.inl oS.s) 5).2.2.trans hs.r.2.2.2.2.2)]
  refine Ret.d (c_addAll hp35 hpS35 (Nat.le_trans np4 (by decide)) (lt30 _ lpl) (lt30 _ lpa) (lt30 _ hs.pl.2) (lt30 _ hs.pa.2.1) n_pl_pa (dS _ _ oS.pl opl) (dS _ _ oS.pl opa) (dS _ _ oS.pa opl) (dS _ _ oS.pa opa) (by have := hd.pa.2.2; rw [show T.2.1 pa = c0' from hp0.2.2.2.1] at this; exact this) (fun i hi => ⟨isO_ex q2 (hP _ (hplS i hi).1).2 (isPl_o (hplS i hi)), lt30 _ (hP _ (hplS i hi).1).2⟩)) ?_
  intro z41 U41 T42 n2 k2 ⟨pa', cQ, hp41, p1, p2, p3, p4, p5, p6⟩
  dsimp only at hp41 p2 p3 p4 p5 p6
  have ex : exT T T42 := q2.tr p2
  have G8 : frO (oS ⟨s, t, d, ti, sz, ta, ll, la, pl, pa⟩) T.2.2 V U41 := G7.tr (p4.mo q2.1 fun a _ q => by
    rcases q with q | q <;> rw [q]
    · exact opl
    · exact opa) (Nat.le_refl _)
  have g78 : ∀ h j, h < T30.2.2 → h ≠ pl → h ≠ pa → U41.1 h j = U29.1 h j ∧ U41.2.2 h j = U29.2.2 h j := fun h j w z1 z2 => ⟨(p4 h j w (fun y => y.elim z1 z2)).1.trans (g7 h j w (fun y => y.elim z1 z2)).1, (p4 h j w (fun y => y.elim z1 z2)).2.2.trans (g7 h j w (fun y => y.elim z1 z2)).2.2⟩
  have a41 : ∀ j, U41.2.2 s j = V.2.2 s j := fun j => ((g78 s j (lt30 s ls) n_s_pl n_s_pa).2).trans (a29 j)
  rw [rq ((ex.2 _ hs.s.2.1).1.trans hs.s.2.2), rq ((ex.2 s ls).1.trans hd.s.2.2), sp, sp, sp, sp, sp, sp]
  have nss : xs.s ≠ s := dS _ _ oS.s o
  have w6 : U41.1 xs.s 6 = nI g.n := ((fS U41 G8 _ (Or.inl oS.s) 6).1).trans cs.n
  have w7 : U41.1 xs.s 7 = nI g.nt := ((fS U41 G8 _ (Or.inl oS.s) 7).1).trans cs.nt
  have w8 : U41.1 xs.s 8 = nI g.co := ((fS U41 G8 _ (Or.inl oS.s) 8).1).trans cs.co
  have w9 : U41.1 xs.s 9 = nI g.mo := ((fS U41 G8 _ (Or.inl oS.s) 9).1).trans cs.mo
  have w10 : U41.1 xs.s 10 = nI g.pa := ((fS U41 G8 _ (Or.inl oS.s) 10).1).trans cs.pa
  have w11 : U41.1 xs.s 11 = oI g.fo := ((fS U41 G8 _ (Or.inl oS.s) 11).1).trans cs.fo
  simp only [uI1, nss, false_and, if_false, w6, w7, w8, w9, w10, w11]
  have eZ : ∀ h j, h ≠ s → (uI (uI (uI (uI (uI (uI U41 s 6 (nI g.n)) s 7 (nI g.nt)) s 8 (nI g.co)) s 9 (nI g.mo)) s 10 (nI g.pa)) s 11 (oI g.fo)).1 h j = U41.1 h j := fun h j w => by
    rw [uI1, if_neg (fun z => w z.1), uI1, if_neg (fun z => w z.1), uI1, if_neg (fun z => w z.1), uI1, if_neg (fun z => w z.1), uI1, if_neg (fun z => w z.1), uI1, if_neg (fun z => w z.1)]
  have vZ : (uI (uI (uI (uI (uI (uI U41 s 6 (nI g.n)) s 7 (nI g.nt)) s 8 (nI g.co)) s 9 (nI g.mo)) s 10 (nI g.pa)) s 11 (oI g.fo)).1 s 6 = nI g.n ∧ (uI (uI (uI (uI (uI (uI U41 s 6 (nI g.n)) s 7 (nI g.nt)) s 8 (nI g.co)) s 9 (nI g.mo)) s 10 (nI g.pa)) s 11 (oI g.fo)).1 s 7 = nI g.nt ∧ (uI (uI (uI (uI (uI (uI U41 s 6 (nI g.n)) s 7 (nI g.nt)) s 8 (nI g.co)) s 9 (nI g.mo)) s 10 (nI g.pa)) s 11 (oI g.fo)).1 s 8 = nI g.co ∧ (uI (uI (uI (uI (uI (uI U41 s 6 (nI g.n)) s 7 (nI g.nt)) s 8 (nI g.co)) s 9 (nI g.mo)) s 10 (nI g.pa)) s 11 (oI g.fo)).1 s 9 = nI g.mo ∧ (uI (uI (uI (uI (uI (uI U41 s 6 (nI g.n)) s 7 (nI g.nt)) s 8 (nI g.co)) s 9 (nI g.mo)) s 10 (nI g.pa)) s 11 (oI g.fo)).1 s 10 = nI g.pa ∧ (uI (uI (uI (uI (uI (uI U41 s 6 (nI g.n)) s 7 (nI g.nt)) s 8 (nI g.co)) s 9 (nI g.mo)) s 10 (nI g.pa)) s 11 (oI g.fo)).1 s 11 = oI g.fo := by
    refine ⟨?_, ?_, ?_, ?_, ?_, ?_⟩ <;> simp [uI1]
  have rZ : ∀ h j, (uI (uI (uI (uI (uI (uI U41 s 6 (nI g.n)) s 7 (nI g.nt)) s 8 (nI g.co)) s 9 (nI g.mo)) s 10 (nI g.pa)) s 11 (oI g.fo)).2.2 h j = U41.2.2 h j := fun _ _ => rfl
  have gZ : frO (fun h => h = s) T.2.2 U41 (uI (uI (uI (uI (uI (uI U41 s 6 (nI g.n)) s 7 (nI g.nt)) s 8 (nI g.co)) s 9 (nI g.mo)) s 10 (nI g.pa)) s 11 (oI g.fo)) := fun h j _ z => ⟨eZ h j z, rfl, rfl⟩
  generalize uI (uI (uI (uI (uI (uI U41 s 6 (nI g.n)) s 7 (nI g.nt)) s 8 (nI g.co)) s 9 (nI g.mo)) s 10 (nI g.pa)) s 11 (oI g.fo) = Z at eZ vZ rZ gZ ⊢
  have GZ : frO (oS ⟨s, t, d, ti, sz, ta, ll, la, pl, pa⟩) T.2.2 V Z := G8.tr (gZ.mo (Nat.le_refl _) fun a _ q => by rw [q]; exact o) (Nat.le_refl _)
  have lall : la' ≠ s ∧ la' ≠ pl ∧ la' ≠ pa ∧ la' < T30.2.2 := by
    rcases q3 with q | q
    · rw [q]
      exact ⟨Ne.symm n_s_la, n_la_pl, n_la_pa, lt30 _ lla⟩
    · exact ⟨ne_ge q.1 ls, ne_ge q.1 lpl, ne_ge q.1 lpa, q.2⟩
  have papa : pa' ≠ s ∧ pa' ≠ la' := by
    rcases p3 with q | q
    · rw [q]
      exact ⟨Ne.symm n_s_pa, Ne.symm lall.2.2.1⟩
    · exact ⟨ne_ge q.1 (lt30 s ls), ne_ge q.1 lall.2.2.2⟩
  have hlZ : isLs T42 Z ll la' cL g.nl elS := by
    have x1 := hl29.ft (p2.2 ll (lt30 _ lll)).1 (p2.2 la' lall.2.2.2).1 (p2.2 la' lall.2.2.2).2
    refine x1.fr (fun j => (eZ _ _ (Ne.symm n_s_ll)).trans (g78 ll j (lt30 _ lll) n_ll_pl n_ll_pa).1) (fun j => (rZ _ _).trans (g78 ll j (lt30 _ lll) n_ll_pl n_ll_pa).2) (fun j => (rZ _ _).trans (g78 la' j lall.2.2.2 lall.2.1 lall.2.2.1).2)
  have hpZ : isLs T42 Z pl pa' cQ g.np elP := hp41.fr (fun j => eZ _ _ (Ne.symm n_s_pl)) (fun j => rZ _ _) (fun j => rZ _ _)
  have eP : ∀ h, P h → T42.1 h = T.1 h := fun h q => (ex.2 h (hP h q).2).1
  have eP2 : ∀ h, P h → T42.2.1 h = T.2.1 h := fun h q => (ex.2 h (hP h q).2).2
  have iZ : ∀ h j, h < T.2.2 → h ≠ s → h ≠ ll → h ≠ la → h ≠ pl → h ≠ pa → Z.1 h j = U20.1 h j ∧ Z.2.2 h j = U20.2.2 h j := fun h j w z1 z2 z3 z4 z5 => ⟨(eZ h j z1).trans ((g78 h j (lt30 _ w) z4 z5).1.trans (g56 h j w z2 z3).1), (rZ h j).trans ((g78 h j (lt30 _ w) z4 z5).2.trans (g56 h j w z2 z3).2)⟩
  refine Ret.ok ⟨la', pa', ⟨vZ.1, vZ.2.1, vZ.2.2.1, vZ.2.2.2.1, vZ.2.2.2.2.1, vZ.2.2.2.2.2, fun c hc => ?_, fun c hc => ?_, fun k hk => ?_, ⟨cL, elS, hlZ, fun i hi => ?_⟩, ⟨cQ, elP, hpZ, fun i hi => ?_⟩⟩, ?_, ex, ?_, ?_, Ne.symm papa.2, ?_, ?_, GZ, fun j => (rZ s j).trans (a41 j), ?_, ?_⟩
  · exact (iZ ti c lti (Ne.symm n_s_ti) n_ti_ll n_ti_la n_ti_pl n_ti_pa).1.trans (vti c hc)
  · exact (iZ sz c lsz (Ne.symm n_s_sz) n_sz_ll n_sz_la n_sz_pl n_sz_pa).1.trans (vsz c hc)
  · exact (iZ ta k lta (Ne.symm n_s_ta) n_ta_ll n_ta_la n_ta_pl n_ta_pa).1.trans (vta k hk)
  · exact ((hlwS i hi).ft eP eP2).fr (fun h j q => (fS Z GZ h (Or.inr q) j).1) (fun h j q => (fS Z GZ h (Or.inr q) j).2.2)
  · exact ((hplS i hi).ft eP eP2).fr (fun h j q => (fS Z GZ h (Or.inr q) j).1) (fun h j q => (fS Z GZ h (Or.inr q) j).2.2)
  · have x1 : cTb T Z t d tb := ct20.fr (fun j => (iZ t j lt (Ne.symm n_s_t) n_t_ll n_t_la n_t_pl n_t_pa).1) (fun j => (iZ d j ldd (Ne.symm n_s_d) n_d_ll n_d_la n_d_pl n_d_pa).1) (fun j => (iZ t j lt (Ne.symm n_s_t) n_t_ll n_t_la n_t_pl n_t_pa).2)
    exact ⟨⟨(ex.2 t lt).1.trans x1.k.1, x1.k.2.1, (ex.2 d ldd).1.trans x1.k.2.2.1, (ex.2 d ldd).2.trans x1.k.2.2.2⟩, x1.D, x1.b, x1.y⟩
  · exact q3.imp id fun q => ⟨q.1, Nat.lt_of_lt_of_le q.2 p2.1⟩
  · exact p3.imp id fun q => ⟨Nat.le_trans q2.1 q.1, q.2⟩
  · rw [show T42.2.1 la' = cL from hlZ.2.2.2.1]
    exact q1
  · rw [show T42.2.1 pa' = cQ from hpZ.2.2.2.1]
    exact p1
  · exact le4 p5 q5
  · exact le30 p6 q6 np4 nl6
