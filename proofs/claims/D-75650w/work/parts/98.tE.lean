/-! 98: the component's reader: values -/
set_option maxRecDepth 100000
theorem inc00 {ρ : Type} {x : Option (ρ × Nat × Nat)} : inc 0 0 x = x := by
  cases x with
  | none => rfl
  | some z => rfl
theorem isV_no {γ : Type} {T : Tt} {V : Vt} {o : Nat} {tp : Nat → Nat} {n : Nat} {s : Sg} (h : rdR T V o tp n s) (hs : okR tp n s) {k : Nat} {w : List Nat} (hw : sB k = w.map nI) (hk : k < 42) (hl : w.length ≤ 10) (hb : ∀ c, c ∈ w → c < 128) (q : ¬ tkw tp s w = true) {K : Int32 → Vt → Tt → Option (((γ ⊕ Nat) × Vt × Tt) × Nat × Nat)} : dxl (f_X6_isValue T V o k) K = K 0 V T := by
  have q' : tkw tp s w = false := by cases hq : tkw tp s w <;> simp_all
  rw [f_X6_isValue, rq h.t.ko, pc (c_is h hs hw hk hl hb), q', if_pos (by decide)]
  exact inc00
def spLfN (tp : Nat → Nat) (n : Nat) (s : Sg) : Rs Unit := if s.lv = 50 then .inl s.fr else .inr ((), nx tp n s.wl)
theorem isV_yes {T : Tt} {V : Vt} {o : Nat} {tp : Nat → Nat} {n : Nat} {s : Sg} (h : rdR T V o tp n s) (hs : okR tp n s) (ho : o < T.2.2) {k : Nat} {w : List Nat} (hw : sB k = w.map nI) (hk : k < 42) (hl : w.length ≤ 10) (hb : ∀ c, c ∈ w → c < 128) (q : tkw tp s w = true) : Ret (f_X6_isValue T V o k) (rOk o tp n T.2.2 T V s 0 0 1 0 0 (fun _ r _ _ _ => r = (1 : Int32)) (spLfN tp n s)) := by
  rw [f_X6_isValue, rq h.t.ko, pc (c_is h hs hw hk hl hb), q, if_neg (by decide)]
  have e : spLfN tp n s = rb (spLeaf s) fun _ s2 => .inr ((), nx tp n s2) := by
    rw [spLfN, spLeaf]
    by_cases w : s.lv = 50
    · rw [if_pos w, if_pos w]
      rfl
    · rw [if_neg w, if_neg w]
      rfl
  rw [e]
  refine rOk.bind (c0 := 0) (k0 := 0) (c1 := 0) (k1 := 0) (c_leaf h hs ho) (Nat.le_refl _) ?_
  intro a s' r V' T' _ h2 _ hs2 ex _ _ _
  refine Ret.p (c_next h2 hs2.to) ?_
  intro W ⟨w1, w2⟩
  exact Ret.ok (rOk.ok w1 rfl hs2.nx w2 (fun c j z => by omega) (nx_le hs2))
def oN1 (a : Option Nat) : Int32 := match a with
  | none => -1
  | some w => nI w
abbrev gV : Option Nat → Int32 → Sg → Tt → Vt → Prop := fun a r _ _ _ => r = oN1 a
def spV0 (tp : Nat → Nat) (n : Nat) (ord : Bool) (s : Sg) : Rs (Option Nat) := match vwd tp ord s with
  | none => .inr (none, s)
  | some i => rb (spLfN tp n s) fun _ s2 => if ord = true ∧ 4 ≤ i then rb (spN tp n 0 7 s2) (fun k s3 => .inr (some (4 + 8 * (i - 4) + k), s3)) else .inr (some i, s2)
theorem spV_0 {tp : Nat → Nat} {n : Nat} {ord : Bool} {s : Sg} : spV tp n ord s = rb (spV0 tp n ord s) fun a s2 => match a with
    | none => .inl s2.fr
    | some w => .inr (w, s2) := by
  rw [spV, spV0]
  cases vwd tp ord s with
  | none => rfl
  | some i =>
    dsimp only
    rw [spLfN]
    by_cases w : s.lv = 50
    · rw [if_pos w, if_pos w]
      rfl
    · rw [if_neg w, if_neg w]
      show _ = rb (if ord = true ∧ 4 ≤ i then _ else _) _
      by_cases y : ord = true ∧ 4 ≤ i
      · rw [if_pos y]
        show _ = rb (if ord = true ∧ 4 ≤ i then _ else _) _
        rw [if_pos y]
        cases spN tp n 0 7 (nx tp n s.wl) with
        | inl p => rfl
        | inr z => rfl
      · rw [if_neg y]
        show _ = rb (if ord = true ∧ 4 ≤ i then _ else _) _
        rw [if_neg y]
        rfl
set_option maxHeartbeats 1000000 in
theorem c_value7 {T : Tt} {V : Vt} {o : Nat} {tp : Nat → Nat} {n : Nat} {s : Sg} (h : rdR T V o tp n s) (hs : okR tp n s) (ho : o < T.2.2) (k7 : T.1 o = 7) : Ret (f_X7_value T V o) (rOk o tp n T.2.2 T V s 0 0 1 0 0 gV (spV0 tp n false s)) := by
  have yes : ∀ {i : Nat} {k : Nat} {w : List Nat} {r : Int32} {K : Int32 → Vt → Tt → Option (((Int32 ⊕ Nat) × Vt × Tt) × Nat × Nat)}, sB k = w.map nI → k < 42 → w.length ≤ 10 → (∀ c, c ∈ w → c < 128) → tkw tp s w = true → vwd tp false s = some i → (∀ U T', K 1 U T' = some (((.inl r), U, T'), 0, 0)) → r = nI i → Ret (dxl (f_X6_isValue T V o k) K) (rOk o tp n T.2.2 T V s 0 0 1 0 0 gV (spV0 tp n false s)) := by
    intro i k w r K hw hk hl hb q ev hK hr
    rw [spV0, ev]
    refine rOk.bind (c0 := 0) (k0 := 0) (c1 := 0) (k1 := 0) (isV_yes h hs ho hw hk hl hb q) (Nat.le_refl _) ?_
    intro a s' r' V' T' _ h2 g2 hs2 ex _ _ _
    subst g2
    rw [hK, if_neg (fun z => by cases z.1)]
    exact Ret.ok (rOk.ok (S := fun _ _ => False) h2 hr hs2 (frI.mk (fun _ _ _ => rfl) rfl) (fun c j z => absurd z id) (Nat.le_refl _))
  rw [f_X7_value, rq k7]
  by_cases q0 : tkw tp s wCask = true
  · exact yes (i := 0) (r := 0) rfl (by omega) (by decide) (by decide) q0 (by rw [vwd, if_neg (by decide), if_pos q0]) (fun U T' => by rw [if_neg (by decide)]) rfl
  rw [isV_no h hs (w := wCask) rfl (by omega) (by decide) (by decide) q0, if_pos rfl, rq k7]
  by_cases q1 : tkw tp s wTier = true
  · exact yes (i := 1) (r := 1) rfl (by omega) (by decide) (by decide) q1 (by rw [vwd, if_neg (by decide), if_neg q0, if_pos q1]) (fun U T' => by rw [if_neg (by decide)]) rfl
  rw [isV_no h hs (w := wTier) rfl (by omega) (by decide) (by decide) q1, if_pos rfl, rq k7]
  by_cases q2 : tkw tp s wSize = true
  · exact yes (i := 2) (r := 2) rfl (by omega) (by decide) (by decide) q2 (by rw [vwd, if_neg (by decide), if_neg q0, if_neg q1, if_pos q2]) (fun U T' => by rw [if_neg (by decide)]) rfl
  rw [isV_no h hs (w := wSize) rfl (by omega) (by decide) (by decide) q2, if_pos rfl, rq k7]
  by_cases q3 : tkw tp s wFull = true
  · exact yes (i := 3) (r := 3) rfl (by omega) (by decide) (by decide) q3 (by rw [vwd, if_neg (by decide), if_neg q0, if_neg q1, if_neg q2, if_pos q3]) (fun U T' => by rw [if_neg (by decide)]) rfl
  rw [isV_no h hs (w := wFull) rfl (by omega) (by decide) (by decide) q3, if_pos rfl, rq k7]
  by_cases q4 : tkw tp s wMean = true
  · exact yes (i := 4) (r := 4) rfl (by omega) (by decide) (by decide) q4 (by rw [vwd, if_neg (by decide), if_neg q0, if_neg q1, if_neg q2, if_neg q3, if_pos q4]) (fun U T' => by rw [if_neg (by decide)]) rfl
  rw [isV_no h hs (w := wMean) rfl (by omega) (by decide) (by decide) q4, if_pos rfl, rq k7]
  by_cases q5 : tkw tp s wYear = true
  · exact yes (i := 5) (r := 5) rfl (by omega) (by decide) (by decide) q5 (by rw [vwd, if_neg (by decide), if_neg q0, if_neg q1, if_neg q2, if_neg q3, if_neg q4, if_pos q5]) (fun U T' => by rw [if_neg (by decide)]) rfl
  rw [isV_no h hs (w := wYear) rfl (by omega) (by decide) (by decide) q5, if_pos rfl, rq k7]
  by_cases q6 : tkw tp s wMood = true
  · exact yes (i := 6) (r := 6) rfl (by omega) (by decide) (by decide) q6 (by rw [vwd, if_neg (by decide), if_neg q0, if_neg q1, if_neg q2, if_neg q3, if_neg q4, if_neg q5, if_pos q6]) (fun U T' => by rw [if_neg (by decide)]) rfl
  rw [isV_no h hs (w := wMood) rfl (by omega) (by decide) (by decide) q6, if_pos rfl]
  have ev : vwd tp false s = none := by rw [vwd, if_neg (by decide), if_neg q0, if_neg q1, if_neg q2, if_neg q3, if_neg q4, if_neg q5, if_neg q6]
  rw [spV0, ev]
  exact Ret.ok (rOk.ok (S := fun _ _ => False) h rfl hs (frI.mk (fun _ _ _ => rfl) rfl) (fun c j z => absurd z id) (Nat.le_refl _))
set_option maxHeartbeats 1000000 in
theorem c_value18 {T : Tt} {V : Vt} {o : Nat} {tp : Nat → Nat} {n : Nat} {s : Sg} (h : rdR T V o tp n s) (hs : okR tp n s) (ho : o < T.2.2) (k7 : T.1 o = 18) : Ret (f_X20_value T V o) (rOk o tp n T.2.2 T V s 0 0 1 0 0 gV (spV0 tp n true s)) := by
  have yes : ∀ {i : Nat} {k : Nat} {w : List Nat} {r : Int32} {K : Int32 → Vt → Tt → Option (((Int32 ⊕ Nat) × Vt × Tt) × Nat × Nat)}, sB k = w.map nI → k < 42 → w.length ≤ 10 → (∀ c, c ∈ w → c < 128) → tkw tp s w = true → vwd tp true s = some i → i < 4 → (∀ U T', K 1 U T' = some (((.inl r), U, T'), 0, 0)) → r = nI i → Ret (dxl (f_X6_isValue T V o k) K) (rOk o tp n T.2.2 T V s 0 0 1 0 0 gV (spV0 tp n true s)) := by
    intro i k w r K hw hk hl hb q ev hi hK hr
    rw [spV0, ev]
    refine rOk.bind (c0 := 0) (k0 := 0) (c1 := 0) (k1 := 0) (isV_yes h hs ho hw hk hl hb q) (Nat.le_refl _) ?_
    intro a s' r' V' T' _ h2 g2 hs2 ex _ _ _
    subst g2
    rw [hK, if_neg (fun z => by have := z.2; omega)]
    exact Ret.ok (rOk.ok (S := fun _ _ => False) h2 hr hs2 (frI.mk (fun _ _ _ => rfl) rfl) (fun c j z => absurd z id) (Nat.le_refl _))
  have yes2 : ∀ {i : Nat} {k : Nat} {w : List Nat} {b : Nat} {K : Int32 → Vt → Tt → Option (((Int32 ⊕ Nat) × Vt × Tt) × Nat × Nat)}, sB k = w.map nI → k < 42 → w.length ≤ 10 → (∀ c, c ∈ w → c < 128) → tkw tp s w = true → vwd tp true s = some i → 4 ≤ i → (∀ U T', T'.1 o = 18 → K 1 U T' = dxl (f_X6_number T' U o (nI 0) (nI 7)) (fun z44 U45 T46 => some (((.inl (nI b + z44)), U45, T46), 0, 0))) → b = 4 + 8 * (i - 4) → Ret (dxl (f_X6_isValue T V o k) K) (rOk o tp n T.2.2 T V s 0 0 1 0 0 gV (spV0 tp n true s)) := by
    intro i k w b K hw hk hl hb q ev hi hK hr
    rw [spV0, ev]
    refine rOk.bind (c0 := 0) (k0 := 0) (c1 := 0) (k1 := 0) (isV_yes h hs ho hw hk hl hb q) (Nat.le_refl _) ?_
    intro a s' r' V' T' _ h2 g2 hs2 ex _ _ _
    subst g2
    rw [hK V' T' ((ex.2 o ho).1.trans k7), if_pos ⟨rfl, hi⟩]
    refine rOk.bind (c0 := 0) (k0 := 0) (c1 := 0) (k1 := 0) (c_number h2 hs2 (Nat.lt_of_lt_of_le ho ex.1) (by omega) (by omega)) (ex.1) ?_
    intro a s3 r3 V3 T3 _ h3 g3 hs3 ex3 _ _ _
    have g3 : r3 = nI a := g3
    rw [g3, nI_add]
    exact Ret.ok (rOk.ok (S := fun _ _ => False) h3 (by show nI (b + a) = nI _; rw [hr]) hs3 (frI.mk (fun _ _ _ => rfl) rfl) (fun c j z => absurd z id) (Nat.le_refl _))
  rw [f_X20_value, rq k7]
  by_cases q0 : tkw tp s wYear = true
  · exact yes (i := 0) (r := 0) rfl (by omega) (by decide) (by decide) q0 (by rw [vwd, if_pos rfl, if_pos q0]) (by omega) (fun U T' => by rw [if_neg (by decide)]) rfl
  rw [isV_no h hs (w := wYear) rfl (by omega) (by decide) (by decide) q0, if_pos rfl, rq k7]
  by_cases q1 : tkw tp s wDone = true
  · exact yes (i := 1) (r := 1) rfl (by omega) (by decide) (by decide) q1 (by rw [vwd, if_pos rfl, if_neg q0, if_pos q1]) (by omega) (fun U T' => by rw [if_neg (by decide)]) rfl
  rw [isV_no h hs (w := wDone) rfl (by omega) (by decide) (by decide) q1, if_pos rfl, rq k7]
  by_cases q2 : tkw tp s wLatest = true
  · exact yes (i := 2) (r := 2) rfl (by omega) (by decide) (by decide) q2 (by rw [vwd, if_pos rfl, if_neg q0, if_neg q1, if_pos q2]) (by omega) (fun U T' => by rw [if_neg (by decide)]) rfl
  rw [isV_no h hs (w := wLatest) rfl (by omega) (by decide) (by decide) q2, if_pos rfl, rq k7]
  by_cases q3 : tkw tp s wBottled = true
  · exact yes (i := 3) (r := 3) rfl (by omega) (by decide) (by decide) q3 (by rw [vwd, if_pos rfl, if_neg q0, if_neg q1, if_neg q2, if_pos q3]) (by omega) (fun U T' => by rw [if_neg (by decide)]) rfl
  rw [isV_no h hs (w := wBottled) rfl (by omega) (by decide) (by decide) q3, if_pos rfl, rq k7]
  by_cases q4 : tkw tp s wFull = true
  · exact yes2 (i := 4) (b := 4) rfl (by omega) (by decide) (by decide) q4 (by rw [vwd, if_pos rfl, if_neg q0, if_neg q1, if_neg q2, if_neg q3, if_pos q4]) (by omega) (fun U T' w => by rw [if_neg (by decide), rq w]; rfl) rfl
  rw [isV_no h hs (w := wFull) rfl (by omega) (by decide) (by decide) q4, if_pos rfl, rq k7]
  by_cases q5 : tkw tp s wRoom = true
  · exact yes2 (i := 5) (b := 12) rfl (by omega) (by decide) (by decide) q5 (by rw [vwd, if_pos rfl, if_neg q0, if_neg q1, if_neg q2, if_neg q3, if_neg q4, if_pos q5]) (by omega) (fun U T' w => by rw [if_neg (by decide), rq w]; rfl) rfl
  rw [isV_no h hs (w := wRoom) rfl (by omega) (by decide) (by decide) q5, if_pos rfl, rq k7]
  by_cases q6 : tkw tp s wMean = true
  · exact yes2 (i := 6) (b := 20) rfl (by omega) (by decide) (by decide) q6 (by rw [vwd, if_pos rfl, if_neg q0, if_neg q1, if_neg q2, if_neg q3, if_neg q4, if_neg q5, if_pos q6]) (by omega) (fun U T' w => by rw [if_neg (by decide), rq w]; rfl) rfl
  rw [isV_no h hs (w := wMean) rfl (by omega) (by decide) (by decide) q6, if_pos rfl]
  have ev : vwd tp true s = none := by rw [vwd, if_pos rfl, if_neg q0, if_neg q1, if_neg q2, if_neg q3, if_neg q4, if_neg q5, if_neg q6]
  rw [spV0, ev]
  exact Ret.ok (rOk.ok (S := fun _ _ => False) h rfl hs (frI.mk (fun _ _ _ => rfl) rfl) (fun c j z => absurd z id) (Nat.le_refl _))
/-- which reader it is -/
abbrev rdK (T : Tt) (o : Nat) (ord : Bool) : Prop := T.1 o = if ord = true then 18 else 7
theorem c_value {T : Tt} {V : Vt} {o : Nat} {tp : Nat → Nat} {n : Nat} {s : Sg} {ord : Bool} (h : rdR T V o tp n s) (hs : okR tp n s) (ho : o < T.2.2) (k : rdK T o ord) : Ret (f_value T V o) (rOk o tp n T.2.2 T V s 0 0 1 0 0 gV (spV0 tp n ord s)) := by
  cases ord with
  | false =>
    have k : T.1 o = 7 := k
    rw [f_value, if_pos k]
    exact c_value7 h hs ho k
  | true =>
    have k : T.1 o = 18 := k
    rw [f_value, if_neg (by omega), if_pos k]
    exact c_value18 h hs ho k
