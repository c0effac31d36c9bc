/-! 73: the component's laws -/
set_option maxRecDepth 100000
def isCl (B : Nat → Prop) (T : Tt) (V : Vt) (h : Nat) (c : Clz) : Prop := B h ∧ T.1 h = 9 ∧ V.1 h 0 = nI c.1 ∧ c.1 < 3 ∧
  (match c.2.1 with
    | none => V.2.2 h 1 = none
    | some m => ∃ s, V.2.2 h 1 = some s ∧ isSum 60 B T V s m) ∧
  (match c.2.2 with
    | none => V.2.2 h 2 = none
    | some t => ∃ s, V.2.2 h 2 = some s ∧ isTst 100 B T V s t)
def isLaw (B : Nat → Prop) (T : Tt) (V : Vt) (h : Nat) (l : Lw) : Prop := B h ∧ T.1 h = 17 ∧ ∃ (ls a c : Nat) (el : Nat → Nat), V.2.2 h 0 = some ls ∧ B ls ∧ B a ∧ isLs T V ls a c l.1 el ∧ ∀ i, i < l.1 → isCl B T V (el i) (l.2 i)
theorem hxs {α β : Type} {k : α → Option β} {kh : Nat → Option β} {a : α} : hxl (some (.inl a)) k kh = k a := rfl
theorem hxr {α β : Type} {k : α → Option β} {kh : Nat → Option β} {a : Nat} : hxl (α := α) (some (.inr a)) k kh = kh a := rfl
theorem c_X9J {T : Tt} {V : Vt} {v : Vals} (hs : cSet T V v) {B : Nat → Prop} {h : Nat} {c : Clz} (hc : isCl B T V h c) : f_X9_tells_J22 T V h 22 = some ((cS c v).getD (-4000000000)) := by
  obtain ⟨-, -, -, -, h1, -⟩ := hc
  rw [f_X9_tells_J22, cS]
  cases e : c.2.1 with
  | none =>
    rw [e] at h1
    dsimp only at h1
    rw [if_pos h1]
    rfl
  | some m =>
    rw [e] at h1
    obtain ⟨s, h2, h3⟩ := h1
    rw [if_neg (by rw [h2]; exact fun w => nomatch w), dr h2, c_sumOf hs 60 fuelE s m h3 (by decide)]
    dsimp only
    cases m v <;> rfl
theorem c_X9 {T : Tt} {V : Vt} {v : Vals} (hs : cSet T V v) {B : Nat → Prop} {h : Nat} {c : Clz} (hc : isCl B T V h c) : f_X9_tells T V h 22 = some ((cT c v).getD (-4000000000)) := by
  have hc' := hc
  obtain ⟨-, k, -, -, -, h1⟩ := hc
  rw [f_X9_tells, rq k, cT]
  cases e : c.2.2 with
  | none =>
    rw [e] at h1
    dsimp only at h1
    rw [if_pos h1]
    exact c_X9J hs hc'
  | some t =>
    rw [e] at h1
    obtain ⟨s, h2, h3⟩ := h1
    rw [if_neg (by rw [h2]; exact fun w => nomatch w), dr h2, c_testIs hs 100 fuelE s t h3 (by decide)]
    dsimp only
    cases t v with
    | none => rfl
    | some b =>
      cases b with
      | false => rfl
      | true =>
        rw [xb, hxs, if_neg (by decide)]
        exact c_X9J hs hc'
/-- what a law's sums can be: never the sign for none -/
def okV (l : Lw) (v : Vals) : Prop := ∀ i, i < l.1 → ∀ x, cT (l.2 i) v = some x → x ≠ -4000000000
theorem c_told {T : Tt} {V : Vt} {v : Vals} (hs : cSet T V v) {B : Nat → Prop} {h : Nat} {l : Lw} (hl : isLaw B T V h l) (hv : okV l v) {head : Nat} (hh : head < 3) : f_X19_told T V h (nI head) 22 = some ((tld l head v l.1).getD (-4000000000)) := by
  obtain ⟨-, k, ls, a, c, el, e, -, -, hls, hcl⟩ := hl
  have hn : l.1 ≤ 1000 := Nat.le_trans hls.2.2.2.2.2.1 hls.2.2.2.2.2.2.1
  rw [f_X19_told, rq k]
  refine lp (fun n (p : Int64 × Int32) => f_X19_told_L7 T V h (nI head) 22 _ n p.1 p.2) (fun i => ((tld l head v i).getD (-4000000000), nI i)) l.1 ?_ ?_ _ (Nat.lt_of_le_of_lt hn (by decide))
  · intro i n hi
    have hc := hcl i hi
    have h3 := hc.2.1
    have h4 := hc.2.2.1
    have h5 := hc.2.2.2.1
    dsimp only
    rw [f_X19_told_L7, dr e, pc (c_size hls), if_neg (nI_ge hi (by omega)), dr e, pc (c_get hls hi), rq h3, h4, tld]
    by_cases q : (l.2 i).1 = head
    · rw [if_pos (by rw [q]), if_pos q, dr e, pc (c_get hls hi), rq h3, pc (c_X9 hs hc)]
      simp only [lgc_eq0]
      cases ht : cT (l.2 i) v with
      | none =>
        simp only [Option.getD_none]
        rw [if_pos trivial, f_X19_told_J71, sp, nI_1]
      | some x =>
        simp only [Option.getD_some]
        rw [if_neg (hv i hi x ht), f_X19_told_J71, sp, nI_1]
    · rw [if_neg (by rw [nI_eq (by omega) (by omega)]; exact q), if_neg q, f_X19_told_J71, sp, nI_1]
  · intro n
    dsimp only
    rw [f_X19_told_L7, dr e, pc (c_size hls), if_pos (nI_le (Nat.le_refl _) (by omega))]
