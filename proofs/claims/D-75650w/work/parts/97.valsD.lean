/-! 97: an order of the component: whether it is now, what its sums tell -/
set_option maxRecDepth 100000
def nowO (o : Od) (v : Vals) : Bool := match o.2.2.2 with
  | none => true
  | some t => match t v with
    | some true => true
    | _ => false
def far (x : Option Int64) : Int32 := match x with
  | none => -1
  | some x => if x < 0 then -1 else if x < 1000000 then x.toInt32 else -1
theorem c_isNow {P : Nat → Prop} {T : Tt} {V : Vt} {v : Vals} (hs : cSet T V v) {h : Nat} {o : Od} (ho : isOd P T V h o) : f_X18_isNow T V h 22 = some (b1 (nowO o v)) := by
  obtain ⟨-, k, -, -, -, hw⟩ := ho
  rw [f_X18_isNow, rq k, nowO]
  cases e : o.2.2.2 with
  | none =>
    rw [e] at hw
    dsimp only at hw
    rw [if_pos hw]
    rfl
  | some t =>
    rw [e] at hw
    obtain ⟨s, h2, h3⟩ := hw
    rw [if_neg (by rw [h2]; exact fun w => nomatch w), dr h2, c_testIs hs 100 fuelE s t h3 (by decide)]
    dsimp only
    cases t v with
    | none => rfl
    | some b => cases b <;> rfl
theorem c_oTold {P : Nat → Prop} {T : Tt} {V : Vt} {v : Vals} (hs : cSet T V v) {h : Nat} {o : Od} (ho : isOd P T V h o) {k : Nat} (hk : k < 3) {s : Sm} (hsum : o.2.1 k = some s) : f_X18_told T V h (nI k) 22 = some (far (s v)) := by
  obtain ⟨-, kk, -, -, ⟨a, a1, a2, a3, a4, a5⟩, -⟩ := ho
  have h5 := a5 k hk
  rw [hsum] at h5
  obtain ⟨q, q1, q2⟩ := h5
  have hq : ∀ {β : Type} {k' : Option β}, req (aIn T a 7 (nI k)) k' = k' := fun {β k'} => rq (aIn_nI a3 (by omega) (by omega))
  rw [f_X18_told, rq kk, dr a1, hq, ix_nI (by omega), dr q1, c_sumOf hs 60 fuelE q s q2 (by decide)]
  cases s v with
  | none => rfl
  | some x =>
    rw [xr, hxs, far]
    simp only [lgc_lt0]
    by_cases c1 : x < 0
    · rw [if_pos c1, if_pos c1]
    · rw [if_neg c1, if_neg c1]
      by_cases c2 : x < 1000000
      · rw [if_pos c2, if_pos c2]
      · rw [if_neg c2, if_neg c2]
