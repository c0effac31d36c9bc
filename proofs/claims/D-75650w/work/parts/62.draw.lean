/-! 62: what is drawn from a cask, by ages -/
set_option maxRecDepth 100000
def tk (g : Nat → Nat) (n a : Nat) : Nat := g a * n * 1000 / sg 20 g
def mis (g : Nat → Nat) (n : Nat) : Nat → Nat
  | 0 => n * 1000 - sg 20 (tk g n)
  | i + 1 => if 0 < mis g n i ∧ tk g n (19 - i) < g (19 - i) then mis g n i - 1 else mis g n i
def outA (g : Nat → Nat) (n a : Nat) : Nat := if 0 < mis g n (19 - a) ∧ tk g n a < g a then tk g n a + 1 else tk g n a
theorem sg_mul {n K : Nat} {f : Nat → Nat} : sg n (fun a => f a * K) = sg n f * K := by
  induction n with
  | zero => rw [sg, sg, Nat.zero_mul]
  | succ n ih => rw [sg, sg, ih, Nat.add_mul]
theorem sg_plus {n : Nat} {f g : Nat → Nat} : sg n (fun a => f a + g a) = sg n f + sg n g := by
  induction n with
  | zero => rfl
  | succ n ih => rw [sg, sg, sg, ih]; omega
theorem tk_le {g : Nat → Nat} {n a : Nat} (h : n * 1000 ≤ sg 20 g) : tk g n a ≤ g a := by
  unfold tk
  by_cases e : sg 20 g = 0
  · rw [e, Nat.div_zero]; exact Nat.zero_le _
  · rw [Nat.mul_assoc]
    exact Nat.div_le_of_le_mul (by rw [Nat.mul_comm (sg 20 g)]; exact Nat.mul_le_mul_left _ h)
theorem tk_sum {g : Nat → Nat} {n : Nat} : sg 20 (tk g n) ≤ n * 1000 := by
  by_cases e : sg 20 g = 0
  · have : sg 20 (tk g n) = sg 20 fun _ => 0 := sg_congr fun i _ => by rw [tk, e, Nat.div_zero]
    rw [this]
    simp [sg]
  · have h1 : sg 20 (tk g n) * sg 20 g ≤ (n * 1000) * sg 20 g := by
      rw [← sg_mul, Nat.mul_comm (n * 1000), ← sg_mul]
      exact sg_le fun i _ => by rw [tk, Nat.mul_assoc]; exact Nat.div_mul_le_self _ _
    exact Nat.le_of_mul_le_mul_right h1 (by omega)
/-- as many ages are rounded down as drops are missing -/
theorem mis_ct {g : Nat → Nat} {n : Nat} (h : n * 1000 ≤ sg 20 g) : n * 1000 - sg 20 (tk g n) ≤ sg 20 fun a => if tk g n a < g a then 1 else 0 := by
  by_cases e : sg 20 g = 0
  · have : n * 1000 = 0 := by omega
    rw [this, Nat.zero_sub]; exact Nat.zero_le _
  have h0 : 0 < sg 20 g := by omega
  have h1 : (n * 1000) * sg 20 g ≤ (sg 20 (tk g n) + sg 20 fun a => if tk g n a < g a then 1 else 0) * sg 20 g := by
    rw [← sg_plus, ← sg_mul, Nat.mul_comm (n * 1000), ← sg_mul]
    refine sg_le fun i _ => ?_
    rw [← Nat.mul_assoc]
    by_cases q : tk g n i < g i
    · rw [if_pos q]
      have := Nat.lt_div_mul_add (a := g i * n * 1000) h0
      rw [tk, Nat.add_mul]
      omega
    · rw [if_neg q]
      have q1 : g i ≤ tk g n i := by omega
      rw [Nat.add_zero, Nat.mul_assoc]
      exact Nat.le_trans (Nat.mul_le_mul_left _ h) (Nat.mul_le_mul_right _ q1)
  have := Nat.le_of_mul_le_mul_right h1 h0
  omega
theorem mis_at {g : Nat → Nat} {n : Nat} : ∀ i, i ≤ 20 → mis g n i = (n * 1000 - sg 20 (tk g n)) - sg i fun j => if tk g n (19 - j) < g (19 - j) then 1 else 0 := by
  intro i
  induction i with
  | zero => intro _; rfl
  | succ i ih =>
    intro hi
    rw [mis, ih (by omega), sg_s i]
    by_cases q : tk g n (19 - i) < g (19 - i)
    · rw [if_pos q]
      by_cases q2 : 0 < (n * 1000 - sg 20 (tk g n)) - sg i fun j => if tk g n (19 - j) < g (19 - j) then 1 else 0
      · rw [if_pos ⟨q2, q⟩]; omega
      · rw [if_neg (fun w => q2 w.1)]; omega
    · rw [if_neg q, if_neg (fun w => q w.2)]; omega
theorem sg_rev {f : Nat → Nat} : ∀ n, sg n (fun j => f (n - 1 - j)) = sg n f := by
  intro n
  induction n with
  | zero => rfl
  | succ n ih =>
    have h1 := sg_add (m := 1) (n := n) (f := fun j => f (n + 1 - 1 - j))
    rw [Nat.add_comm 1 n] at h1
    rw [h1, sg, sg, sg, Nat.zero_add, ← ih]
    rw [show (n + 1 - 1 - 0) = n by omega]
    rw [Nat.add_comm]
    congr 1
    exact sg_congr fun i _ => by rw [show n + 1 - 1 - (1 + i) = n - 1 - i by omega]
theorem mis_20 {g : Nat → Nat} {n : Nat} (h : n * 1000 ≤ sg 20 g) : mis g n 20 = 0 := by
  rw [mis_at 20 (Nat.le_refl _)]
  have := sg_rev (f := fun a => if tk g n a < g a then 1 else 0) 20
  have h2 := mis_ct h
  rw [← this] at h2
  simp only [Nat.reduceSub] at h2
  omega
theorem mis_dec {g : Nat → Nat} {n i : Nat} (hi : i < 20) : mis g n i + tk g n (19 - i) = mis g n (i + 1) + outA g n (19 - i) := by
  rw [mis, outA, show 19 - (19 - i) = i by omega]
  by_cases q : 0 < mis g n i ∧ tk g n (19 - i) < g (19 - i)
  · rw [if_pos q, if_pos q]; omega
  · rw [if_neg q, if_neg q]
theorem out_sum {g : Nat → Nat} {n : Nat} (h : n * 1000 ≤ sg 20 g) : sg 20 (outA g n) = n * 1000 := by
  have h1 : ∀ i, i ≤ 20 → mis g n 0 + sg i (fun j => tk g n (19 - j)) = mis g n i + sg i fun j => outA g n (19 - j) := by
    intro i
    induction i with
    | zero => intro _; rfl
    | succ i ih =>
      intro hi
      have := ih (by omega)
      have := mis_dec (g := g) (n := n) (i := i) (by omega)
      rw [sg, sg]
      omega
  have h2 := h1 20 (Nat.le_refl _)
  have h3 := sg_rev (f := tk g n) 20
  have h4 := sg_rev (f := outA g n) 20
  simp only [Nat.reduceSub] at h3 h4
  rw [h3, h4, mis_20 h, mis] at h2
  have := tk_sum (g := g) (n := n)
  omega
theorem out_le {g : Nat → Nat} {n a : Nat} (h : n * 1000 ≤ sg 20 g) : outA g n a ≤ g a := by
  have := tk_le (a := a) h
  rw [outA]
  split <;> omega
