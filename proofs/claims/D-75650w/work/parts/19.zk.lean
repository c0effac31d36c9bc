/-! the same inversions, as steps of a goal: the old equation doesn't stay behind -/
theorem k_req {c : Prop} [Decidable c] {β : Type} {k : Option β} {z : β} {P : Prop} (g : c → k = some z → P) (h : req c k = some z) : P := g (of_req h).1 (of_req h).2
theorem k_drf {β : Type} {x : Option Nat} {k : Nat → Option β} {z : β} {P : Prop} (g : ∀ r, x = some r → k r = some z → P) (h : drf x k = some z) : P := by
  obtain ⟨r, h1, h2⟩ := of_drf h
  exact g r h1 h2
theorem k_stp {α β : Type} {x : α} {k : α → Option β} {z : β} {P : Prop} (g : ∀ y, y = x → k y = some z → P) (h : stp x k = some z) : P := g x rfl h
theorem k_pcl {α β : Type} {f : Option α} {k : α → Option β} {z : β} {P : Prop} (g : ∀ x, f = some x → k x = some z → P) (h : pcl f k = some z) : P := by
  obtain ⟨x, h1, h2⟩ := of_pcl h
  exact g x h1 h2
theorem k_cal {α γ β : Type} {f : Option (α × γ)} {k : α → γ → Option β} {z : β} {P : Prop} (g : ∀ x y, f = some (x, y) → k x y = some z → P) (h : cal f k = some z) : P := by
  obtain ⟨x, y, h1, h2⟩ := of_cal h
  exact g x y h1 h2
theorem k_inc {ρ : Type} {a b n k : Nat} {x : Option (ρ × Nat × Nat)} {z : ρ} {P : Prop} (g : ∀ n' k', x = some (z, n', k') → n = n' + a → k = k' + b → P) (h : inc a b x = some (z, n, k)) : P := by
  obtain ⟨n', k', h1, h2, h3⟩ := of_inc h
  exact g n' k' h1 h2 h3
theorem k_dcl {α ρ : Type} {f : Option ((α × Vt × Tt) × Nat × Nat)} {k : α → Vt → Tt → Option (ρ × Nat × Nat)} {z : ρ} {n j : Nat} {P : Prop} (g : ∀ x V T a b n' j', f = some ((x, V, T), a, b) → k x V T = some (z, n', j') → n = n' + a → j = j' + b → P) (h : dcl f k = some (z, n, j)) : P := by
  obtain ⟨x, V, T, a, b, n', j', h1, h2, h3, h4⟩ := of_dcl h
  exact g x V T a b n' j' h1 h2 h3 h4
theorem k_dcv {ρ : Type} {f : Option ((Vt × Tt) × Nat × Nat)} {k : Vt → Tt → Option (ρ × Nat × Nat)} {z : ρ} {n j : Nat} {P : Prop} (g : ∀ V T a b n' j', f = some ((V, T), a, b) → k V T = some (z, n', j') → n = n' + a → j = j' + b → P) (h : dcv f k = some (z, n, j)) : P := by
  obtain ⟨V, T, a, b, n', j', h1, h2, h3, h4⟩ := of_dcv h
  exact g V T a b n' j' h1 h2 h3 h4
