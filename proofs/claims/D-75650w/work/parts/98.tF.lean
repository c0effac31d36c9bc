/-! 98: the component's reader: parts of sums -/
set_option maxRecDepth 100000
theorem isSum.mo {B B' : Nat → Prop} {T : Tt} {V : Vt} (hB : ∀ h, B h → B' h) : ∀ {d d' h : Nat} {m : Sm}, d ≤ d' → isSum d B T V h m → isSum d' B' T V h m := by
  intro d
  induction d with
  | zero => intro d' h m _ q; exact absurd q id
  | succ d ih =>
    intro d' h m hd q
    obtain ⟨d', rfl⟩ : ∃ k, d' = k + 1 := ⟨d' - 1, by omega⟩
    obtain ⟨b, q⟩ := q
    refine ⟨hB _ b, ?_⟩
    rcases q with q | q | ⟨k, o, l, r, ml, mr, o1, o2, e0, el, er, ql, qr, z⟩
    · exact Or.inl q
    · exact Or.inr (Or.inl q)
    · exact Or.inr (Or.inr ⟨k, o, l, r, ml, mr, o1, o2, e0, el, er, ih (by omega) ql, ih (by omega) qr, z⟩)
abbrev bt (b0 : Nat) (T : Tt) (h : Nat) : Prop := b0 ≤ h ∧ h < T.2.2
theorem isSum.gr {b0 o : Nat} (hb : o < b0) {d d' h : Nat} {T T' : Tt} {V V' : Vt} {m : Sm} (q : isSum d (bt b0 T) T V h m) (ex : exT T T') (f : frO (fun h => h = o) T.2.2 V V') (hd : d ≤ d') : isSum d' (bt b0 T') T' V' h m :=
  isSum.mo (fun h y => ⟨y.1, Nat.lt_of_lt_of_le y.2 ex.1⟩) hd ((q.ft (T' := T') (fun h y => (ex.2 h y.2).1)).fr (fun h j y => (f h j y.2 (by have := y.1; omega)).1) (fun h j y => (f h j y.2 (by have := y.1; omega)).2.2))
theorem rdR.fo {T T' : Tt} {V W : Vt} {o : Nat} {tp : Nat → Nat} {n m : Nat} {s : Sg} (h : rdR T V o tp n s) (ho : o < m) (h21 : 21 < m) (hm : m ≤ T.2.2) (ex : exT T T') (f : frO (fun _ => False) m V W) : rdR T' W o tp n s :=
  ⟨⟨h.t.ko.ex (by omega) ex, ((f o 0 ho id).2.2).trans h.t.r0, ((f o 1 ho id).1).trans h.t.n1, ⟨(ex.2 21 (by omega)).1.trans h.t.k.1, (ex.2 21 (by omega)).2.trans h.t.k.2⟩, fun i hi => ((f 21 i h21 id).1).trans (h.t.t i hi), h.t.b, h.t.n, h.t.o⟩, ((f o 3 ho id).1).trans h.fr, ((f o 4 ho id).1).trans h.to, ((f o 5 ho id).1).trans h.lv, ((f o 6 ho id).1).trans h.dp⟩
/-- what a reader needs of the cells -/
abbrev okC (T : Tt) (o b0 : Nat) (ord : Bool) : Prop := (o < T.2.2) ∧ (21 < T.2.2) ∧ (rdK T o ord) ∧ (b0 ≤ T.2.2) ∧ (o < b0)
theorem okC.o {T : Tt} {o b0 : Nat} {ord : Bool} (h__ : okC T o b0 ord) : o < T.2.2 := h__.1
theorem okC.t {T : Tt} {o b0 : Nat} {ord : Bool} (h__ : okC T o b0 ord) : 21 < T.2.2 := h__.2.1
theorem okC.k {T : Tt} {o b0 : Nat} {ord : Bool} (h__ : okC T o b0 ord) : rdK T o ord := h__.2.2.1
theorem okC.b {T : Tt} {o b0 : Nat} {ord : Bool} (h__ : okC T o b0 ord) : b0 ≤ T.2.2 := h__.2.2.2.1
theorem okC.ob {T : Tt} {o b0 : Nat} {ord : Bool} (h__ : okC T o b0 ord) : o < b0 := h__.2.2.2.2
theorem okC.ex {T T' : Tt} {o b0 : Nat} {ord : Bool} (h : okC T o b0 ord) (ex : exT T T') : okC T' o b0 ord := ⟨Nat.lt_of_lt_of_le h.o ex.1, Nat.lt_of_lt_of_le h.t ex.1, (ex.2 o h.o).1.trans h.k, Nat.le_trans h.b ex.1, h.ob⟩
/-- a sum was read: its tree -/
abbrev gS (b0 : Nat) (s0 : Sg) : Sm → Nat → Sg → Tt → Vt → Prop := fun m r s' T V => s'.dp = s0.dp ∧ s0.lv < s'.lv ∧ s0.fr < s'.fr ∧ isSum (s'.lv - s0.lv) (bt b0 T) T V r m
theorem spN_of {tp : Nat → Nat} {n lo hi : Nat} {s s' : Sg} {a : Nat} (h : spN tp n lo hi s = .inr (a, s')) : s' = nx tp n s ∧ lo ≤ a ∧ a ≤ hi ∧ s.fr < n := by
  rw [spN] at h
  split at h
  · rename_i q
    cases h
    have := q.1
    rw [dg, Bool.and_eq_true] at this
    exact ⟨rfl, q.2.1, q.2.2, of_decide_eq_true this.1⟩
  · cases h
theorem tkw_lt {tp : Nat → Nat} {n : Nat} {s : Sg} {w : List Nat} (hs : okR tp n s) (q : tkw tp s w = true) (hw : 0 < w.length) : s.fr < n := by
  rw [tkw, Bool.and_eq_true] at q
  have := of_decide_eq_true q.1
  have := hs.to
  omega
theorem vwd_lt {tp : Nat → Nat} {n : Nat} {ord : Bool} {s : Sg} {i : Nat} (hs : okR tp n s) (q : vwd tp ord s = some i) : s.fr < n ∧ i < 7 := by
  rw [vwd] at q
  split at q
  · split at q
    · rename_i w; cases q; exact ⟨tkw_lt hs w (by decide), by omega⟩
    split at q
    · rename_i w; cases q; exact ⟨tkw_lt hs w (by decide), by omega⟩
    split at q
    · rename_i w; cases q; exact ⟨tkw_lt hs w (by decide), by omega⟩
    split at q
    · rename_i w; cases q; exact ⟨tkw_lt hs w (by decide), by omega⟩
    split at q
    · rename_i w; cases q; exact ⟨tkw_lt hs w (by decide), by omega⟩
    split at q
    · rename_i w; cases q; exact ⟨tkw_lt hs w (by decide), by omega⟩
    split at q
    · rename_i w; cases q; exact ⟨tkw_lt hs w (by decide), by omega⟩
    · cases q
  · split at q
    · rename_i w; cases q; exact ⟨tkw_lt hs w (by decide), by omega⟩
    split at q
    · rename_i w; cases q; exact ⟨tkw_lt hs w (by decide), by omega⟩
    split at q
    · rename_i w; cases q; exact ⟨tkw_lt hs w (by decide), by omega⟩
    split at q
    · rename_i w; cases q; exact ⟨tkw_lt hs w (by decide), by omega⟩
    split at q
    · rename_i w; cases q; exact ⟨tkw_lt hs w (by decide), by omega⟩
    split at q
    · rename_i w; cases q; exact ⟨tkw_lt hs w (by decide), by omega⟩
    split at q
    · rename_i w; cases q; exact ⟨tkw_lt hs w (by decide), by omega⟩
    · cases q
theorem wl_lt {tp : Nat → Nat} {n : Nat} {s : Sg} (hs : okR tp n s) (q : s.fr < n) : s.fr < (nx tp n s.wl).fr := nx_lt (s := s) hs q
theorem spV0_of {tp : Nat → Nat} {n : Nat} {ord : Bool} {s s' : Sg} {w : Nat} (hs : okR tp n s) (h : spV0 tp n ord s = .inr (some w, s')) : s'.lv = s.lv + 1 ∧ s'.dp = s.dp ∧ s.fr < s'.fr ∧ w < (if ord = true then 28 else 7) := by
  rw [spV0] at h
  cases hv : vwd tp ord s with
  | none => rw [hv] at h; cases h
  | some i =>
    rw [hv] at h
    have hi := vwd_lt hs hv
    dsimp only at h
    rw [spLfN] at h
    by_cases q : s.lv = 50
    · rw [if_pos q] at h
      cases h
    · rw [if_neg q] at h
      have h : (if ord = true ∧ 4 ≤ i then rb (spN tp n 0 7 (nx tp n s.wl)) (fun k s3 => .inr (some (4 + 8 * (i - 4) + k), s3)) else .inr (some i, nx tp n s.wl)) = (.inr (some w, s') : Rs (Option Nat)) := h
      have l1 := wl_lt hs hi.1
      split at h
      · rename_i y
        cases hN : spN tp n 0 7 (nx tp n s.wl) with
        | inl p => rw [hN] at h; cases h
        | inr z =>
          obtain ⟨a, s2⟩ := z
          rw [hN] at h
          cases h
          obtain ⟨rfl, a1, a2, a3⟩ := spN_of hN
          have hw := hs.wl q
          have l2 := nx_lt hw.nx a3
          refine ⟨rfl, rfl, by omega, ?_⟩
          rw [if_pos y.1]
          omega
      · rename_i y
        cases h
        refine ⟨rfl, rfl, l1, ?_⟩
        cases ord with
        | true =>
          rw [if_pos rfl]
          omega
        | false =>
          rw [if_neg (by decide)]
          exact hi.2
theorem rb_rb {α β γ : Type} {x : Rs α} {f : α → Sg → Rs β} {g : β → Sg → Rs γ} : rb (rb x f) g = rb x fun a s => rb (f a s) g := by
  cases x with
  | inl p => rfl
  | inr z => rfl
/-- a fresh cell and what is written in it does not touch others -/
theorem frF_z {V : Vt} {q : Nat} : frO (fun _ => False) q V (zV V q) := frO_z
theorem frF_I {V W : Vt} {n q k : Nat} {x : Int32} (h : frO (fun _ => False) n V W) (hq : n ≤ q) : frO (fun _ => False) n V (uI W q k x) := h.tr (frO_I fun w => absurd w (by omega)) (Nat.le_refl _)
theorem frF_R {V W : Vt} {n q k : Nat} {x : Option Nat} (h : frO (fun _ => False) n V W) (hq : n ≤ q) : frO (fun _ => False) n V (uR W q k x) := h.tr (frO_R fun w => absurd w (by omega)) (Nat.le_refl _)
theorem frF_o {V W : Vt} {n o : Nat} (h : frO (fun _ => False) n V W) : frO (fun h => h = o) n V W := h.mo (Nat.le_refl _) fun _ _ w => absurd w id
theorem sO2_F {V W : Vt} {n o : Nat} (h : frO (fun _ => False) n V W) (ho : o < n) : sO2 o V W := ⟨fun j => (h o j ho id).2.2, (h o 2 ho id).1⟩
