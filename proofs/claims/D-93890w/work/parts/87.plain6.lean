/-! THE READER's item: its chain of numbers, plain, and what it owes -/
set_option maxRecDepth 100000
section
variable {c : Nat → Int32} {en a : Nat} {σ : cS}
def chN (σ : cS) (c : Nat → Int32) (en a : Nat) (W : Int32) (n i : Nat) (tl : Nat → Int32) (pos : Nat) : Prop := ∃ B, itemC σ c en a = itmC σ c en a W B ∧ argC σ c en W (numW W) 0 (fun _ => 0) B = argC σ c en W n i tl pos
theorem ch0x {w n pl : Nat} (hw : w < 6) (h1 : mtP c en a (offW w) (lnW w)) (hf : ¬ fulP σ (nI w)) (hN : numW (nI w) = n + 1) (h : nbX c en (a + lnW w) (fitP σ (nI w) (nI 0) 0) pl) : itemC σ c en a = (false, σ, pl) := by
  rcases h with ⟨h, rfl⟩ | ⟨h, h2, rfl⟩
  · exact it_nob hw h1 hf h
  · rw [it_yes hw h1 hf h]
    refine itm_x (tl := fun _ => 0) ?_
    rw [hN]
    exact ag_0x h2
theorem ch0 {w n : Nat} (hw : w < 6) (h1 : mtP c en a (offW w) (lnW w)) (hf : ¬ fulP σ (nI w)) (hN : numW (nI w) = n + 1) (h : nbP c en (a + lnW w) (fitP σ (nI w) (nI 0) 0)) : chN σ c en a (nI w) n 1 (va_up (fun _ => 0) 0 (numC c en (a + lnW w + 1)).1) (numC c en (a + lnW w + 1)).2 := by
  refine ⟨_, it_yes hw h1 hf h.1, ?_⟩
  rw [hN]
  exact ag_0 h.2.1 h.2.2
theorem chS {W : Int32} {n i pos : Nat} {tl : Nat → Int32} (hc : chN σ c en a W (n + 1) i tl pos) (hi : 0 < i) (h : nbP c en pos (fitP σ W (nI i) (tl 0))) : chN σ c en a W n (i + 1) (va_up tl i (numC c en (pos + 1)).1) (numC c en (pos + 1)).2 := by
  obtain ⟨B, h1, h2⟩ := hc
  exact ⟨B, h1, h2.trans (ag_1 hi h)⟩
theorem chX {W : Int32} {n i pos pl : Nat} {tl : Nat → Int32} (hc : chN σ c en a W (n + 1) i tl pos) (hi : 0 < i) (h : nbX c en pos (fitP σ W (nI i) (tl 0)) pl) : itemC σ c en a = (false, σ, pl) := by
  obtain ⟨B, h1, h2⟩ := hc
  rw [h1]
  exact itm_x (h2.trans (ag_x hi h))
theorem chF {W : Int32} {i pos : Nat} {tl : Nat → Int32} (hc : chN σ c en a W 0 i tl pos) : itemC σ c en a = (true, appC σ W tl, pos) := by
  obtain ⟨B, h1, h2⟩ := hc
  rw [h1]
  exact itm_y h2
/-! what numbers must fulfil -/
theorem ft00 (t : Int32) : ∀ v, bd v 0 99 → ((¬ v < 0 ∧ ¬ 6 < v) ↔ fitP σ (nI 0) (nI 0) t v) := by
  intro v hv
  simp (decide := true) only [fitP, if_true, if_false]
  simp only [i_lt, c_0, c_6]
  have := hv.1; have := hv.2
  omega
theorem ft01 (t : Int32) : ∀ v, bd v 0 99 → ((¬ v < 1 ∧ ¬ 99 < v) ↔ fitP σ (nI 0) (nI 1) t v) := by
  intro v hv
  simp (decide := true) only [fitP, if_true, if_false]
  simp only [i_lt, c_0, c_1, c_99]
  have := hv.1; have := hv.2
  omega
theorem ft02 (t : Int32) : ∀ v, bd v 0 99 → ((¬ v < 1 ∧ ¬ 9 < v) ↔ fitP σ (nI 0) (nI 2) t v) := by
  intro v hv
  simp (decide := true) only [fitP, if_true, if_false]
  simp only [i_lt, c_0, c_1, c_9, c_10]
  have := hv.1; have := hv.2
  omega
theorem ft03 (t : Int32) : fitP σ (nI 0) (nI 3) t = stepS σ := by
  funext v
  simp (decide := true) only [fitP, if_true, if_false]
theorem ft10 (t : Int32) : ∀ v, bd v 0 99 → ((¬ v < 1 ∧ ¬ 99 < v) ↔ fitP σ (nI 1) (nI 0) t v) := by
  intro v hv
  simp (decide := true) only [fitP, if_true, if_false]
  simp only [i_lt, c_0, c_1, c_99]
  have := hv.1; have := hv.2
  omega
theorem ft20 (t : Int32) (h : bd (σ 0 0) 0 8) : ∀ v, bd v 0 99 → ((¬ v < 0 ∧ ¬ σ 0 0 - 1 < v) ↔ fitP σ (nI 2) (nI 0) t v) := by
  intro v hv
  simp (decide := true) only [fitP, if_true, if_false]
  have h1 := h.1; have h2 := h.2
  have e := i_sub (x := σ 0 0) (y := 1) (by rw [c_1]; omega) (by rw [c_1]; omega)
  rw [c_1] at e
  simp only [i_lt, c_0, e]
  have := hv.1; have := hv.2
  omega
theorem ft21 (t : Int32) : fitP σ (nI 2) (nI 1) t = stepS σ := by
  funext v
  simp (decide := true) only [fitP, if_true, if_false]
theorem ft22 (t : Int32) : ∀ v, bd v 0 99 → ((¬ v < 0 ∧ ¬ 99 < v) ↔ fitP σ (nI 2) (nI 2) t v) := by
  intro v hv
  simp (decide := true) only [fitP, if_true, if_false]
  simp only [i_lt, c_0, c_99]
  have := hv.1; have := hv.2
  constructor
  · intro _; trivial
  · intro _; omega
theorem ft30 (t : Int32) {r m : Int32} (hm : m = if (1 : Int32) < r then r else 1) (hr : ∀ v, ¬ v < r ↔ (¬ v < σ 5 0 ∧ (∀ t, t < Int32.toNatClampNeg (σ 0 0) → ¬ v < σ 14 t) ∧ ∀ t, t < Int32.toNatClampNeg (σ 2 0) → ¬ v < σ 20 t)) : ∀ v, bd v 0 99 → ((¬ v < m ∧ ¬ 99 < v) ↔ fitP σ (nI 3) (nI 0) t v) := by
  intro v hv
  simp (decide := true) only [fitP, if_true, if_false]
  unfold longP
  rw [hm, mx_iff, hr v]
  constructor
  · rintro ⟨⟨h1, h2⟩, h3⟩
    exact ⟨h1, h3, h2⟩
  · rintro ⟨h1, h3, h2⟩
    exact ⟨⟨h1, h2⟩, h3⟩
theorem ft40 (t : Int32) : ∀ v, bd v 0 99 → ((¬ v < 0 ∧ ¬ 99 < v) ↔ fitP σ (nI 4) (nI 0) t v) := by
  intro v hv
  simp (decide := true) only [fitP, if_true, if_false]
  simp only [i_lt, c_0, c_99]
  have := hv.1; have := hv.2
  constructor
  · intro _; trivial
  · intro _; omega
theorem ftT : ∀ v : Int32, bd v 0 99 → ((¬ v < 0 ∧ ¬ 99 < v) ↔ True) := by
  intro v hv
  simp only [i_lt, c_0, c_99]
  have := hv.1; have := hv.2
  constructor
  · intro _; trivial
  · intro _; omega
theorem ft41 (t : Int32) : fitP σ (nI 4) (nI 1) t = riverP σ t := by
  funext v
  simp (decide := true) only [fitP, if_true, if_false]
theorem ft50 (t : Int32) : ∀ v, bd v 0 99 → ((¬ v < 0 ∧ ¬ 9 < v) ↔ fitP σ (nI 5) (nI 0) t v) := by
  intro v hv
  simp (decide := true) only [fitP, if_true, if_false]
  simp only [i_lt, c_0, c_9, c_10]
  have := hv.1; have := hv.2
  omega
theorem lt8 {x : Int32} (h : x < 8) : ¬ x = 8 := by
  intro e; rw [e] at h; exact absurd h (by decide)
theorem lt4 {x : Int32} (h : x < 4) : ¬ x = 4 := by
  intro e; rw [e] at h; exact absurd h (by decide)
theorem nlt8 {x : Int32} (hb : bd x 0 8) (h : ¬ x < 8) : x = 8 := by
  rw [i_lt, c_8] at h; have := hb.2; rw [i_eq, c_8]; omega
theorem nlt4 {x : Int32} (hb : bd x 0 4) (h : ¬ x < 4) : x = 4 := by
  rw [i_lt, c_4] at h; have := hb.2; rw [i_eq, c_4]; omega
theorem nf0 (h : σ 0 0 < 8) : ¬ fulP σ (nI 0) := by
  rintro (⟨-, q⟩ | ⟨q, -⟩ | ⟨q, -⟩)
  · exact lt8 h q
  · exact absurd q (by decide)
  · exact absurd q (by decide)
theorem nf1 (h : σ 1 0 < 8) : ¬ fulP σ (nI 1) := by
  rintro (⟨q, -⟩ | ⟨-, q⟩ | ⟨q, -⟩)
  · exact absurd q (by decide)
  · exact lt8 h q
  · exact absurd q (by decide)
theorem nf2 (h : σ 2 0 < 4) : ¬ fulP σ (nI 2) := by
  rintro (⟨q, -⟩ | ⟨q, -⟩ | ⟨-, q⟩)
  · exact absurd q (by decide)
  · exact absurd q (by decide)
  · exact lt4 h q
theorem nf345 {w : Nat} (h1 : 3 ≤ w) (h2 : w < 6) : ¬ fulP σ (nI w) := by
  have : w = 3 ∨ w = 4 ∨ w = 5 := by omega
  rcases this with rfl | rfl | rfl <;> (rintro (⟨q, -⟩ | ⟨q, -⟩ | ⟨q, -⟩) <;> exact absurd q (by decide))
theorem hk_x {w : Nat} {x : Int32} (hx : c a = x) (ht : ∀ k, k < 6 → k ≠ w → ¬ x = wrdC (offW k)) : ∀ j k, k < 6 → k ≠ w → m0 c en a k ≤ 1 ∧ m0 c en a k ≤ j := by
  intro j k h1 h2
  rw [m0_f (fun q => ht k h1 h2 (hx.symm.trans q.2))]
  exact ⟨Nat.zero_le _, Nat.zero_le _⟩
theorem mt_sh {p j : Nat} (h0 : a < en ∧ c a = wrdC p) (h : mtP c en (a + 1) (p + 1) j) : mtP c en a p (j + 1) := by
  intro t ht
  cases t with
  | zero => exact h0
  | succ t =>
    have := h t (by omega)
    rw [show a + 1 + t = a + (t + 1) by omega, show p + 1 + t = p + (t + 1) by omega] at this
    exact this
end
abbrev rdP (wn ra : Nat) : Nat → Prop := fun q => inW wn q ∨ q = ra
def itQ (M : PM) (ra ta wn : Nat) (o : Int32) (en : Nat) (c : Nat → Int32) (σ : cS) (a : Nat) (M' : PM) : Prop := ∃ σ' a', itemC σ c en a = (true, σ', a') ∧ RD M' ra ta wn o en c σ' a' ∧ frP (rdP wn ra) M M' ∧ ∀ i, i < Int32.toNatClampNeg (σ 0 0) → mR M' (wn + 1) i = mR M (wn + 1) i
def itX (M : PM) (ra wn en : Nat) (c : Nat → Int32) (σ : cS) (a q : Nat) (E : String) (M' : PM) : Prop := (itemC σ c en a).1 = false ∧ faO (rdP wn ra) M (itemC σ c en a).2.2 q E M'
section
variable {M M' : PM} {ra ta wn en a pl q pos : Nat} {o : Int32} {c : Nat → Int32} {σ σ' : cS} {E : String} {P : Nat → Prop} {v : Int32}
theorem fx0 (h : itemC σ c en a = (false, σ, pl)) (hf : faO P M pl q E M') (hp : ∀ q, P q → q = ra) : itX M ra wn en c σ a q E M' := by
  unfold itX
  rw [h]
  exact ⟨rfl, hf.mono frP.rf (fun x _ hx => Or.inr (hp x hx))⟩
theorem fx1 (h : itemC σ c en a = (false, σ, pl)) (hf : faO P (sI M ra 2 v) pl q E M') (hp : ∀ q, P q → q = ra) : itX M ra wn en c σ a q E M' := by
  unfold itX
  rw [h]
  exact ⟨rfl, hf.mono (frP.rf.sI fun _ => Or.inr rfl) (fun x _ hx => Or.inr (hp x hx))⟩
theorem itW (hi : itemC σ c en a = (true, σ', pos)) (hd0 : OkW σ ∧ a ≤ en) (hd : RD (sI M ra 2 (nI pos)) ra ta wn o en c σ pos) (hw : WX M' wn σ') (f : frP (inW wn) (sI M ra 2 (nI pos)) M') (g : ∀ i, i < Int32.toNatClampNeg (σ 0 0) → mR M' (wn + 1) i = mR M (wn + 1) i) : itQ M ra ta wn o en c σ a M' := by
  have hok := (item_ok hd0.1 (c := c) (en := en) (a := a) hd0.2).1 (by rw [hi])
  rw [hi] at hok
  have hpl := hd.2.1
  exact ⟨σ', pos, hi, hd.fr f (fun h => by have := h.2; omega) (fun h => by have := h.1; omega) (fun h => by have := h.1; omega) hw hok.1, (frP.rf.sI fun _ => Or.inr rfl).trans (f.mono fun _ _ h => Or.inl h), g⟩
end
