/-! WHAT THE CALLS ANSWER AND DO: a valley told by letters; what always holds stays so -/
set_option maxRecDepth 100000
theorem up2_ap {α : Type} (σ : Nat → Nat → α) (a j : Nat) (v : α) (k i : Nat) : up2 σ a j v k i = if k = a then (if i = j then v else σ k i) else σ k i := by
  by_cases h : k = a
  · rw [if_pos h, h, up2_self]; rfl
  · rw [if_neg h, up2_ne h]
def mtC (c : Nat → Int32) (en : Nat) (lo : Int32) : Nat → Nat → Nat → Nat
  | 0, _, _ => 0
  | f + 1, p, a => if lo < wrdC p ∧ a < en ∧ c a = wrdC p then mtC c en lo f (p + 1) (a + 1) + 1 else 0
def offW (w : Nat) : Nat := [0, 7, 12, 18, 24, 31, 37].getD w 37
def wdL (c : Nat → Int32) (en a : Nat) : Nat → Nat → Nat → Int32 × Nat
  | 0, _, far => (-1, far)
  | f + 1, w, far => if wrdC (offW w + mtC c en 0 7 (offW w) a) = 0 then (nI w, a + mtC c en 0 7 (offW w) a) else wdL c en a f (w + 1) (if far < a + mtC c en 0 7 (offW w) a then a + mtC c en 0 7 (offW w) a else far)
def wdC (c : Nat → Int32) (en a : Nat) : Int32 × Nat := wdL c en a 6 0 a
def isWP (c : Nat → Int32) (en a w : Nat) : Prop := ¬ 32 < wrdC (offW w + mtC c en 32 7 (offW w) a)
def dgP (c : Nat → Int32) (en a : Nat) : Prop := a < en ∧ ¬ c a < 48 ∧ ¬ 57 < c a
noncomputable def numC (c : Nat → Int32) (en a : Nat) : Int32 × Nat := cI (dgP c en (a + 1)) (10 * (c a - 48) + c (a + 1) - 48, a + 2) (c a - 48, a + 1)
def fulP (σ : cS) (w : Int32) : Prop := w = 0 ∧ σ 0 0 = 8 ∨ w = 1 ∧ σ 1 0 = 8 ∨ w = 2 ∧ σ 2 0 = 4
def fitP (σ : cS) (w i t v : Int32) : Prop :=
  if w = 0 then (if i = 0 then ¬ 6 < v else if i = 1 then 0 < v else if i = 2 then 0 < v ∧ v < 10 else stepS σ v)
  else if w = 1 then 0 < v else if w = 2 then (if i = 0 then v < σ 0 0 else if i = 2 then True else stepS σ v) else if w = 3 then longP σ v
  else if w = 4 then (if i = 0 then True else riverP σ t v) else v < 10
noncomputable def argC (σ : cS) (c : Nat → Int32) (en : Nat) (w : Int32) : Nat → Nat → (Nat → Int32) → Nat → Bool × (Nat → Int32) × Nat
  | 0, _, tl, a => (true, tl, a)
  | n + 1, i, tl, a => cI (0 < i ∧ ¬ (a < en ∧ c a = 32)) (false, tl, a)
      (cI (dgP c en (if 0 < i then a + 1 else a)) (cI (fitP σ w (nI i) (tl 0) (numC c en (if 0 < i then a + 1 else a)).1) (argC σ c en w n (i + 1) (va_up tl i (numC c en (if 0 < i then a + 1 else a)).1) (numC c en (if 0 < i then a + 1 else a)).2) (false, tl, if 0 < i then a + 1 else a))
        (false, tl, if 0 < i then a + 1 else a))
def appC (σ : cS) (w : Int32) (tl : Nat → Int32) : cS :=
  if w = 0 then thingsS σ (tl 0) (tl 1) (tl 2) (tl 3) else if w = 1 then menS σ (tl 0) else if w = 2 then wantedS σ (tl 0) (tl 1) (tl 2)
  else if w = 3 then up2 σ 3 0 (tl 0) else if w = 4 then up2 (up2 σ 4 0 (tl 0)) 5 0 (tl 1) else up2 σ 6 0 (tl 0)
def numW (w : Int32) : Nat := if w = 0 then 4 else if w = 2 then 3 else if w = 4 then 2 else 1
noncomputable def itmC (σ : cS) (c : Nat → Int32) (en a : Nat) (w : Int32) (b : Nat) : Bool × cS × Nat :=
  if (argC σ c en w (numW w) 0 (fun _ => 0) b).1 = true then (true, appC σ w (argC σ c en w (numW w) 0 (fun _ => 0) b).2.1, (argC σ c en w (numW w) 0 (fun _ => 0) b).2.2) else (false, σ, (argC σ c en w (numW w) 0 (fun _ => 0) b).2.2)
noncomputable def itemC (σ : cS) (c : Nat → Int32) (en a : Nat) : Bool × cS × Nat :=
  cI (∃ f, f < 6 ∧ isWP c en a f ∧ fulP σ (nI f)) (false, σ, a)
  (if (wdC c en a).1 = -1 then (false, σ, (wdC c en a).2) else cI (fulP σ (wdC c en a).1) (false, σ, a) (itmC σ c en a (wdC c en a).1 (wdC c en a).2))
noncomputable def valL (c : Nat → Int32) (en : Nat) : Nat → cS → Nat → Nat → Bool × cS × Nat
  | 0, σ, _, n => (true, σ, n)
  | f + 1, σ, a, n => if a < en then (if c a = 59 then (if (itemC σ c en (a + 1)).1 = true then valL c en f (itemC σ c en (a + 1)).2.1 (itemC σ c en (a + 1)).2.2 (n + 1) else (false, σ, (itemC σ c en (a + 1)).2.2)) else (false, σ, a)) else (true, σ, n)
noncomputable def valC (σ : cS) (c : Nat → Int32) (en : Nat) : Bool × cS × Nat :=
  if (itemC σ c en 0).1 = true then valL c en (en + 1) (itemC σ c en 0).2.1 (itemC σ c en 0).2.2 1 else (false, σ, (itemC σ c en 0).2.2)
noncomputable def valV (S : ST) (s : Nat) : Bool × cS × Nat := valC (up2 S.1 9 0 (-1)) (fun i => (S.2 (160 * s + i)).toInt32) (Int32.toNatClampNeg (S.1 24 s))
noncomputable def valleyS (S : ST) (s : Int32) : Int32 × ST :=
  cI (¬ wantsC S s = 0) (noS S (wantsC S s)) (if (valV S (Int32.toNatClampNeg s)).1 = true then (nI (valV S (Int32.toNatClampNeg s)).2.2, ((valV S (Int32.toNatClampNeg s)).2.1, S.2)) else noS (up2 S.1 9 0 (nI (valV S (Int32.toNatClampNeg s)).2.2), S.2) (-6))
/-! the table -/
theorem wr_pos : ∀ p, p < 37 → (wrdC p = 0 ∨ 0 < wrdC p) := by decide +kernel
theorem wr_end : ∀ w, w < 6 → ∀ p, p < 37 → offW w ≤ p → p < offW (w + 1) → (wrdC p = 0 ↔ p + 1 = offW (w + 1)) := by decide +kernel
theorem wr_in : ∀ p, p < 37 → ¬ wrdC p = 0 → p + 1 < 37 := by decide +kernel
theorem wr_z : ∀ w, w < 6 → ¬ 0 < wrdC (offW (w + 1) - 1) ∧ offW w + 4 < offW (w + 1) ∧ offW (w + 1) ≤ offW w + 7 ∧ offW (w + 1) ≤ 37 := by decide +kernel
theorem mt_le {c : Nat → Int32} {en : Nat} {lo : Int32} : ∀ (f p a : Nat), a ≤ en → a + mtC c en lo f p a ≤ en
  | 0, _, _, h => h
  | f + 1, p, a, h => by
    rw [mtC]
    split
    · rename_i q
      have := mt_le (c := c) (en := en) (lo := lo) f (p + 1) (a + 1) q.2.1
      omega
    · exact h
theorem wdL_le {c : Nat → Int32} {en a : Nat} (ha : a ≤ en) : ∀ (f w far : Nat), far ≤ en → a ≤ far → (wdL c en a f w far).2 ≤ en ∧ a ≤ (wdL c en a f w far).2
  | 0, _, _, h, h2 => ⟨h, h2⟩
  | f + 1, w, far, h, h2 => by
    have m := mt_le (c := c) (en := en) (lo := 0) 7 (offW w) a ha
    rw [wdL]
    split
    · exact ⟨m, Nat.le_add_right _ _⟩
    · refine wdL_le ha f (w + 1) _ ?_ ?_ <;> (split <;> omega)
theorem wdL_w {c : Nat → Int32} {en a : Nat} : ∀ (f w far : Nat), (wdL c en a f w far).1 = -1 ∨ ∃ k, w ≤ k ∧ k < w + f ∧ (wdL c en a f w far).1 = nI k
  | 0, _, _ => Or.inl rfl
  | f + 1, w, far => by
    rw [wdL]
    split
    · exact Or.inr ⟨w, by omega, by omega, rfl⟩
    · rcases wdL_w (c := c) (en := en) (a := a) f (w + 1) (if far < a + mtC c en 0 7 (offW w) a then a + mtC c en 0 7 (offW w) a else far) with h | ⟨k, h1, h2, h3⟩
      · exact Or.inl h
      · exact Or.inr ⟨k, by omega, by omega, h3⟩
/-! digits -/
theorem c_48 : (48 : Int32).toInt = 48 := by decide
theorem c_57 : (57 : Int32).toInt = 57 := by decide
theorem c_6 : (6 : Int32).toInt = 6 := by decide
theorem c_8 : (8 : Int32).toInt = 8 := by decide
theorem c_4 : (4 : Int32).toInt = 4 := by decide
theorem c_9 : (9 : Int32).toInt = 9 := by decide
theorem num_ok {c : Nat → Int32} {en a : Nat} (h : dgP c en a) : bd (numC c en a).1 0 99 ∧ a < (numC c en a).2 ∧ (numC c en a).2 ≤ en := by
  obtain ⟨h1, h2, h3⟩ := h
  rw [i_lt, c_48] at h2
  rw [i_lt, c_57] at h3
  have e1 := i_sub (x := c a) (y := 48) (by rw [c_48]; omega) (by rw [c_48]; omega)
  rw [c_48] at e1
  unfold numC
  by_cases d : dgP c en (a + 1)
  · rw [cI_t d]
    obtain ⟨g1, g2, g3⟩ := d
    rw [i_lt, c_48] at g2
    rw [i_lt, c_57] at g3
    have e2 := i_mul (x := 10) (y := c a - 48) (by rw [c_10]; omega) (by rw [c_10]; omega)
    rw [c_10] at e2
    have e3 := i_add (x := 10 * (c a - 48)) (y := c (a + 1)) (by omega) (by omega)
    have e4 := i_sub (x := 10 * (c a - 48) + c (a + 1)) (y := 48) (by rw [c_48]; omega) (by rw [c_48]; omega)
    rw [c_48] at e4
    unfold bd
    show (0 ≤ (10 * (c a - 48) + c (a + 1) - 48).toInt ∧ (10 * (c a - 48) + c (a + 1) - 48).toInt ≤ 99) ∧ a < a + 2 ∧ a + 2 ≤ en
    omega
  · rw [cI_f d]
    unfold bd
    show (0 ≤ (c a - 48).toInt ∧ (c a - 48).toInt ≤ 99) ∧ a < a + 1 ∧ a + 1 ≤ en
    omega
/-! what always holds stays so -/
theorem OkW.c {σ τ : cS} (h : OkW σ) (e0 : ∀ k, k ≤ 6 → τ k 0 = σ k 0) (e : ∀ k, 11 ≤ k → k ≤ 21 → ∀ i, i < lnF k → τ k i = σ k i) : OkW τ := by
  obtain ⟨⟨a1, a2, a3⟩, ⟨b1, b2, b3, b4, b5⟩, h3, h4, h5⟩ := h
  have l0 : Int32.toNatClampNeg (σ 0 0) ≤ 8 := by have := ix_toInt a1.1; omega
  have l1 : Int32.toNatClampNeg (σ 1 0) ≤ 8 := by have := ix_toInt a2.1; omega
  have l2 : Int32.toNatClampNeg (σ 2 0) ≤ 4 := by have := ix_toInt a3.1; omega
  unfold OkW
  simp only [e0 0 (by omega), e0 1 (by omega), e0 2 (by omega), e0 3 (by omega), e0 4 (by omega), e0 5 (by omega), e0 6 (by omega)]
  refine ⟨⟨a1, a2, a3⟩, ⟨b1, b2, b3, b4, b5⟩, fun i hi => ?_, fun i hi => ?_, fun i hi => ?_⟩
  · rw [e 11 (by omega) (by omega) i (by show i < 8; omega), e 12 (by omega) (by omega) i (by show i < 8; omega), e 13 (by omega) (by omega) i (by show i < 8; omega), e 14 (by omega) (by omega) i (by show i < 8; omega), e 15 (by omega) (by omega) i (by show i < 8; omega), e 16 (by omega) (by omega) i (by show i < 8; omega)]
    have := h3 i hi
    unfold stepS at this ⊢
    rw [e0 3 (by omega), e0 4 (by omega), e0 5 (by omega)]
    exact this
  · rw [e 17 (by omega) (by omega) i (by show i < 8; omega), e 18 (by omega) (by omega) i (by show i < 8; omega)]
    exact h4 i hi
  · rw [e 19 (by omega) (by omega) i (by show i < 4; omega), e 20 (by omega) (by omega) i (by show i < 4; omega), e 21 (by omega) (by omega) i (by show i < 4; omega)]
    have := h5 i hi
    unfold stepS at this ⊢
    rw [e0 3 (by omega), e0 4 (by omega), e0 5 (by omega)]
    exact this
theorem OkW.things {σ : cS} (h : OkW σ) {k w e p : Int32} (hk : bd k 0 6) (hw : bd w 1 99) (he : bd e 1 9) (hp : stepS σ p) (h8 : ¬ σ 0 0 = 8) : OkW (thingsS σ k w e p) := by
  obtain ⟨N, hN, eN⟩ := bd_nI (n := 8) h.1.1
  have hN8 : N < 8 := by
    have : N ≠ 8 := fun q => h8 (by rw [eN, q]; rfl)
    omega
  have ix : Int32.toNatClampNeg (σ 0 0) = N := by rw [eN, ix_nI (by omega)]
  have e0 : σ 0 0 + 1 = nI (N + 1) := by rw [eN, nI_1]
  obtain ⟨⟨a1, a2, a3⟩, hb, h3, h4, h5⟩ := h
  unfold thingsS OkW
  simp (decide := true) only [up2_ap, if_true, if_false, ix, e0]
  refine ⟨⟨⟨by rw [nI_toInt (by omega)]; omega, by rw [nI_toInt (by omega)]; omega⟩, a2, a3⟩, hb, fun i hi => ?_, h4, fun i hi => ?_⟩
  · rw [ix_nI (by omega)] at hi
    by_cases ei : i = N
    · simp only [ei, if_true]
      exact ⟨hk, hw, he, hp, ⟨by rw [c_m1]; omega, by rw [c_m1]; have := a2.1; omega⟩, Or.inl trivial⟩
    · simp only [ei, if_false]
      exact h3 i (by rw [ix]; omega)
  · obtain ⟨g1, g2⟩ := h5 i hi
    refine ⟨⟨g1.1, ?_⟩, g2⟩
    rw [nI_toInt (by omega)]
    have := g1.2
    rw [eN, nI_toInt (by omega)] at this
    omega
theorem OkW.men {σ : cS} (h : OkW σ) {s : Int32} (hs : bd s 1 99) (h8 : ¬ σ 1 0 = 8) : OkW (menS σ s) := by
  obtain ⟨N, hN, eN⟩ := bd_nI (n := 8) h.1.2.1
  have hN8 : N < 8 := by
    have : N ≠ 8 := fun q => h8 (by rw [eN, q]; rfl)
    omega
  have ix : Int32.toNatClampNeg (σ 1 0) = N := by rw [eN, ix_nI (by omega)]
  have e0 : σ 1 0 + 1 = nI (N + 1) := by rw [eN, nI_1]
  obtain ⟨⟨a1, a2, a3⟩, hb, h3, h4, h5⟩ := h
  unfold menS OkW
  simp (decide := true) only [up2_ap, if_true, if_false, ix, e0]
  refine ⟨⟨a1, ⟨by rw [nI_toInt (by omega)]; omega, by rw [nI_toInt (by omega)]; omega⟩, a3⟩, hb, fun i hi => ?_, fun i hi => ?_, h5⟩
  · obtain ⟨g1, g2, g3, g4, g5, g6⟩ := h3 i hi
    refine ⟨g1, g2, g3, g4, ⟨g5.1, ?_⟩, g6⟩
    rw [nI_toInt (by omega)]
    have := g5.2
    rw [eN, nI_toInt (by omega)] at this
    omega
  · rw [ix_nI (by omega)] at hi
    by_cases ei : i = N
    · simp only [ei, if_true]
      exact ⟨hs, by rw [c_0]; omega, by rw [c_0]; omega⟩
    · simp only [ei, if_false]
      exact h4 i (by rw [ix]; omega)
theorem OkW.wanted {σ : cS} (h : OkW σ) {t p v : Int32} (ht : thP σ t) (hp : stepS σ p) (hv : bd v 0 99) (h4' : ¬ σ 2 0 = 4) : OkW (wantedS σ t p v) := by
  obtain ⟨N, hN, eN⟩ := bd_nI (n := 4) h.1.2.2
  have hN8 : N < 4 := by
    have : N ≠ 4 := fun q => h4' (by rw [eN, q]; rfl)
    omega
  have ix : Int32.toNatClampNeg (σ 2 0) = N := by rw [eN, ix_nI (by omega)]
  have e0 : σ 2 0 + 1 = nI (N + 1) := by rw [eN, nI_1]
  obtain ⟨⟨a1, a2, a3⟩, hb, h3, h4, h5⟩ := h
  unfold wantedS OkW
  simp (decide := true) only [up2_ap, if_true, if_false, ix, e0]
  refine ⟨⟨a1, a2, ⟨by rw [nI_toInt (by omega)]; omega, by rw [nI_toInt (by omega)]; omega⟩⟩, hb, h3, h4, fun i hi => ?_⟩
  rw [ix_nI (by omega)] at hi
  by_cases ei : i = N
  · simp only [ei, if_true]
    obtain ⟨q1, q2⟩ := ht
    rw [i_lt, c_0] at q1
    rw [i_lt] at q2
    exact ⟨⟨by omega, q2⟩, hp, hv⟩
  · simp only [ei, if_false]
    exact h5 i (by rw [ix]; omega)
theorem OkW.long {σ : cS} (h : OkW σ) {v : Int32} (hv : longP σ v) : OkW (up2 σ 3 0 v) := by
  obtain ⟨⟨a1, a2, a3⟩, ⟨b1, b2, b3, b4, b5⟩, h3, h4, h5⟩ := h
  obtain ⟨v1, v2, v3, v4, v5⟩ := hv
  have w1 := v1
  have w2 := v2
  have w3 := v3
  rw [i_lt, c_1] at w1
  rw [i_lt, c_99] at w2
  rw [i_lt] at w3
  unfold OkW
  simp (decide := true) only [up2_ap, if_true, if_false]
  refine ⟨⟨a1, a2, a3⟩, ⟨⟨by omega, by omega⟩, b2, b3, by omega, b5⟩, fun i hi => ?_, h4, fun i hi => ?_⟩
  · obtain ⟨g1, g2, g3, g4, g5⟩ := h3 i hi
    refine ⟨g1, g2, g3, ?_, g5⟩
    unfold stepS at g4 ⊢
    simp (decide := true) only [up2_ap, if_true, if_false]
    exact ⟨g4.1, v4 i hi, g4.2.2⟩
  · obtain ⟨g1, g2, g3⟩ := h5 i hi
    refine ⟨g1, ?_, g3⟩
    unfold stepS at g2 ⊢
    simp (decide := true) only [up2_ap, if_true, if_false]
    exact ⟨g2.1, v5 i hi, g2.2.2⟩
theorem OkW.river {σ : cS} (h : OkW σ) {f t : Int32} (hv : riverP σ f t) : OkW (up2 (up2 σ 4 0 f) 5 0 t) := by
  obtain ⟨⟨a1, a2, a3⟩, ⟨b1, b2, b3, b4, b5⟩, h3, h4, h5⟩ := h
  obtain ⟨v1, v2, v3, v4, v5⟩ := hv
  have w1 := v1
  have w2 := v2
  have w3 := v3
  rw [i_lt, c_0] at w1
  rw [i_lt] at w2 w3
  unfold OkW
  simp (decide := true) only [up2_ap, if_true, if_false]
  refine ⟨⟨a1, a2, a3⟩, ⟨b1, by omega, by omega, by omega, b5⟩, fun i hi => ?_, h4, fun i hi => ?_⟩
  · obtain ⟨g1, g2, g3, g4, g5⟩ := h3 i hi
    refine ⟨g1, g2, g3, ?_, g5⟩
    unfold stepS at g4 ⊢
    simp (decide := true) only [up2_ap, if_true, if_false]
    exact ⟨g4.1, g4.2.1, v4 i hi⟩
  · obtain ⟨g1, g2, g3⟩ := h5 i hi
    refine ⟨g1, ?_, g3⟩
    unfold stepS at g2 ⊢
    simp (decide := true) only [up2_ap, if_true, if_false]
    exact ⟨g2.1, g2.2.1, v5 i hi⟩
theorem OkW.wind {σ : cS} (h : OkW σ) {v : Int32} (hv : bd v 0 9) : OkW (up2 σ 6 0 v) := by
  obtain ⟨⟨a1, a2, a3⟩, ⟨b1, b2, b3, b4, b5⟩, h3, h4, h5⟩ := h
  unfold OkW
  simp (decide := true) only [up2_ap, if_true, if_false]
  exact ⟨⟨a1, a2, a3⟩, ⟨b1, b2, b3, b4, hv⟩, h3, h4, h5⟩
/-! an item keeps it -/
/-- what the numbers told of a word fulfil -/
def tldP (σ : cS) (w : Int32) (tl : Nat → Int32) (n : Nat) : Prop := ∀ j, j < n → bd (tl j) 0 99 ∧ fitP σ w (nI j) (tl 0) (tl j)
theorem arg_ok {σ : cS} {c : Nat → Int32} {en : Nat} {w : Int32} : ∀ (n i : Nat) (tl : Nat → Int32) (a : Nat), a ≤ en → tldP σ w tl i → i + n ≤ 100 → ((argC σ c en w n i tl a).1 = true → tldP σ w (argC σ c en w n i tl a).2.1 (i + n) ∧ (0 < n → a < (argC σ c en w n i tl a).2.2)) ∧ (argC σ c en w n i tl a).2.2 ≤ en ∧ a ≤ (argC σ c en w n i tl a).2.2
  | 0, i, tl, a, ha, h, _ => ⟨fun _ => ⟨h, fun q => absurd q (by omega)⟩, ha, Nat.le_refl _⟩
  | n + 1, i, tl, a, ha, h, h100 => by
    rw [argC]
    by_cases c1 : 0 < i ∧ ¬ (a < en ∧ c a = 32)
    · rw [cI_t c1]; exact ⟨fun q => (Bool.false_ne_true q).elim, ha, Nat.le_refl _⟩
    · rw [cI_f c1]
      have hb : (if 0 < i then a + 1 else a) ≤ en ∧ a ≤ (if 0 < i then a + 1 else a) := by
        by_cases hi : 0 < i
        · rw [if_pos hi]
          have : a < en := Classical.byContradiction fun q => c1 ⟨hi, fun z => q z.1⟩
          omega
        · rw [if_neg hi]; omega
      generalize (if 0 < i then a + 1 else a) = b at hb
      by_cases c2 : dgP c en b
      · rw [cI_t c2]
        obtain ⟨n1, n2, n3⟩ := num_ok c2
        by_cases c3 : fitP σ w (nI i) (tl 0) (numC c en b).1
        · rw [cI_t c3]
          have hn : tldP σ w (va_up tl i (numC c en b).1) (i + 1) := by
            intro j hj
            by_cases i0 : i = 0
            · subst i0
              have : j = 0 := by omega
              subst this
              rw [va_up_self]
              refine ⟨n1, ?_⟩
              have c3 := c3
              unfold fitP at c3 ⊢
              simpa only [show nI 0 = (0 : Int32) from rfl, if_true] using c3
            · rw [va_up_ne _ _ (show 0 ≠ i by omega)]
              by_cases ej : j = i
              · subst ej; rw [va_up_self]; exact ⟨n1, c3⟩
              · rw [va_up_ne _ _ ej]; exact h j (by omega)
          obtain ⟨r1, r2, r3⟩ := arg_ok (σ := σ) (c := c) (en := en) (w := w) n (i + 1) _ (numC c en b).2 n3 hn (by omega)
          refine ⟨fun q => ⟨?_, fun _ => by omega⟩, r2, by omega⟩
          have := (r1 q).1
          rw [show i + (n + 1) = i + 1 + n by omega]
          exact this
        · rw [cI_f c3]; exact ⟨fun q => (Bool.false_ne_true q).elim, hb.1, hb.2⟩
      · rw [cI_f c2]; exact ⟨fun q => (Bool.false_ne_true q).elim, hb.1, hb.2⟩
theorem app_ok {σ : cS} (h : OkW σ) {w : Int32} {tl : Nat → Int32} (ht : tldP σ w tl (numW w)) (hf : ¬ fulP σ w) : OkW (appC σ w tl) := by
  unfold appC
  by_cases w0 : w = 0
  · subst w0
    rw [if_pos rfl]
    have t0 := ht 0 (by decide); have t1 := ht 1 (by decide); have t2 := ht 2 (by decide); have t3 := ht 3 (by decide)
    simp (decide := true) only [fitP, if_true, if_false] at t0 t1 t2 t3
    refine h.things ⟨t0.1.1, ?_⟩ ⟨?_, t1.1.2⟩ ⟨?_, ?_⟩ t3.2 (fun q => hf (Or.inl ⟨rfl, q⟩))
    · have := t0.2; rw [i_lt, c_6] at this; omega
    · have := t1.2; rw [i_lt, c_0] at this; omega
    · have := t2.2.1; rw [i_lt, c_0] at this; omega
    · have := t2.2.2; rw [i_lt, c_10] at this; omega
  · rw [if_neg w0]
    by_cases w1 : w = 1
    · subst w1
      rw [if_pos rfl]
      have t0 := ht 0 (by decide)
      simp (decide := true) only [fitP, if_true, if_false] at t0
      refine h.men ⟨?_, t0.1.2⟩ (fun q => hf (Or.inr (Or.inl ⟨rfl, q⟩)))
      have := t0.2; rw [i_lt, c_0] at this; omega
    · rw [if_neg w1]
      by_cases w2 : w = 2
      · subst w2
        rw [if_pos rfl]
        have t0 := ht 0 (by decide); have t1 := ht 1 (by decide); have t2 := ht 2 (by decide)
        simp (decide := true) only [fitP, if_true, if_false] at t0 t1 t2
        exact h.wanted ⟨n_neg t0.1.1, t0.2⟩ t1.2 t2.1 (fun q => hf (Or.inr (Or.inr ⟨rfl, q⟩)))
      · rw [if_neg w2]
        by_cases w3 : w = 3
        · subst w3
          rw [if_pos rfl]
          have t0 := ht 0 (by decide)
          simp (decide := true) only [fitP, if_true, if_false] at t0
          exact h.long t0.2
        · rw [if_neg w3]
          by_cases w4 : w = 4
          · subst w4
            rw [if_pos rfl]
            have t1 := ht 1 (by decide)
            simp (decide := true) only [fitP, if_true, if_false] at t1
            exact h.river t1.2
          · rw [if_neg w4]
            have t0 := ht 0 (by unfold numW; rw [if_neg w0, if_neg w2, if_neg w4]; decide)
            unfold fitP at t0
            rw [if_neg w0, if_neg w1, if_neg w2, if_neg w3, if_neg w4] at t0
            refine h.wind ⟨t0.1.1, ?_⟩
            have := t0.2; rw [i_lt, c_10] at this; omega
theorem item_ok {σ : cS} (h : OkW σ) {c : Nat → Int32} {en a : Nat} (ha : a ≤ en) : ((itemC σ c en a).1 = true → OkW (itemC σ c en a).2.1 ∧ a < (itemC σ c en a).2.2) ∧ (itemC σ c en a).2.2 ≤ en := by
  unfold itemC
  by_cases c1 : ∃ f, f < 6 ∧ isWP c en a f ∧ fulP σ (nI f)
  · rw [cI_t c1]; exact ⟨fun q => (Bool.false_ne_true q).elim, ha⟩
  · rw [cI_f c1]
    have hw := wdL_le (c := c) ha 6 0 a ha (Nat.le_refl _)
    rw [show wdL c en a 6 0 a = wdC c en a from rfl] at hw
    by_cases c2 : (wdC c en a).1 = -1
    · rw [if_pos c2]; exact ⟨fun q => (Bool.false_ne_true q).elim, hw.1⟩
    · rw [if_neg c2]
      by_cases c3 : fulP σ (wdC c en a).1
      · rw [cI_t c3]; exact ⟨fun q => (Bool.false_ne_true q).elim, ha⟩
      · rw [cI_f c3]
        unfold itmC
        obtain ⟨r1, r2, r3⟩ := arg_ok (σ := σ) (c := c) (w := (wdC c en a).1) (numW (wdC c en a).1) 0 (fun _ => 0) (wdC c en a).2 hw.1 (fun j hj => absurd hj (by omega)) (by unfold numW; split <;> (try split) <;> (try split) <;> omega)
        by_cases c4 : (argC σ c en (wdC c en a).1 (numW (wdC c en a).1) 0 (fun _ => 0) (wdC c en a).2).1 = true
        · rw [if_pos c4]
          obtain ⟨q1, q2⟩ := r1 c4
          rw [Nat.zero_add] at q1
          have q3 := q2 (by unfold numW; split <;> (try split) <;> (try split) <;> omega)
          refine ⟨fun _ => ⟨app_ok h q1 c3, ?_⟩, r2⟩
          have := hw.2
          show a < (argC σ c en (wdC c en a).1 (numW (wdC c en a).1) 0 (fun _ => 0) (wdC c en a).2).2.2
          omega
        · rw [if_neg c4]; exact ⟨fun q => (Bool.false_ne_true q).elim, r2⟩
