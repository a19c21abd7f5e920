/-! WORDS AND NUMBERS, plain: what an item is -/
set_option maxRecDepth 100000
def lnW (w : Nat) : Nat := [5, 3, 4, 4, 5, 4].getD w 0
abbrev mtP (c : Nat → Int32) (en a p j : Nat) : Prop := ∀ t, t < j → a + t < en ∧ c (a + t) = wrdC (p + t)
theorem tb1 : ∀ w, w < 6 → ∀ t, t < lnW w → 32 < wrdC (offW w + t) ∧ 0 < wrdC (offW w + t) := by decide +kernel
theorem tb2 : ∀ w, w < 6 → wrdC (offW w + lnW w) = 32 ∧ wrdC (offW w + (lnW w + 1)) = 0 ∧ lnW w + 1 < 7 ∧ 3 ≤ lnW w := by decide +kernel
theorem tb3 : ∀ w, w < 6 → ∀ f, f < 6 → wrdC (offW w + 0) = wrdC (offW f + 0) → wrdC (offW w + 1) = wrdC (offW f + 1) → w = f := by decide +kernel
theorem fst_no {P : Nat → Prop} : ∀ n, (∀ t, t < n → P t) ∨ ∃ j, j < n ∧ (∀ t, t < j → P t) ∧ ¬ P j
  | 0 => Or.inl fun t h => absurd h (Nat.not_lt_zero _)
  | n + 1 => by
    rcases fst_no (P := P) n with h | ⟨j, h1, h2, h3⟩
    · by_cases hp : P n
      · refine Or.inl fun t ht => ?_
        by_cases e : t = n
        · rw [e]; exact hp
        · exact h t (by omega)
      · exact Or.inr ⟨n, by omega, h, hp⟩
    · exact Or.inr ⟨j, by omega, h2, h3⟩
section
variable {c : Nat → Int32} {en : Nat} {lo : Int32}
theorem mt_eq : ∀ (j f p a : Nat), j < f → (∀ t, t < j → lo < wrdC (p + t) ∧ a + t < en ∧ c (a + t) = wrdC (p + t)) → ¬ (lo < wrdC (p + j) ∧ a + j < en ∧ c (a + j) = wrdC (p + j)) → mtC c en lo f p a = j
  | 0, f + 1, p, a, _, _, h2 => by rw [mtC]; exact if_neg h2
  | j + 1, f + 1, p, a, hj, h1, h2 => by
    have g := mt_eq j f (p + 1) (a + 1) (by omega) (fun t ht => by
      have := h1 (t + 1) (by omega)
      rw [show p + 1 + t = p + (t + 1) by omega, show a + 1 + t = a + (t + 1) by omega]
      exact this) (by
      rw [show p + 1 + j = p + (j + 1) by omega, show a + 1 + j = a + (j + 1) by omega]
      exact h2)
    rw [mtC, if_pos (show lo < wrdC p ∧ a < en ∧ c a = wrdC p from h1 0 (by omega)), g]
theorem mt_pre : ∀ (f p a t : Nat), t < mtC c en lo f p a → a + t < en ∧ c (a + t) = wrdC (p + t)
  | 0, p, a, t, h => absurd h (Nat.not_lt_zero _)
  | f + 1, p, a, t, h => by
    rw [mtC] at h
    by_cases q : lo < wrdC p ∧ a < en ∧ c a = wrdC p
    · rw [if_pos q] at h
      cases t with
      | zero => exact q.2
      | succ t =>
        have := mt_pre f (p + 1) (a + 1) t (by omega)
        rw [show p + 1 + t = p + (t + 1) by omega, show a + 1 + t = a + (t + 1) by omega] at this
        exact this
    · rw [if_neg q] at h; exact absurd h (Nat.not_lt_zero _)
end
section
variable {c : Nat → Int32} {en a : Nat} {σ : cS}
abbrev m0 (c : Nat → Int32) (en a w : Nat) : Nat := mtC c en 0 7 (offW w) a
theorem m0_1 {w j : Nat} (hw : w < 6) (hj : j < lnW w) (h1 : mtP c en a (offW w) j) (h2 : ¬ (a + j < en ∧ c (a + j) = wrdC (offW w + j))) : m0 c en a w = j := by
  have := (tb2 w hw).2.2.1
  exact mt_eq j 7 _ _ (by omega) (fun t ht => ⟨(tb1 w hw t (by omega)).2, h1 t ht⟩) (fun q => h2 q.2)
theorem m0_2 {w : Nat} (hw : w < 6) (h1 : mtP c en a (offW w) (lnW w)) (h2 : ¬ (a + lnW w < en ∧ c (a + lnW w) = 32)) : m0 c en a w = lnW w := by
  obtain ⟨e1, e2, e3, -⟩ := tb2 w hw
  exact mt_eq (lnW w) 7 _ _ (by omega) (fun t ht => ⟨(tb1 w hw t ht).2, h1 t ht⟩) (fun q => h2 (by rw [e1] at q; exact q.2))
theorem m0_3 {w : Nat} (hw : w < 6) (h1 : mtP c en a (offW w) (lnW w)) (h2 : a + lnW w < en ∧ c (a + lnW w) = 32) : m0 c en a w = lnW w + 1 := by
  obtain ⟨e1, e2, e3, -⟩ := tb2 w hw
  refine mt_eq (lnW w + 1) 7 _ _ e3 (fun t ht => ?_) (fun q => ?_)
  · by_cases e : t = lnW w
    · rw [e, e1]; exact ⟨by decide, h2⟩
    · exact ⟨(tb1 w hw t (by omega)).2, h1 t (by omega)⟩
  · rw [e2] at q; exact absurd q.1 (by decide)
/-- the word with its blank is there -/
theorem cpl_iff {w : Nat} (hw : w < 6) : wrdC (offW w + m0 c en a w) = 0 ↔ mtP c en a (offW w) (lnW w) ∧ (a + lnW w < en ∧ c (a + lnW w) = 32) := by
  obtain ⟨e1, e2, e3, -⟩ := tb2 w hw
  rcases fst_no (P := fun t => a + t < en ∧ c (a + t) = wrdC (offW w + t)) (lnW w) with h | ⟨j, j1, j2, j3⟩
  · by_cases hb : a + lnW w < en ∧ c (a + lnW w) = 32
    · rw [m0_3 hw h hb]
      exact ⟨fun _ => ⟨h, hb⟩, fun _ => e2⟩
    · rw [m0_2 hw h hb, e1]
      exact ⟨fun q => absurd q (by decide), fun q => absurd q.2 hb⟩
  · rw [m0_1 hw j1 j2 j3]
    refine ⟨fun q => ?_, fun q => absurd (q.1 j j1) j3⟩
    have := (tb1 w hw j j1).2
    rw [q] at this
    exact absurd this (by decide)
theorem isWP_iff {w : Nat} (hw : w < 6) : isWP c en a w ↔ mtP c en a (offW w) (lnW w) := by
  obtain ⟨e1, e2, e3, -⟩ := tb2 w hw
  unfold isWP
  rcases fst_no (P := fun t => a + t < en ∧ c (a + t) = wrdC (offW w + t)) (lnW w) with h | ⟨j, j1, j2, j3⟩
  · rw [mt_eq (c := c) (en := en) (lo := 32) (lnW w) 7 (offW w) a (by omega) (fun t ht => ⟨(tb1 w hw t ht).1, h t ht⟩) (fun q => by rw [e1] at q; exact absurd q.1 (by decide)), e1]
    exact ⟨fun _ => h, fun _ => by decide⟩
  · rw [mt_eq (c := c) (en := en) (lo := 32) j 7 (offW w) a (by omega) (fun t ht => ⟨(tb1 w hw t (by omega)).1, j2 t ht⟩) (fun q => j3 q.2)]
    exact ⟨fun q => absurd (tb1 w hw j j1).1 q, fun q => absurd (q j j1) j3⟩
theorem m0_le1 {w k : Nat} (hw : w < 6) (hk : k < 6) (hne : k ≠ w) (h0 : c a = wrdC (offW w + 0)) (h1 : c (a + 1) = wrdC (offW w + 1)) : m0 c en a k ≤ 1 := by
  rcases Nat.lt_or_ge 1 (m0 c en a k) with h | h
  · have p0 := mt_pre 7 (offW k) a 0 (Nat.lt_of_lt_of_le (by decide) (Nat.le_of_lt h))
    have p1 := mt_pre 7 (offW k) a 1 h
    exact absurd (tb3 k hk w hw (p0.2.symm.trans h0) (p1.2.symm.trans h1)) hne
  · exact h
theorem m0_f {k : Nat} (h : ¬ (a < en ∧ c a = wrdC (offW k))) : m0 c en a k = 0 := mt_eq 0 7 _ _ (by decide) (fun t ht => absurd ht (Nat.not_lt_zero _)) (fun q => h q.2)
theorem m0_s {k : Nat} (h : ¬ (a + 1 < en ∧ c (a + 1) = wrdC (offW k + 1))) : m0 c en a k ≤ 1 := by
  rcases Nat.lt_or_ge 1 (m0 c en a k) with q | q
  · exact absurd (mt_pre 7 (offW k) a 1 q) h
  · exact q
theorem m0_mt {k : Nat} (hk : k < 6) (h : mtP c en a (offW k) (lnW k)) : 3 ≤ m0 c en a k := by
  obtain ⟨-, -, -, e4⟩ := tb2 k hk
  by_cases hb : a + lnW k < en ∧ c (a + lnW k) = 32
  · rw [m0_3 hk h hb]; omega
  · rw [m0_2 hk h hb]; exact e4
theorem wdL_no {F : Nat} : ∀ (f w far : Nat), (∀ k, w ≤ k → k < w + f → ¬ wrdC (offW k + m0 c en a k) = 0) → (∀ k, w ≤ k → k < w + f → a + m0 c en a k ≤ F) → far ≤ F → (far = F ∨ ∃ k, w ≤ k ∧ k < w + f ∧ a + m0 c en a k = F) → wdL c en a f w far = (-1, F)
  | 0, w, far, _, _, h3, h4 => by
    rcases h4 with h | ⟨k, k1, k2, -⟩
    · rw [wdL, h]
    · omega
  | f + 1, w, far, h1, h2, h3, h4 => by
    have hw := h2 w (Nat.le_refl _) (by omega)
    rw [wdL, if_neg (h1 w (Nat.le_refl _) (by omega))]
    refine wdL_no f (w + 1) _ (fun k k1 k2 => h1 k (by omega) (by omega)) (fun k k1 k2 => h2 k (by omega) (by omega)) ?_ ?_
    · show (if far < a + m0 c en a w then a + m0 c en a w else far) ≤ F
      split <;> omega
    · rcases h4 with h | ⟨k, k1, k2, k3⟩
      · left
        rw [if_neg (by show ¬ far < a + m0 c en a w; omega)]; exact h
      · by_cases e : k = w
        · left
          subst e
          show (if far < a + m0 c en a k then a + m0 c en a k else far) = F
          split <;> omega
        · exact Or.inr ⟨k, by omega, by omega, k3⟩
theorem wdL_yes {k0 : Nat} : ∀ (f w far : Nat), w ≤ k0 → k0 < w + f → (∀ k, w ≤ k → k < k0 → ¬ wrdC (offW k + m0 c en a k) = 0) → wrdC (offW k0 + m0 c en a k0) = 0 → wdL c en a f w far = (nI k0, a + m0 c en a k0)
  | 0, w, far, h1, h2, _, _ => by omega
  | f + 1, w, far, h1, h2, h3, h4 => by
    rw [wdL]
    by_cases e : w = k0
    · subst e; rw [if_pos h4]
    · rw [if_neg (h3 w (Nat.le_refl _) (by omega))]
      exact wdL_yes f (w + 1) _ (by omega) (by omega) (fun k k1 k2 => h3 k (by omega) k2) h4
theorem mt_uniq {w f : Nat} (hw : w < 6) (hf : f < 6) (h1 : mtP c en a (offW w) (lnW w)) (h2 : mtP c en a (offW f) (lnW f)) : f = w := by
  have a1 := (tb2 w hw).2.2.2
  have a2 := (tb2 f hf).2.2.2
  exact tb3 f hf w hw ((h2 0 (by omega)).2.symm.trans (h1 0 (by omega)).2) ((h2 1 (by omega)).2.symm.trans (h1 1 (by omega)).2)
theorem it_full {w : Nat} (hw : w < 6) (h1 : mtP c en a (offW w) (lnW w)) (hf : fulP σ (nI w)) : itemC σ c en a = (false, σ, a) := by
  unfold itemC
  rw [cI_t ⟨w, hw, (isWP_iff hw).mpr h1, hf⟩]
theorem it_c1 {w : Nat} (hw : w < 6) (h1 : mtP c en a (offW w) (lnW w)) (hf : ¬ fulP σ (nI w)) : ¬ ∃ f, f < 6 ∧ isWP c en a f ∧ fulP σ (nI f) := by
  rintro ⟨f, f1, f2, f3⟩
  have := mt_uniq hw f1 h1 ((isWP_iff f1).mp f2)
  subst this
  exact hf f3
theorem it_nob {w : Nat} (hw : w < 6) (h1 : mtP c en a (offW w) (lnW w)) (hf : ¬ fulP σ (nI w)) (hb : ¬ (a + lnW w < en ∧ c (a + lnW w) = 32)) : itemC σ c en a = (false, σ, a + lnW w) := by
  have a1 := (tb2 w hw).2.2.2
  have e : wdC c en a = (-1, a + lnW w) := by
    refine wdL_no 6 0 a (fun k _ k2 q => ?_) (fun k _ k2 => ?_) (by omega) (Or.inr ⟨w, by omega, by omega, by rw [m0_2 hw h1 hb]⟩)
    · have g := (cpl_iff (by omega)).mp q
      have := mt_uniq hw (by omega) h1 g.1
      subst this
      exact hb g.2
    · by_cases e : k = w
      · subst e; rw [m0_2 hw h1 hb]; exact Nat.le_refl _
      · have := m0_le1 (en := en) (a := a) hw (show k < 6 by omega) e (h1 0 (by omega)).2 (h1 1 (by omega)).2
        omega
  unfold itemC
  rw [cI_f (it_c1 hw h1 hf), e, if_pos rfl]
theorem it_yes {w : Nat} (hw : w < 6) (h1 : mtP c en a (offW w) (lnW w)) (hf : ¬ fulP σ (nI w)) (hb : a + lnW w < en ∧ c (a + lnW w) = 32) : itemC σ c en a = itmC σ c en a (nI w) (a + lnW w + 1) := by
  have e : wdC c en a = (nI w, a + lnW w + 1) := by
    have := wdL_yes (c := c) (en := en) (a := a) (k0 := w) 6 0 a (Nat.zero_le _) (by omega) (fun k _ k2 q => ?_) ((cpl_iff hw).mpr ⟨h1, hb⟩)
    · rw [m0_3 hw h1 hb] at this; exact this
    · have g := (cpl_iff (by omega)).mp q
      have := mt_uniq hw (by omega) h1 g.1
      omega
  unfold itemC
  rw [cI_f (it_c1 hw h1 hf), e, if_neg (show ¬ nI w = -1 from ?_), cI_f hf]
  have : ∀ w, w < 6 → ¬ nI w = -1 := by decide
  exact this w hw
/-- no word is there: its place is the farthest one -/
theorem it_no {w j : Nat} (hw : w < 6) (hj : j < lnW w) (h1 : mtP c en a (offW w) j) (h2 : ¬ (a + j < en ∧ c (a + j) = wrdC (offW w + j))) (hk : ∀ k, k < 6 → k ≠ w → m0 c en a k ≤ 1 ∧ m0 c en a k ≤ j) : itemC σ c en a = (false, σ, a + j) := by
  have hn : ∀ k, k < 6 → ¬ mtP c en a (offW k) (lnW k) := by
    intro k h6 hm
    by_cases e : k = w
    · subst e; exact h2 (hm j hj)
    · have := m0_mt h6 hm
      have := (hk k h6 e).1
      omega
  have e : wdC c en a = (-1, a + j) := by
    refine wdL_no 6 0 a (fun k _ k2 q => hn k (by omega) ((cpl_iff (by omega)).mp q).1) (fun k _ k2 => ?_) (by omega) (Or.inr ⟨w, by omega, by omega, by rw [m0_1 hw hj h1 h2]⟩)
    by_cases e : k = w
    · subst e; rw [m0_1 hw hj h1 h2]; exact Nat.le_refl _
    · have := (hk k (by omega) e).2
      omega
  unfold itemC
  rw [cI_f (fun ⟨f, f1, f2, _⟩ => hn f f1 ((isWP_iff f1).mp f2)), e, if_pos rfl]
/-! numbers -/
def nbP (c : Nat → Int32) (en a : Nat) (P : Int32 → Prop) : Prop := (a < en ∧ c a = 32) ∧ dgP c en (a + 1) ∧ P (numC c en (a + 1)).1
def nbX (c : Nat → Int32) (en a : Nat) (P : Int32 → Prop) (pl : Nat) : Prop := (¬ (a < en ∧ c a = 32) ∧ pl = a) ∨ ((a < en ∧ c a = 32) ∧ ¬ (dgP c en (a + 1) ∧ P (numC c en (a + 1)).1) ∧ pl = a + 1)
theorem ag_1 {w : Int32} {n i : Nat} {tl : Nat → Int32} (hi : 0 < i) (h : nbP c en a (fitP σ w (nI i) (tl 0))) : argC σ c en w (n + 1) i tl a = argC σ c en w n (i + 1) (va_up tl i (numC c en (a + 1)).1) (numC c en (a + 1)).2 := by
  rw [argC, cI_f (fun q => q.2 h.1), if_pos hi, cI_t h.2.1, cI_t h.2.2]
theorem ag_x {w : Int32} {n i pl : Nat} {tl : Nat → Int32} (hi : 0 < i) (h : nbX c en a (fitP σ w (nI i) (tl 0)) pl) : argC σ c en w (n + 1) i tl a = (false, tl, pl) := by
  rw [argC]
  rcases h with ⟨h, rfl⟩ | ⟨h, h2, rfl⟩
  · rw [cI_t ⟨hi, h⟩]
  · rw [cI_f (fun q => q.2 h), if_pos hi]
    by_cases d : dgP c en (a + 1)
    · rw [cI_t d, cI_f (fun q => h2 ⟨d, q⟩)]
    · rw [cI_f d]
theorem ag_0 {w : Int32} {n : Nat} {tl : Nat → Int32} (h : dgP c en a) (h2 : fitP σ w (nI 0) (tl 0) (numC c en a).1) : argC σ c en w (n + 1) 0 tl a = argC σ c en w n 1 (va_up tl 0 (numC c en a).1) (numC c en a).2 := by
  rw [argC, cI_f (fun q => absurd q.1 (by decide)), if_neg (by decide), cI_t h, cI_t h2]
theorem ag_0x {w : Int32} {n : Nat} {tl : Nat → Int32} (h : ¬ (dgP c en a ∧ fitP σ w (nI 0) (tl 0) (numC c en a).1)) : argC σ c en w (n + 1) 0 tl a = (false, tl, a) := by
  rw [argC, cI_f (fun q => absurd q.1 (by decide)), if_neg (by decide)]
  by_cases d : dgP c en a
  · rw [cI_t d, cI_f (fun q => h ⟨d, q⟩)]
  · rw [cI_f d]
theorem itm_x {w : Int32} {b pl : Nat} {tl : Nat → Int32} (h : argC σ c en w (numW w) 0 (fun _ => 0) b = (false, tl, pl)) : itmC σ c en a w b = (false, σ, pl) := by
  unfold itmC
  rw [h, if_neg Bool.false_ne_true]
theorem itm_y {w : Int32} {b pl : Nat} {tl : Nat → Int32} (h : argC σ c en w (numW w) 0 (fun _ => 0) b = (true, tl, pl)) : itmC σ c en a w b = (true, appC σ w tl, pl) := by
  unfold itmC
  rw [h, if_pos rfl]
end
