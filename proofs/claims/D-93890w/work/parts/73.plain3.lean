/-! PLAIN: who goes first (hand-written) -/
set_option maxRecDepth 100000
/-- of a set that brings it there, the first one who may go first -/
theorem nxt_good {rf rt p q : Int32} {fr : Nat → Int32} {n s : Nat} (hn : n ≤ 8) (hq : onD rf rt p q) (h99 : p.toInt ≤ 99) (hto : ¬ wetP rf rt p) (hf : ∀ m, m < n → bd (fr m) 0 60) (hs : s < 2 ^ n) (h0 : s ≠ 0) (he : endC rf rt p fr q n s = p) :
    goodC rf rt p fr n q s (nxtC (goodC rf rt p fr n q s) 8 0) = true ∧ nxtC (goodC rf rt p fr n q s) 8 0 < n ∧ ∀ j, j < nxtC (goodC rf rt p fr n q s) 8 0 → goodC rf rt p fr n q s j = false := by
  obtain ⟨m0, hm0, hb0, hle⟩ := end_first (fr := fr) hn hq h99 hto hf s hs h0
  have g := goes_ok (f := fr m0) hq.1 hq.2.1 h99 (hf m0 hm0) hq.2.2 hto
  have e2 := (end_on (fr := fr) (n := n) (p := goesC rf rt q (fr m0) p) ⟨by have := hq.1; omega, g.2.1, g.2.2⟩ h99 hto hf (s - 2 ^ m0)).1.2.1
  have hg0 : goodC rf rt p fr n q s m0 = true := by
    unfold goodC
    rw [hb0, Bool.true_and, decide_eq_true_eq, i_eq]
    rw [he] at hle
    omega
  obtain ⟨n1, n2, n3, n4⟩ := nxt_ok (g := goodC rf rt p fr n q s) 8 0 ⟨m0, by omega, by omega, hg0⟩
  refine ⟨n1, ?_, fun j hj => n4 j (Nat.zero_le _) hj⟩
  have hb : s.testBit (nxtC (goodC rf rt p fr n q s) 8 0) = true := by
    have h9 := n1
    unfold goodC at h9
    rw [Bool.and_eq_true] at h9
    exact h9.1
  exact bit_n hs hb
theorem good_b {rf rt p q : Int32} {fr : Nat → Int32} {n s m : Nat} (h : goodC rf rt p fr n q s m = true) : s.testBit m = true ∧ endC rf rt p fr (goesC rf rt q (fr m) p) n (s - 2 ^ m) = p := by
  unfold goodC at h
  rw [Bool.and_eq_true, decide_eq_true_eq] at h
  exact h
theorem good_n {rf rt p q : Int32} {fr : Nat → Int32} {n s m : Nat} (h : ¬ (s.testBit m = true ∧ endC rf rt p fr (goesC rf rt q (fr m) p) n (s - 2 ^ m) = p)) : goodC rf rt p fr n q s m = false := by
  cases c : goodC rf rt p fr n q s m with
  | false => rfl
  | true => exact absurd (good_b c) h
theorem cnt_z : cntN 0 = 0 := by decide
/-- more strength for one: the fars stay in bounds -/
theorem far_more {σ : cS} (h : OkW σ) {t m v : Nat} (ht : t < Int32.toNatClampNeg (σ 0 0)) (hm : m < ppN σ) (hv : v ≤ 99) : ∀ j, j < ppN σ → bd (farS (up2 σ 17 m (σ 17 m + nI v)) j t) 0 60 := fun j hj => by
  obtain ⟨-, a, b, -⟩ := h.2.2.1 t ht
  obtain ⟨c1, c2⟩ := h.2.2.2.1 j hj
  have hw := h.2.1.2.2.2.2
  have key : ∀ s : Int32, bd s (-200) 200 → bd (farC (σ 11 t) (σ 12 t) (σ 13 t) (σ 6 0) s) 0 60 := fun s hs => by
    have := far_ok (k := σ 11 t) a b hw hs
    unfold bd at this ⊢
    omega
  show bd (farC (σ 11 t) (σ 12 t) (σ 13 t) (σ 6 0) (up2 σ 17 m (σ 17 m + nI v) 17 j - σ 18 j)) 0 60
  rw [up2_self]
  apply key
  by_cases c : j = m
  · subst c
    rw [va_up_self]
    have e1 := i_add (x := σ 17 j) (y := nI v) (by rw [nI_toInt (by omega)]; omega) (by rw [nI_toInt (by omega)]; omega)
    rw [nI_toInt (by omega)] at e1
    have e2 := i_sub (x := σ 17 j + nI v) (y := σ 18 j) (by omega) (by omega)
    unfold bd
    omega
  · rw [va_up_ne _ _ c]
    have e2 := i_sub (x := σ 17 j) (y := σ 18 j) (by omega) (by omega)
    unfold bd
    omega
theorem enX_H {σ : cS} (h : OkW σ) {t m v : Nat} (ht : t < Int32.toNatClampNeg (σ 0 0)) (hm : m < ppN σ) (hv : v ≤ 99) {p : Int32} (hp : stepS σ p) (hl : (σ 14 t).toInt ≤ p.toInt) (s : Nat) : enX (σ 4 0) (σ 5 0) p (fun j => farS (up2 σ 17 m (σ 17 m + nI v)) j t) (mnC (σ 14 t) p) (ppN σ) s = endF (up2 σ 17 m (σ 17 m + nI v)) t p s := enX_e (on_p h ht hp hl).1 (on_p h ht hp hl).2 hp.2.2 (far_more h ht hm hv) s
theorem up_up {σ : cS} {k i : Nat} {a b : Int32} : up2 (up2 σ k i a) k i b = up2 σ k i b := by
  funext q j
  simp only [up2_ap]
  by_cases c : q = k
  · by_cases d : j = i
    · simp [c, d]
    · simp [c, d]
  · simp [c]
