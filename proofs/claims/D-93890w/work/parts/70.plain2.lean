/-! PLAIN: how far each set brings a thing, in X's words and in the Model's (hand-written) -/
set_option maxRecDepth 100000
def mnC (p e : Int32) : Int32 := if e < p then e else p
def bsX (rf rt to : Int32) (fr e : Nat → Int32) (p : Int32) (s : Nat) : Nat → Int32
  | 0 => p
  | m + 1 => if s.testBit m = true then mxC (bsX rf rt to fr e p s m) (brC rf rt (e (s - 2 ^ m)) (fr m) to) else bsX rf rt to fr e p s m
def taX (rf rt to : Int32) (fr : Nat → Int32) (p : Int32) (n : Nat) : Nat → Nat → Int32
  | 0 => fun _ => p
  | s + 1 => va_up (taX rf rt to fr p n s) s (bsX rf rt to fr (taX rf rt to fr p n s) p s n)
def enX (rf rt to : Int32) (fr : Nat → Int32) (p : Int32) (n s : Nat) : Int32 := taX rf rt to fr p n (s + 1) s
theorem bsX_c {rf rt to : Int32} {fr e e' : Nat → Int32} {p : Int32} {s : Nat} (h : ∀ j, j < s → e j = e' j) : ∀ m, bsX rf rt to fr e p s m = bsX rf rt to fr e' p s m
  | 0 => rfl
  | m + 1 => by
    rw [bsX, bsX, bsX_c h m]
    by_cases b : s.testBit m = true
    · rw [if_pos b, if_pos b, h _ (bit_lt b)]
    · rw [if_neg b, if_neg b]
theorem taX_e {rf rt to : Int32} {fr : Nat → Int32} {p : Int32} {n : Nat} : ∀ k j, j < k → taX rf rt to fr p n k j = enX rf rt to fr p n j
  | 0, j, h => absurd h (by omega)
  | k + 1, j, h => by
    by_cases e : j = k
    · subst e; rfl
    · rw [taX, va_up_ne _ _ e]; exact taX_e k j (by omega)
theorem enX_eq {rf rt to : Int32} {fr : Nat → Int32} {p : Int32} {n s : Nat} : enX rf rt to fr p n s = bsX rf rt to fr (enX rf rt to fr p n) p s n := by
  rw [enX, taX, va_up_self]
  exact bsX_c (fun j hj => taX_e s j hj) n
theorem mn_le {p e : Int32} (h : p.toInt ≤ e.toInt) : mnC p e = p := by
  unfold mnC
  rw [if_neg (by rw [i_lt]; omega)]
theorem bsX_b {rf rt to : Int32} {fr e e' : Nat → Int32} {p : Int32} {s n : Nat} (h99 : to.toInt ≤ 99) (hto : ¬ wetP rf rt to) (hf : ∀ m, m < n → bd (fr m) 0 60) (he : ∀ j, j < s → e j = e' j ∧ onD rf rt to (e' j)) : ∀ m, m ≤ n → bsX rf rt to fr e p s m = bstC rf rt to fr e' p s m
  | 0, _ => rfl
  | m + 1, hm => by
    rw [bsX, bstC, bsX_b h99 hto hf he m (by omega)]
    by_cases b : s.testBit m = true
    · obtain ⟨e1, e2⟩ := he _ (bit_lt b)
      rw [if_pos b, if_pos b, e1, br_go e2.1 (Int.le_trans e2.2.1 h99) (hf m (by omega)) e2.2.2 hto]
    · rw [if_neg b, if_neg b]
/-- from a dry step to a dry end it is the Model's table -/
theorem enX_e {rf rt to : Int32} {fr : Nat → Int32} {p : Int32} {n : Nat} (hp : onD rf rt to p) (h99 : to.toInt ≤ 99) (hto : ¬ wetP rf rt to) (hf : ∀ m, m < n → bd (fr m) 0 60) (s : Nat) : enX rf rt to fr (mnC p to) n s = endC rf rt to fr p n s := by
  rw [mn_le hp.2.1]
  induction s using Nat.strongRecOn with
  | _ s ih =>
    rw [enX_eq, end_eq]
    exact bsX_b h99 hto hf (fun j hj => ⟨ih j hj, (end_on hp h99 hto hf j).1⟩) n (Nat.le_refl _)
/-- the far of all the people, for a thing that is there -/
theorem OkW.frs {σ : cS} (h : OkW σ) {t : Nat} (ht : t < Int32.toNatClampNeg (σ 0 0)) : ∀ m, m < ppN σ → bd (farS σ m t) 0 60 := fun m hm => by
  have := h.fars ht hm
  unfold bd at this ⊢
  omega
theorem on_p {σ : cS} (h : OkW σ) {t : Nat} (ht : t < Int32.toNatClampNeg (σ 0 0)) {p : Int32} (hp : stepS σ p) (hl : (σ 14 t).toInt ≤ p.toInt) : onD (σ 4 0) (σ 5 0) p (σ 14 t) ∧ p.toInt ≤ 99 := by
  obtain ⟨s1, s2, s3⟩ := (h.2.2.1 t ht).2.2.2.1
  have l := h.2.1.1.2
  have p2 := hp.2.1
  rw [i_lt, c_0] at s1
  rw [i_lt] at p2
  exact ⟨⟨by omega, hl, s3⟩, by omega⟩
/-- what X's Seeker finds for a thing and an end onward -/
theorem enX_F {σ : cS} (h : OkW σ) {t : Nat} (ht : t < Int32.toNatClampNeg (σ 0 0)) {p : Int32} (hp : stepS σ p) (hl : (σ 14 t).toInt ≤ p.toInt) (s : Nat) : enX (σ 4 0) (σ 5 0) p (fun m => farS σ m t) (mnC (σ 14 t) p) (ppN σ) s = endF σ t p s := enX_e (on_p h ht hp hl).1 (on_p h ht hp hl).2 hp.2.2 (h.frs ht) s
theorem long_on {σ : cS} (h : OkW σ) {t : Nat} (ht : t < Int32.toNatClampNeg (σ 0 0)) : stepS σ (σ 3 0) ∧ (σ 14 t).toInt ≤ (σ 3 0).toInt := by
  obtain ⟨s1, s2, s3⟩ := (h.2.2.1 t ht).2.2.2.1
  obtain ⟨a, b, c, d, -⟩ := h.2.1
  rw [i_lt] at s2
  refine ⟨⟨?_, ?_, ?_⟩, by omega⟩
  · rw [i_lt, c_0]; omega
  · rw [i_lt]; omega
  · rintro ⟨-, q⟩
    rw [i_lt] at q
    omega
