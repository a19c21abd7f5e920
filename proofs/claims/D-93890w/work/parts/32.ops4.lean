/-! WHAT THE CALLS ANSWER AND DO: rows of people, wants shared; bits -/
set_option maxRecDepth 100000
def mxC (b is : Int32) : Int32 := if b < is then is else b
def bstC (rf rt to : Int32) (fr e : Nat → Int32) (p : Int32) (s : Nat) : Nat → Int32
  | 0 => p
  | m + 1 => if s.testBit m = true then mxC (bstC rf rt to fr e p s m) (goesC rf rt (e (s - 2 ^ m)) (fr m) to) else bstC rf rt to fr e p s m
def tabC (rf rt to : Int32) (fr : Nat → Int32) (p : Int32) (n : Nat) : Nat → Nat → Int32
  | 0 => fun _ => p
  | s + 1 => va_up (tabC rf rt to fr p n s) s (bstC rf rt to fr (tabC rf rt to fr p n s) p s n)
def endC (rf rt to : Int32) (fr : Nat → Int32) (p : Int32) (n s : Nat) : Int32 := tabC rf rt to fr p n (s + 1) s
theorem bit_ge {s m : Nat} (h : s.testBit m = true) : 2 ^ m ≤ s := Nat.ge_two_pow_of_testBit h
theorem bit_lt {s m : Nat} (h : s.testBit m = true) : s - 2 ^ m < s := by
  have := bit_ge h
  have := Nat.two_pow_pos m
  omega
theorem bst_c {rf rt to : Int32} {fr e e' : Nat → Int32} {p : Int32} {s : Nat} (h : ∀ j, j < s → e j = e' j) : ∀ m, bstC rf rt to fr e p s m = bstC rf rt to fr e' p s m
  | 0 => rfl
  | m + 1 => by
    rw [bstC, bstC, bst_c h m]
    by_cases b : s.testBit m = true
    · rw [if_pos b, if_pos b, h _ (bit_lt b)]
    · rw [if_neg b, if_neg b]
theorem tab_e {rf rt to : Int32} {fr : Nat → Int32} {p : Int32} {n : Nat} : ∀ k j, j < k → tabC rf rt to fr p n k j = endC rf rt to fr p n j
  | 0, j, h => absurd h (by omega)
  | k + 1, j, h => by
    by_cases e : j = k
    · subst e; rfl
    · rw [tabC, va_up_ne _ _ e]; exact tab_e k j (by omega)
theorem end_eq {rf rt to : Int32} {fr : Nat → Int32} {p : Int32} {n s : Nat} : endC rf rt to fr p n s = bstC rf rt to fr (endC rf rt to fr p n) p s n := by
  rw [endC, tabC, va_up_self]
  exact bst_c (fun j hj => tab_e s j hj) n
abbrev ppN (σ : cS) : Nat := Int32.toNatClampNeg (σ 1 0)
/-- how far a set brings a thing from where it is -/
def endF (σ : cS) (t : Nat) (to : Int32) (s : Nat) : Int32 := endC (σ 4 0) (σ 5 0) to (fun m => farS σ m t) (σ 14 t) (ppN σ) s
abbrev setP (σ : cS) (s : Int32) : Prop := ¬ s < 0 ∧ s < (1 : Int32) <<< (σ 1 0 &&& 31)
noncomputable def endS (S : ST) (t s : Int32) : Int32 × ST := cI (¬ thP S.1 t ∨ ¬ setP S.1 s) (noS S (-1)) (endF S.1 (Int32.toNatClampNeg t) (S.1 3 0) (Int32.toNatClampNeg s), S)
noncomputable def doesS (S : ST) (t s p : Int32) : Int32 × ST :=
  cI (¬ thP S.1 t ∨ ¬ setP S.1 s) (noS S (-1)) (cI (¬ onP S.1 t p) (noS S (-6)) (bI (endF S.1 (Int32.toNatClampNeg t) p (Int32.toNatClampNeg s) = p), S))
/-! bits -/
def cntN (s : Nat) : Nat := s % 2 + s / 2 % 2 + s / 4 % 2 + s / 8 % 2 + s / 16 % 2 + s / 32 % 2 + s / 64 % 2 + s / 128 % 2
theorem bt_0 : ∀ s, s < 256 → ∀ m, m < 8 → (((nI s >>> (nI m &&& 31)) &&& 1 = 0) ↔ s.testBit m = false) := by decide +kernel
theorem bt_1 : ∀ s, s < 256 → ∀ m, m < 8 → (((nI s >>> (nI m &&& 31)) &&& 1 = 1) ↔ s.testBit m = true) := by decide +kernel
theorem bt_clr : ∀ s, s < 256 → ∀ m, m < 8 → nI s &&& (((1 : Int32) <<< (nI m &&& 31)) ^^^ (-1)) = nI (if s.testBit m = true then s - 2 ^ m else s) := by decide +kernel
theorem bt_or : ∀ s, s < 256 → ∀ m, m < 8 → s.testBit m = false → nI s ||| ((1 : Int32) <<< (nI m &&& 31)) = nI (s + 2 ^ m) := by decide +kernel
theorem bt_shl : ∀ m, m < 9 → (1 : Int32) <<< (nI m &&& 31) = nI (2 ^ m) := by decide +kernel
theorem bt_sub : ∀ s, s < 256 → ∀ m, m < 8 → s.testBit m = true → ∀ j, j < 8 → (s - 2 ^ m).testBit j = (decide (j ≠ m) && s.testBit j) := by decide +kernel
theorem bt_cn : ∀ k, k < 256 → k ≠ 0 → nI k &&& (nI k - 1) = nI (k &&& (k - 1)) ∧ cntN (k &&& (k - 1)) + 1 = cntN k ∧ k &&& (k - 1) < 256 := by decide +kernel
theorem bt_c1 : ∀ s, s < 256 → ∀ m, m < 8 → s.testBit m = true → cntN (s - 2 ^ m) + 1 = cntN s := by decide +kernel
theorem cnt_le (s : Nat) : cntN s ≤ 8 := by unfold cntN; omega
theorem cnt_0 : ∀ s, s < 256 → cntN s = 0 → s = 0 := by decide +kernel
theorem pow8 {n : Nat} (h : n ≤ 8) : 2 ^ n ≤ 256 := Nat.pow_le_pow_right (by decide) h
theorem bit_n {s m n : Nat} (hs : s < 2 ^ n) (h : s.testBit m = true) : m < n := by
  apply Nat.lt_of_not_le
  intro q
  have := bit_ge h
  have := Nat.pow_le_pow_right (n := 2) (by decide) q
  omega
noncomputable def fewL (e : Nat → Int32) (p : Int32) : Nat → Nat → Int32 → Int32
  | 0, _, b => b
  | n + 1, s, b => fewL e p n (s + 1) (cI (e s = p ∧ (b = -1 ∨ nI (cntN s) < nI (cntN (Int32.toNatClampNeg b)))) (nI s) b)
noncomputable def fewV (σ : cS) (t : Nat) (p : Int32) : Int32 := fewL (endF σ t p) p (2 ^ ppN σ) 0 (-1)
noncomputable def fewestS (S : ST) (t p : Int32) : Int32 × ST :=
  cI (¬ thP S.1 t) (noS S (-1)) (cI (¬ onP S.1 t p) (noS S (-6)) (cI (fewV S.1 (Int32.toNatClampNeg t) p = -1) (noS S (-5)) (fewV S.1 (Int32.toNatClampNeg t) p, S)))
noncomputable def weakL (e : Nat → Int32) (s : Nat) : Nat → Nat → Int32 → Int32 → Int32
  | 0, _, b, _ => b
  | n + 1, m, b, w => cI (s.testBit m = true ∧ (b = -1 ∨ w < e (s - 2 ^ m))) (weakL e s n (m + 1) (nI m) (e (s - 2 ^ m))) (weakL e s n (m + 1) b w)
noncomputable def weakestS (S : ST) (t s : Int32) : Int32 × ST :=
  cI (¬ thP S.1 t ∨ ¬ setP S.1 s) (noS S (-1)) (cI (s = 0) (noS S (-5)) (weakL (endF S.1 (Int32.toNatClampNeg t) (S.1 3 0)) (Int32.toNatClampNeg s) (ppN S.1) 0 (-1) 0, S))
noncomputable def helpL (σ : cS) (t m s : Nat) (p : Int32) : Nat → Nat → Int32
  | 0, _ => -1
  | n + 1, v => cI (endF (up2 σ 17 m (σ 17 m + nI v)) t p s = p) (nI v) (helpL σ t m s p n (v + 1))
noncomputable def helpsS (S : ST) (t s p m : Int32) : Int32 × ST :=
  cI (¬ thP S.1 t ∨ ¬ setP S.1 s ∨ ¬ mnP S.1 m ∨ (s >>> (m &&& 31)) &&& 1 = 0) (noTenS S (-1)) (cI (¬ onP S.1 t p) (noTenS S (-6)) (cI (endF S.1 (Int32.toNatClampNeg t) p (Int32.toNatClampNeg s) = p) (noTenS S (-6))
    (helpL S.1 (Int32.toNatClampNeg t) (Int32.toNatClampNeg m) (Int32.toNatClampNeg s) p 99 1, S)))
/-! who goes first -/
def nxtC (g : Nat → Bool) : Nat → Nat → Nat
  | 0, m => m
  | n + 1, m => if g m = true then m else nxtC g n (m + 1)
def goodC (rf rt p : Int32) (fr : Nat → Int32) (n : Nat) (q : Int32) (s : Nat) (m : Nat) : Bool := s.testBit m && decide (endC rf rt p fr (goesC rf rt q (fr m) p) n (s - 2 ^ m) = p)
def ordL (rf rt p : Int32) (fr : Nat → Int32) (n : Nat) : Nat → Int32 → Nat → Int32
  | 0, q, s => nI (nxtC (goodC rf rt p fr n q s) 8 0)
  | i + 1, q, s => ordL rf rt p fr n i (goesC rf rt q (fr (nxtC (goodC rf rt p fr n q s) 8 0)) p) (s - 2 ^ nxtC (goodC rf rt p fr n q s) 8 0)
noncomputable def orderS (S : ST) (t s p i : Int32) : Int32 × ST :=
  cI (¬ thP S.1 t ∨ ¬ setP S.1 s) (noS S (-1)) (cI (¬ onP S.1 t p) (noS S (-6)) (cI (¬ endF S.1 (Int32.toNatClampNeg t) p (Int32.toNatClampNeg s) = p ∨ i < 0 ∨ ¬ i < nI (cntN (Int32.toNatClampNeg s))) (noS S (-5))
    (ordL (S.1 4 0) (S.1 5 0) p (fun m => farS S.1 m (Int32.toNatClampNeg t)) (ppN S.1) (Int32.toNatClampNeg i) (S.1 14 (Int32.toNatClampNeg t)) (Int32.toNatClampNeg s), S)))
theorem nxt_at {g : Nat → Bool} : ∀ (n m k : Nat), m ≤ k → k < m + n → g k = true → (∀ j, m ≤ j → j < k → g j = false) → nxtC g n m = k
  | 0, m, k, h1, h2, _, _ => absurd h2 (by omega)
  | n + 1, m, k, h1, h2, hk, hj => by
    rw [nxtC]
    by_cases e : m = k
    · subst e; rw [if_pos hk]
    · rw [if_neg (by rw [hj m (by omega) (by omega)]; decide)]
      exact nxt_at n (m + 1) k (by omega) (by omega) hk (fun j a b => hj j (by omega) b)
theorem nxt_ok {g : Nat → Bool} (n m : Nat) (h : ∃ k, m ≤ k ∧ k < m + n ∧ g k = true) : g (nxtC g n m) = true ∧ nxtC g n m < m + n ∧ m ≤ nxtC g n m ∧ ∀ j, m ≤ j → j < nxtC g n m → g j = false := by
  induction n generalizing m with
  | zero => obtain ⟨k, h1, h2, -⟩ := h; omega
  | succ n ih =>
    rw [nxtC]
    by_cases e : g m = true
    · rw [if_pos e]; exact ⟨e, by omega, by omega, fun j a b => absurd b (by omega)⟩
    · rw [if_neg e]
      obtain ⟨k, h1, h2, h3⟩ := h
      have hk : ¬ k = m := fun q => e (q ▸ h3)
      obtain ⟨a, b, c, d⟩ := ih (m + 1) ⟨k, by omega, by omega, h3⟩
      refine ⟨a, by omega, by omega, fun j q1 q2 => ?_⟩
      by_cases ej : j = m
      · subst ej; simpa using e
      · exact d j (by omega) q2
/-! steps that a thing may be at -/
def onD (rf rt to x : Int32) : Prop := 0 ≤ x.toInt ∧ x.toInt ≤ to.toInt ∧ ¬ wetP rf rt x
theorem mx_i (a b : Int32) : (mxC a b).toInt = if a.toInt < b.toInt then b.toInt else a.toInt := by
  unfold mxC
  by_cases h : a < b
  · rw [if_pos h, if_pos (i_lt.mp h)]
  · rw [if_neg h, if_neg (fun g => h (i_lt.mpr g))]
theorem mx_on {rf rt to a b : Int32} (ha : onD rf rt to a) (hb : onD rf rt to b) : onD rf rt to (mxC a b) := by
  unfold mxC
  split <;> assumption
theorem goes_mono {rf rt to f x y : Int32} (h99 : to.toInt ≤ 99) (hto : ¬ wetP rf rt to) (hf : bd f 0 60) (hx : onD rf rt to x) (hy : onD rf rt to y) (h : x.toInt ≤ y.toInt) : (goesC rf rt x f to).toInt ≤ (goesC rf rt y f to).toInt := by
  have ax := i_add (x := x) (y := f) (by have := hx.1; omega) (by have := hx.2.1; omega)
  have ay := i_add (x := y) (y := f) (by have := hy.1; omega) (by have := hy.2.1; omega)
  have lx := low_i (x + f) to
  have ly := low_i (y + f) to
  rw [ax] at lx
  rw [ay] at ly
  have gy := goes_ok (f := f) hy.1 hy.2.1 h99 hf hy.2.2 hto
  unfold goesC at gy ⊢
  by_cases wx : wetP rf rt (lowC (x + f) to)
  · rw [if_pos wx]
    by_cases wy : wetP rf rt (lowC (y + f) to)
    · rw [if_pos wy]; omega
    · rw [if_neg wy]
      have := i_lt.mp wx.1
      split at lx <;> split at ly <;> omega
  · rw [if_neg wx]
    by_cases wy : wetP rf rt (lowC (y + f) to)
    · rw [if_pos wy]
      have h1 := i_lt.mp wy.1
      have h2 := i_lt.mp wy.2
      have h3 : ¬ (rf.toInt < (lowC (x + f) to).toInt ∧ (lowC (x + f) to).toInt < rt.toInt) := fun q => wx ⟨i_lt.mpr q.1, i_lt.mpr q.2⟩
      have h4 : ¬ (rf.toInt < x.toInt ∧ x.toInt < rt.toInt) := fun q => hx.2.2 ⟨i_lt.mpr q.1, i_lt.mpr q.2⟩
      split at lx <;> split at ly <;> omega
    · rw [if_neg wy]
      split at lx <;> split at ly <;> omega
section
variable {rf rt to : Int32} {fr : Nat → Int32} {n : Nat} (h99 : to.toInt ≤ 99) (hto : ¬ wetP rf rt to) (hf : ∀ m, m < n → bd (fr m) 0 60)
theorem bst_on {e : Nat → Int32} {p : Int32} {s : Nat} (hp : onD rf rt to p) (he : ∀ j, j < s → onD rf rt to (e j)) (h99 : to.toInt ≤ 99) (hto : ¬ wetP rf rt to) (hf : ∀ m, m < n → bd (fr m) 0 60) : ∀ m, m ≤ n → onD rf rt to (bstC rf rt to fr e p s m) ∧ p.toInt ≤ (bstC rf rt to fr e p s m).toInt
  | 0, _ => ⟨hp, Int.le_refl _⟩
  | m + 1, hm => by
    obtain ⟨a, b⟩ := bst_on hp he h99 hto hf m (by omega)
    rw [bstC]
    by_cases c : s.testBit m = true
    · rw [if_pos c]
      have hx := he _ (bit_lt c)
      have g := goes_ok (f := fr m) hx.1 hx.2.1 h99 (hf m (by omega)) hx.2.2 hto
      refine ⟨mx_on a ⟨by have := hx.1; omega, g.2.1, g.2.2⟩, ?_⟩
      have := mx_i (bstC rf rt to fr e p s m) (goesC rf rt (e (s - 2 ^ m)) (fr m) to)
      split at this <;> omega
    · rw [if_neg c]; exact ⟨a, b⟩
theorem end_on {p : Int32} (hp : onD rf rt to p) (h99 : to.toInt ≤ 99) (hto : ¬ wetP rf rt to) (hf : ∀ m, m < n → bd (fr m) 0 60) (s : Nat) : onD rf rt to (endC rf rt to fr p n s) ∧ p.toInt ≤ (endC rf rt to fr p n s).toInt := by
  induction s using Nat.strongRecOn with
  | _ s ih =>
    rw [end_eq]
    exact bst_on hp (fun j hj => (ih j hj).1) h99 hto hf n (Nat.le_refl _)
/-- each who may go last bounds it from below, and one of them reaches it -/
theorem bst_ge {e : Nat → Int32} {p : Int32} {s : Nat} : ∀ m k, k < m → s.testBit k = true → (goesC rf rt (e (s - 2 ^ k)) (fr k) to).toInt ≤ (bstC rf rt to fr e p s m).toInt
  | 0, k, h, _ => absurd h (by omega)
  | m + 1, k, h, hb => by
    rw [bstC]
    by_cases ek : k = m
    · subst ek
      rw [if_pos hb]
      have := mx_i (bstC rf rt to fr e p s k) (goesC rf rt (e (s - 2 ^ k)) (fr k) to)
      split at this <;> omega
    · have ih := bst_ge (e := e) (p := p) (s := s) m k (by omega) hb
      by_cases c : s.testBit m = true
      · rw [if_pos c]
        have := mx_i (bstC rf rt to fr e p s m) (goesC rf rt (e (s - 2 ^ m)) (fr m) to)
        split at this <;> omega
      · rw [if_neg c]; exact ih
theorem bst_by {e : Nat → Int32} {p : Int32} {s : Nat} : ∀ m, bstC rf rt to fr e p s m = p ∨ ∃ k, k < m ∧ s.testBit k = true ∧ bstC rf rt to fr e p s m = goesC rf rt (e (s - 2 ^ k)) (fr k) to
  | 0 => Or.inl rfl
  | m + 1 => by
    rw [bstC]
    have ih := bst_by (e := e) (p := p) (s := s) m
    by_cases c : s.testBit m = true
    · rw [if_pos c]
      unfold mxC
      by_cases d : bstC rf rt to fr e p s m < goesC rf rt (e (s - 2 ^ m)) (fr m) to
      · rw [if_pos d]; exact Or.inr ⟨m, by omega, c, rfl⟩
      · rw [if_neg d]
        rcases ih with h | ⟨k, h1, h2, h3⟩
        · exact Or.inl h
        · exact Or.inr ⟨k, by omega, h2, h3⟩
    · rw [if_neg c]
      rcases ih with h | ⟨k, h1, h2, h3⟩
      · exact Or.inl h
      · exact Or.inr ⟨k, by omega, h2, h3⟩
/-- one of a set may go first, and the rest bring it as far -/
theorem end_first {p : Int32} (hn : n ≤ 8) (hp : onD rf rt to p) (h99 : to.toInt ≤ 99) (hto : ¬ wetP rf rt to) (hf : ∀ m, m < n → bd (fr m) 0 60) (s : Nat) (hs : s < 2 ^ n) (h0 : s ≠ 0) : ∃ m, m < n ∧ s.testBit m = true ∧ (endC rf rt to fr p n s).toInt ≤ (endC rf rt to fr (goesC rf rt p (fr m) to) n (s - 2 ^ m)).toInt := by
  have h256 := pow8 hn
  induction s using Nat.strongRecOn with
  | _ s ih =>
    obtain ⟨k0, hk0⟩ := Nat.exists_testBit_of_ne_zero h0
    have hk0n := bit_n hs hk0
    have gp : ∀ m, m < n → onD rf rt to (goesC rf rt p (fr m) to) := fun m hm => by
      have g := goes_ok (f := fr m) hp.1 hp.2.1 h99 (hf m hm) hp.2.2 hto
      exact ⟨by have := hp.1; omega, g.2.1, g.2.2⟩
    -- one reaches it from behind
    have hby : ∃ k, k < n ∧ s.testBit k = true ∧ (endC rf rt to fr p n s).toInt ≤ (goesC rf rt (endC rf rt to fr p n (s - 2 ^ k)) (fr k) to).toInt := by
      rcases bst_by (rf := rf) (rt := rt) (to := to) (fr := fr) (e := endC rf rt to fr p n) (p := p) (s := s) n with h | ⟨k, h1, h2, h3⟩
      · refine ⟨k0, hk0n, hk0, ?_⟩
        rw [end_eq, h]
        have a := end_on (fr := fr) (n := n) hp h99 hto hf (s - 2 ^ k0)
        have g := goes_ok (f := fr k0) a.1.1 a.1.2.1 h99 (hf k0 hk0n) a.1.2.2 hto
        omega
      · exact ⟨k, h1, h2, by rw [end_eq, h3]; exact Int.le_refl _⟩
    obtain ⟨k, hk, hkb, hle⟩ := hby
    by_cases hr : s - 2 ^ k = 0
    · refine ⟨k, hk, hkb, ?_⟩
      rw [hr] at hle ⊢
      have e0 : ∀ q : Int32, endC rf rt to fr q n 0 = q := fun q => by
        rw [end_eq]
        have : ∀ m, bstC rf rt to fr (endC rf rt to fr q n) q 0 m = q := fun m => by
          induction m with
          | zero => rfl
          | succ m ih => rw [bstC, if_neg (by simp)]; exact ih
        exact this n
      rw [e0] at hle ⊢
      exact hle
    · obtain ⟨m, hm, hmb, hml⟩ := ih (s - 2 ^ k) (bit_lt hkb) (Nat.lt_of_le_of_lt (Nat.sub_le _ _) hs) hr
      have t1 := bt_sub s (by omega) k (by omega) hkb m (by omega)
      rw [hmb] at t1
      have hmk : m ≠ k ∧ s.testBit m = true := by
        have := t1.symm
        rw [Bool.and_eq_true, decide_eq_true_eq] at this
        exact this
      refine ⟨m, hm, hmk.2, ?_⟩
      have t2 := bt_sub s (by omega) m (by omega) hmk.2 k (by omega)
      have hk2 : (s - 2 ^ m).testBit k = true := by rw [t2, hkb, decide_eq_true (Ne.symm hmk.1)]; rfl
      have a := end_on (fr := fr) (n := n) hp h99 hto hf (s - 2 ^ k)
      have b := end_on (fr := fr) (n := n) (gp m hm) h99 hto hf (s - 2 ^ k - 2 ^ m)
      have c := goes_mono h99 hto (hf k hk) a.1 b.1 hml
      have d := bst_ge (rf := rf) (rt := rt) (to := to) (fr := fr) (e := endC rf rt to fr (goesC rf rt p (fr m) to) n) (p := goesC rf rt p (fr m) to) (s := s - 2 ^ m) n k hk hk2
      rw [← end_eq] at d
      rw [Nat.sub_right_comm] at c
      omega
end
/-! hand over hand -/
noncomputable def hvF (now : Nat → Int32) (f : Int32) (m : Nat) : Nat → Int32
  | 0 => -1
  | l + 1 => cI (l = m ∨ now l = -1) (hvF now f m l) (mxC (hvF now f m l) (now l + f))
noncomputable def thnC (now fr : Nat → Int32) (n m : Nat) : Int32 := cI (m < n ∧ ¬ fr m = 0) (hvF now (fr m) m 9) (-1)
noncomputable def hanL (fr : Nat → Int32) (n : Nat) (p : Int32) : Nat → Nat → (Nat → Int32) → Int32
  | 0, _, _ => -1
  | c + 1, k, now => cI (∃ m, m < n ∧ ¬ thnC now fr n m < p) (nI k) (hanL fr n p c (k + 1) (thnC now fr n))
def now0 (h s : Int32) (m : Nat) : Int32 := if m = (if h = -1 then 8 else Int32.toNatClampNeg h) then s else -1
noncomputable def handoversS (S : ST) (t p : Int32) : Int32 × ST :=
  cI (¬ thP S.1 t) (noTenS S (-1)) (cI (¬ onP S.1 t p) (noTenS S (-6))
    (hanL (fun m => farS S.1 m (Int32.toNatClampNeg t)) (ppN S.1) p 99 1 (now0 (S.1 15 (Int32.toNatClampNeg t)) (S.1 14 (Int32.toNatClampNeg t))), S))
/-! wants shared -/
def metP (σ : cS) (sets : Nat → Nat) (w : Nat) : Prop := σ 14 (Int32.toNatClampNeg (σ 19 w)) = σ 20 w ∨ (σ 14 (Int32.toNatClampNeg (σ 19 w)) < σ 20 w ∧ endF σ (Int32.toNatClampNeg (σ 19 w)) (σ 20 w) (sets w) = σ 20 w)
noncomputable def wthL (σ : cS) (sets : Nat → Nat) : Nat → Nat → Int32 → Int32
  | 0, _, s => s
  | n + 1, w, s => wthL σ sets n (w + 1) (cI (metP σ sets w) (s + σ 21 w) s)
noncomputable def wthC (σ : cS) (sets : Nat → Nat) : Int32 := wthL σ sets (Int32.toNatClampNeg (σ 2 0)) 0 0
abbrev BT : Type := Int32 × (Nat → Int32)
noncomputable def shC (σ : cS) : Nat → Nat → (Nat → Int32) → (Nat → Nat) → BT → BT
  | 0, _, g, s, B => cI (B.1 < wthC σ s) (wthC σ s, g) B
  | d + 1, m, g, s, B => (List.range' 0 (Int32.toNatClampNeg (σ 2 0))).foldl (fun B w => shC σ d (m + 1) (va_up g m (nI w)) (va_up s w (s w + 2 ^ m)) B) (shC σ d (m + 1) (va_up g m (-1)) s B)
noncomputable def shAll (σ : cS) : BT := shC σ (ppN σ) 0 (fun _ => 0) (fun _ => 0) (-1, fun _ => 0)
noncomputable def sharedS (S : ST) : Int32 × ST := ((shAll S.1).1, S)
noncomputable def givenS (S : ST) (m : Int32) : Int32 × ST := cI (¬ mnP S.1 m) (noTenS S (-1)) ((shAll S.1).2 (Int32.toNatClampNeg m), S)
