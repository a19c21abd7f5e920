/-! WHAT ALWAYS HOLDS of the state -/
set_option maxRecDepth 100000
/-- bounds of an int -/
abbrev bd (x : Int32) (lo hi : Int) : Prop := lo ≤ x.toInt ∧ x.toInt ≤ hi
/-- of a world's numbers -/
def OkW (σ : Nat → Nat → Int32) : Prop :=
  (bd (σ 0 0) 0 8 ∧ bd (σ 1 0) 0 8 ∧ bd (σ 2 0) 0 4) ∧ (bd (σ 3 0) 1 99 ∧ 0 ≤ (σ 4 0).toInt ∧ (σ 4 0).toInt ≤ (σ 5 0).toInt ∧ (σ 5 0).toInt ≤ (σ 3 0).toInt ∧ bd (σ 6 0) 0 9) ∧
  (∀ i, i < Int32.toNatClampNeg (σ 0 0) → bd (σ 11 i) 0 6 ∧ bd (σ 12 i) 1 99 ∧ bd (σ 13 i) 1 9 ∧ stepS σ (σ 14 i) ∧ (-1 ≤ (σ 15 i).toInt ∧ (σ 15 i).toInt < (σ 1 0).toInt) ∧ (σ 16 i = 0 ∨ (σ 16 i = 1 ∧ σ 11 i = 4))) ∧
  (∀ i, i < Int32.toNatClampNeg (σ 1 0) → bd (σ 17 i) 1 99 ∧ bd (σ 18 i) 0 99) ∧
  (∀ i, i < Int32.toNatClampNeg (σ 2 0) → (0 ≤ (σ 19 i).toInt ∧ (σ 19 i).toInt < (σ 0 0).toInt) ∧ stepS σ (σ 20 i) ∧ bd (σ 21 i) 0 99)
/-- of the shelves -/
def OkH (σ : Nat → Nat → Int32) : Prop := ∀ s, s < 8 → (σ 22 s = 0 ∨ σ 22 s = 1 ∨ σ 22 s = 2) ∧ (σ 22 s = 1 → bd (σ 23 s) 0 3 ∧ bd (σ 24 s) 0 160) ∧ (σ 22 s = 2 → 0 ≤ (σ 25 s).toInt ∧ (σ 25 s).toInt < (σ 0 0).toInt)
/-- the kept world, by the places of 'kept' -/
def kpt (σ : Nat → Nat → Int32) (k : Nat) : Nat → Int32 :=
  if k < 9 then fun i => if i = 0 then σ 36 (76 + k) else 0 else if 11 ≤ k ∧ k ≤ 18 then fun i => σ 36 (8 * (k - 11) + i) else if 19 ≤ k ∧ k ≤ 21 then fun i => σ 36 (64 + 4 * (k - 19) + i) else fun _ => 0
/-- the words' table -/
def wrdC (i : Nat) : Int32 := [116, 104, 105, 110, 103, 32, 0, 109, 97, 110, 32, 0, 119, 97, 110, 116, 32, 0, 108, 111, 110, 103, 32, 0, 114, 105, 118, 101, 114, 32, 0, 119, 105, 110, 100, 32, 0].getD i 0
def OkS (σ : Nat → Nat → Int32) : Prop := OkW σ ∧ OkH σ ∧ (σ 49 0 = 0 ∨ (σ 49 0 = 1 ∧ OkW (kpt σ))) ∧ (0 ≤ (σ 48 0).toInt ∧ (σ 48 0).toInt ≤ 20) ∧ ∀ i, i < 37 → σ 28 i = wrdC i
theorem vp_b {t x : Int32} {n : Nat} (h0 : ¬ t < 0) (h1 : t < x) (hx : x.toInt ≤ n) : vp_in t n := by
  rw [vp_in_iff]
  have a := Int32.le_iff_toInt_le.mp (Int32.not_lt.mp h0)
  have b := Int32.lt_iff_toInt_lt.mp h1
  have c : (0 : Int32).toInt = 0 := by decide
  rw [c] at a
  omega
theorem vp_n {t : Int32} {n : Nat} (h : 0 ≤ t.toInt ∧ t.toInt < n) : vp_in t n := vp_in_iff.mpr h
theorem vp_sh {s : Int32} (h : shelfP s) : vp_in s 8 := vp_b h.1 h.2 (by decide)
theorem ix_lt {t x : Int32} (h0 : ¬ t < 0) (h1 : t < x) : Int32.toNatClampNeg t < Int32.toNatClampNeg x := by
  have a := Int32.le_iff_toInt_le.mp (Int32.not_lt.mp h0)
  have b := Int32.lt_iff_toInt_lt.mp h1
  have c : (0 : Int32).toInt = 0 := by decide
  rw [c] at a
  show t.toInt.toNat < x.toInt.toNat
  omega
theorem ix_toInt {t : Int32} (h : 0 ≤ t.toInt) : (Int32.toNatClampNeg t : Int) = t.toInt := by
  show (t.toInt.toNat : Int) = t.toInt
  omega
theorem i_eq {x y : Int32} : x = y ↔ x.toInt = y.toInt := ⟨fun h => by rw [h], fun h => Int32.toInt_inj.mp h⟩
theorem i_lt {x y : Int32} : x < y ↔ x.toInt < y.toInt := Int32.lt_iff_toInt_lt
theorem i_add {x y : Int32} (h1 : -2147483648 ≤ x.toInt + y.toInt) (h2 : x.toInt + y.toInt < 2147483648) : (x + y).toInt = x.toInt + y.toInt := by
  rw [Int32.toInt_add]
  exact Int.bmod_eq_of_le (by omega) (by omega)
theorem i_sub {x y : Int32} (h1 : -2147483648 ≤ x.toInt - y.toInt) (h2 : x.toInt - y.toInt < 2147483648) : (x - y).toInt = x.toInt - y.toInt := by
  rw [Int32.toInt_sub]
  exact Int.bmod_eq_of_le (by omega) (by omega)
theorem i_mul {x y : Int32} (h1 : -2147483648 ≤ x.toInt * y.toInt) (h2 : x.toInt * y.toInt < 2147483648) : (x * y).toInt = x.toInt * y.toInt := by
  rw [Int32.toInt_mul]
  exact Int.bmod_eq_of_le (by omega) (by omega)
theorem i_div {x y : Int32} (hx : 0 ≤ x.toInt) (hy : 0 < y.toInt) : (x / y).toInt = x.toInt / y.toInt := by
  obtain ⟨a, ha, ea⟩ := nI_of (x := x) (by rw [i_lt]; have : (0 : Int32).toInt = 0 := by decide
                                           omega)
  obtain ⟨b, hb, eb⟩ := nI_of (x := y) (by rw [i_lt]; have : (0 : Int32).toInt = 0 := by decide
                                           omega)
  subst ea; subst eb
  rw [nI_toInt ha, nI_toInt hb] at *
  have hb0 : 0 < b := by omega
  rw [pk_div ha hb0 hb, nI_toInt (Nat.lt_of_le_of_lt (Nat.div_le_self _ _) ha)]
  rfl
/-- divisors are no zero -/
theorem dv_w {w : Int32} (h : bd w 1 99) : ¬ w = 0 := by
  intro e
  rw [e] at h
  exact absurd h.1 (by decide)
theorem dv_c {w e : Int32} (h : bd w 1 99) (g : bd e 1 9) : ¬ e = 0 ∧ ¬ (w + e - 1) / e = 0 := by
  refine ⟨fun z => absurd (z ▸ g).1 (by decide), fun z => ?_⟩
  have c1 : (1 : Int32).toInt = 1 := by decide
  have c0 : (0 : Int32).toInt = 0 := by decide
  have a := i_add (x := w) (y := e) (by omega) (by omega)
  have b := i_sub (x := w + e) (y := 1) (by rw [a, c1]; omega) (by rw [a, c1]; omega)
  have d := i_div (x := w + e - 1) (y := e) (by rw [b, a, c1]; omega) (by omega)
  rw [z, c0, b, a, c1] at d
  have : e.toInt * 1 ≤ w.toInt + e.toInt - 1 := by omega
  have := (Int.le_ediv_iff_mul_le (a := 1) (b := w.toInt + e.toInt - 1) (c := e.toInt) (by omega)).mpr (by omega)
  omega
theorem OkW.far {σ : Nat → Nat → Int32} (h : OkW σ) {t : Nat} (ht : t < Int32.toNatClampNeg (σ 0 0)) : ¬ σ 12 t = 0 ∧ (σ 11 t = 5 → ¬ σ 13 t = 0 ∧ ¬ (σ 12 t + σ 13 t - 1) / σ 13 t = 0) := by
  obtain ⟨-, a, b, -⟩ := h.2.2.1 t ht
  exact ⟨dv_w a, fun _ => dv_c a b⟩
/-- the place of element i of shelf s -/
theorem cix {s i : Int32} (hs : vp_in s 8) (hi : vp_in i 160) : vp_in (160 * s + i) 1280 ∧ Int32.toNatClampNeg (160 * s + i) = 160 * Int32.toNatClampNeg s + Int32.toNatClampNeg i := by
  obtain ⟨a, ha, rfl⟩ := vp_in_of hs (by decide)
  obtain ⟨b, hb, rfl⟩ := vp_in_of hi (by decide)
  have e : (160 : Int32) * nI a + nI b = nI (160 * a + b) := by
    rw [show (160 : Int32) = nI 160 from rfl, pk_mul, nI_add]
  rw [e]
  refine ⟨vp_in_nI (by omega) (by decide), ?_⟩
  show (nI _).toNatClampNeg = 160 * (nI a).toNatClampNeg + (nI b).toNatClampNeg
  rw [nI_clamp (by omega), nI_clamp (by omega), nI_clamp (by omega)]
theorem vp_le {i x : Int32} {n : Nat} (h0 : ¬ i < 0) (h1 : i < x) (hx : bd x 0 n) : vp_in i n := vp_b h0 h1 hx.2
theorem n_neg {x : Int32} (h : 0 ≤ x.toInt) : ¬ x < 0 := by
  rw [i_lt]
  have : (0 : Int32).toInt = 0 := by decide
  omega
theorem bd_nI {x : Int32} {n : Nat} (h : bd x 0 n) : ∃ k : Nat, k ≤ n ∧ x = nI k := by
  obtain ⟨k, hk, e⟩ := nI_of (n_neg h.1)
  refine ⟨k, ?_, e⟩
  have := h.2
  rw [e, nI_toInt hk] at this
  omega
theorem ix_nI {n : Nat} (h : n < 2147483648) : Int32.toNatClampNeg (nI n) = n := nI_clamp h
