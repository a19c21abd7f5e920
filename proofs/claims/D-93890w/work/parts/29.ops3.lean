/-! WHAT THE CALLS ANSWER AND DO: loops, images; plain facts on steps -/
set_option maxRecDepth 100000
abbrev cS : Type := Nat → Nat → Int32
noncomputable def judgeL (f : Nat → Int32) (t : Nat) : Nat → Nat → cS → Int32
  | 0, _, _ => -1
  | n + 1, i, σ => cI (mnP σ (f (2 * i)) ∧ wrongS σ (f (2 * i)) t (nearC (f (2 * i + 1))) = 0) (judgeL f t n (i + 1) (carriesS σ (f (2 * i)) t (f (2 * i + 1)))) (nI i)
noncomputable def judgeS (S : ST) (t s n : Int32) : Int32 × ST :=
  cI (¬ thP S.1 t) (noS S (-1)) (cI (¬ wantsC S s = 0) (noS S (wantsC S s)) (cI (n < 0) (noS S (-4)) (cI (S.1 24 (Int32.toNatClampNeg s) / 2 < n) (noS S (-5)) (cI (40 < n) (noS S (-6))
    (judgeL (fun k => (S.2 (160 * Int32.toNatClampNeg s + k)).toInt32) (Int32.toNatClampNeg t) (Int32.toNatClampNeg n) 0 S.1, S)))))
def nightL : Nat → Nat → Int32 → cS → Int32 × cS
  | 0, _, s, σ => (s, σ)
  | n + 1, m, s, σ => nightL n (m + 1) (s + σ 18 m / 2) (up2 σ 18 m (σ 18 m / 2))
def nightT : Nat → Nat → cS → cS
  | 0, _, σ => σ
  | n + 1, t, σ => nightT n (t + 1) (up2 σ 15 t (-1))
def nightS (S : ST) : Int32 × ST :=
  ((nightL (Int32.toNatClampNeg (S.1 1 0)) 0 0 S.1).1, (nightT (Int32.toNatClampNeg (S.1 0 0)) 0 (nightL (Int32.toNatClampNeg (S.1 1 0)) 0 0 S.1).2, S.2))
def meanL (σ : cS) (t d : Int32) : Nat → Nat → Int32 → Int32
  | 0, _, s => s
  | n + 1, w, s => meanL σ t d n (w + 1) (if σ 19 w = t ∧ σ 20 w = σ 14 (Int32.toNatClampNeg t) + d then s + σ 21 w else s)
noncomputable def meanV (σ : cS) (m t d : Int32) : Int32 :=
  cI (throwP σ m t d) (caughtC d (farS σ (Int32.toNatClampNeg m) (Int32.toNatClampNeg t)) * meanL σ t d (Int32.toNatClampNeg (σ 2 0)) 0 0 / 10) 0
noncomputable def meanS (S : ST) (m t d : Int32) : Int32 × ST :=
  cI (¬ mnP S.1 m ∨ ¬ thP S.1 t) (noS S (-1)) (cI (farP d) (meanV S.1 m t d, S) (noS S (-6)))
noncomputable def castL (σ : cS) (m t : Int32) : Nat → Nat → Int32 → Int32 → Int32
  | 0, _, b, _ => b
  | n + 1, d, b, w => if w < meanV σ m t (nI d) then castL σ m t n (d + 1) (nI d) (meanV σ m t (nI d)) else castL σ m t n (d + 1) b w
noncomputable def castS (S : ST) (m t : Int32) : Int32 × ST := cI (¬ mnP S.1 m ∨ ¬ thP S.1 t) (noTenS S (-1)) (castL S.1 m t 40 1 (-1) 0, S)
abbrev onP (σ : cS) (t p : Int32) : Prop := stepS σ p ∧ σ 14 (Int32.toNatClampNeg t) < p
def millL (rf rt f p : Int32) : Nat → Int32 → Int32 → Int32
  | 0, _, c => c
  | n + 1, is, c => if is < p then (if goesC rf rt is f p = is then -1 else millL rf rt f p n (goesC rf rt is f p) (c + 1)) else c
noncomputable def millS (S : ST) (t p s : Int32) : Int32 × ST :=
  cI (¬ thP S.1 t) (noTenS S (-1)) (cI (¬ onP S.1 t p ∨ s < 1 ∨ 99 < s) (noTenS S (-6))
    (millL (S.1 4 0) (S.1 5 0) (farBS S.1 s (Int32.toNatClampNeg t)) p 101 (S.1 14 (Int32.toNatClampNeg t)) 0, S))
def partL (t : Nat) (w : Int32) : Nat → cS → cS
  | 0, σ => σ
  | n + 1, σ => partL t w n (up2 (thingsS σ 0 w 1 (σ 14 t)) 15 (Int32.toNatClampNeg (σ 0 0)) (thingsS σ 0 w 1 (σ 14 t) 15 t))
abbrev partW (σ : cS) (t : Nat) : Int32 := (σ 12 t + σ 13 t - 1) / σ 13 t
def partM (σ : cS) (t : Nat) : cS := partL t (partW σ t) (Int32.toNatClampNeg (σ 13 t) - 1) (up2 (up2 (up2 σ 11 t 0) 12 t (partW σ t)) 13 t 1)
noncomputable def partS (S : ST) (t : Int32) : Int32 × ST :=
  cI (¬ thP S.1 t) (noS S (-1)) (cI (¬ S.1 11 (Int32.toNatClampNeg t) = 5) (noS S (-2)) (cI (8 < S.1 0 0 + S.1 13 (Int32.toNatClampNeg t) - 1) (noS S (-7))
    (partM S.1 (Int32.toNatClampNeg t) 0 0, (partM S.1 (Int32.toNatClampNeg t), S.2))))
/-- a world packed into one array, and out of it -/
def pkC (σ : cS) (j : Nat) : Int32 := if j < 64 then σ (11 + j / 8) (j % 8) else if j < 76 then σ (19 + (j - 64) / 4) ((j - 64) % 4) else σ (j - 76) 0
def unC (f : Nat → Int32) (σ : cS) (k : Nat) : Nat → Int32 :=
  if k < 9 then sc (f (76 + k)) else if 11 ≤ k ∧ k ≤ 18 then fun i => f (8 * (k - 11) + i) else if 19 ≤ k ∧ k ≤ 21 then fun i => f (64 + 4 * (k - 19) + i) else σ k
def imageS (S : ST) : Int32 × ST := (S.1 0 0, (fun k => if k = 49 then sc 1 else if k = 36 then pkC S.1 else S.1 k, S.2))
noncomputable def restM (σ : cS) : cS := fun k => if k = 22 then fun s => cI (σ 22 s = 2 ∧ ¬ σ 25 s < unC (σ 36) σ 0 0) 0 (σ 22 s) else unC (σ 36) σ k
noncomputable def restoreS (S : ST) : Int32 × ST := cI (S.1 49 0 = 0) (noS S (-6)) (restM S.1 0 0, (restM S.1, S.2))
/-! plain facts -/
theorem c_0 : (0 : Int32).toInt = 0 := by decide
theorem c_1 : (1 : Int32).toInt = 1 := by decide
theorem c_2 : (2 : Int32).toInt = 2 := by decide
theorem c_5 : (5 : Int32).toInt = 5 := by decide
theorem c_10 : (10 : Int32).toInt = 10 := by decide
theorem c_40 : (40 : Int32).toInt = 40 := by decide
theorem c_99 : (99 : Int32).toInt = 99 := by decide
theorem c_m1 : (-1 : Int32).toInt = -1 := by decide
theorem low_i (a b : Int32) : (lowC a b).toInt = if a.toInt < b.toInt then a.toInt else b.toInt := by
  unfold lowC
  by_cases h : a < b
  · rw [if_pos h, if_pos (i_lt.mp h)]
  · rw [if_neg h, if_neg (fun g => h (i_lt.mpr g))]
theorem goes_ok {rf rt p f to : Int32} (hp : 0 ≤ p.toInt) (hto : p.toInt ≤ to.toInt) (h99 : to.toInt ≤ 99) (hf : bd f 0 60) (hw : ¬ wetP rf rt p) (hw2 : ¬ wetP rf rt to) :
    p.toInt ≤ (goesC rf rt p f to).toInt ∧ (goesC rf rt p f to).toInt ≤ to.toInt ∧ ¬ wetP rf rt (goesC rf rt p f to) := by
  have ha := i_add (x := p) (y := f) (by omega) (by omega)
  have hl := low_i (p + f) to
  rw [ha] at hl
  unfold goesC
  by_cases h : wetP rf rt (lowC (p + f) to)
  · rw [if_pos h]
    obtain ⟨h1, h2⟩ := h
    rw [i_lt] at h1 h2
    have e1 : ¬ (rf.toInt < p.toInt ∧ p.toInt < rt.toInt) := fun q => hw ⟨i_lt.mpr q.1, i_lt.mpr q.2⟩
    have e2 : ¬ (rf.toInt < to.toInt ∧ to.toInt < rt.toInt) := fun q => hw2 ⟨i_lt.mpr q.1, i_lt.mpr q.2⟩
    refine ⟨?_, ?_, fun q => ?_⟩
    · split at hl <;> omega
    · split at hl <;> omega
    · have := i_lt.mp q.1; omega
  · rw [if_neg h]
    refine ⟨?_, ?_, h⟩ <;> (split at hl <;> omega)
theorem cnt_ok {k w e : Int32} (hw : bd w 1 99) (he : bd e 1 9) : bd (cntC k w e) 1 99 := by
  unfold cntC
  split
  · have a := i_add (x := w) (y := e) (by omega) (by omega)
    have b := i_sub (x := w + e) (y := 1) (by rw [a, c_1]; omega) (by rw [a, c_1]; omega)
    have d := i_div (x := w + e - 1) (y := e) (by rw [b, a, c_1]; omega) (by omega)
    rw [b, a, c_1] at d
    unfold bd
    rw [d]
    refine ⟨(Int.le_ediv_iff_mul_le (by omega)).mpr (by omega), ?_⟩
    refine Int.le_of_lt_add_one ((Int.ediv_lt_iff_lt_mul (by omega)).mpr ?_)
    have : (99 + 1) * 1 ≤ (99 + 1) * e.toInt := Int.mul_le_mul_of_nonneg_left (by omega) (by omega)
    have h9 : w.toInt + e.toInt - 1 < 100 + e.toInt - 1 := by omega
    have : 100 + e.toInt - 1 ≤ (99 + 1) * e.toInt := by omega
    omega
  · exact hw
theorem can_ok {k w e s : Int32} (hw : bd w 1 99) (he : bd e 1 9) (hs : bd s (-200) 200) : 0 ≤ (canC k w e s).toInt ∧ (canC k w e s).toInt ≤ 2000 := by
  have hc := cnt_ok (k := k) hw he
  unfold canC
  split
  · rw [c_0]; omega
  · rename_i h
    rw [i_lt, c_0] at h
    have a := i_mul (x := s) (y := 10) (by rw [c_10]; omega) (by rw [c_10]; omega)
    rw [c_10] at a
    have d := i_div (x := s * 10) (y := cntC k w e) (by rw [a]; omega) (by omega)
    rw [d, a]
    refine ⟨Int.ediv_nonneg (by omega) (by omega), ?_⟩
    exact Int.le_trans (Int.ediv_le_self _ (by omega)) (by omega)
theorem low40 {x : Int32} (h : 0 ≤ x.toInt) : bd (lowC x 40) 0 40 := by
  have := low_i x 40
  rw [c_40] at this
  unfold bd
  split at this <;> omega
theorem half_ok {x : Int32} (h : 0 ≤ x.toInt) (h2 : x.toInt ≤ 100000) : 0 ≤ (x / 2).toInt ∧ (x / 2).toInt ≤ x.toInt := by
  have d := i_div (x := x) (y := 2) h (by rw [c_2]; omega)
  rw [d, c_2]
  omega
theorem far_ok {k w e wd s : Int32} (hw : bd w 1 99) (he : bd e 1 9) (hwd : bd wd 0 9) (hs : bd s (-200) 200) : bd (farC k w e wd s) 0 49 := by
  have hc := can_ok (k := k) hw he hs
  have hh := half_ok hc.1 (by omega)
  have l1 := low40 hc.1
  have l2 := low40 hh.1
  have a1 := i_add (x := lowC (canC k w e s) 40) (y := wd) (by omega) (by omega)
  have a2 := i_add (x := lowC (canC k w e s / 2) 40) (y := e) (by omega) (by omega)
  have h3 := half_ok (x := lowC (canC k w e s) 40 + wd) (by omega) (by omega)
  have l5 := low_i (canC k w e s) 5
  rw [c_5] at l5
  unfold farC
  unfold bd
  split
  · omega
  · split
    · omega
    · split
      · omega
      · split
        · split at l5 <;> omega
        · split
          · omega
          · split <;> omega
theorem OkW.farb {σ : cS} (h : OkW σ) {t : Nat} (ht : t < Int32.toNatClampNeg (σ 0 0)) {s : Int32} (hs : bd s (-200) 200) : bd (farBS σ s t) 0 49 := by
  obtain ⟨-, a, b, -⟩ := h.2.2.1 t ht
  exact far_ok a b h.2.1.2.2.2.2 hs
theorem OkW.fars {σ : cS} (h : OkW σ) {m t : Nat} (ht : t < Int32.toNatClampNeg (σ 0 0)) (hm : m < Int32.toNatClampNeg (σ 1 0)) : bd (farS σ m t) 0 49 := by
  obtain ⟨a, b⟩ := h.2.2.2.1 m hm
  refine h.farb ht ?_
  have := i_sub (x := σ 17 m) (y := σ 18 m) (by omega) (by omega)
  unfold bd
  omega
theorem pk_a {σ : cS} {m i : Nat} (hm : m < 8) (hi : i < 8) : pkC σ (8 * m + i) = σ (11 + m) i := by
  unfold pkC
  rw [if_pos (by omega), show (8 * m + i) / 8 = m by omega, show (8 * m + i) % 8 = i by omega]
theorem pk_b {σ : cS} {m i : Nat} (hm : m < 3) (hi : i < 4) : pkC σ (64 + 4 * m + i) = σ (19 + m) i := by
  unfold pkC
  rw [if_neg (by omega), if_pos (by omega), show (64 + 4 * m + i - 64) / 4 = m by omega, show (64 + 4 * m + i - 64) % 4 = i by omega]
theorem pk_c {σ : cS} {k : Nat} : pkC σ (76 + k) = σ k 0 := by
  unfold pkC
  rw [if_neg (by omega), if_neg (by omega), show 76 + k - 76 = k by omega]
