/-! WHAT THE CALLS ANSWER AND DO: throws, nights, acts -/
set_option maxRecDepth 100000
def seedS (S : ST) (v : Int32) : Int32 × ST := (S.1 7 0, (up2 S.1 7 0 v, S.2))
noncomputable def traceS (S : ST) (i : Int32) : Int32 := cI (¬ i < 0 ∧ i < 20 ∧ i < S.1 48 0) (S.1 47 (Int32.toNatClampNeg i)) (-1)
noncomputable def statusS (S : ST) (w : Int32) : Int32 :=
  cI (¬ w < 11 ∧ ¬ 17 < w) (S.1 10 (Int32.toNatClampNeg (w - 10))) (cI (w = 0) (S.1 0 0) (cI (w = 1) (S.1 1 0) (cI (w = 2) (S.1 2 0) (cI (w = 3) (S.1 3 0) (cI (w = 4) (S.1 4 0) (cI (w = 5) (S.1 5 0) (cI (w = 6) (S.1 6 0) (cI (w = 7) (S.1 7 0) (cI (w = 8) (S.1 48 0) (cI (w = 9) (S.1 8 0) (-1)))))))))))
abbrev farP (d : Int32) : Prop := ¬ d < 1 ∧ ¬ 40 < d
noncomputable def caughtS (S : ST) (m t d : Int32) : Int32 × ST :=
  cI (¬ mnP S.1 m ∨ ¬ thP S.1 t) (noS S (-1)) (cI (farP d) (caughtC d (farS S.1 (Int32.toNatClampNeg m) (Int32.toNatClampNeg t)), S) (noS S (-6)))
/-- one body has run -/
noncomputable def bodyS (σ : Nat → Nat → Int32) (b : Int32) : Nat → Nat → Int32 := cI (σ 48 0 < 20) (up2 (up2 σ 47 (Int32.toNatClampNeg (σ 48 0)) b) 48 0 (σ 48 0 + 1)) (up2 σ 48 0 (σ 48 0 + 1))
noncomputable def bodiesS (σ : Nat → Nat → Int32) : List Int32 → Nat → Nat → Int32
  | [] => σ
  | b :: l => bodiesS (bodyS σ b) l
def goB (k : Int32) : List Int32 := (if k = 6 then [40] else []) ++ ((if k = 1 ∨ k = 5 ∨ k = 6 then [20] else []) ++ ((if k = 4 then [70] else []) ++ [10]))
def goV (k w t x : Int32) : Int32 := if k = 1 ∨ k = 5 then x + t + w else if k = 6 then x + 1 + t + w else if k = 4 then (x + t) * 2 else x + t
def reB (k : Int32) : List Int32 := (if k = 5 then [30] else []) ++ ((if k = 3 then [60] else []) ++ ((if k = 2 ∨ k = 3 then [50] else []) ++ (11 :: goB k)))
def reV (k w t x : Int32) : Int32 := if k = 5 then goV k w t x * 2 * 3 else if k = 2 then -(goV k w t x * 2) else if k = 3 then -(goV k w t x * 2) ^^^ 5 else goV k w t x * 2
def faB (k : Int32) : List Int32 := (if k = 6 then [41] else []) ++ ((if k = 4 then [71] else []) ++ (12 :: (reB k ++ goB k)))
def faV (k w t x : Int32) : Int32 := if k = 6 then (reV k w t x ^^^ goV k w t (x - w)) - t else if k = 4 then reV k w t (x - w) ^^^ goV k w t (x - w - w) else reV k w t x ^^^ goV k w t (x - w)
theorem bodiesS_app (σ : Nat → Nat → Int32) (a b : List Int32) : bodiesS σ (a ++ b) = bodiesS (bodiesS σ a) b := by
  induction a generalizing σ with
  | nil => rfl
  | cons x l ih => exact ih _
theorem bodyS_0 {σ : Nat → Nat → Int32} {b : Int32} {n : Nat} (h : σ 48 0 = nI n) : bodyS σ b 48 0 = nI (n + 1) := by
  unfold bodyS
  by_cases c : σ 48 0 < 20
  · rw [cI_t c, up2_self, va_up_self, h, nI_1]
  · rw [cI_f c, up2_self, va_up_self, h, nI_1]
theorem bodyS_k {σ : Nat → Nat → Int32} {b : Int32} {k : Nat} (h : k ≠ 47) (h2 : k ≠ 48) : bodyS σ b k = σ k := by
  unfold bodyS
  by_cases c : σ 48 0 < 20
  · rw [cI_t c, up2_ne h2, up2_ne h]
  · rw [cI_f c, up2_ne h2]
theorem bodiesS_k {σ : Nat → Nat → Int32} {k : Nat} (h : k ≠ 47) (h2 : k ≠ 48) (l : List Int32) : bodiesS σ l k = σ k := by
  induction l generalizing σ with
  | nil => rfl
  | cons b l ih => exact (ih (σ := bodyS σ b)).trans (bodyS_k h h2)
theorem bodiesS_0 {σ : Nat → Nat → Int32} {n : Nat} (h : σ 48 0 = nI n) (l : List Int32) : bodiesS σ l 48 0 = nI (n + l.length) := by
  induction l generalizing σ n with
  | nil => exact h
  | cons b l ih => rw [bodiesS, ih (bodyS_0 h), List.length_cons]; congr 1; omega
/-- act: the trace begins anew -/
noncomputable def actS (S : ST) (t a x : Int32) : Int32 × ST :=
  cI (¬ thP S.1 t ∨ a < 0 ∨ 2 < a) (0, (up2 S.1 48 0 0, S.2))
  (cI (a = 0) (goV (S.1 11 (Int32.toNatClampNeg t)) (S.1 12 (Int32.toNatClampNeg t)) t x, (bodiesS (up2 S.1 48 0 0) (goB (S.1 11 (Int32.toNatClampNeg t))), S.2))
  (cI (a = 1) (reV (S.1 11 (Int32.toNatClampNeg t)) (S.1 12 (Int32.toNatClampNeg t)) t x, (bodiesS (up2 S.1 48 0 0) (reB (S.1 11 (Int32.toNatClampNeg t))), S.2))
    (faV (S.1 11 (Int32.toNatClampNeg t)) (S.1 12 (Int32.toNatClampNeg t)) t x, (bodiesS (up2 S.1 48 0 0) (faB (S.1 11 (Int32.toNatClampNeg t))), S.2))))
def sdC (s : Int32) : Int32 := s * 1103515245 + 12345
def drC (s n : Int32) : Int32 := ((sdC s).toUInt32 >>> ((16 : Int32).toUInt32 &&& Int32.toUInt32 31)).toInt32 - ((sdC s).toUInt32 >>> ((16 : Int32).toUInt32 &&& Int32.toUInt32 31)).toInt32 / n * n
abbrev throwP (σ : Nat → Nat → Int32) (m t d : Int32) : Prop := ¬ 2 * farS σ (Int32.toNatClampNeg m) (Int32.toNatClampNeg t) < d ∧ stepS σ (σ 14 (Int32.toNatClampNeg t) + d)
/-- a throw's own moves: sd: whether it is caught -/
def tossM (σ : Nat → Nat → Int32) (m t d : Int32) (glass : Bool) : Nat → Nat → Int32 :=
  let a := up2 (up2 (up2 σ 7 0 (sdC (σ 7 0))) 14 (Int32.toNatClampNeg t) (σ 14 (Int32.toNatClampNeg t) + d)) 15 (Int32.toNatClampNeg t) (-1)
  let b := if glass then up2 a 16 (Int32.toNatClampNeg t) 1 else a
  up2 (up2 b 18 (Int32.toNatClampNeg m) (tireC (σ 18 (Int32.toNatClampNeg m)) (σ 12 (Int32.toNatClampNeg t)))) 8 0 (σ 8 0 + 1)
noncomputable def tossS (S : ST) (m t d : Int32) : Int32 × ST :=
  cI (¬ mnP S.1 m ∨ ¬ thP S.1 t) (noS S (-1)) (cI (¬ farP d ∨ ¬ throwP S.1 m t d ∨ S.1 16 (Int32.toNatClampNeg t) = 1) (noS S (-6))
  (cI (drC (S.1 7 0) 10 < caughtC d (farS S.1 (Int32.toNatClampNeg m) (Int32.toNatClampNeg t))) (1, (tossM S.1 m t d false, S.2))
    (cI (S.1 11 (Int32.toNatClampNeg t) = 4) (0, (tossM S.1 m t d true, S.2)) (0, (tossM S.1 m t d false, S.2)))))
