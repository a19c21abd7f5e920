/-! WHAT THE CALLS ANSWER AND DO, in plain functions of the state: shelves, the valley told -/
set_option maxRecDepth 100000
noncomputable def cI {α : Type} (P : Prop) (a b : α) : α := @ite α P (Classical.propDecidable P) a b
theorem cI_t {α : Type} {P : Prop} {a b : α} (h : P) : cI P a b = a := by simp [cI, h]
theorem cI_True {α : Type} {a b : α} : cI True a b = a := cI_t trivial
theorem cI_f {α : Type} {P : Prop} {a b : α} (h : ¬ P) : cI P a b = b := by simp [cI, h]
theorem cI_False {α : Type} {a b : α} : cI False a b = b := cI_f id
def noS (S : ST) (b : Int32) : Int32 × ST := (b, (up2 S.1 10 (Int32.toNatClampNeg (-b)) (S.1 10 (Int32.toNatClampNeg (-b)) + 1), S.2))
def noTenS (S : ST) (b : Int32) : Int32 × ST := (b - 10, (up2 S.1 10 (Int32.toNatClampNeg (-b)) (S.1 10 (Int32.toNatClampNeg (-b)) + 1), S.2))
abbrev thP (σ : Nat → Nat → Int32) (t : Int32) : Prop := ¬ t < 0 ∧ t < σ 0 0
abbrev mnP (σ : Nat → Nat → Int32) (m : Int32) : Prop := ¬ m < 0 ∧ m < σ 1 0
def wantsC (S : ST) (s : Int32) : Int32 := if ¬ shelfP s then -1 else if S.1 22 (Int32.toNatClampNeg s) = 2 then -2 else if S.1 22 (Int32.toNatClampNeg s) = 0 then -3 else 0
noncomputable def rowS (S : ST) (s o n : Int32) : Int32 × ST :=
  cI (¬ shelfP s) (noS S (-1)) (cI (n < 0) (noS S (-4)) (cI (o < 0 ∨ 3 < o) (noS S (-6)) (cI (160 < n) (noS S (-7))
    (1, (up2 (up2 (up2 S.1 22 (Int32.toNatClampNeg s) 1) 23 (Int32.toNatClampNeg s) o) 24 (Int32.toNatClampNeg s) n, fun j => if 160 * Int32.toNatClampNeg s ≤ j ∧ j < 160 * Int32.toNatClampNeg s + 160 then 0 else S.2 j)))))
/-- what a row of the sort o keeps of a long -/
def keepC (o : Int32) (v : Int64) : Int64 := if o = 0 then v.toInt32.toInt8.toInt32.toInt64 else if o = 1 then v.toInt32.toInt16.toInt32.toInt64 else if o = 2 then v.toInt32.toInt64 else v
noncomputable def setS (S : ST) (s i : Int32) (v : Int64) : Int32 × ST :=
  cI (¬ shelfP s) (noS S (-1)) (cI (S.1 22 (Int32.toNatClampNeg s) = 2) (noS S (-2)) (cI (S.1 22 (Int32.toNatClampNeg s) = 0) (noS S (-3)) (cI (i < 0 ∨ ¬ i < S.1 24 (Int32.toNatClampNeg s)) (noS S (-5))
    (1, (S.1, va_up S.2 (160 * Int32.toNatClampNeg s + Int32.toNatClampNeg i) (keepC (S.1 23 (Int32.toNatClampNeg s)) v))))))
noncomputable def copyS (S : ST) (p q i j n : Int32) : Int32 × ST :=
  cI (¬ shelfP p ∨ ¬ shelfP q) (noS S (-1))
  (cI (S.1 22 (Int32.toNatClampNeg p) = 2 ∨ S.1 22 (Int32.toNatClampNeg q) = 2 ∨ (S.1 22 (Int32.toNatClampNeg p) = 1 ∧ S.1 22 (Int32.toNatClampNeg q) = 1 ∧ ¬ S.1 23 (Int32.toNatClampNeg p) = S.1 23 (Int32.toNatClampNeg q))) (noS S (-2))
  (cI (S.1 22 (Int32.toNatClampNeg p) = 0 ∨ S.1 22 (Int32.toNatClampNeg q) = 0) (noS S (-3)) (cI (n < 0) (noS S (-4))
  (cI (i < 0 ∨ j < 0 ∨ S.1 24 (Int32.toNatClampNeg p) - n < i ∨ S.1 24 (Int32.toNatClampNeg q) - n < j) (noS S (-5))
    (1, (S.1, va_cpy S.2 S.2 (160 * Int32.toNatClampNeg p + Int32.toNatClampNeg i) (160 * Int32.toNatClampNeg q + Int32.toNatClampNeg j) (Int32.toNatClampNeg n)))))))
noncomputable def elementS (S : ST) (s i : Int32) : Int64 := cI (shelfP s ∧ S.1 22 (Int32.toNatClampNeg s) = 1 ∧ ¬ i < 0 ∧ i < S.1 24 (Int32.toNatClampNeg s)) (S.2 (160 * Int32.toNatClampNeg s + Int32.toNatClampNeg i)) 0
noncomputable def showS (S : ST) (s t : Int32) : Int32 × ST :=
  cI (¬ shelfP s ∨ (¬ t = -1 ∧ ¬ thP S.1 t)) (noS S (-1)) (cI (t = -1) (0, (up2 (up2 S.1 22 (Int32.toNatClampNeg s) 0) 25 (Int32.toNatClampNeg s) t, S.2)) (1, (up2 (up2 S.1 22 (Int32.toNatClampNeg s) 2) 25 (Int32.toNatClampNeg s) t, S.2)))
noncomputable def holdsS (S : ST) (s : Int32) : Int32 := cI (¬ shelfP s ∨ S.1 22 (Int32.toNatClampNeg s) = 0) (-1) (cI (S.1 22 (Int32.toNatClampNeg s) = 1) (100 + S.1 23 (Int32.toNatClampNeg s)) (S.1 25 (Int32.toNatClampNeg s)))
/-- how far, of a thing's own numbers in the state -/
def farBS (σ : Nat → Nat → Int32) (s : Int32) (t : Nat) : Int32 := farC (σ 11 t) (σ 12 t) (σ 13 t) (σ 6 0) s
def farS (σ : Nat → Nat → Int32) (m t : Nat) : Int32 := farBS σ (σ 17 m - σ 18 m) t
noncomputable def saysS (S : ST) (s k : Int32) : Int32 × ST :=
  cI (¬ shelfP s ∨ k < 0 ∨ 6 < k) (noS S (-1)) (cI (S.1 22 (Int32.toNatClampNeg s) = 1) (noS S (-2)) (cI (S.1 22 (Int32.toNatClampNeg s) = 0) (noS S (-3))
    (cI (¬ k = 0 ∧ ¬ k = S.1 11 (Int32.toNatClampNeg (S.1 25 (Int32.toNatClampNeg s))) ∧ ¬ (k = 1 ∧ (S.1 11 (Int32.toNatClampNeg (S.1 25 (Int32.toNatClampNeg s))) = 5 ∨ S.1 11 (Int32.toNatClampNeg (S.1 25 (Int32.toNatClampNeg s))) = 6)) ∧ ¬ (k = 2 ∧ S.1 11 (Int32.toNatClampNeg (S.1 25 (Int32.toNatClampNeg s))) = 3)) (noS S (-2))
      (cI (k = 0) (S.1 12 (Int32.toNatClampNeg (S.1 25 (Int32.toNatClampNeg s))), S) (cI (k = 4) (S.1 16 (Int32.toNatClampNeg (S.1 25 (Int32.toNatClampNeg s))), S) (cI (k = 2 ∨ k = 3) (farBS S.1 9 (Int32.toNatClampNeg (S.1 25 (Int32.toNatClampNeg s))), S) (S.1 13 (Int32.toNatClampNeg (S.1 25 (Int32.toNatClampNeg s))), S)))))))
def thingsS (σ : Nat → Nat → Int32) (k w e p : Int32) : Nat → Nat → Int32 := up2 (up2 (up2 (up2 (up2 (up2 (up2 σ 11 (Int32.toNatClampNeg (σ 0 0)) k) 12 (Int32.toNatClampNeg (σ 0 0)) w) 13 (Int32.toNatClampNeg (σ 0 0)) e) 14 (Int32.toNatClampNeg (σ 0 0)) p) 15 (Int32.toNatClampNeg (σ 0 0)) (-1)) 16 (Int32.toNatClampNeg (σ 0 0)) 0) 0 0 (σ 0 0 + 1)
def menS (σ : Nat → Nat → Int32) (s : Int32) : Nat → Nat → Int32 := up2 (up2 (up2 σ 17 (Int32.toNatClampNeg (σ 1 0)) s) 18 (Int32.toNatClampNeg (σ 1 0)) 0) 1 0 (σ 1 0 + 1)
def wantedS (σ : Nat → Nat → Int32) (t p v : Int32) : Nat → Nat → Int32 := up2 (up2 (up2 (up2 σ 19 (Int32.toNatClampNeg (σ 2 0)) t) 20 (Int32.toNatClampNeg (σ 2 0)) p) 21 (Int32.toNatClampNeg (σ 2 0)) v) 2 0 (σ 2 0 + 1)
abbrev stepS (σ : Nat → Nat → Int32) (p : Int32) : Prop := stepP (σ 3 0) (σ 4 0) (σ 5 0) p
noncomputable def thingS (S : ST) (k w e p : Int32) : Int32 × ST :=
  cI (k < 0 ∨ 6 < k) (noS S (-1)) (cI (w < 1 ∨ 99 < w ∨ e < 1 ∨ 9 < e ∨ ¬ stepS S.1 p) (noS S (-6)) (cI (S.1 0 0 = 8) (noS S (-7)) (S.1 0 0, (thingsS S.1 k w e p, S.2))))
noncomputable def manS (S : ST) (s : Int32) : Int32 × ST := cI (s < 1 ∨ 99 < s) (noS S (-6)) (cI (S.1 1 0 = 8) (noS S (-7)) (S.1 1 0, (menS S.1 s, S.2)))
/-- men out of a row: n still to come, k have come -/
noncomputable def menL (f : Nat → Int32) : Nat → Nat → (Nat → Nat → Int32) → Int32 × (Nat → Nat → Int32)
  | 0, k, σ => (nI k, σ)
  | n + 1, k, σ => cI (σ 1 0 = 8 ∨ f k < 1 ∨ 99 < f k) (nI k, σ) (menL f n (k + 1) (menS σ (f k)))
noncomputable def menRS (S : ST) (s i n : Int32) : Int32 × ST :=
  cI (¬ wantsC S s = 0) (noS S (wantsC S s)) (cI (n < 0) (noS S (-4)) (cI (i < 0 ∨ S.1 24 (Int32.toNatClampNeg s) - n < i) (noS S (-5))
    ((menL (fun k => (S.2 (160 * Int32.toNatClampNeg s + Int32.toNatClampNeg i + k)).toInt32) (Int32.toNatClampNeg n) 0 S.1).1, ((menL (fun k => (S.2 (160 * Int32.toNatClampNeg s + Int32.toNatClampNeg i + k)).toInt32) (Int32.toNatClampNeg n) 0 S.1).2, S.2))))
noncomputable def wantS (S : ST) (t p v : Int32) : Int32 × ST :=
  cI (¬ thP S.1 t) (noS S (-1)) (cI (¬ stepS S.1 p ∨ v < 0 ∨ 99 < v) (noS S (-6)) (cI (S.1 2 0 = 4) (noS S (-7)) (S.1 2 0, (wantedS S.1 t p v, S.2))))
def longP (σ : Nat → Nat → Int32) (v : Int32) : Prop := ¬ v < 1 ∧ ¬ 99 < v ∧ ¬ v < σ 5 0 ∧ (∀ t, t < Int32.toNatClampNeg (σ 0 0) → ¬ v < σ 14 t) ∧ ∀ t, t < Int32.toNatClampNeg (σ 2 0) → ¬ v < σ 20 t
def riverP (σ : Nat → Nat → Int32) (f t : Int32) : Prop := ¬ f < 0 ∧ ¬ t < f ∧ ¬ σ 3 0 < t ∧ (∀ i, i < Int32.toNatClampNeg (σ 0 0) → ¬ (f < σ 14 i ∧ σ 14 i < t)) ∧ ∀ i, i < Int32.toNatClampNeg (σ 2 0) → ¬ (f < σ 20 i ∧ σ 20 i < t)
noncomputable def askS (S : ST) (what v : Int32) : Int32 × ST :=
  cI (what = 0 ∧ longP S.1 v) (S.1 3 0, (up2 S.1 3 0 v, S.2)) (cI (what = 1 ∧ ¬ v < 0 ∧ ¬ 9 < v) (S.1 6 0, (up2 S.1 6 0 v, S.2)) (noS S (-6)))
noncomputable def riverS (S : ST) (f t : Int32) : Int32 × ST := cI (¬ riverP S.1 f t) (noS S (-6)) (1, (up2 (up2 S.1 4 0 f) 5 0 t, S.2))
noncomputable def thingOfS (S : ST) (t w : Int32) : Int32 × ST :=
  cI (¬ thP S.1 t ∨ w < 0 ∨ 5 < w) (noS S (-5)) (cI (w = 0) (S.1 11 (Int32.toNatClampNeg t), S) (cI (w = 1) (S.1 12 (Int32.toNatClampNeg t), S) (cI (w = 2) (S.1 13 (Int32.toNatClampNeg t), S) (cI (w = 3) (S.1 14 (Int32.toNatClampNeg t), S) (cI (w = 4) (S.1 15 (Int32.toNatClampNeg t), S) (S.1 16 (Int32.toNatClampNeg t), S))))))
noncomputable def manOfS (S : ST) (m w : Int32) : Int32 × ST := cI (¬ mnP S.1 m ∨ w < 0 ∨ 1 < w) (noS S (-5)) (cI (w = 0) (S.1 17 (Int32.toNatClampNeg m), S) (S.1 18 (Int32.toNatClampNeg m), S))
noncomputable def wantOfS (S : ST) (i w : Int32) : Int32 × ST :=
  cI (i < 0 ∨ ¬ i < S.1 2 0 ∨ w < 0 ∨ 3 < w) (noS S (-5)) (cI (w = 0) (S.1 19 (Int32.toNatClampNeg i), S) (cI (w = 1) (S.1 20 (Int32.toNatClampNeg i), S) (cI (w = 2) (S.1 21 (Int32.toNatClampNeg i), S) (bI (S.1 14 (Int32.toNatClampNeg (S.1 19 (Int32.toNatClampNeg i))) = S.1 20 (Int32.toNatClampNeg i)), S))))
/-! carrying -/
def wrongS (σ : Nat → Nat → Int32) (m : Int32) (t : Nat) (d : Int32) : Int32 := wrongC (σ 15 t) m (σ 14 t) (σ 3 0) (σ 4 0) (σ 5 0) d (farS σ (Int32.toNatClampNeg m) t) (σ 16 t)
def tiresS (σ : Nat → Nat → Int32) (m t : Nat) : Nat → Nat → Int32 := up2 σ 18 m (tireC (σ 18 m) (σ 12 t))
def carriesS (σ : Nat → Nat → Int32) (m : Int32) (t : Nat) (d : Int32) : Nat → Nat → Int32 := up2 (up2 (up2 σ 14 t (σ 14 t + d)) 15 t m) 18 (Int32.toNatClampNeg m) (tireC (σ 18 (Int32.toNatClampNeg m)) (σ 12 t))
noncomputable def farOS (S : ST) (m t : Int32) : Int32 × ST := cI (mnP S.1 m ∧ thP S.1 t) (farS S.1 (Int32.toNatClampNeg m) (Int32.toNatClampNeg t), S) (noS S (-1))
noncomputable def wrongOS (S : ST) (m t d : Int32) : Int32 × ST := cI (mnP S.1 m ∧ thP S.1 t) (wrongS S.1 m (Int32.toNatClampNeg t) (nearC d), S) (noS S (-1))
noncomputable def carryS (S : ST) (m t d : Int32) : Int32 × ST :=
  cI (¬ mnP S.1 m ∨ ¬ thP S.1 t) (noS S (-1)) (cI (¬ wrongS S.1 m (Int32.toNatClampNeg t) (nearC d) = 0) (noS S (-6))
    (S.1 14 (Int32.toNatClampNeg t) + d, (up2 (carriesS S.1 m (Int32.toNatClampNeg t) d) 8 0 (S.1 8 0 + 1), S.2)))
