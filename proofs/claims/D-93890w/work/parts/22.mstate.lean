/-! THE STATE: σ k i, by the Model's fields k (a scalar is σ k 0); the Model's memory seen so -/
set_option maxRecDepth 100000
def sc (v : Int32) : Nat → Int32 := fun i => if i = 0 then v else 0
theorem sc_up (a v : Int32) : va_up (sc a) 0 v = sc v := by
  funext i
  by_cases h : i = 0 <;> simp [va_up, sc, h]
/-- the Model's memory at mo, by its fields -/
def sM (I : Nat → Nat → Int32) (mo : Nat) (k : Nat) : Nat → Int32 :=
  if k < 10 then sc (I mo k) else if k < 30 then I (mo + (k - 9)) else if k < 35 then sc (I mo k) else if k < 46 then I (mo + (k - 14)) else if k = 47 then I (mo + 32) else if k < 50 then sc (I mo k) else fun _ => 0
/-- the place of an array field behind mo -/
def isAd (k o : Nat) : Prop := (10 ≤ k ∧ k < 30 ∧ o = k - 9) ∨ (35 ≤ k ∧ k < 46 ∧ o = k - 14) ∨ (k = 47 ∧ o = 32)
def isSc (k : Nat) : Prop := k < 10 ∨ (30 ≤ k ∧ k < 35) ∨ k = 46 ∨ k = 48 ∨ k = 49
theorem sM_ar {I : Nat → Nat → Int32} {mo k o : Nat} (h : isAd k o) : sM I mo k = I (mo + o) := by
  unfold sM
  rcases h with ⟨h1, h2, h3⟩ | ⟨h1, h2, h3⟩ | ⟨h1, h3⟩
  · rw [if_neg (by omega), if_pos h2, h3]
  · rw [if_neg (by omega), if_neg (by omega), if_neg (by omega), if_pos h2, h3]
  · subst h1; subst h3; rfl
theorem sM_sc {I : Nat → Nat → Int32} {mo k : Nat} (h : isSc k) : sM I mo k = sc (I mo k) := by
  unfold sM
  rcases h with h | ⟨h1, h2⟩ | h | h | h
  · rw [if_pos h]
  · rw [if_neg (by omega), if_neg (by omega), if_pos h2]
  · subst h; rfl
  · subst h; rfl
  · subst h; rfl
theorem sM_s0 {I : Nat → Nat → Int32} {mo k : Nat} (h : isSc k) : sM I mo k 0 = I mo k := by rw [sM_sc h]; rfl
/-- a store into an array field -/
theorem sM_ua {I : Nat → Nat → Int32} {mo k o i : Nat} {v : Int32} (h : isAd k o) : sM (up2 I (mo + o) i v) mo = up2 (sM I mo) k i v := by
  have ho : 1 ≤ o := by rcases h with ⟨h1, h2, h3⟩ | ⟨h1, h2, h3⟩ | ⟨h1, h3⟩ <;> omega
  funext j
  by_cases hj : j = k
  · subst hj
    rw [up2_self, sM_ar h, sM_ar h, up2_self]
  · rw [up2_ne hj]
    unfold sM
    have e0 : up2 I (mo + o) i v mo = I mo := up2_ne (by omega)
    rw [e0]
    split
    · rfl
    · split
      · exact up2_ne (by rcases h with ⟨h1, h2, h3⟩ | ⟨h1, h2, h3⟩ | ⟨h1, h3⟩ <;> omega)
      · split
        · rfl
        · split
          · exact up2_ne (by rcases h with ⟨h1, h2, h3⟩ | ⟨h1, h2, h3⟩ | ⟨h1, h3⟩ <;> omega)
          · split
            · exact up2_ne (by rcases h with ⟨h1, h2, h3⟩ | ⟨h1, h2, h3⟩ | ⟨h1, h3⟩ <;> omega)
            · rfl
/-- a store into a scalar field -/
theorem sM_us {I : Nat → Nat → Int32} {mo k : Nat} {v : Int32} (h : isSc k) : sM (up2 I mo k v) mo = up2 (sM I mo) k 0 v := by
  funext j
  by_cases hj : j = k
  · subst hj
    rw [up2_self, sM_sc h, sM_sc h, up2_self, va_up_self, sc_up]
  · rw [up2_ne hj]
    unfold sM
    have e0 : up2 I mo k v mo j = I mo j := by rw [up2_self, va_up_ne _ _ hj]
    have e1 : ∀ o, 1 ≤ o → up2 I mo k v (mo + o) = I (mo + o) := fun o ho => up2_ne (by omega)
    rw [e0]
    split
    · rfl
    · split
      · exact e1 _ (by omega)
      · split
        · rfl
        · split
          · exact e1 _ (by omega)
          · split
            · exact e1 _ (by omega)
            · rfl
/-- nothing outside the Model has changed -/
def frM (mo : Nat) (I I' : Nat → Nat → Int32) (L L' : Nat → Nat → Int64) : Prop := ∀ a, (a < mo ∨ mo + 33 ≤ a) → I' a = I a ∧ L' a = L a
theorem frM.rf {mo : Nat} {I : Nat → Nat → Int32} {L : Nat → Nat → Int64} : frM mo I I L L := fun _ _ => ⟨rfl, rfl⟩
theorem frM.up {mo o i : Nat} {v : Int32} {I I' : Nat → Nat → Int32} {L L' : Nat → Nat → Int64} (h : frM mo I I' L L') (ho : o < 33) : frM mo I (up2 I' (mo + o) i v) L L' := fun a ha => ⟨(up2_ne (by omega)).trans (h a ha).1, (h a ha).2⟩
theorem frM.up0 {mo i : Nat} {v : Int32} {I I' : Nat → Nat → Int32} {L L' : Nat → Nat → Int64} (h : frM mo I I' L L') : frM mo I (up2 I' mo i v) L L' := fun a ha => ⟨(up2_ne (by omega)).trans (h a ha).1, (h a ha).2⟩
theorem frM.upL {mo o i : Nat} {v : Int64} {I I' : Nat → Nat → Int32} {L L' : Nat → Nat → Int64} (h : frM mo I I' L L') (ho : o < 33) : frM mo I I' L (up2 L' (mo + o) i v) := fun a ha => ⟨(h a ha).1, (up2_ne (by omega)).trans (h a ha).2⟩
theorem frM.trans {mo : Nat} {I I' I'' : Nat → Nat → Int32} {L L' L'' : Nat → Nat → Int64} (h : frM mo I I' L L') (g : frM mo I' I'' L' L'') : frM mo I I'' L L'' := fun a ha => ⟨(g a ha).1.trans (h a ha).1, (g a ha).2.trans (h a ha).2⟩
/-- fields that last from call to call (the others are scratch) -/
def pers (k : Nat) : Bool := decide (k ≤ 26 ∨ k = 28 ∨ k = 36 ∨ k = 47 ∨ k = 48 ∨ k = 49)
abbrev ST : Type := (Nat → Nat → Int32) × (Nat → Int64)
/-- how many places of a field count -/
def lnF (k : Nat) : Nat := if k < 10 then 1 else if k < 19 then 8 else if k < 22 then 4 else if k < 26 then 8 else if k = 28 then 37 else if k = 36 then 85 else if k = 47 then 20 else 1
/-- the same state, at the places that count -/
def PE (a b : ST) : Prop := (∀ k, pers k = true → ∀ i, i < lnF k → a.1 k i = b.1 k i) ∧ ∀ j, j < 1280 → a.2 j = b.2 j
theorem PE.of {a b : ST} (h : a = b) : PE a b := ⟨fun _ _ _ _ => by rw [h], fun _ _ => by rw [h]⟩
abbrev sS (I : Nat → Nat → Int32) (L : Nat → Nat → Int64) (mo : Nat) : ST := (sM I mo, L (mo + 17))
/-- what a method of the Model owes: the answer and the state of the plain function's value w -/
def oM (M0 : PM) (mo : Nat) (I : Nat → Nat → Int32) (L : Nat → Nat → Int64) (w : Int32 × ST) (r : Int32) (M' : PM) : Prop := r = w.1 ∧ ∃ I' L', M' = wIL M0 I' L' ∧ PE (sS I' L' mo) w.2 ∧ frM mo I I' L L'
theorem oM.of {M0 : PM} {mo : Nat} {I I' : Nat → Nat → Int32} {L L' : Nat → Nat → Int64} {w : Int32 × ST} {r : Int32} (h1 : w = (r, (sM I' mo, L' (mo + 17)))) (hf : frM mo I I' L L') : oM M0 mo I L w r (wIL M0 I' L') := by
  subst h1
  exact ⟨rfl, I', L', rfl, PE.of rfl, hf⟩
