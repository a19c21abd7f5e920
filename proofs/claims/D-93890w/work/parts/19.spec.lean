/-! PLAIN FUNCTIONS: what single steps of both programs compute, in ints alone -/
set_option maxRecDepth 100000
noncomputable def bI (b : Prop) : Int32 := @ite _ b (Classical.propDecidable b) 1 0
theorem bI_t {b : Prop} (h : b) : bI b = 1 := by simp [bI, h]
theorem bI_f {b : Prop} (h : ¬ b) : bI b = 0 := by simp [bI, h]
theorem bI_t' {b : Prop} (h : b) : (1 : Int32) = bI b := (bI_t h).symm
theorem bI_f' {b : Prop} (h : ¬ b) : (0 : Int32) = bI b := (bI_f h).symm
theorem bI_eq0 {b : Prop} : bI b = 0 ↔ ¬ b := by by_cases h : b <;> simp [bI, h]
theorem bI_ne0 {b : Prop} : ¬ bI b = 0 ↔ b := by by_cases h : b <;> simp [bI, h]
theorem bI_congr {a b : Prop} (h : a ↔ b) : bI a = bI b := by rw [propext h]
abbrev shelfP (s : Int32) : Prop := ¬ s < 0 ∧ s < 8
abbrev wetP (f t p : Int32) : Prop := f < p ∧ p < t
abbrev stepP (al f t p : Int32) : Prop := ¬ p < 0 ∧ ¬ al < p ∧ ¬ wetP f t p
abbrev lowC (a b : Int32) : Int32 := if a < b then a else b
def nearC (d : Int32) : Int32 := if 1000 < d then 1000 else if d < -1000 then -1000 else d
def goesC (rf rt p f to : Int32) : Int32 := if wetP rf rt (lowC (p + f) to) then rf else lowC (p + f) to
/-- what counts as a thing's weight -/
def cntC (k w e : Int32) : Int32 := if k = 5 then (w + e - 1) / e else w
def canC (k w e s : Int32) : Int32 := if s < 0 then 0 else s * 10 / cntC k w e
/-- how far a thing of kind k, weight w, extra e goes by the strength s in the wind wd -/
def farC (k w e wd s : Int32) : Int32 :=
  if k = 1 then lowC (canC k w e s / 2) 40 else if k = 2 then lowC (canC k w e s) 40 + wd else if k = 3 then (lowC (canC k w e s) 40 + wd) / 2
  else if k = 4 then lowC (canC k w e s) 5 else if k = 5 then lowC (canC k w e s / 2) 40 else if k = 6 then lowC (canC k w e s / 2) 40 + e else lowC (canC k w e s) 40
def wrongC (had m st al rf rt d far brk : Int32) : Int32 :=
  if had = m then 1 else if st + d < 0 ∨ al < st + d then 2 else if wetP rf rt (st + d) then 3 else (if d = 0 ∨ far < d ∨ far < -d then 4 else if brk = 1 then 5 else 0)
def tireC (tr w : Int32) : Int32 := lowC 99 (tr + w / 10 + 1)
def caughtC (d far : Int32) : Int32 := if 2 * far < d then 0 else if 10 - d / 4 < 0 then 0 else 10 - d / 4
