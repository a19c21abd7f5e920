/-! THE MODEL's structure and its small methods (printed by gen/model1.py) -/
set_option maxRecDepth 100000
theorem vp_in_lit {i : Int32} {n : Nat} (h : decide (¬ (i < 0 ∨ n ≤ i.toNatClampNeg)) = true) : vp_in i n := (of_decide_eq_true h : ¬ (i < 0 ∨ n ≤ i.toNatClampNeg))
/-- M with other ints and longs -/
def wIL (M : PM) (I : Nat → Nat → Int32) (L : Nat → Nat → Int64) : PM := (M.1, M.2.1, M.2.2.1, I, L, M.2.2.2.2.2)
/-- the Model's object lies at mo, its arrays behind it -/
def MR (M : PM) (mo : Nat) : Prop := mK M mo = (1, 5) ∧ (mR M mo 10 = some (mo + 1) ∧ mK M (mo + 1) = (2, 0) ∧ mZ M (mo + 1) = 8) ∧ (mR M mo 11 = some (mo + 2) ∧ mK M (mo + 2) = (2, 0) ∧ mZ M (mo + 2) = 8) ∧ (mR M mo 12 = some (mo + 3) ∧ mK M (mo + 3) = (2, 0) ∧ mZ M (mo + 3) = 8) ∧ (mR M mo 13 = some (mo + 4) ∧ mK M (mo + 4) = (2, 0) ∧ mZ M (mo + 4) = 8) ∧ (mR M mo 14 = some (mo + 5) ∧ mK M (mo + 5) = (2, 0) ∧ mZ M (mo + 5) = 8) ∧ (mR M mo 15 = some (mo + 6) ∧ mK M (mo + 6) = (2, 0) ∧ mZ M (mo + 6) = 8) ∧ (mR M mo 16 = some (mo + 7) ∧ mK M (mo + 7) = (2, 0) ∧ mZ M (mo + 7) = 8) ∧ (mR M mo 17 = some (mo + 8) ∧ mK M (mo + 8) = (2, 0) ∧ mZ M (mo + 8) = 8) ∧ (mR M mo 18 = some (mo + 9) ∧ mK M (mo + 9) = (2, 0) ∧ mZ M (mo + 9) = 8) ∧ (mR M mo 19 = some (mo + 10) ∧ mK M (mo + 10) = (2, 0) ∧ mZ M (mo + 10) = 4) ∧ (mR M mo 20 = some (mo + 11) ∧ mK M (mo + 11) = (2, 0) ∧ mZ M (mo + 11) = 4) ∧ (mR M mo 21 = some (mo + 12) ∧ mK M (mo + 12) = (2, 0) ∧ mZ M (mo + 12) = 4) ∧ (mR M mo 22 = some (mo + 13) ∧ mK M (mo + 13) = (2, 0) ∧ mZ M (mo + 13) = 8) ∧ (mR M mo 23 = some (mo + 14) ∧ mK M (mo + 14) = (2, 0) ∧ mZ M (mo + 14) = 8) ∧ (mR M mo 24 = some (mo + 15) ∧ mK M (mo + 15) = (2, 0) ∧ mZ M (mo + 15) = 8) ∧ (mR M mo 25 = some (mo + 16) ∧ mK M (mo + 16) = (2, 0) ∧ mZ M (mo + 16) = 8) ∧ (mR M mo 26 = some (mo + 17) ∧ mK M (mo + 17) = (2, 4) ∧ mZ M (mo + 17) = 1280) ∧ (mR M mo 27 = some (mo + 18) ∧ mK M (mo + 18) = (2, 4) ∧ mZ M (mo + 18) = 160) ∧ (mR M mo 28 = some (mo + 19) ∧ mK M (mo + 19) = (2, 0) ∧ mZ M (mo + 19) = 37) ∧ (mR M mo 29 = some (mo + 20) ∧ mK M (mo + 20) = (2, 0) ∧ mZ M (mo + 20) = 4) ∧ (mR M mo 35 = some (mo + 21) ∧ mK M (mo + 21) = (2, 0) ∧ mZ M (mo + 21) = 90) ∧ (mR M mo 36 = some (mo + 22) ∧ mK M (mo + 22) = (2, 0) ∧ mZ M (mo + 22) = 90) ∧ (mR M mo 37 = some (mo + 23) ∧ mK M (mo + 23) = (2, 0) ∧ mZ M (mo + 23) = 90) ∧ (mR M mo 38 = some (mo + 24) ∧ mK M (mo + 24) = (2, 0) ∧ mZ M (mo + 24) = 256) ∧ (mR M mo 39 = some (mo + 25) ∧ mK M (mo + 25) = (2, 0) ∧ mZ M (mo + 25) = 8) ∧ (mR M mo 40 = some (mo + 26) ∧ mK M (mo + 26) = (2, 0) ∧ mZ M (mo + 26) = 9) ∧ (mR M mo 41 = some (mo + 27) ∧ mK M (mo + 27) = (2, 0) ∧ mZ M (mo + 27) = 9) ∧ (mR M mo 42 = some (mo + 28) ∧ mK M (mo + 28) = (2, 0) ∧ mZ M (mo + 28) = 1024) ∧ (mR M mo 43 = some (mo + 29) ∧ mK M (mo + 29) = (2, 0) ∧ mZ M (mo + 29) = 4) ∧ (mR M mo 44 = some (mo + 30) ∧ mK M (mo + 30) = (2, 0) ∧ mZ M (mo + 30) = 8) ∧ (mR M mo 45 = some (mo + 31) ∧ mK M (mo + 31) = (2, 0) ∧ mZ M (mo + 31) = 8) ∧ (mR M mo 47 = some (mo + 32) ∧ mK M (mo + 32) = (2, 0) ∧ mZ M (mo + 32) = 20)
theorem MR_k {M : PM} {mo : Nat} (h : MR M mo) : mK M mo = (1, 5) := h.1
theorem MR_r10 {M : PM} {mo : Nat} (h : MR M mo) : mR M mo 10 = some (mo + 1) := h.2.1.1
theorem MR_k10 {M : PM} {mo : Nat} (h : MR M mo) : mK M (mo + 1) = (2, 0) := h.2.1.2.1
theorem MR_z10 {M : PM} {mo : Nat} (h : MR M mo) : mZ M (mo + 1) = 8 := h.2.1.2.2
theorem MR_r11 {M : PM} {mo : Nat} (h : MR M mo) : mR M mo 11 = some (mo + 2) := h.2.2.1.1
theorem MR_k11 {M : PM} {mo : Nat} (h : MR M mo) : mK M (mo + 2) = (2, 0) := h.2.2.1.2.1
theorem MR_z11 {M : PM} {mo : Nat} (h : MR M mo) : mZ M (mo + 2) = 8 := h.2.2.1.2.2
theorem MR_r12 {M : PM} {mo : Nat} (h : MR M mo) : mR M mo 12 = some (mo + 3) := h.2.2.2.1.1
theorem MR_k12 {M : PM} {mo : Nat} (h : MR M mo) : mK M (mo + 3) = (2, 0) := h.2.2.2.1.2.1
theorem MR_z12 {M : PM} {mo : Nat} (h : MR M mo) : mZ M (mo + 3) = 8 := h.2.2.2.1.2.2
theorem MR_r13 {M : PM} {mo : Nat} (h : MR M mo) : mR M mo 13 = some (mo + 4) := h.2.2.2.2.1.1
theorem MR_k13 {M : PM} {mo : Nat} (h : MR M mo) : mK M (mo + 4) = (2, 0) := h.2.2.2.2.1.2.1
theorem MR_z13 {M : PM} {mo : Nat} (h : MR M mo) : mZ M (mo + 4) = 8 := h.2.2.2.2.1.2.2
theorem MR_r14 {M : PM} {mo : Nat} (h : MR M mo) : mR M mo 14 = some (mo + 5) := h.2.2.2.2.2.1.1
theorem MR_k14 {M : PM} {mo : Nat} (h : MR M mo) : mK M (mo + 5) = (2, 0) := h.2.2.2.2.2.1.2.1
theorem MR_z14 {M : PM} {mo : Nat} (h : MR M mo) : mZ M (mo + 5) = 8 := h.2.2.2.2.2.1.2.2
theorem MR_r15 {M : PM} {mo : Nat} (h : MR M mo) : mR M mo 15 = some (mo + 6) := h.2.2.2.2.2.2.1.1
theorem MR_k15 {M : PM} {mo : Nat} (h : MR M mo) : mK M (mo + 6) = (2, 0) := h.2.2.2.2.2.2.1.2.1
theorem MR_z15 {M : PM} {mo : Nat} (h : MR M mo) : mZ M (mo + 6) = 8 := h.2.2.2.2.2.2.1.2.2
theorem MR_r16 {M : PM} {mo : Nat} (h : MR M mo) : mR M mo 16 = some (mo + 7) := h.2.2.2.2.2.2.2.1.1
theorem MR_k16 {M : PM} {mo : Nat} (h : MR M mo) : mK M (mo + 7) = (2, 0) := h.2.2.2.2.2.2.2.1.2.1
theorem MR_z16 {M : PM} {mo : Nat} (h : MR M mo) : mZ M (mo + 7) = 8 := h.2.2.2.2.2.2.2.1.2.2
theorem MR_r17 {M : PM} {mo : Nat} (h : MR M mo) : mR M mo 17 = some (mo + 8) := h.2.2.2.2.2.2.2.2.1.1
theorem MR_k17 {M : PM} {mo : Nat} (h : MR M mo) : mK M (mo + 8) = (2, 0) := h.2.2.2.2.2.2.2.2.1.2.1
theorem MR_z17 {M : PM} {mo : Nat} (h : MR M mo) : mZ M (mo + 8) = 8 := h.2.2.2.2.2.2.2.2.1.2.2
theorem MR_r18 {M : PM} {mo : Nat} (h : MR M mo) : mR M mo 18 = some (mo + 9) := h.2.2.2.2.2.2.2.2.2.1.1
theorem MR_k18 {M : PM} {mo : Nat} (h : MR M mo) : mK M (mo + 9) = (2, 0) := h.2.2.2.2.2.2.2.2.2.1.2.1
theorem MR_z18 {M : PM} {mo : Nat} (h : MR M mo) : mZ M (mo + 9) = 8 := h.2.2.2.2.2.2.2.2.2.1.2.2
theorem MR_r19 {M : PM} {mo : Nat} (h : MR M mo) : mR M mo 19 = some (mo + 10) := h.2.2.2.2.2.2.2.2.2.2.1.1
theorem MR_k19 {M : PM} {mo : Nat} (h : MR M mo) : mK M (mo + 10) = (2, 0) := h.2.2.2.2.2.2.2.2.2.2.1.2.1
theorem MR_z19 {M : PM} {mo : Nat} (h : MR M mo) : mZ M (mo + 10) = 4 := h.2.2.2.2.2.2.2.2.2.2.1.2.2
theorem MR_r20 {M : PM} {mo : Nat} (h : MR M mo) : mR M mo 20 = some (mo + 11) := h.2.2.2.2.2.2.2.2.2.2.2.1.1
theorem MR_k20 {M : PM} {mo : Nat} (h : MR M mo) : mK M (mo + 11) = (2, 0) := h.2.2.2.2.2.2.2.2.2.2.2.1.2.1
theorem MR_z20 {M : PM} {mo : Nat} (h : MR M mo) : mZ M (mo + 11) = 4 := h.2.2.2.2.2.2.2.2.2.2.2.1.2.2
theorem MR_r21 {M : PM} {mo : Nat} (h : MR M mo) : mR M mo 21 = some (mo + 12) := h.2.2.2.2.2.2.2.2.2.2.2.2.1.1
theorem MR_k21 {M : PM} {mo : Nat} (h : MR M mo) : mK M (mo + 12) = (2, 0) := h.2.2.2.2.2.2.2.2.2.2.2.2.1.2.1
theorem MR_z21 {M : PM} {mo : Nat} (h : MR M mo) : mZ M (mo + 12) = 4 := h.2.2.2.2.2.2.2.2.2.2.2.2.1.2.2
theorem MR_r22 {M : PM} {mo : Nat} (h : MR M mo) : mR M mo 22 = some (mo + 13) := h.2.2.2.2.2.2.2.2.2.2.2.2.2.1.1
theorem MR_k22 {M : PM} {mo : Nat} (h : MR M mo) : mK M (mo + 13) = (2, 0) := h.2.2.2.2.2.2.2.2.2.2.2.2.2.1.2.1
theorem MR_z22 {M : PM} {mo : Nat} (h : MR M mo) : mZ M (mo + 13) = 8 := h.2.2.2.2.2.2.2.2.2.2.2.2.2.1.2.2
theorem MR_r23 {M : PM} {mo : Nat} (h : MR M mo) : mR M mo 23 = some (mo + 14) := h.2.2.2.2.2.2.2.2.2.2.2.2.2.2.1.1
theorem MR_k23 {M : PM} {mo : Nat} (h : MR M mo) : mK M (mo + 14) = (2, 0) := h.2.2.2.2.2.2.2.2.2.2.2.2.2.2.1.2.1
theorem MR_z23 {M : PM} {mo : Nat} (h : MR M mo) : mZ M (mo + 14) = 8 := h.2.2.2.2.2.2.2.2.2.2.2.2.2.2.1.2.2
theorem MR_r24 {M : PM} {mo : Nat} (h : MR M mo) : mR M mo 24 = some (mo + 15) := h.2.2.2.2.2.2.2.2.2.2.2.2.2.2.2.1.1
theorem MR_k24 {M : PM} {mo : Nat} (h : MR M mo) : mK M (mo + 15) = (2, 0) := h.2.2.2.2.2.2.2.2.2.2.2.2.2.2.2.1.2.1
theorem MR_z24 {M : PM} {mo : Nat} (h : MR M mo) : mZ M (mo + 15) = 8 := h.2.2.2.2.2.2.2.2.2.2.2.2.2.2.2.1.2.2
theorem MR_r25 {M : PM} {mo : Nat} (h : MR M mo) : mR M mo 25 = some (mo + 16) := h.2.2.2.2.2.2.2.2.2.2.2.2.2.2.2.2.1.1
theorem MR_k25 {M : PM} {mo : Nat} (h : MR M mo) : mK M (mo + 16) = (2, 0) := h.2.2.2.2.2.2.2.2.2.2.2.2.2.2.2.2.1.2.1
theorem MR_z25 {M : PM} {mo : Nat} (h : MR M mo) : mZ M (mo + 16) = 8 := h.2.2.2.2.2.2.2.2.2.2.2.2.2.2.2.2.1.2.2
theorem MR_r26 {M : PM} {mo : Nat} (h : MR M mo) : mR M mo 26 = some (mo + 17) := h.2.2.2.2.2.2.2.2.2.2.2.2.2.2.2.2.2.1.1
theorem MR_k26 {M : PM} {mo : Nat} (h : MR M mo) : mK M (mo + 17) = (2, 4) := h.2.2.2.2.2.2.2.2.2.2.2.2.2.2.2.2.2.1.2.1
theorem MR_z26 {M : PM} {mo : Nat} (h : MR M mo) : mZ M (mo + 17) = 1280 := h.2.2.2.2.2.2.2.2.2.2.2.2.2.2.2.2.2.1.2.2
theorem MR_r27 {M : PM} {mo : Nat} (h : MR M mo) : mR M mo 27 = some (mo + 18) := h.2.2.2.2.2.2.2.2.2.2.2.2.2.2.2.2.2.2.1.1
theorem MR_k27 {M : PM} {mo : Nat} (h : MR M mo) : mK M (mo + 18) = (2, 4) := h.2.2.2.2.2.2.2.2.2.2.2.2.2.2.2.2.2.2.1.2.1
theorem MR_z27 {M : PM} {mo : Nat} (h : MR M mo) : mZ M (mo + 18) = 160 := h.2.2.2.2.2.2.2.2.2.2.2.2.2.2.2.2.2.2.1.2.2
theorem MR_r28 {M : PM} {mo : Nat} (h : MR M mo) : mR M mo 28 = some (mo + 19) := h.2.2.2.2.2.2.2.2.2.2.2.2.2.2.2.2.2.2.2.1.1
theorem MR_k28 {M : PM} {mo : Nat} (h : MR M mo) : mK M (mo + 19) = (2, 0) := h.2.2.2.2.2.2.2.2.2.2.2.2.2.2.2.2.2.2.2.1.2.1
theorem MR_z28 {M : PM} {mo : Nat} (h : MR M mo) : mZ M (mo + 19) = 37 := h.2.2.2.2.2.2.2.2.2.2.2.2.2.2.2.2.2.2.2.1.2.2
theorem MR_r29 {M : PM} {mo : Nat} (h : MR M mo) : mR M mo 29 = some (mo + 20) := h.2.2.2.2.2.2.2.2.2.2.2.2.2.2.2.2.2.2.2.2.1.1
theorem MR_k29 {M : PM} {mo : Nat} (h : MR M mo) : mK M (mo + 20) = (2, 0) := h.2.2.2.2.2.2.2.2.2.2.2.2.2.2.2.2.2.2.2.2.1.2.1
theorem MR_z29 {M : PM} {mo : Nat} (h : MR M mo) : mZ M (mo + 20) = 4 := h.2.2.2.2.2.2.2.2.2.2.2.2.2.2.2.2.2.2.2.2.1.2.2
theorem MR_r35 {M : PM} {mo : Nat} (h : MR M mo) : mR M mo 35 = some (mo + 21) := h.2.2.2.2.2.2.2.2.2.2.2.2.2.2.2.2.2.2.2.2.2.1.1
theorem MR_k35 {M : PM} {mo : Nat} (h : MR M mo) : mK M (mo + 21) = (2, 0) := h.2.2.2.2.2.2.2.2.2.2.2.2.2.2.2.2.2.2.2.2.2.1.2.1
theorem MR_z35 {M : PM} {mo : Nat} (h : MR M mo) : mZ M (mo + 21) = 90 := h.2.2.2.2.2.2.2.2.2.2.2.2.2.2.2.2.2.2.2.2.2.1.2.2
theorem MR_r36 {M : PM} {mo : Nat} (h : MR M mo) : mR M mo 36 = some (mo + 22) := h.2.2.2.2.2.2.2.2.2.2.2.2.2.2.2.2.2.2.2.2.2.2.1.1
theorem MR_k36 {M : PM} {mo : Nat} (h : MR M mo) : mK M (mo + 22) = (2, 0) := h.2.2.2.2.2.2.2.2.2.2.2.2.2.2.2.2.2.2.2.2.2.2.1.2.1
theorem MR_z36 {M : PM} {mo : Nat} (h : MR M mo) : mZ M (mo + 22) = 90 := h.2.2.2.2.2.2.2.2.2.2.2.2.2.2.2.2.2.2.2.2.2.2.1.2.2
theorem MR_r37 {M : PM} {mo : Nat} (h : MR M mo) : mR M mo 37 = some (mo + 23) := h.2.2.2.2.2.2.2.2.2.2.2.2.2.2.2.2.2.2.2.2.2.2.2.1.1
theorem MR_k37 {M : PM} {mo : Nat} (h : MR M mo) : mK M (mo + 23) = (2, 0) := h.2.2.2.2.2.2.2.2.2.2.2.2.2.2.2.2.2.2.2.2.2.2.2.1.2.1
theorem MR_z37 {M : PM} {mo : Nat} (h : MR M mo) : mZ M (mo + 23) = 90 := h.2.2.2.2.2.2.2.2.2.2.2.2.2.2.2.2.2.2.2.2.2.2.2.1.2.2
theorem MR_r38 {M : PM} {mo : Nat} (h : MR M mo) : mR M mo 38 = some (mo + 24) := h.2.2.2.2.2.2.2.2.2.2.2.2.2.2.2.2.2.2.2.2.2.2.2.2.1.1
theorem MR_k38 {M : PM} {mo : Nat} (h : MR M mo) : mK M (mo + 24) = (2, 0) := h.2.2.2.2.2.2.2.2.2.2.2.2.2.2.2.2.2.2.2.2.2.2.2.2.1.2.1
theorem MR_z38 {M : PM} {mo : Nat} (h : MR M mo) : mZ M (mo + 24) = 256 := h.2.2.2.2.2.2.2.2.2.2.2.2.2.2.2.2.2.2.2.2.2.2.2.2.1.2.2
theorem MR_r39 {M : PM} {mo : Nat} (h : MR M mo) : mR M mo 39 = some (mo + 25) := h.2.2.2.2.2.2.2.2.2.2.2.2.2.2.2.2.2.2.2.2.2.2.2.2.2.1.1
theorem MR_k39 {M : PM} {mo : Nat} (h : MR M mo) : mK M (mo + 25) = (2, 0) := h.2.2.2.2.2.2.2.2.2.2.2.2.2.2.2.2.2.2.2.2.2.2.2.2.2.1.2.1
theorem MR_z39 {M : PM} {mo : Nat} (h : MR M mo) : mZ M (mo + 25) = 8 := h.2.2.2.2.2.2.2.2.2.2.2.2.2.2.2.2.2.2.2.2.2.2.2.2.2.1.2.2
theorem MR_r40 {M : PM} {mo : Nat} (h : MR M mo) : mR M mo 40 = some (mo + 26) := h.2.2.2.2.2.2.2.2.2.2.2.2.2.2.2.2.2.2.2.2.2.2.2.2.2.2.1.1
theorem MR_k40 {M : PM} {mo : Nat} (h : MR M mo) : mK M (mo + 26) = (2, 0) := h.2.2.2.2.2.2.2.2.2.2.2.2.2.2.2.2.2.2.2.2.2.2.2.2.2.2.1.2.1
theorem MR_z40 {M : PM} {mo : Nat} (h : MR M mo) : mZ M (mo + 26) = 9 := h.2.2.2.2.2.2.2.2.2.2.2.2.2.2.2.2.2.2.2.2.2.2.2.2.2.2.1.2.2
theorem MR_r41 {M : PM} {mo : Nat} (h : MR M mo) : mR M mo 41 = some (mo + 27) := h.2.2.2.2.2.2.2.2.2.2.2.2.2.2.2.2.2.2.2.2.2.2.2.2.2.2.2.1.1
theorem MR_k41 {M : PM} {mo : Nat} (h : MR M mo) : mK M (mo + 27) = (2, 0) := h.2.2.2.2.2.2.2.2.2.2.2.2.2.2.2.2.2.2.2.2.2.2.2.2.2.2.2.1.2.1
theorem MR_z41 {M : PM} {mo : Nat} (h : MR M mo) : mZ M (mo + 27) = 9 := h.2.2.2.2.2.2.2.2.2.2.2.2.2.2.2.2.2.2.2.2.2.2.2.2.2.2.2.1.2.2
theorem MR_r42 {M : PM} {mo : Nat} (h : MR M mo) : mR M mo 42 = some (mo + 28) := h.2.2.2.2.2.2.2.2.2.2.2.2.2.2.2.2.2.2.2.2.2.2.2.2.2.2.2.2.1.1
theorem MR_k42 {M : PM} {mo : Nat} (h : MR M mo) : mK M (mo + 28) = (2, 0) := h.2.2.2.2.2.2.2.2.2.2.2.2.2.2.2.2.2.2.2.2.2.2.2.2.2.2.2.2.1.2.1
theorem MR_z42 {M : PM} {mo : Nat} (h : MR M mo) : mZ M (mo + 28) = 1024 := h.2.2.2.2.2.2.2.2.2.2.2.2.2.2.2.2.2.2.2.2.2.2.2.2.2.2.2.2.1.2.2
theorem MR_r43 {M : PM} {mo : Nat} (h : MR M mo) : mR M mo 43 = some (mo + 29) := h.2.2.2.2.2.2.2.2.2.2.2.2.2.2.2.2.2.2.2.2.2.2.2.2.2.2.2.2.2.1.1
theorem MR_k43 {M : PM} {mo : Nat} (h : MR M mo) : mK M (mo + 29) = (2, 0) := h.2.2.2.2.2.2.2.2.2.2.2.2.2.2.2.2.2.2.2.2.2.2.2.2.2.2.2.2.2.1.2.1
theorem MR_z43 {M : PM} {mo : Nat} (h : MR M mo) : mZ M (mo + 29) = 4 := h.2.2.2.2.2.2.2.2.2.2.2.2.2.2.2.2.2.2.2.2.2.2.2.2.2.2.2.2.2.1.2.2
theorem MR_r44 {M : PM} {mo : Nat} (h : MR M mo) : mR M mo 44 = some (mo + 30) := h.2.2.2.2.2.2.2.2.2.2.2.2.2.2.2.2.2.2.2.2.2.2.2.2.2.2.2.2.2.2.1.1
theorem MR_k44 {M : PM} {mo : Nat} (h : MR M mo) : mK M (mo + 30) = (2, 0) := h.2.2.2.2.2.2.2.2.2.2.2.2.2.2.2.2.2.2.2.2.2.2.2.2.2.2.2.2.2.2.1.2.1
theorem MR_z44 {M : PM} {mo : Nat} (h : MR M mo) : mZ M (mo + 30) = 8 := h.2.2.2.2.2.2.2.2.2.2.2.2.2.2.2.2.2.2.2.2.2.2.2.2.2.2.2.2.2.2.1.2.2
theorem MR_r45 {M : PM} {mo : Nat} (h : MR M mo) : mR M mo 45 = some (mo + 31) := h.2.2.2.2.2.2.2.2.2.2.2.2.2.2.2.2.2.2.2.2.2.2.2.2.2.2.2.2.2.2.2.1.1
theorem MR_k45 {M : PM} {mo : Nat} (h : MR M mo) : mK M (mo + 31) = (2, 0) := h.2.2.2.2.2.2.2.2.2.2.2.2.2.2.2.2.2.2.2.2.2.2.2.2.2.2.2.2.2.2.2.1.2.1
theorem MR_z45 {M : PM} {mo : Nat} (h : MR M mo) : mZ M (mo + 31) = 8 := h.2.2.2.2.2.2.2.2.2.2.2.2.2.2.2.2.2.2.2.2.2.2.2.2.2.2.2.2.2.2.2.1.2.2
theorem MR_r47 {M : PM} {mo : Nat} (h : MR M mo) : mR M mo 47 = some (mo + 32) := h.2.2.2.2.2.2.2.2.2.2.2.2.2.2.2.2.2.2.2.2.2.2.2.2.2.2.2.2.2.2.2.2.1
theorem MR_k47 {M : PM} {mo : Nat} (h : MR M mo) : mK M (mo + 32) = (2, 0) := h.2.2.2.2.2.2.2.2.2.2.2.2.2.2.2.2.2.2.2.2.2.2.2.2.2.2.2.2.2.2.2.2.2.1
theorem MR_z47 {M : PM} {mo : Nat} (h : MR M mo) : mZ M (mo + 32) = 20 := h.2.2.2.2.2.2.2.2.2.2.2.2.2.2.2.2.2.2.2.2.2.2.2.2.2.2.2.2.2.2.2.2.2.2
section
variable {G : GT} {bc bs : Nat} {M0 : PM} {I : Nat → Nat → Int32} {L : Nat → Nat → Int64} {pc : Nat} {ls : List (Option Value)} {st : List Value}
theorem rm_getI {a c k idx : Nat} (d : decode (gc G) pc = .ok (.getfield idx, 3)) (h : FL (gy G).cls idx c k) (hK : mK M0 a = (1, c)) (hv : ∀ i r, fv (ftX c k) i r = .int i) (kk : Wx G bc bs (wIL M0 I L) (pc + 3) ls (.int (I a k) :: st)) : Wx G bc bs (wIL M0 I L) pc ls (.ref a :: st) := r_getI d h hK hv kk
theorem rm_getIe {a c k idx : Nat} {v : Int32} (d : decode (gc G) pc = .ok (.getfield idx, 3)) (h : FL (gy G).cls idx c k) (hK : mK M0 a = (1, c)) (hv : ∀ i r, fv (ftX c k) i r = .int i) (e : I a k = v) (kk : Wx G bc bs (wIL M0 I L) (pc + 3) ls (.int v :: st)) : Wx G bc bs (wIL M0 I L) pc ls (.ref a :: st) := rm_getI d h hK hv (e ▸ kk)
theorem rm_putI {a c k idx : Nat} {v : Int32} (d : decode (gc G) pc = .ok (.putfield idx, 3)) (h : FL (gy G).cls idx c k) (hK : mK M0 a = (1, c)) (hfin : (finX c k).map (·.1) = some false) (hty : ftX c k = .int) (kk : Wx G bc bs (wIL M0 (up2 I a k v) L) (pc + 3) ls st) : Wx G bc bs (wIL M0 I L) pc ls (.int v :: .ref a :: st) := r_putI d h hK hfin hty kk
theorem rm_putZ {a c k idx : Nat} {v : Int32} (d : decode (gc G) pc = .ok (.putfield idx, 3)) (h : FL (gy G).cls idx c k) (hK : mK M0 a = (1, c)) (hfin : (finX c k).map (·.1) = some false) (hty : ftX c k = .boolean) (hn : narrow .boolean (.int v) = .int v) (hfit : fits .boolean (.int v) = true) (kk : Wx G bc bs (wIL M0 (up2 I a k v) L) (pc + 3) ls st) : Wx G bc bs (wIL M0 I L) pc ls (.int v :: .ref a :: st) := r_putZ d h hK hfin hty hn hfit kk
theorem rm_iald {a n : Nat} {i : Int32} (d : decode (gc G) pc = .ok (.iaload, 1)) (hK : mK M0 a = (2, 0)) (hz : mZ M0 a = n) (hin : vp_in i n) (kk : Wx G bc bs (wIL M0 I L) (pc + 1) ls (.int (I a i.toNatClampNeg) :: st)) : Wx G bc bs (wIL M0 I L) pc ls (.int i :: .ref a :: st) := r_iald d hK hz hin kk
theorem rm_ialde {a n : Nat} {i : Int32} {f : Nat → Int32} (d : decode (gc G) pc = .ok (.iaload, 1)) (hK : mK M0 a = (2, 0)) (hz : mZ M0 a = n) (hin : vp_in i n) (e : I a = f) (kk : Wx G bc bs (wIL M0 I L) (pc + 1) ls (.int (f i.toNatClampNeg) :: st)) : Wx G bc bs (wIL M0 I L) pc ls (.int i :: .ref a :: st) := rm_iald d hK hz hin (e ▸ kk)
theorem rm_lald {a n : Nat} {i : Int32} (d : decode (gc G) pc = .ok (.laload, 1)) (hK : mK M0 a = (2, 4)) (hz : mZ M0 a = n) (hin : vp_in i n) (kk : Wx G bc bs (wIL M0 I L) (pc + 1) ls (.long (L a i.toNatClampNeg) :: st)) : Wx G bc bs (wIL M0 I L) pc ls (.int i :: .ref a :: st) := r_lald d hK hz hin kk
theorem rm_iast {a n : Nat} {i : Int32} {x : Int32} (d : decode (gc G) pc = .ok (.iastore, 1)) (hK : mK M0 a = (2, 0)) (hz : mZ M0 a = n) (hin : vp_in i n) (kk : Wx G bc bs (wIL M0 (up2 I a i.toNatClampNeg x) L) (pc + 1) ls st) : Wx G bc bs (wIL M0 I L) pc ls (.int x :: .int i :: .ref a :: st) := r_iast d hK hz hin kk
theorem rm_last {a n : Nat} {i : Int32} {x : Int64} (d : decode (gc G) pc = .ok (.lastore, 1)) (hK : mK M0 a = (2, 4)) (hz : mZ M0 a = n) (hin : vp_in i n) (kk : Wx G bc bs (wIL M0 I (up2 L a i.toNatClampNeg x)) (pc + 1) ls st) : Wx G bc bs (wIL M0 I L) pc ls (.long x :: .int i :: .ref a :: st) := r_last d hK hz hin kk
end
theorem sp_1_6 (x : Int32) : x = 1 ∨ x = 2 ∨ x = 3 ∨ x = 4 ∨ x = 5 ∨ x = 6 ∨ (x.toInt < 1 ∨ 6 < x.toInt) := by
  by_cases h : x.toInt < 1
  · right; right; right; right; right; right; exact Or.inl h
  · by_cases g : 6 < x.toInt
    · right; right; right; right; right; right; exact Or.inr g
    · have e : ∀ (n : Int32), x.toInt = n.toInt → x = n := fun n h => Int32.toInt_inj.mp h
      have h9 : x.toInt = 1 ∨ x.toInt = 2 ∨ x.toInt = 3 ∨ x.toInt = 4 ∨ x.toInt = 5 ∨ x.toInt = 6 := by omega
      rcases h9 with h | h | h | h | h | h
      · exact Or.inl (e 1 h)
      · right; exact Or.inl (e 2 h)
      · right; right; exact Or.inl (e 3 h)
      · right; right; right; exact Or.inl (e 4 h)
      · right; right; right; right; exact Or.inl (e 5 h)
      · right; right; right; right; right; exact Or.inl (e 6 h)
theorem sn_1_6 {x : Int32} (h : x.toInt < 1 ∨ 6 < x.toInt) : ¬ x = 1 ∧ ¬ x = 2 ∧ ¬ x = 3 ∧ ¬ x = 4 ∧ ¬ x = 5 ∧ ¬ x = 6 := by
  refine ⟨?_, ?_, ?_, ?_, ?_, ?_⟩ <;> (intro e; rw [e] at h; revert h; decide)
theorem r_sp_1_6 {G : GT} {bc bs : Nat} {M : PM} {pc : Nat} {ls : List (Option Value)} {st : List Value} {x : Int32} (k1 : x = 1 → Wx G bc bs M pc ls (.int 1 :: st)) (k2 : x = 2 → Wx G bc bs M pc ls (.int 2 :: st)) (k3 : x = 3 → Wx G bc bs M pc ls (.int 3 :: st)) (k4 : x = 4 → Wx G bc bs M pc ls (.int 4 :: st)) (k5 : x = 5 → Wx G bc bs M pc ls (.int 5 :: st)) (k6 : x = 6 → Wx G bc bs M pc ls (.int 6 :: st)) (kd : (x.toInt < 1 ∨ 6 < x.toInt) → Wx G bc bs M pc ls (.int x :: st)) : Wx G bc bs M pc ls (.int x :: st) := by
  rcases sp_1_6 x with h | h | h | h | h | h | h
  · exact h ▸ k1 h
  · exact h ▸ k2 h
  · exact h ▸ k3 h
  · exact h ▸ k4 h
  · exact h ▸ k5 h
  · exact h ▸ k6 h
  · exact kd h
theorem sp_0_5 (x : Int32) : x = 0 ∨ x = 1 ∨ x = 2 ∨ x = 3 ∨ x = 4 ∨ x = 5 ∨ (x.toInt < 0 ∨ 5 < x.toInt) := by
  by_cases h : x.toInt < 0
  · right; right; right; right; right; right; exact Or.inl h
  · by_cases g : 5 < x.toInt
    · right; right; right; right; right; right; exact Or.inr g
    · have e : ∀ (n : Int32), x.toInt = n.toInt → x = n := fun n h => Int32.toInt_inj.mp h
      have h9 : x.toInt = 0 ∨ x.toInt = 1 ∨ x.toInt = 2 ∨ x.toInt = 3 ∨ x.toInt = 4 ∨ x.toInt = 5 := by omega
      rcases h9 with h | h | h | h | h | h
      · exact Or.inl (e 0 h)
      · right; exact Or.inl (e 1 h)
      · right; right; exact Or.inl (e 2 h)
      · right; right; right; exact Or.inl (e 3 h)
      · right; right; right; right; exact Or.inl (e 4 h)
      · right; right; right; right; right; exact Or.inl (e 5 h)
theorem sn_0_5 {x : Int32} (h : x.toInt < 0 ∨ 5 < x.toInt) : ¬ x = 0 ∧ ¬ x = 1 ∧ ¬ x = 2 ∧ ¬ x = 3 ∧ ¬ x = 4 ∧ ¬ x = 5 := by
  refine ⟨?_, ?_, ?_, ?_, ?_, ?_⟩ <;> (intro e; rw [e] at h; revert h; decide)
theorem r_sp_0_5 {G : GT} {bc bs : Nat} {M : PM} {pc : Nat} {ls : List (Option Value)} {st : List Value} {x : Int32} (k0 : x = 0 → Wx G bc bs M pc ls (.int 0 :: st)) (k1 : x = 1 → Wx G bc bs M pc ls (.int 1 :: st)) (k2 : x = 2 → Wx G bc bs M pc ls (.int 2 :: st)) (k3 : x = 3 → Wx G bc bs M pc ls (.int 3 :: st)) (k4 : x = 4 → Wx G bc bs M pc ls (.int 4 :: st)) (k5 : x = 5 → Wx G bc bs M pc ls (.int 5 :: st)) (kd : (x.toInt < 0 ∨ 5 < x.toInt) → Wx G bc bs M pc ls (.int x :: st)) : Wx G bc bs M pc ls (.int x :: st) := by
  rcases sp_0_5 x with h | h | h | h | h | h | h
  · exact h ▸ k0 h
  · exact h ▸ k1 h
  · exact h ▸ k2 h
  · exact h ▸ k3 h
  · exact h ▸ k4 h
  · exact h ▸ k5 h
  · exact kd h
theorem sp_0_4 (x : Int32) : x = 0 ∨ x = 1 ∨ x = 2 ∨ x = 3 ∨ x = 4 ∨ (x.toInt < 0 ∨ 4 < x.toInt) := by
  by_cases h : x.toInt < 0
  · right; right; right; right; right; exact Or.inl h
  · by_cases g : 4 < x.toInt
    · right; right; right; right; right; exact Or.inr g
    · have e : ∀ (n : Int32), x.toInt = n.toInt → x = n := fun n h => Int32.toInt_inj.mp h
      have h9 : x.toInt = 0 ∨ x.toInt = 1 ∨ x.toInt = 2 ∨ x.toInt = 3 ∨ x.toInt = 4 := by omega
      rcases h9 with h | h | h | h | h
      · exact Or.inl (e 0 h)
      · right; exact Or.inl (e 1 h)
      · right; right; exact Or.inl (e 2 h)
      · right; right; right; exact Or.inl (e 3 h)
      · right; right; right; right; exact Or.inl (e 4 h)
theorem sn_0_4 {x : Int32} (h : x.toInt < 0 ∨ 4 < x.toInt) : ¬ x = 0 ∧ ¬ x = 1 ∧ ¬ x = 2 ∧ ¬ x = 3 ∧ ¬ x = 4 := by
  refine ⟨?_, ?_, ?_, ?_, ?_⟩ <;> (intro e; rw [e] at h; revert h; decide)
theorem r_sp_0_4 {G : GT} {bc bs : Nat} {M : PM} {pc : Nat} {ls : List (Option Value)} {st : List Value} {x : Int32} (k0 : x = 0 → Wx G bc bs M pc ls (.int 0 :: st)) (k1 : x = 1 → Wx G bc bs M pc ls (.int 1 :: st)) (k2 : x = 2 → Wx G bc bs M pc ls (.int 2 :: st)) (k3 : x = 3 → Wx G bc bs M pc ls (.int 3 :: st)) (k4 : x = 4 → Wx G bc bs M pc ls (.int 4 :: st)) (kd : (x.toInt < 0 ∨ 4 < x.toInt) → Wx G bc bs M pc ls (.int x :: st)) : Wx G bc bs M pc ls (.int x :: st) := by
  rcases sp_0_4 x with h | h | h | h | h | h
  · exact h ▸ k0 h
  · exact h ▸ k1 h
  · exact h ▸ k2 h
  · exact h ▸ k3 h
  · exact h ▸ k4 h
  · exact kd h
theorem sp_0_3 (x : Int32) : x = 0 ∨ x = 1 ∨ x = 2 ∨ x = 3 ∨ (x.toInt < 0 ∨ 3 < x.toInt) := by
  by_cases h : x.toInt < 0
  · right; right; right; right; exact Or.inl h
  · by_cases g : 3 < x.toInt
    · right; right; right; right; exact Or.inr g
    · have e : ∀ (n : Int32), x.toInt = n.toInt → x = n := fun n h => Int32.toInt_inj.mp h
      have h9 : x.toInt = 0 ∨ x.toInt = 1 ∨ x.toInt = 2 ∨ x.toInt = 3 := by omega
      rcases h9 with h | h | h | h
      · exact Or.inl (e 0 h)
      · right; exact Or.inl (e 1 h)
      · right; right; exact Or.inl (e 2 h)
      · right; right; right; exact Or.inl (e 3 h)
theorem sn_0_3 {x : Int32} (h : x.toInt < 0 ∨ 3 < x.toInt) : ¬ x = 0 ∧ ¬ x = 1 ∧ ¬ x = 2 ∧ ¬ x = 3 := by
  refine ⟨?_, ?_, ?_, ?_⟩ <;> (intro e; rw [e] at h; revert h; decide)
theorem r_sp_0_3 {G : GT} {bc bs : Nat} {M : PM} {pc : Nat} {ls : List (Option Value)} {st : List Value} {x : Int32} (k0 : x = 0 → Wx G bc bs M pc ls (.int 0 :: st)) (k1 : x = 1 → Wx G bc bs M pc ls (.int 1 :: st)) (k2 : x = 2 → Wx G bc bs M pc ls (.int 2 :: st)) (k3 : x = 3 → Wx G bc bs M pc ls (.int 3 :: st)) (kd : (x.toInt < 0 ∨ 3 < x.toInt) → Wx G bc bs M pc ls (.int x :: st)) : Wx G bc bs M pc ls (.int x :: st) := by
  rcases sp_0_3 x with h | h | h | h | h
  · exact h ▸ k0 h
  · exact h ▸ k1 h
  · exact h ▸ k2 h
  · exact h ▸ k3 h
  · exact kd h
theorem sp_0_2 (x : Int32) : x = 0 ∨ x = 1 ∨ x = 2 ∨ (x.toInt < 0 ∨ 2 < x.toInt) := by
  by_cases h : x.toInt < 0
  · right; right; right; exact Or.inl h
  · by_cases g : 2 < x.toInt
    · right; right; right; exact Or.inr g
    · have e : ∀ (n : Int32), x.toInt = n.toInt → x = n := fun n h => Int32.toInt_inj.mp h
      have h9 : x.toInt = 0 ∨ x.toInt = 1 ∨ x.toInt = 2 := by omega
      rcases h9 with h | h | h
      · exact Or.inl (e 0 h)
      · right; exact Or.inl (e 1 h)
      · right; right; exact Or.inl (e 2 h)
theorem sn_0_2 {x : Int32} (h : x.toInt < 0 ∨ 2 < x.toInt) : ¬ x = 0 ∧ ¬ x = 1 ∧ ¬ x = 2 := by
  refine ⟨?_, ?_, ?_⟩ <;> (intro e; rw [e] at h; revert h; decide)
theorem r_sp_0_2 {G : GT} {bc bs : Nat} {M : PM} {pc : Nat} {ls : List (Option Value)} {st : List Value} {x : Int32} (k0 : x = 0 → Wx G bc bs M pc ls (.int 0 :: st)) (k1 : x = 1 → Wx G bc bs M pc ls (.int 1 :: st)) (k2 : x = 2 → Wx G bc bs M pc ls (.int 2 :: st)) (kd : (x.toInt < 0 ∨ 2 < x.toInt) → Wx G bc bs M pc ls (.int x :: st)) : Wx G bc bs M pc ls (.int x :: st) := by
  rcases sp_0_2 x with h | h | h | h
  · exact h ▸ k0 h
  · exact h ▸ k1 h
  · exact h ▸ k2 h
  · exact kd h
theorem sp_0_9 (x : Int32) : x = 0 ∨ x = 1 ∨ x = 2 ∨ x = 3 ∨ x = 4 ∨ x = 5 ∨ x = 6 ∨ x = 7 ∨ x = 8 ∨ x = 9 ∨ (x.toInt < 0 ∨ 9 < x.toInt) := by
  by_cases h : x.toInt < 0
  · right; right; right; right; right; right; right; right; right; right; exact Or.inl h
  · by_cases g : 9 < x.toInt
    · right; right; right; right; right; right; right; right; right; right; exact Or.inr g
    · have e : ∀ (n : Int32), x.toInt = n.toInt → x = n := fun n h => Int32.toInt_inj.mp h
      have h9 : x.toInt = 0 ∨ x.toInt = 1 ∨ x.toInt = 2 ∨ x.toInt = 3 ∨ x.toInt = 4 ∨ x.toInt = 5 ∨ x.toInt = 6 ∨ x.toInt = 7 ∨ x.toInt = 8 ∨ x.toInt = 9 := by omega
      rcases h9 with h | h | h | h | h | h | h | h | h | h
      · exact Or.inl (e 0 h)
      · right; exact Or.inl (e 1 h)
      · right; right; exact Or.inl (e 2 h)
      · right; right; right; exact Or.inl (e 3 h)
      · right; right; right; right; exact Or.inl (e 4 h)
      · right; right; right; right; right; exact Or.inl (e 5 h)
      · right; right; right; right; right; right; exact Or.inl (e 6 h)
      · right; right; right; right; right; right; right; exact Or.inl (e 7 h)
      · right; right; right; right; right; right; right; right; exact Or.inl (e 8 h)
      · right; right; right; right; right; right; right; right; right; exact Or.inl (e 9 h)
theorem sn_0_9 {x : Int32} (h : x.toInt < 0 ∨ 9 < x.toInt) : ¬ x = 0 ∧ ¬ x = 1 ∧ ¬ x = 2 ∧ ¬ x = 3 ∧ ¬ x = 4 ∧ ¬ x = 5 ∧ ¬ x = 6 ∧ ¬ x = 7 ∧ ¬ x = 8 ∧ ¬ x = 9 := by
  refine ⟨?_, ?_, ?_, ?_, ?_, ?_, ?_, ?_, ?_, ?_⟩ <;> (intro e; rw [e] at h; revert h; decide)
theorem r_sp_0_9 {G : GT} {bc bs : Nat} {M : PM} {pc : Nat} {ls : List (Option Value)} {st : List Value} {x : Int32} (k0 : x = 0 → Wx G bc bs M pc ls (.int 0 :: st)) (k1 : x = 1 → Wx G bc bs M pc ls (.int 1 :: st)) (k2 : x = 2 → Wx G bc bs M pc ls (.int 2 :: st)) (k3 : x = 3 → Wx G bc bs M pc ls (.int 3 :: st)) (k4 : x = 4 → Wx G bc bs M pc ls (.int 4 :: st)) (k5 : x = 5 → Wx G bc bs M pc ls (.int 5 :: st)) (k6 : x = 6 → Wx G bc bs M pc ls (.int 6 :: st)) (k7 : x = 7 → Wx G bc bs M pc ls (.int 7 :: st)) (k8 : x = 8 → Wx G bc bs M pc ls (.int 8 :: st)) (k9 : x = 9 → Wx G bc bs M pc ls (.int 9 :: st)) (kd : (x.toInt < 0 ∨ 9 < x.toInt) → Wx G bc bs M pc ls (.int x :: st)) : Wx G bc bs M pc ls (.int x :: st) := by
  rcases sp_0_9 x with h | h | h | h | h | h | h | h | h | h | h
  · exact h ▸ k0 h
  · exact h ▸ k1 h
  · exact h ▸ k2 h
  · exact h ▸ k3 h
  · exact h ▸ k4 h
  · exact h ▸ k5 h
  · exact h ▸ k6 h
  · exact h ▸ k7 h
  · exact h ▸ k8 h
  · exact h ▸ k9 h
  · exact kd h
theorem sp_0_43 (x : Int32) : x = 0 ∨ x = 1 ∨ x = 2 ∨ x = 3 ∨ x = 4 ∨ x = 5 ∨ x = 6 ∨ x = 7 ∨ x = 8 ∨ x = 9 ∨ x = 10 ∨ x = 11 ∨ x = 12 ∨ x = 13 ∨ x = 14 ∨ x = 15 ∨ x = 16 ∨ x = 17 ∨ x = 18 ∨ x = 19 ∨ x = 20 ∨ x = 21 ∨ x = 22 ∨ x = 23 ∨ x = 24 ∨ x = 25 ∨ x = 26 ∨ x = 27 ∨ x = 28 ∨ x = 29 ∨ x = 30 ∨ x = 31 ∨ x = 32 ∨ x = 33 ∨ x = 34 ∨ x = 35 ∨ x = 36 ∨ x = 37 ∨ x = 38 ∨ x = 39 ∨ x = 40 ∨ x = 41 ∨ x = 42 ∨ x = 43 ∨ (x.toInt < 0 ∨ 43 < x.toInt) := by
  by_cases h : x.toInt < 0
  · right; right; right; right; right; right; right; right; right; right; right; right; right; right; right; right; right; right; right; right; right; right; right; right; right; right; right; right; right; right; right; right; right; right; right; right; right; right; right; right; right; right; right; right; exact Or.inl h
  · by_cases g : 43 < x.toInt
    · right; right; right; right; right; right; right; right; right; right; right; right; right; right; right; right; right; right; right; right; right; right; right; right; right; right; right; right; right; right; right; right; right; right; right; right; right; right; right; right; right; right; right; right; exact Or.inr g
    · have e : ∀ (n : Int32), x.toInt = n.toInt → x = n := fun n h => Int32.toInt_inj.mp h
      have h9 : x.toInt = 0 ∨ x.toInt = 1 ∨ x.toInt = 2 ∨ x.toInt = 3 ∨ x.toInt = 4 ∨ x.toInt = 5 ∨ x.toInt = 6 ∨ x.toInt = 7 ∨ x.toInt = 8 ∨ x.toInt = 9 ∨ x.toInt = 10 ∨ x.toInt = 11 ∨ x.toInt = 12 ∨ x.toInt = 13 ∨ x.toInt = 14 ∨ x.toInt = 15 ∨ x.toInt = 16 ∨ x.toInt = 17 ∨ x.toInt = 18 ∨ x.toInt = 19 ∨ x.toInt = 20 ∨ x.toInt = 21 ∨ x.toInt = 22 ∨ x.toInt = 23 ∨ x.toInt = 24 ∨ x.toInt = 25 ∨ x.toInt = 26 ∨ x.toInt = 27 ∨ x.toInt = 28 ∨ x.toInt = 29 ∨ x.toInt = 30 ∨ x.toInt = 31 ∨ x.toInt = 32 ∨ x.toInt = 33 ∨ x.toInt = 34 ∨ x.toInt = 35 ∨ x.toInt = 36 ∨ x.toInt = 37 ∨ x.toInt = 38 ∨ x.toInt = 39 ∨ x.toInt = 40 ∨ x.toInt = 41 ∨ x.toInt = 42 ∨ x.toInt = 43 := by omega
      rcases h9 with h | h | h | h | h | h | h | h | h | h | h | h | h | h | h | h | h | h | h | h | h | h | h | h | h | h | h | h | h | h | h | h | h | h | h | h | h | h | h | h | h | h | h | h
      · exact Or.inl (e 0 h)
      · right; exact Or.inl (e 1 h)
      · right; right; exact Or.inl (e 2 h)
      · right; right; right; exact Or.inl (e 3 h)
      · right; right; right; right; exact Or.inl (e 4 h)
      · right; right; right; right; right; exact Or.inl (e 5 h)
      · right; right; right; right; right; right; exact Or.inl (e 6 h)
      · right; right; right; right; right; right; right; exact Or.inl (e 7 h)
      · right; right; right; right; right; right; right; right; exact Or.inl (e 8 h)
      · right; right; right; right; right; right; right; right; right; exact Or.inl (e 9 h)
      · right; right; right; right; right; right; right; right; right; right; exact Or.inl (e 10 h)
      · right; right; right; right; right; right; right; right; right; right; right; exact Or.inl (e 11 h)
      · right; right; right; right; right; right; right; right; right; right; right; right; exact Or.inl (e 12 h)
      · right; right; right; right; right; right; right; right; right; right; right; right; right; exact Or.inl (e 13 h)
      · right; right; right; right; right; right; right; right; right; right; right; right; right; right; exact Or.inl (e 14 h)
      · right; right; right; right; right; right; right; right; right; right; right; right; right; right; right; exact Or.inl (e 15 h)
      · right; right; right; right; right; right; right; right; right; right; right; right; right; right; right; right; exact Or.inl (e 16 h)
      · right; right; right; right; right; right; right; right; right; right; right; right; right; right; right; right; right; exact Or.inl (e 17 h)
      · right; right; right; right; right; right; right; right; right; right; right; right; right; right; right; right; right; right; exact Or.inl (e 18 h)
      · right; right; right; right; right; right; right; right; right; right; right; right; right; right; right; right; right; right; right; exact Or.inl (e 19 h)
      · right; right; right; right; right; right; right; right; right; right; right; right; right; right; right; right; right; right; right; right; exact Or.inl (e 20 h)
      · right; right; right; right; right; right; right; right; right; right; right; right; right; right; right; right; right; right; right; right; right; exact Or.inl (e 21 h)
      · right; right; right; right; right; right; right; right; right; right; right; right; right; right; right; right; right; right; right; right; right; right; exact Or.inl (e 22 h)
      · right; right; right; right; right; right; right; right; right; right; right; right; right; right; right; right; right; right; right; right; right; right; right; exact Or.inl (e 23 h)
      · right; right; right; right; right; right; right; right; right; right; right; right; right; right; right; right; right; right; right; right; right; right; right; right; exact Or.inl (e 24 h)
      · right; right; right; right; right; right; right; right; right; right; right; right; right; right; right; right; right; right; right; right; right; right; right; right; right; exact Or.inl (e 25 h)
      · right; right; right; right; right; right; right; right; right; right; right; right; right; right; right; right; right; right; right; right; right; right; right; right; right; right; exact Or.inl (e 26 h)
      · right; right; right; right; right; right; right; right; right; right; right; right; right; right; right; right; right; right; right; right; right; right; right; right; right; right; right; exact Or.inl (e 27 h)
      · right; right; right; right; right; right; right; right; right; right; right; right; right; right; right; right; right; right; right; right; right; right; right; right; right; right; right; right; exact Or.inl (e 28 h)
      · right; right; right; right; right; right; right; right; right; right; right; right; right; right; right; right; right; right; right; right; right; right; right; right; right; right; right; right; right; exact Or.inl (e 29 h)
      · right; right; right; right; right; right; right; right; right; right; right; right; right; right; right; right; right; right; right; right; right; right; right; right; right; right; right; right; right; right; exact Or.inl (e 30 h)
      · right; right; right; right; right; right; right; right; right; right; right; right; right; right; right; right; right; right; right; right; right; right; right; right; right; right; right; right; right; right; right; exact Or.inl (e 31 h)
      · right; right; right; right; right; right; right; right; right; right; right; right; right; right; right; right; right; right; right; right; right; right; right; right; right; right; right; right; right; right; right; right; exact Or.inl (e 32 h)
      · right; right; right; right; right; right; right; right; right; right; right; right; right; right; right; right; right; right; right; right; right; right; right; right; right; right; right; right; right; right; right; right; right; exact Or.inl (e 33 h)
      · right; right; right; right; right; right; right; right; right; right; right; right; right; right; right; right; right; right; right; right; right; right; right; right; right; right; right; right; right; right; right; right; right; right; exact Or.inl (e 34 h)
      · right; right; right; right; right; right; right; right; right; right; right; right; right; right; right; right; right; right; right; right; right; right; right; right; right; right; right; right; right; right; right; right; right; right; right; exact Or.inl (e 35 h)
      · right; right; right; right; right; right; right; right; right; right; right; right; right; right; right; right; right; right; right; right; right; right; right; right; right; right; right; right; right; right; right; right; right; right; right; right; exact Or.inl (e 36 h)
      · right; right; right; right; right; right; right; right; right; right; right; right; right; right; right; right; right; right; right; right; right; right; right; right; right; right; right; right; right; right; right; right; right; right; right; right; right; exact Or.inl (e 37 h)
      · right; right; right; right; right; right; right; right; right; right; right; right; right; right; right; right; right; right; right; right; right; right; right; right; right; right; right; right; right; right; right; right; right; right; right; right; right; right; exact Or.inl (e 38 h)
      · right; right; right; right; right; right; right; right; right; right; right; right; right; right; right; right; right; right; right; right; right; right; right; right; right; right; right; right; right; right; right; right; right; right; right; right; right; right; right; exact Or.inl (e 39 h)
      · right; right; right; right; right; right; right; right; right; right; right; right; right; right; right; right; right; right; right; right; right; right; right; right; right; right; right; right; right; right; right; right; right; right; right; right; right; right; right; right; exact Or.inl (e 40 h)
      · right; right; right; right; right; right; right; right; right; right; right; right; right; right; right; right; right; right; right; right; right; right; right; right; right; right; right; right; right; right; right; right; right; right; right; right; right; right; right; right; right; exact Or.inl (e 41 h)
      · right; right; right; right; right; right; right; right; right; right; right; right; right; right; right; right; right; right; right; right; right; right; right; right; right; right; right; right; right; right; right; right; right; right; right; right; right; right; right; right; right; right; exact Or.inl (e 42 h)
      · right; right; right; right; right; right; right; right; right; right; right; right; right; right; right; right; right; right; right; right; right; right; right; right; right; right; right; right; right; right; right; right; right; right; right; right; right; right; right; right; right; right; right; exact Or.inl (e 43 h)
theorem sn_0_43 {x : Int32} (h : x.toInt < 0 ∨ 43 < x.toInt) : ¬ x = 0 ∧ ¬ x = 1 ∧ ¬ x = 2 ∧ ¬ x = 3 ∧ ¬ x = 4 ∧ ¬ x = 5 ∧ ¬ x = 6 ∧ ¬ x = 7 ∧ ¬ x = 8 ∧ ¬ x = 9 ∧ ¬ x = 10 ∧ ¬ x = 11 ∧ ¬ x = 12 ∧ ¬ x = 13 ∧ ¬ x = 14 ∧ ¬ x = 15 ∧ ¬ x = 16 ∧ ¬ x = 17 ∧ ¬ x = 18 ∧ ¬ x = 19 ∧ ¬ x = 20 ∧ ¬ x = 21 ∧ ¬ x = 22 ∧ ¬ x = 23 ∧ ¬ x = 24 ∧ ¬ x = 25 ∧ ¬ x = 26 ∧ ¬ x = 27 ∧ ¬ x = 28 ∧ ¬ x = 29 ∧ ¬ x = 30 ∧ ¬ x = 31 ∧ ¬ x = 32 ∧ ¬ x = 33 ∧ ¬ x = 34 ∧ ¬ x = 35 ∧ ¬ x = 36 ∧ ¬ x = 37 ∧ ¬ x = 38 ∧ ¬ x = 39 ∧ ¬ x = 40 ∧ ¬ x = 41 ∧ ¬ x = 42 ∧ ¬ x = 43 := by
  refine ⟨?_, ?_, ?_, ?_, ?_, ?_, ?_, ?_, ?_, ?_, ?_, ?_, ?_, ?_, ?_, ?_, ?_, ?_, ?_, ?_, ?_, ?_, ?_, ?_, ?_, ?_, ?_, ?_, ?_, ?_, ?_, ?_, ?_, ?_, ?_, ?_, ?_, ?_, ?_, ?_, ?_, ?_, ?_, ?_⟩ <;> (intro e; rw [e] at h; revert h; decide)
theorem r_sp_0_43 {G : GT} {bc bs : Nat} {M : PM} {pc : Nat} {ls : List (Option Value)} {st : List Value} {x : Int32} (k0 : x = 0 → Wx G bc bs M pc ls (.int 0 :: st)) (k1 : x = 1 → Wx G bc bs M pc ls (.int 1 :: st)) (k2 : x = 2 → Wx G bc bs M pc ls (.int 2 :: st)) (k3 : x = 3 → Wx G bc bs M pc ls (.int 3 :: st)) (k4 : x = 4 → Wx G bc bs M pc ls (.int 4 :: st)) (k5 : x = 5 → Wx G bc bs M pc ls (.int 5 :: st)) (k6 : x = 6 → Wx G bc bs M pc ls (.int 6 :: st)) (k7 : x = 7 → Wx G bc bs M pc ls (.int 7 :: st)) (k8 : x = 8 → Wx G bc bs M pc ls (.int 8 :: st)) (k9 : x = 9 → Wx G bc bs M pc ls (.int 9 :: st)) (k10 : x = 10 → Wx G bc bs M pc ls (.int 10 :: st)) (k11 : x = 11 → Wx G bc bs M pc ls (.int 11 :: st)) (k12 : x = 12 → Wx G bc bs M pc ls (.int 12 :: st)) (k13 : x = 13 → Wx G bc bs M pc ls (.int 13 :: st)) (k14 : x = 14 → Wx G bc bs M pc ls (.int 14 :: st)) (k15 : x = 15 → Wx G bc bs M pc ls (.int 15 :: st)) (k16 : x = 16 → Wx G bc bs M pc ls (.int 16 :: st)) (k17 : x = 17 → Wx G bc bs M pc ls (.int 17 :: st)) (k18 : x = 18 → Wx G bc bs M pc ls (.int 18 :: st)) (k19 : x = 19 → Wx G bc bs M pc ls (.int 19 :: st)) (k20 : x = 20 → Wx G bc bs M pc ls (.int 20 :: st)) (k21 : x = 21 → Wx G bc bs M pc ls (.int 21 :: st)) (k22 : x = 22 → Wx G bc bs M pc ls (.int 22 :: st)) (k23 : x = 23 → Wx G bc bs M pc ls (.int 23 :: st)) (k24 : x = 24 → Wx G bc bs M pc ls (.int 24 :: st)) (k25 : x = 25 → Wx G bc bs M pc ls (.int 25 :: st)) (k26 : x = 26 → Wx G bc bs M pc ls (.int 26 :: st)) (k27 : x = 27 → Wx G bc bs M pc ls (.int 27 :: st)) (k28 : x = 28 → Wx G bc bs M pc ls (.int 28 :: st)) (k29 : x = 29 → Wx G bc bs M pc ls (.int 29 :: st)) (k30 : x = 30 → Wx G bc bs M pc ls (.int 30 :: st)) (k31 : x = 31 → Wx G bc bs M pc ls (.int 31 :: st)) (k32 : x = 32 → Wx G bc bs M pc ls (.int 32 :: st)) (k33 : x = 33 → Wx G bc bs M pc ls (.int 33 :: st)) (k34 : x = 34 → Wx G bc bs M pc ls (.int 34 :: st)) (k35 : x = 35 → Wx G bc bs M pc ls (.int 35 :: st)) (k36 : x = 36 → Wx G bc bs M pc ls (.int 36 :: st)) (k37 : x = 37 → Wx G bc bs M pc ls (.int 37 :: st)) (k38 : x = 38 → Wx G bc bs M pc ls (.int 38 :: st)) (k39 : x = 39 → Wx G bc bs M pc ls (.int 39 :: st)) (k40 : x = 40 → Wx G bc bs M pc ls (.int 40 :: st)) (k41 : x = 41 → Wx G bc bs M pc ls (.int 41 :: st)) (k42 : x = 42 → Wx G bc bs M pc ls (.int 42 :: st)) (k43 : x = 43 → Wx G bc bs M pc ls (.int 43 :: st)) (kd : (x.toInt < 0 ∨ 43 < x.toInt) → Wx G bc bs M pc ls (.int x :: st)) : Wx G bc bs M pc ls (.int x :: st) := by
  rcases sp_0_43 x with h | h | h | h | h | h | h | h | h | h | h | h | h | h | h | h | h | h | h | h | h | h | h | h | h | h | h | h | h | h | h | h | h | h | h | h | h | h | h | h | h | h | h | h | h
  · exact h ▸ k0 h
  · exact h ▸ k1 h
  · exact h ▸ k2 h
  · exact h ▸ k3 h
  · exact h ▸ k4 h
  · exact h ▸ k5 h
  · exact h ▸ k6 h
  · exact h ▸ k7 h
  · exact h ▸ k8 h
  · exact h ▸ k9 h
  · exact h ▸ k10 h
  · exact h ▸ k11 h
  · exact h ▸ k12 h
  · exact h ▸ k13 h
  · exact h ▸ k14 h
  · exact h ▸ k15 h
  · exact h ▸ k16 h
  · exact h ▸ k17 h
  · exact h ▸ k18 h
  · exact h ▸ k19 h
  · exact h ▸ k20 h
  · exact h ▸ k21 h
  · exact h ▸ k22 h
  · exact h ▸ k23 h
  · exact h ▸ k24 h
  · exact h ▸ k25 h
  · exact h ▸ k26 h
  · exact h ▸ k27 h
  · exact h ▸ k28 h
  · exact h ▸ k29 h
  · exact h ▸ k30 h
  · exact h ▸ k31 h
  · exact h ▸ k32 h
  · exact h ▸ k33 h
  · exact h ▸ k34 h
  · exact h ▸ k35 h
  · exact h ▸ k36 h
  · exact h ▸ k37 h
  · exact h ▸ k38 h
  · exact h ▸ k39 h
  · exact h ▸ k40 h
  · exact h ▸ k41 h
  · exact h ▸ k42 h
  · exact h ▸ k43 h
  · exact kd h
