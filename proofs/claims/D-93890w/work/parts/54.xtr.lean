/-! X: the trace changes (hand-written) -/
set_option maxRecDepth 100000
theorem XO.tr0 {M Z : PM} {xo wa mo : Nat} {S : ST} (h : XO M xo wa mo Z S) {v : Int32} : XO (sI M (xo + 3) 1 v) xo wa mo Z (up2 S.1 48 0 v, S.2) := by
  refine h.ints (P := fun a => a = xo + 3) (frP.rf.sI fun _ => rfl) (fun a ha => Or.inr (Or.inr (Or.inl ha))) (fun _ _ => rfl) rfl (fun k hk => up2_ne (by omega)) ?_
  obtain ⟨a1, a2, a3, a4⟩ := h.2.2.2.2.1
  refine ⟨fun j hj => ?_, ?_, fun j hj => ?_, ?_⟩
  · show up2 (mI M) (xo + 3) 1 v (xo + 2) j = _
    rw [up2_ne (by omega)]; exact a1 j hj
  · show up2 (mI M) (xo + 3) 1 v (xo + 3) 1 = up2 S.1 48 0 v 48 0
    rw [up2_self, up2_self, va_up_self, va_up_self]
  · show up2 (mI M) (xo + 3) 1 v (xo + 4) j = _
    rw [up2_ne (by omega)]; exact a3 j hj
  · show up2 (mI M) (xo + 3) 1 v xo 8 = _
    rw [up2_ne (by omega)]; exact a4
theorem XO.tb {M Z : PM} {xo wa mo : Nat} {S : ST} (h : XO M xo wa mo Z S) {i : Nat} {v : Int32} : XO (sI M (xo + 4) i v) xo wa mo Z (up2 S.1 47 i v, S.2) := by
  refine h.ints (P := fun a => a = xo + 4) (frP.rf.sI fun _ => rfl) (fun a ha => Or.inr (Or.inr (Or.inr (Or.inl ha)))) (fun _ _ => rfl) rfl (fun k hk => up2_ne (by omega)) ?_
  obtain ⟨a1, a2, a3, a4⟩ := h.2.2.2.2.1
  refine ⟨fun j hj => ?_, ?_, fun j hj => ?_, ?_⟩
  · show up2 (mI M) (xo + 4) i v (xo + 2) j = _
    rw [up2_ne (by omega)]; exact a1 j hj
  · show up2 (mI M) (xo + 4) i v (xo + 3) 1 = _
    rw [up2_ne (by omega)]; exact a2
  · show up2 (mI M) (xo + 4) i v (xo + 4) j = up2 S.1 47 i v 47 j
    rw [up2_self, up2_self]
    by_cases c : j = i
    · rw [c, va_up_self, va_up_self]
    · rw [va_up_ne _ _ c, va_up_ne _ _ c]; exact a3 j hj
  · show up2 (mI M) (xo + 4) i v xo 8 = _
    rw [up2_ne (by omega)]; exact a4
theorem XO.rn {M Z : PM} {xo wa mo : Nat} {S : ST} (h : XO M xo wa mo Z S) (b : Int32) : XO (rnM M (xo + 3) b) xo wa mo Z (bodyS S.1 b, S.2) := by
  have e : mI M (xo + 3) 1 = S.1 48 0 := h.2.2.2.2.1.2.1
  unfold rnM bodyS
  rw [e]
  by_cases c : S.1 48 0 < 20
  · rw [if_pos c, cI_t c]
    exact (h.tb (i := Int32.toNatClampNeg (S.1 48 0)) (v := b)).tr0
  · rw [if_neg c, cI_f c]
    exact h.tr0
theorem XO.rns {M Z : PM} {xo wa mo : Nat} {S : ST} (h : XO M xo wa mo Z S) (l : List Int32) : XO (rnsM M (xo + 3) l) xo wa mo Z (bodiesS S.1 l, S.2) := by
  induction l generalizing M S with
  | nil => exact h
  | cons b l ih => exact ih (S := (bodyS S.1 b, S.2)) (h.rn b)
