/-! X: scratch cells (the Seeker's rows, now, then) and the fault change (hand-written) -/
set_option maxRecDepth 100000
/-- ints of the Seeker's arrays, of now and then -/
def xC (xo : Nat) : Nat → Prop := fun a => xo + 7 ≤ a ∧ a ≤ xo + 16
theorem XO.scr {M M' Z : PM} {xo wa mo : Nat} {S : ST} (h : XO M xo wa mo Z S) (f : frP (xC xo) M M') (hR : mR M' = mR M) : XO M' xo wa mo Z S := by
  refine h.ints f (fun a ha => Or.inr (Or.inr (Or.inr (Or.inr ha)))) (fun a _ => congrFun hR a) rfl (fun _ _ => rfl) ?_
  obtain ⟨a1, a2, a3, a4⟩ := h.2.2.2.2.1
  have x0 := h.1.1
  have e : ∀ o, o < 7 → mI M' (xo + o) = mI M (xo + o) := fun o ho => ((f.2 (xo + o) (by omega)).2.2 (fun hp => by have := hp.1; omega)).1
  exact ⟨fun i hi => by rw [e 2 (by decide)]; exact a1 i hi, by rw [e 3 (by decide)]; exact a2, fun i hi => by rw [e 4 (by decide)]; exact a3 i hi, by rw [show mI M' xo = mI M xo from e 0 (by decide)]; exact a4⟩
/-- one int of a scratch cell -/
theorem XO.s1 {M Z : PM} {xo wa mo : Nat} {S : ST} (h : XO M xo wa mo Z S) {a k : Nat} {v : Int32} (ha : xC xo a) : XO (sI M a k v) xo wa mo Z S := h.scr (frP.rf.sI fun _ => ha) rfl
/-- the fault's place -/
theorem XO.flt {M Z : PM} {xo wa mo : Nat} {S : ST} (h : XO M xo wa mo Z S) {v : Int32} : XO (sI M xo 8 v) xo wa mo Z (up2 S.1 9 0 v, S.2) := by
  refine h.ints (P := fun a => a = xo) (frP.rf.sI fun _ => rfl) (fun a ha => Or.inl ha) (fun _ _ => rfl) rfl (fun k hk => up2_ne (by omega)) ?_
  obtain ⟨a1, a2, a3, a4⟩ := h.2.2.2.2.1
  refine ⟨fun j hj => ?_, ?_, fun j hj => ?_, ?_⟩
  · show up2 (mI M) xo 8 v (xo + 2) j = _
    rw [up2_ne (by omega)]; exact a1 j hj
  · show up2 (mI M) xo 8 v (xo + 3) 1 = _
    rw [up2_ne (by omega)]; exact a2
  · show up2 (mI M) xo 8 v (xo + 4) j = _
    rw [up2_ne (by omega)]; exact a3 j hj
  · show up2 (mI M) xo 8 v xo 8 = up2 S.1 9 0 v 9 0
    rw [up2_self, up2_self, va_up_self, va_up_self]
