/-! X: night (printed by gen/mk_x53.py) -/
set_option maxRecDepth 100000
theorem WX.c {M : PM} {wa : Nat} {σ τ : cS} (h : WX M wa σ) (e0 : ∀ k, k ≤ 8 → τ k 0 = σ k 0) (e1 : ∀ k, 11 ≤ k → k ≤ 16 → ∀ i, i < Int32.toNatClampNeg (σ 0 0) → τ k i = σ k i) (e2 : ∀ k, 17 ≤ k → k ≤ 18 → ∀ i, i < Int32.toNatClampNeg (σ 1 0) → τ k i = σ k i) (e3 : ∀ k, 19 ≤ k → k ≤ 21 → ∀ i, i < Int32.toNatClampNeg (σ 2 0) → τ k i = σ k i) : WX M wa τ := by
  refine ⟨h.1, ?_, fun i hi => ?_, fun i hi => ?_, fun i hi => ?_⟩
  · have h9 := h.2.1
    unfold WI at h9 ⊢
    rw [e0 0 (by decide), e0 1 (by decide), e0 2 (by decide), e0 3 (by decide), e0 4 (by decide), e0 5 (by decide), e0 6 (by decide), e0 7 (by decide), e0 8 (by decide)]
    exact h9
  · rw [e0 0 (by decide)] at hi
    obtain ⟨⟨ta, a1, a2⟩, a3, a4, a5⟩ := h.2.2.1 i hi
    refine ⟨⟨ta, a1, ?_⟩, by rw [e1 14 (by decide) (by decide) i hi]; exact a3, by rw [e1 15 (by decide) (by decide) i hi]; exact a4, by rw [e1 16 (by decide) (by decide) i hi]; exact a5⟩
    unfold TH at a2 ⊢
    rw [e1 11 (by decide) (by decide) i hi, e1 12 (by decide) (by decide) i hi, e1 13 (by decide) (by decide) i hi]
    exact a2
  · rw [e0 1 (by decide)] at hi
    rw [e2 17 (by decide) (by decide) i hi, e2 18 (by decide) (by decide) i hi]
    exact h.2.2.2.1 i hi
  · rw [e0 2 (by decide)] at hi
    rw [e3 19 (by decide) (by decide) i hi, e3 20 (by decide) (by decide) i hi, e3 21 (by decide) (by decide) i hi]
    exact h.2.2.2.2 i hi
/-- a store into an array of X's World -/
theorem XO.put {M Z : PM} {xo wa mo : Nat} {σ : cS} {C : Nat → Int64} (h : XO M xo wa mo Z (σ, C)) {k i : Nat} {v : Int32} (h1 : 14 ≤ k) (h2 : k ≤ 21) : XO (sI M (wa + (k - 12)) i v) xo wa mo Z (up2 σ k i v, C) := h.world (S' := (up2 σ k i v, C)) (h.2.2.1.2.2.put h1 h2) (frP.rf.sI fun _ => inW_o (by omega)) (fun _ _ _ => rfl) rfl (fun q hq => up2_ne (by omega))
theorem ct_X0_night {M : PM} {xo wa mo : Nat} {Z : PM} {S : ST} (hx : XO M xo wa mo Z S) (hS : OkS S.1) : Ct (YX0_night, (0, 0, 0, 0), qi (fun r M' => oX xo mo Z (nightS S) r M'), noX) [.ref xo] M := by
  refine ct_of [some (.ref xo), none, none] rfl rfl rfl (Nat.le_of_ble_eq_true rfl) rfl rfl ?_
  have hB := hS.1.t
  obtain ⟨N1, hN1, e1⟩ := bd_nI (n := 8) hB.1.2.1
  obtain ⟨N0, hN0, e0⟩ := bd_nI (n := 8) hB.1.1
  have n1 : Int32.toNatClampNeg (S.1 1 0) = N1 := by rw [e1]; exact mk_cl (by omega)
  have n0 : Int32.toNatClampNeg (S.1 0 0) = N0 := by rw [e0]; exact mk_cl (by omega)
  have L2 : ∀ (n t : Nat) (M9 : PM) (σ : cS), t + n = N0 → (OkT σ ∧ σ 0 0 = nI N0) → XO M9 xo wa mo Z (σ, S.2) → nightT N0 0 (nightL N1 0 0 S.1).2 = nightT n t σ → Wx (YX0_night, (0, 0, 0, 0), qi (fun r M' => oX xo mo Z (nightS S) r M'), noX) 0 0 M9 48 [some (.ref xo), some (.int (nightL N1 0 0 S.1).1), some (.int (nI t))] [] := by
    intro n
    induction n with
    | zero =>
      intro t M9 σ ht hk hx9 hI
      refine r_iload_n (pc := 48) dX0_night_48 rfl ?_
      refine r_aload_n (pc := 49) dX0_night_49 rfl ?_
      refine r_getR (pc := 50) dX0_night_50 fl_X0_90_0 hx9.1.2.1 (fun _ _ => rfl) hx9.2.2.1.1 ?_
      refine r_getIe (pc := 53) (v := σ 0 0) dX0_night_53 fl_X0_104_3 hx9.2.2.1.2.2.k (fun _ _ => rfl) hx9.2.2.1.2.2.i4 ?_
      refine r_icmp_ge (pc := 56) 75 dX0_night_56 rfl (fun _ => ?_) (fun hno => False.elim (by rw [hk.2, lt_nI (by omega) (by omega)] at hno; omega))
      refine r_iload_n (pc := 75) dX0_night_75 rfl ?_
      refine r_ireturn (pc := 76) rfl dX0_night_76 ⟨_, rfl, ?_⟩
      exact (show oX xo mo Z (nightS S) _ _ by unfold nightS; rw [n1, n0, hI]; exact ⟨rfl, wa, hx9⟩)
    | succ n ih =>
      intro t M9 σ ht hk hx9 hI
      have hB := hk.1
      have hj : thP σ (nI t) := ⟨nn_nI (by omega), by rw [hk.2, lt_nI (by omega) (by omega)]; omega⟩
      refine r_iload_n (pc := 48) dX0_night_48 rfl ?_
      refine r_aload_n (pc := 49) dX0_night_49 rfl ?_
      refine r_getR (pc := 50) dX0_night_50 fl_X0_90_0 hx9.1.2.1 (fun _ _ => rfl) hx9.2.2.1.1 ?_
      refine r_getIe (pc := 53) (v := σ 0 0) dX0_night_53 fl_X0_104_3 hx9.2.2.1.2.2.k (fun _ _ => rfl) hx9.2.2.1.2.2.i4 ?_
      refine r_icmp_ge (pc := 56) 75 dX0_night_56 rfl (fun hno => False.elim (hno hj.2)) (fun _ => ?_)
      refine r_aload_n (pc := 59) dX0_night_59 rfl ?_
      refine r_getR (pc := 60) dX0_night_60 fl_X0_90_0 hx9.1.2.1 (fun _ _ => rfl) hx9.2.2.1.1 ?_
      refine r_getR (pc := 63) dX0_night_63 fl_X0_262_3 hx9.2.2.1.2.2.k (fun _ _ => rfl) hx9.2.2.1.2.2.r11 ?_
      refine r_iload_n (pc := 66) dX0_night_66 rfl ?_
      refine r_iconst (pc := 67) (v := (-1)) dX0_night_67 (by decide) ?_
      refine r_iast (pc := 68) dX0_night_68 hx9.2.2.1.2.2.k11 hx9.2.2.1.2.2.z11 (hB.vt hj) ?_
      have hx1 := hx9.put (k := 15) (i := Int32.toNatClampNeg (nI t)) (v := -1) (by decide) (by decide)
      rw [mk_cl (by omega)] at hx1 ⊢
      refine r_iinc2 (pc := 69) dX0_night_69 (nI_1 _) rfl ?_
      refine r_goto (pc := 72) 48 dX0_night_72 rfl ?_
      exact ih (t + 1) _ (up2 σ 15 t (-1)) (by omega) ⟨hk.1.u (Or.inl (by decide)), hk.2⟩ hx1 hI
  have L1 : ∀ (n m : Nat) (s : Int32) (M9 : PM) (σ : cS), m + n = N1 → (OkT σ ∧ σ 1 0 = nI N1 ∧ σ 0 0 = nI N0) → XO M9 xo wa mo Z (σ, S.2) → nightL N1 0 0 S.1 = nightL n m s σ → Wx (YX0_night, (0, 0, 0, 0), qi (fun r M' => oX xo mo Z (nightS S) r M'), noX) 0 0 M9 4 [some (.ref xo), some (.int s), some (.int (nI m))] [] := by
    intro n
    induction n with
    | zero =>
      intro m s M9 σ hm hk hx9 hI
      have hI2 : s = (nightL N1 0 0 S.1).1 ∧ σ = (nightL N1 0 0 S.1).2 := by rw [hI]; exact ⟨rfl, rfl⟩
      refine r_iload_n (pc := 4) dX0_night_4 rfl ?_
      refine r_aload_n (pc := 5) dX0_night_5 rfl ?_
      refine r_getR (pc := 6) dX0_night_6 fl_X0_90_0 hx9.1.2.1 (fun _ _ => rfl) hx9.2.2.1.1 ?_
      refine r_getIe (pc := 9) (v := σ 1 0) dX0_night_9 fl_X0_123_3 hx9.2.2.1.2.2.k (fun _ _ => rfl) hx9.2.2.1.2.2.i5 ?_
      refine r_icmp_ge (pc := 12) 46 dX0_night_12 rfl (fun _ => ?_) (fun hno => False.elim (by rw [hk.2.1, lt_nI (by omega) (by omega)] at hno; omega))
      refine r_iconst (pc := 46) (v := 0) dX0_night_46 (by decide) ?_
      refine r_istore2 (pc := 47) dX0_night_47 rfl ?_
      rw [hI2.1]
      refine L2 N0 0 M9 σ (by omega) ⟨hk.1, hk.2.2⟩ hx9 ?_
      rw [hI2.2]
    | succ n ih =>
      intro m s M9 σ hm hk hx9 hI
      have hB := hk.1
      have hj : mnP σ (nI m) := ⟨nn_nI (by omega), by rw [hk.2.1, lt_nI (by omega) (by omega)]; omega⟩
      refine r_iload_n (pc := 4) dX0_night_4 rfl ?_
      refine r_aload_n (pc := 5) dX0_night_5 rfl ?_
      refine r_getR (pc := 6) dX0_night_6 fl_X0_90_0 hx9.1.2.1 (fun _ _ => rfl) hx9.2.2.1.1 ?_
      refine r_getIe (pc := 9) (v := σ 1 0) dX0_night_9 fl_X0_123_3 hx9.2.2.1.2.2.k (fun _ _ => rfl) hx9.2.2.1.2.2.i5 ?_
      refine r_icmp_ge (pc := 12) 46 dX0_night_12 rfl (fun hno => False.elim (hno hj.2)) (fun _ => ?_)
      refine r_aload_n (pc := 15) dX0_night_15 rfl ?_
      refine r_getR (pc := 16) dX0_night_16 fl_X0_90_0 hx9.1.2.1 (fun _ _ => rfl) hx9.2.2.1.1 ?_
      refine r_getR (pc := 19) dX0_night_19 fl_X0_272_3 hx9.2.2.1.2.2.k (fun _ _ => rfl) hx9.2.2.1.2.2.r14 ?_
      refine r_iload_n (pc := 22) dX0_night_22 rfl ?_
      refine r_dup2 (pc := 23) dX0_night_23 rfl rfl ?_
      refine r_ialdv (pc := 24) (v := σ 18 (Int32.toNatClampNeg (nI m))) dX0_night_24 hx9.2.2.1.2.2.k14 hx9.2.2.1.2.2.z14 (hB.vm hj) (hx9.2.2.1.2.2.a18 hj) ?_
      refine r_iconst (pc := 25) (v := 2) dX0_night_25 (by decide) ?_
      refine r_idiv (pc := 26) dX0_night_26 (by decide) ?_
      refine r_iast (pc := 27) dX0_night_27 hx9.2.2.1.2.2.k14 hx9.2.2.1.2.2.z14 (hB.vm hj) ?_
      have hx1 := hx9.put (k := 18) (i := Int32.toNatClampNeg (nI m)) (v := σ 18 (Int32.toNatClampNeg (nI m)) / 2) (by decide) (by decide)
      rw [mk_cl (by omega)] at hx1 ⊢
      refine r_iload_n (pc := 28) dX0_night_28 rfl ?_
      refine r_aload_n (pc := 29) dX0_night_29 rfl ?_
      refine r_getR (pc := 30) dX0_night_30 fl_X0_90_0 hx1.1.2.1 (fun _ _ => rfl) hx1.2.2.1.1 ?_
      refine r_getR (pc := 33) dX0_night_33 fl_X0_272_3 hx1.2.2.1.2.2.k (fun _ _ => rfl) hx1.2.2.1.2.2.r14 ?_
      refine r_iload_n (pc := 36) dX0_night_36 rfl ?_
      refine r_ialdv (pc := 37) (v := σ 18 m / 2) dX0_night_37 hx1.2.2.1.2.2.k14 hx1.2.2.1.2.2.z14 (hB.vm hj) (by rw [mk_cl (by omega)]; show up2 (mI M9) (wa + 6) m (σ 18 m / 2) (wa + 6) m = _; rw [up2_self, va_up_self]) ?_
      refine r_iadd (pc := 38) dX0_night_38 ?_
      refine r_istore1 (pc := 39) dX0_night_39 rfl ?_
      refine r_iinc2 (pc := 40) dX0_night_40 (nI_1 _) rfl ?_
      refine r_goto (pc := 43) 4 dX0_night_43 rfl ?_
      exact ih (m + 1) _ _ (up2 σ 18 m (σ 18 m / 2)) (by omega) ⟨hk.1.u (Or.inl (by decide)), hk.2⟩ hx1 hI
  refine r_iconst (pc := 0) (v := 0) dX0_night_0 (by decide) ?_
  refine r_istore1 (pc := 1) dX0_night_1 rfl ?_
  refine r_iconst (pc := 2) (v := 0) dX0_night_2 (by decide) ?_
  refine r_istore2 (pc := 3) dX0_night_3 rfl ?_
  exact L1 N1 0 0 M S.1 (by omega) ⟨hB, e1, e0⟩ hx rfl
