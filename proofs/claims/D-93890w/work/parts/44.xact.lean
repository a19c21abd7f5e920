/-! THE TRACE, and what things do when they act (printed by gen/mk_x44.py) -/
set_option maxRecDepth 100000
/-- one body b has run: the trace at ta, its bodies at ta + 1 -/
def rnM (M : PM) (ta : Nat) (b : Int32) : PM := if mI M ta 1 < 20 then sI (sI M (ta + 1) (Int32.toNatClampNeg (mI M ta 1)) b) ta 1 (mI M ta 1 + 1) else sI M ta 1 (mI M ta 1 + 1)
def rnsM (M : PM) (ta : Nat) : List Int32 → PM
  | [] => M
  | b :: l => rnsM (rnM M ta b) ta l
theorem rnM_K (M : PM) (ta : Nat) (b : Int32) : mK (rnM M ta b) = mK M := by unfold rnM; split <;> rfl
theorem rnM_Z (M : PM) (ta : Nat) (b : Int32) : mZ (rnM M ta b) = mZ M := by unfold rnM; split <;> rfl
theorem rnM_R (M : PM) (ta : Nat) (b : Int32) : mR (rnM M ta b) = mR M := by unfold rnM; split <;> rfl
theorem rnM_L (M : PM) (ta : Nat) (b : Int32) : mL (rnM M ta b) = mL M := by unfold rnM; split <;> rfl
theorem rnM_N (M : PM) (ta : Nat) (b : Int32) : (rnM M ta b).1 = M.1 := by unfold rnM; split <;> rfl
theorem rnM_I {M : PM} {ta a : Nat} {b : Int32} (h : a ≠ ta) (h2 : a ≠ ta + 1) : mI (rnM M ta b) a = mI M a := by
  unfold rnM
  split
  · show up2 (up2 (mI M) (ta + 1) _ b) ta 1 _ a = _
    rw [up2_ne h, up2_ne h2]
  · exact up2_ne h
theorem rnM_1 {M : PM} {ta n : Nat} {b : Int32} (h : mI M ta 1 = nI n) : mI (rnM M ta b) ta 1 = nI (n + 1) := by
  unfold rnM
  split
  · show up2 (up2 (mI M) (ta + 1) _ b) ta 1 _ ta 1 = _
    rw [up2_self, va_up_self, h, nI_1]
  · show up2 (mI M) ta 1 _ ta 1 = _
    rw [up2_self, va_up_self, h, nI_1]
theorem rnsM_app (M : PM) (ta : Nat) (a b : List Int32) : rnsM M ta (a ++ b) = rnsM (rnsM M ta a) ta b := by
  induction a generalizing M with
  | nil => rfl
  | cons x l ih => exact ih _
/-- a trace at ta -/
def trP (M : PM) (ta : Nat) : Prop := mK M ta = (1, 1) ∧ mR M ta 0 = some (ta + 1) ∧ mK M (ta + 1) = (2, 0) ∧ mZ M (ta + 1) = 20
theorem trP.run {M : PM} {ta : Nat} (h : trP M ta) (b : Int32) : trP (rnM M ta b) ta := by
  unfold trP
  rw [rnM_K, rnM_R, rnM_Z]
  exact h
/-- a thing at a of class c that is no part of the trace -/
theorem tr_ne {M : PM} {ta a c : Nat} (h : trP M ta) (hK : mK M a = (1, c)) (hc : 12 ≤ c) : a ≠ ta ∧ a ≠ ta + 1 := by
  refine ⟨fun e => ?_, fun e => ?_⟩
  · rw [e, h.1] at hK
    cases hK
    omega
  · rw [e, h.2.2.1] at hK
    cases hK
theorem rn_b {M : PM} {ta n : Nat} (h : mI M ta 1 = nI n) (hn : n < 100) (h20 : mI M ta 1 < 20) : vp_in (mI M ta 1) 20 := by
  rw [h] at h20 ⊢
  have : n < 20 := by
    rw [i_lt, nI_toInt (by omega)] at h20
    have : (20 : Int32).toInt = 20 := by decide
    omega
  exact vp_in_nI (by omega) (by decide)
/-- all of it after bodies l have run -/
def tsP (M : PM) (ta a c n : Nat) (M' : PM) : Prop := mK M' a = (1, c) ∧ trP M' ta ∧ mI M' ta 1 = nI n ∧ mI M' a = mI M a
theorem tsP.K {M M' : PM} {ta a c n : Nat} (h : tsP M ta a c n M') : mK M' a = (1, c) := h.1
theorem tsP.T {M M' : PM} {ta a c n : Nat} (h : tsP M ta a c n M') : trP M' ta := h.2.1
theorem tsP.n {M M' : PM} {ta a c n : Nat} (h : tsP M ta a c n M') : mI M' ta 1 = nI n := h.2.2.1
theorem tsP.I {M M' : PM} {ta a c n : Nat} (h : tsP M ta a c n M') : mI M' a = mI M a := h.2.2.2
theorem tsP.run {M M' : PM} {ta a c n : Nat} (h : tsP M ta a c n M') (hc : 12 ≤ c) (b : Int32) : tsP M ta a c (n + 1) (rnM M' ta b) := ⟨by rw [rnM_K]; exact h.K, h.T.run b, rnM_1 h.n, by rw [rnM_I (tr_ne h.T h.K hc).1 (tr_ne h.T h.K hc).2]; exact h.I⟩
theorem tsP.runs {M M' : PM} {ta a c n : Nat} (h : tsP M ta a c n M') (hc : 12 ≤ c) (l : List Int32) : tsP M ta a c (n + l.length) (rnsM M' ta l) := by
  induction l generalizing M' n with
  | nil => exact h
  | cons b l ih =>
    have := ih (h.run hc b)
    rw [show n + (b :: l).length = n + 1 + l.length by simp only [List.length_cons]; omega]
    exact this
theorem ct_X1_runs {M : PM} {ta n : Nat} (x1 : Int32) (hT : trP M ta) (hn : mI M ta 1 = nI n) (h9 : n < 100) : Ct (YX1_runs, (0, 0, 0, 0), qv (fun M' => M' = rnM M ta x1), noX) [.ref ta, .int x1] M := by
  refine ct_of [some (.ref ta), some (.int x1)] rfl rfl rfl (Nat.le_of_ble_eq_true rfl) rfl rfl ?_
  refine r_aload_n (pc := 0) dX1_runs_0 rfl ?_
  refine r_getI (pc := 1) dX1_runs_1 fl_X1_15_1 hT.1 (fun _ _ => rfl) ?_
  refine r_bipush (pc := 4) (v := 20) dX1_runs_4 (by decide) ?_
  refine r_icmp_ge (pc := 6) 19 dX1_runs_6 rfl (fun h6 => ?_) (fun h6 => ?_)
  · refine r_mem (M' := M) rfl ?_
    refine r_aload_n (pc := 19) dX1_runs_19 rfl ?_
    refine r_dup (pc := 20) dX1_runs_20 rfl ?_
    refine r_getI (pc := 21) dX1_runs_21 fl_X1_15_1 hT.1 (fun _ _ => rfl) ?_
    refine r_iconst (pc := 24) (v := 1) dX1_runs_24 (by decide) ?_
    refine r_iadd (pc := 25) dX1_runs_25 ?_
    refine r_putI (pc := 26) dX1_runs_26 fl_X1_15_1 hT.1 rfl rfl ?_
    refine r_return (pc := 29) rfl dX1_runs_29 ⟨rfl, ?_⟩
    show _ = rnM M ta x1
    unfold rnM
    first | (rw [if_pos h6]; show sI (sI M (ta + 1) _ x1) ta 1 (up2 (mI M) (ta + 1) _ x1 ta 1 + 1) = _; rw [up2_ne (by omega)]) | (rw [if_neg h6])
  · refine r_aload_n (pc := 9) dX1_runs_9 rfl ?_
    refine r_getR (pc := 10) dX1_runs_10 fl_X1_9_1 hT.1 (fun _ _ => rfl) hT.2.1 ?_
    refine r_aload_n (pc := 13) dX1_runs_13 rfl ?_
    refine r_getI (pc := 14) dX1_runs_14 fl_X1_15_1 hT.1 (fun _ _ => rfl) ?_
    refine r_iload_n (pc := 17) dX1_runs_17 rfl ?_
    refine r_iast (pc := 18) dX1_runs_18 hT.2.2.1 hT.2.2.2 (rn_b hn h9 h6) ?_
    refine r_aload_n (pc := 19) dX1_runs_19 rfl ?_
    refine r_dup (pc := 20) dX1_runs_20 rfl ?_
    refine r_getI (pc := 21) dX1_runs_21 fl_X1_15_1 hT.1 (fun _ _ => rfl) ?_
    refine r_iconst (pc := 24) (v := 1) dX1_runs_24 (by decide) ?_
    refine r_iadd (pc := 25) dX1_runs_25 ?_
    refine r_putI (pc := 26) dX1_runs_26 fl_X1_15_1 hT.1 rfl rfl ?_
    refine r_return (pc := 29) rfl dX1_runs_29 ⟨rfl, ?_⟩
    show _ = rnM M ta x1
    unfold rnM
    first | (rw [if_pos h6]; show sI (sI M (ta + 1) _ x1) ta 1 (up2 (mI M) (ta + 1) _ x1 ta 1 + 1) = _; rw [up2_ne (by omega)]) | (rw [if_neg h6])
theorem ct_X12_going_12 {M : PM} {ta a n : Nat} {M0 : PM} (x1 : Int32) (h : tsP M0 ta a 12 n M) (h9 : n + 1 < 100) : Ct (YX12_going, (1, 21, 0, 0), qi (fun r M' => r = x1 + mI M0 a 0 ∧ M' = rnsM M ta [10]), noX) [.ref a, .int x1, .ref ta] M := by
  refine ct_of [some (.ref a), some (.int x1), some (.ref ta)] rfl rfl rfl (Nat.le_of_ble_eq_true rfl) rfl rfl ?_
  refine r_aload_n (pc := 0) dX12_going_0 rfl ?_
  refine r_bipush (pc := 1) (v := 10) dX12_going_1 (by decide) ?_
  refine r_o2 (pc := 3) (bc' := 0) (bs' := 0) (ct_X1_runs 10 h.T h.n (by omega)) k_X12_38_1 dX12_going_3 h.T.1 (Nat.le_of_ble_eq_true rfl) ⟨Nat.le_of_ble_eq_true rfl, Nat.le_of_ble_eq_true rfl⟩ ⟨Nat.le_of_ble_eq_true rfl, Nat.le_of_ble_eq_true rfl⟩ (r_cv fun M3 p3 => ?_) nox
  have p3 := Eq.symm (show _ = _ from p3)
  subst p3
  have h1 := h.run (by decide) 10
  refine r_iload_n (pc := 6) dX12_going_6 rfl ?_
  refine r_aload_n (pc := 7) dX12_going_7 rfl ?_
  refine r_getI (pc := 8) dX12_going_8 fl_X12_9_12 h1.K (fun _ _ => rfl) ?_
  refine r_iadd (pc := 11) dX12_going_11 ?_
  refine r_ireturn (pc := 12) rfl dX12_going_12 ⟨_, rfl, ?_⟩
  exact ⟨by simp only [h1.I, h.I], by simp only [rnsM]⟩
theorem go_12 (w t x : Int32) : goV 0 w t x = x + t ∧ goB 0 = [10] := ⟨by simp [goV], by decide⟩
theorem ct_X12_going_13 {M : PM} {ta a n : Nat} {M0 : PM} (x1 : Int32) (h : tsP M0 ta a 13 n M) (h9 : n + 1 < 100) : Ct (YX12_going, (1, 21, 0, 0), qi (fun r M' => r = x1 + mI M0 a 0 ∧ M' = rnsM M ta [10]), noX) [.ref a, .int x1, .ref ta] M := by
  refine ct_of [some (.ref a), some (.int x1), some (.ref ta)] rfl rfl rfl (Nat.le_of_ble_eq_true rfl) rfl rfl ?_
  refine r_aload_n (pc := 0) dX12_going_0 rfl ?_
  refine r_bipush (pc := 1) (v := 10) dX12_going_1 (by decide) ?_
  refine r_o2 (pc := 3) (bc' := 0) (bs' := 0) (ct_X1_runs 10 h.T h.n (by omega)) k_X12_38_1 dX12_going_3 h.T.1 (Nat.le_of_ble_eq_true rfl) ⟨Nat.le_of_ble_eq_true rfl, Nat.le_of_ble_eq_true rfl⟩ ⟨Nat.le_of_ble_eq_true rfl, Nat.le_of_ble_eq_true rfl⟩ (r_cv fun M3 p3 => ?_) nox
  have p3 := Eq.symm (show _ = _ from p3)
  subst p3
  have h1 := h.run (by decide) 10
  refine r_iload_n (pc := 6) dX12_going_6 rfl ?_
  refine r_aload_n (pc := 7) dX12_going_7 rfl ?_
  refine r_getI (pc := 8) dX12_going_8 fl_X12_9_13 h1.K (fun _ _ => rfl) ?_
  refine r_iadd (pc := 11) dX12_going_11 ?_
  refine r_ireturn (pc := 12) rfl dX12_going_12 ⟨_, rfl, ?_⟩
  exact ⟨by simp only [h1.I, h.I], by simp only [rnsM]⟩
theorem ct_X13_going_13 {M : PM} {ta a n : Nat} {M0 : PM} (x1 : Int32) (h : tsP M0 ta a 13 n M) (h9 : n + 2 < 100) : Ct (YX13_going, (2, 43, 0, 0), qi (fun r M' => r = x1 + mI M0 a 0 + mI M0 a 1 ∧ M' = rnsM M ta [20, 10]), noX) [.ref a, .int x1, .ref ta] M := by
  refine ct_of [some (.ref a), some (.int x1), some (.ref ta)] rfl rfl rfl (Nat.le_of_ble_eq_true rfl) rfl rfl ?_
  refine r_aload_n (pc := 0) dX13_going_0 rfl ?_
  refine r_bipush (pc := 1) (v := 20) dX13_going_1 (by decide) ?_
  refine r_o2 (pc := 3) (bc' := 0) (bs' := 0) (ct_X1_runs 20 h.T h.n (by omega)) k_X13_25_1 dX13_going_3 h.T.1 (Nat.le_of_ble_eq_true rfl) ⟨Nat.le_of_ble_eq_true rfl, Nat.le_of_ble_eq_true rfl⟩ ⟨Nat.le_of_ble_eq_true rfl, Nat.le_of_ble_eq_true rfl⟩ (r_cv fun M3 p3 => ?_) nox
  have p3 := Eq.symm (show _ = _ from p3)
  subst p3
  have h1 := h.run (by decide) 20
  refine r_aload_n (pc := 6) dX13_going_6 rfl ?_
  refine r_iload_n (pc := 7) dX13_going_7 rfl ?_
  refine r_aload_n (pc := 8) dX13_going_8 rfl ?_
  refine r_o3 (pc := 9) (bc' := 0) (bs' := 0) (ct_X12_going_13 x1 h1 (by omega)) k_X13_31_13 dX13_going_9 h1.K (Nat.le_of_ble_eq_true rfl) ⟨Nat.le_of_ble_eq_true rfl, Nat.le_of_ble_eq_true rfl⟩ ⟨Nat.le_of_ble_eq_true rfl, Nat.le_of_ble_eq_true rfl⟩ (r_ci fun r9 M9 p9 => ?_) nox
  obtain ⟨rfl, p9⟩ := p9
  have p9 := Eq.symm (show _ = _ from p9)
  subst p9
  have h2 := h1.runs (by decide) [10]
  refine r_aload_n (pc := 12) dX13_going_12 rfl ?_
  refine r_getI (pc := 13) dX13_going_13 fl_X13_35_13 h2.K (fun _ _ => rfl) ?_
  refine r_iadd (pc := 16) dX13_going_16 ?_
  refine r_ireturn (pc := 17) rfl dX13_going_17 ⟨_, rfl, ?_⟩
  exact ⟨by simp only [h2.I], by simp only [rnsM]⟩
theorem go_13 (w t x : Int32) : goV 1 w t x = x + t + w ∧ goB 1 = [20, 10] := ⟨by simp [goV], by decide⟩
theorem ct_X12_going_14 {M : PM} {ta a n : Nat} {M0 : PM} (x1 : Int32) (h : tsP M0 ta a 14 n M) (h9 : n + 1 < 100) : Ct (YX12_going, (1, 21, 0, 0), qi (fun r M' => r = x1 + mI M0 a 0 ∧ M' = rnsM M ta [10]), noX) [.ref a, .int x1, .ref ta] M := by
  refine ct_of [some (.ref a), some (.int x1), some (.ref ta)] rfl rfl rfl (Nat.le_of_ble_eq_true rfl) rfl rfl ?_
  refine r_aload_n (pc := 0) dX12_going_0 rfl ?_
  refine r_bipush (pc := 1) (v := 10) dX12_going_1 (by decide) ?_
  refine r_o2 (pc := 3) (bc' := 0) (bs' := 0) (ct_X1_runs 10 h.T h.n (by omega)) k_X12_38_1 dX12_going_3 h.T.1 (Nat.le_of_ble_eq_true rfl) ⟨Nat.le_of_ble_eq_true rfl, Nat.le_of_ble_eq_true rfl⟩ ⟨Nat.le_of_ble_eq_true rfl, Nat.le_of_ble_eq_true rfl⟩ (r_cv fun M3 p3 => ?_) nox
  have p3 := Eq.symm (show _ = _ from p3)
  subst p3
  have h1 := h.run (by decide) 10
  refine r_iload_n (pc := 6) dX12_going_6 rfl ?_
  refine r_aload_n (pc := 7) dX12_going_7 rfl ?_
  refine r_getI (pc := 8) dX12_going_8 fl_X12_9_14 h1.K (fun _ _ => rfl) ?_
  refine r_iadd (pc := 11) dX12_going_11 ?_
  refine r_ireturn (pc := 12) rfl dX12_going_12 ⟨_, rfl, ?_⟩
  exact ⟨by simp only [h1.I, h.I], by simp only [rnsM]⟩
theorem go_14 (w t x : Int32) : goV 2 w t x = x + t ∧ goB 2 = [10] := ⟨by simp [goV], by decide⟩
theorem ct_X12_going_15 {M : PM} {ta a n : Nat} {M0 : PM} (x1 : Int32) (h : tsP M0 ta a 15 n M) (h9 : n + 1 < 100) : Ct (YX12_going, (1, 21, 0, 0), qi (fun r M' => r = x1 + mI M0 a 0 ∧ M' = rnsM M ta [10]), noX) [.ref a, .int x1, .ref ta] M := by
  refine ct_of [some (.ref a), some (.int x1), some (.ref ta)] rfl rfl rfl (Nat.le_of_ble_eq_true rfl) rfl rfl ?_
  refine r_aload_n (pc := 0) dX12_going_0 rfl ?_
  refine r_bipush (pc := 1) (v := 10) dX12_going_1 (by decide) ?_
  refine r_o2 (pc := 3) (bc' := 0) (bs' := 0) (ct_X1_runs 10 h.T h.n (by omega)) k_X12_38_1 dX12_going_3 h.T.1 (Nat.le_of_ble_eq_true rfl) ⟨Nat.le_of_ble_eq_true rfl, Nat.le_of_ble_eq_true rfl⟩ ⟨Nat.le_of_ble_eq_true rfl, Nat.le_of_ble_eq_true rfl⟩ (r_cv fun M3 p3 => ?_) nox
  have p3 := Eq.symm (show _ = _ from p3)
  subst p3
  have h1 := h.run (by decide) 10
  refine r_iload_n (pc := 6) dX12_going_6 rfl ?_
  refine r_aload_n (pc := 7) dX12_going_7 rfl ?_
  refine r_getI (pc := 8) dX12_going_8 fl_X12_9_15 h1.K (fun _ _ => rfl) ?_
  refine r_iadd (pc := 11) dX12_going_11 ?_
  refine r_ireturn (pc := 12) rfl dX12_going_12 ⟨_, rfl, ?_⟩
  exact ⟨by simp only [h1.I, h.I], by simp only [rnsM]⟩
theorem go_15 (w t x : Int32) : goV 3 w t x = x + t ∧ goB 3 = [10] := ⟨by simp [goV], by decide⟩
theorem ct_X12_going_16 {M : PM} {ta a n : Nat} {M0 : PM} (x1 : Int32) (h : tsP M0 ta a 16 n M) (h9 : n + 1 < 100) : Ct (YX12_going, (1, 21, 0, 0), qi (fun r M' => r = x1 + mI M0 a 0 ∧ M' = rnsM M ta [10]), noX) [.ref a, .int x1, .ref ta] M := by
  refine ct_of [some (.ref a), some (.int x1), some (.ref ta)] rfl rfl rfl (Nat.le_of_ble_eq_true rfl) rfl rfl ?_
  refine r_aload_n (pc := 0) dX12_going_0 rfl ?_
  refine r_bipush (pc := 1) (v := 10) dX12_going_1 (by decide) ?_
  refine r_o2 (pc := 3) (bc' := 0) (bs' := 0) (ct_X1_runs 10 h.T h.n (by omega)) k_X12_38_1 dX12_going_3 h.T.1 (Nat.le_of_ble_eq_true rfl) ⟨Nat.le_of_ble_eq_true rfl, Nat.le_of_ble_eq_true rfl⟩ ⟨Nat.le_of_ble_eq_true rfl, Nat.le_of_ble_eq_true rfl⟩ (r_cv fun M3 p3 => ?_) nox
  have p3 := Eq.symm (show _ = _ from p3)
  subst p3
  have h1 := h.run (by decide) 10
  refine r_iload_n (pc := 6) dX12_going_6 rfl ?_
  refine r_aload_n (pc := 7) dX12_going_7 rfl ?_
  refine r_getI (pc := 8) dX12_going_8 fl_X12_9_16 h1.K (fun _ _ => rfl) ?_
  refine r_iadd (pc := 11) dX12_going_11 ?_
  refine r_ireturn (pc := 12) rfl dX12_going_12 ⟨_, rfl, ?_⟩
  exact ⟨by simp only [h1.I, h.I], by simp only [rnsM]⟩
theorem ct_X16_going_16 {M : PM} {ta a n : Nat} {M0 : PM} (x1 : Int32) (h : tsP M0 ta a 16 n M) (h9 : n + 2 < 100) : Ct (YX16_going, (2, 43, 0, 0), qi (fun r M' => r = (x1 + mI M0 a 0) * 2 ∧ M' = rnsM M ta [70, 10]), noX) [.ref a, .int x1, .ref ta] M := by
  refine ct_of [some (.ref a), some (.int x1), some (.ref ta)] rfl rfl rfl (Nat.le_of_ble_eq_true rfl) rfl rfl ?_
  refine r_aload_n (pc := 0) dX16_going_0 rfl ?_
  refine r_bipush (pc := 1) (v := 70) dX16_going_1 (by decide) ?_
  refine r_o2 (pc := 3) (bc' := 0) (bs' := 0) (ct_X1_runs 70 h.T h.n (by omega)) k_X16_34_1 dX16_going_3 h.T.1 (Nat.le_of_ble_eq_true rfl) ⟨Nat.le_of_ble_eq_true rfl, Nat.le_of_ble_eq_true rfl⟩ ⟨Nat.le_of_ble_eq_true rfl, Nat.le_of_ble_eq_true rfl⟩ (r_cv fun M3 p3 => ?_) nox
  have p3 := Eq.symm (show _ = _ from p3)
  subst p3
  have h1 := h.run (by decide) 70
  refine r_aload_n (pc := 6) dX16_going_6 rfl ?_
  refine r_iload_n (pc := 7) dX16_going_7 rfl ?_
  refine r_aload_n (pc := 8) dX16_going_8 rfl ?_
  refine r_o3 (pc := 9) (bc' := 0) (bs' := 0) (ct_X12_going_16 x1 h1 (by omega)) k_X16_40_16 dX16_going_9 h1.K (Nat.le_of_ble_eq_true rfl) ⟨Nat.le_of_ble_eq_true rfl, Nat.le_of_ble_eq_true rfl⟩ ⟨Nat.le_of_ble_eq_true rfl, Nat.le_of_ble_eq_true rfl⟩ (r_ci fun r9 M9 p9 => ?_) nox
  obtain ⟨rfl, p9⟩ := p9
  have p9 := Eq.symm (show _ = _ from p9)
  subst p9
  have h2 := h1.runs (by decide) [10]
  refine r_iconst (pc := 12) (v := 2) dX16_going_12 (by decide) ?_
  refine r_imul (pc := 13) dX16_going_13 ?_
  refine r_ireturn (pc := 14) rfl dX16_going_14 ⟨_, rfl, ?_⟩
  exact ⟨rfl, by simp only [rnsM]⟩
theorem go_16 (w t x : Int32) : goV 4 w t x = (x + t) * 2 ∧ goB 4 = [70, 10] := ⟨by simp [goV], by decide⟩
theorem ct_X12_going_17 {M : PM} {ta a n : Nat} {M0 : PM} (x1 : Int32) (h : tsP M0 ta a 17 n M) (h9 : n + 1 < 100) : Ct (YX12_going, (1, 21, 0, 0), qi (fun r M' => r = x1 + mI M0 a 0 ∧ M' = rnsM M ta [10]), noX) [.ref a, .int x1, .ref ta] M := by
  refine ct_of [some (.ref a), some (.int x1), some (.ref ta)] rfl rfl rfl (Nat.le_of_ble_eq_true rfl) rfl rfl ?_
  refine r_aload_n (pc := 0) dX12_going_0 rfl ?_
  refine r_bipush (pc := 1) (v := 10) dX12_going_1 (by decide) ?_
  refine r_o2 (pc := 3) (bc' := 0) (bs' := 0) (ct_X1_runs 10 h.T h.n (by omega)) k_X12_38_1 dX12_going_3 h.T.1 (Nat.le_of_ble_eq_true rfl) ⟨Nat.le_of_ble_eq_true rfl, Nat.le_of_ble_eq_true rfl⟩ ⟨Nat.le_of_ble_eq_true rfl, Nat.le_of_ble_eq_true rfl⟩ (r_cv fun M3 p3 => ?_) nox
  have p3 := Eq.symm (show _ = _ from p3)
  subst p3
  have h1 := h.run (by decide) 10
  refine r_iload_n (pc := 6) dX12_going_6 rfl ?_
  refine r_aload_n (pc := 7) dX12_going_7 rfl ?_
  refine r_getI (pc := 8) dX12_going_8 fl_X12_9_17 h1.K (fun _ _ => rfl) ?_
  refine r_iadd (pc := 11) dX12_going_11 ?_
  refine r_ireturn (pc := 12) rfl dX12_going_12 ⟨_, rfl, ?_⟩
  exact ⟨by simp only [h1.I, h.I], by simp only [rnsM]⟩
theorem ct_X13_going_17 {M : PM} {ta a n : Nat} {M0 : PM} (x1 : Int32) (h : tsP M0 ta a 17 n M) (h9 : n + 2 < 100) : Ct (YX13_going, (2, 43, 0, 0), qi (fun r M' => r = x1 + mI M0 a 0 + mI M0 a 1 ∧ M' = rnsM M ta [20, 10]), noX) [.ref a, .int x1, .ref ta] M := by
  refine ct_of [some (.ref a), some (.int x1), some (.ref ta)] rfl rfl rfl (Nat.le_of_ble_eq_true rfl) rfl rfl ?_
  refine r_aload_n (pc := 0) dX13_going_0 rfl ?_
  refine r_bipush (pc := 1) (v := 20) dX13_going_1 (by decide) ?_
  refine r_o2 (pc := 3) (bc' := 0) (bs' := 0) (ct_X1_runs 20 h.T h.n (by omega)) k_X13_25_1 dX13_going_3 h.T.1 (Nat.le_of_ble_eq_true rfl) ⟨Nat.le_of_ble_eq_true rfl, Nat.le_of_ble_eq_true rfl⟩ ⟨Nat.le_of_ble_eq_true rfl, Nat.le_of_ble_eq_true rfl⟩ (r_cv fun M3 p3 => ?_) nox
  have p3 := Eq.symm (show _ = _ from p3)
  subst p3
  have h1 := h.run (by decide) 20
  refine r_aload_n (pc := 6) dX13_going_6 rfl ?_
  refine r_iload_n (pc := 7) dX13_going_7 rfl ?_
  refine r_aload_n (pc := 8) dX13_going_8 rfl ?_
  refine r_o3 (pc := 9) (bc' := 0) (bs' := 0) (ct_X12_going_17 x1 h1 (by omega)) k_X13_31_17 dX13_going_9 h1.K (Nat.le_of_ble_eq_true rfl) ⟨Nat.le_of_ble_eq_true rfl, Nat.le_of_ble_eq_true rfl⟩ ⟨Nat.le_of_ble_eq_true rfl, Nat.le_of_ble_eq_true rfl⟩ (r_ci fun r9 M9 p9 => ?_) nox
  obtain ⟨rfl, p9⟩ := p9
  have p9 := Eq.symm (show _ = _ from p9)
  subst p9
  have h2 := h1.runs (by decide) [10]
  refine r_aload_n (pc := 12) dX13_going_12 rfl ?_
  refine r_getI (pc := 13) dX13_going_13 fl_X13_35_17 h2.K (fun _ _ => rfl) ?_
  refine r_iadd (pc := 16) dX13_going_16 ?_
  refine r_ireturn (pc := 17) rfl dX13_going_17 ⟨_, rfl, ?_⟩
  exact ⟨by simp only [h2.I], by simp only [rnsM]⟩
theorem go_17 (w t x : Int32) : goV 5 w t x = x + t + w ∧ goB 5 = [20, 10] := ⟨by simp [goV], by decide⟩
theorem ct_X12_going_18 {M : PM} {ta a n : Nat} {M0 : PM} (x1 : Int32) (h : tsP M0 ta a 18 n M) (h9 : n + 1 < 100) : Ct (YX12_going, (1, 21, 0, 0), qi (fun r M' => r = x1 + mI M0 a 0 ∧ M' = rnsM M ta [10]), noX) [.ref a, .int x1, .ref ta] M := by
  refine ct_of [some (.ref a), some (.int x1), some (.ref ta)] rfl rfl rfl (Nat.le_of_ble_eq_true rfl) rfl rfl ?_
  refine r_aload_n (pc := 0) dX12_going_0 rfl ?_
  refine r_bipush (pc := 1) (v := 10) dX12_going_1 (by decide) ?_
  refine r_o2 (pc := 3) (bc' := 0) (bs' := 0) (ct_X1_runs 10 h.T h.n (by omega)) k_X12_38_1 dX12_going_3 h.T.1 (Nat.le_of_ble_eq_true rfl) ⟨Nat.le_of_ble_eq_true rfl, Nat.le_of_ble_eq_true rfl⟩ ⟨Nat.le_of_ble_eq_true rfl, Nat.le_of_ble_eq_true rfl⟩ (r_cv fun M3 p3 => ?_) nox
  have p3 := Eq.symm (show _ = _ from p3)
  subst p3
  have h1 := h.run (by decide) 10
  refine r_iload_n (pc := 6) dX12_going_6 rfl ?_
  refine r_aload_n (pc := 7) dX12_going_7 rfl ?_
  refine r_getI (pc := 8) dX12_going_8 fl_X12_9_18 h1.K (fun _ _ => rfl) ?_
  refine r_iadd (pc := 11) dX12_going_11 ?_
  refine r_ireturn (pc := 12) rfl dX12_going_12 ⟨_, rfl, ?_⟩
  exact ⟨by simp only [h1.I, h.I], by simp only [rnsM]⟩
theorem ct_X13_going_18 {M : PM} {ta a n : Nat} {M0 : PM} (x1 : Int32) (h : tsP M0 ta a 18 n M) (h9 : n + 2 < 100) : Ct (YX13_going, (2, 43, 0, 0), qi (fun r M' => r = x1 + mI M0 a 0 + mI M0 a 1 ∧ M' = rnsM M ta [20, 10]), noX) [.ref a, .int x1, .ref ta] M := by
  refine ct_of [some (.ref a), some (.int x1), some (.ref ta)] rfl rfl rfl (Nat.le_of_ble_eq_true rfl) rfl rfl ?_
  refine r_aload_n (pc := 0) dX13_going_0 rfl ?_
  refine r_bipush (pc := 1) (v := 20) dX13_going_1 (by decide) ?_
  refine r_o2 (pc := 3) (bc' := 0) (bs' := 0) (ct_X1_runs 20 h.T h.n (by omega)) k_X13_25_1 dX13_going_3 h.T.1 (Nat.le_of_ble_eq_true rfl) ⟨Nat.le_of_ble_eq_true rfl, Nat.le_of_ble_eq_true rfl⟩ ⟨Nat.le_of_ble_eq_true rfl, Nat.le_of_ble_eq_true rfl⟩ (r_cv fun M3 p3 => ?_) nox
  have p3 := Eq.symm (show _ = _ from p3)
  subst p3
  have h1 := h.run (by decide) 20
  refine r_aload_n (pc := 6) dX13_going_6 rfl ?_
  refine r_iload_n (pc := 7) dX13_going_7 rfl ?_
  refine r_aload_n (pc := 8) dX13_going_8 rfl ?_
  refine r_o3 (pc := 9) (bc' := 0) (bs' := 0) (ct_X12_going_18 x1 h1 (by omega)) k_X13_31_18 dX13_going_9 h1.K (Nat.le_of_ble_eq_true rfl) ⟨Nat.le_of_ble_eq_true rfl, Nat.le_of_ble_eq_true rfl⟩ ⟨Nat.le_of_ble_eq_true rfl, Nat.le_of_ble_eq_true rfl⟩ (r_ci fun r9 M9 p9 => ?_) nox
  obtain ⟨rfl, p9⟩ := p9
  have p9 := Eq.symm (show _ = _ from p9)
  subst p9
  have h2 := h1.runs (by decide) [10]
  refine r_aload_n (pc := 12) dX13_going_12 rfl ?_
  refine r_getI (pc := 13) dX13_going_13 fl_X13_35_18 h2.K (fun _ _ => rfl) ?_
  refine r_iadd (pc := 16) dX13_going_16 ?_
  refine r_ireturn (pc := 17) rfl dX13_going_17 ⟨_, rfl, ?_⟩
  exact ⟨by simp only [h2.I], by simp only [rnsM]⟩
theorem ct_X18_going_18 {M : PM} {ta a n : Nat} {M0 : PM} (x1 : Int32) (h : tsP M0 ta a 18 n M) (h9 : n + 3 < 100) : Ct (YX18_going, (3, 65, 0, 0), qi (fun r M' => r = x1 + 1 + mI M0 a 0 + mI M0 a 1 ∧ M' = rnsM M ta [40, 20, 10]), noX) [.ref a, .int x1, .ref ta] M := by
  refine ct_of [some (.ref a), some (.int x1), some (.ref ta)] rfl rfl rfl (Nat.le_of_ble_eq_true rfl) rfl rfl ?_
  refine r_aload_n (pc := 0) dX18_going_0 rfl ?_
  refine r_bipush (pc := 1) (v := 40) dX18_going_1 (by decide) ?_
  refine r_o2 (pc := 3) (bc' := 0) (bs' := 0) (ct_X1_runs 40 h.T h.n (by omega)) k_X18_19_1 dX18_going_3 h.T.1 (Nat.le_of_ble_eq_true rfl) ⟨Nat.le_of_ble_eq_true rfl, Nat.le_of_ble_eq_true rfl⟩ ⟨Nat.le_of_ble_eq_true rfl, Nat.le_of_ble_eq_true rfl⟩ (r_cv fun M3 p3 => ?_) nox
  have p3 := Eq.symm (show _ = _ from p3)
  subst p3
  have h1 := h.run (by decide) 40
  refine r_aload_n (pc := 6) dX18_going_6 rfl ?_
  refine r_iload_n (pc := 7) dX18_going_7 rfl ?_
  refine r_iconst (pc := 8) (v := 1) dX18_going_8 (by decide) ?_
  refine r_iadd (pc := 9) dX18_going_9 ?_
  refine r_aload_n (pc := 10) dX18_going_10 rfl ?_
  refine r_o3 (pc := 11) (bc' := 0) (bs' := 0) (ct_X13_going_18 (x1 + 1) h1 (by omega)) k_X18_25_18 dX18_going_11 h1.K (Nat.le_of_ble_eq_true rfl) ⟨Nat.le_of_ble_eq_true rfl, Nat.le_of_ble_eq_true rfl⟩ ⟨Nat.le_of_ble_eq_true rfl, Nat.le_of_ble_eq_true rfl⟩ (r_ci fun r11 M11 p11 => ?_) nox
  obtain ⟨rfl, p11⟩ := p11
  have p11 := Eq.symm (show _ = _ from p11)
  subst p11
  refine r_ireturn (pc := 14) rfl dX18_going_14 ⟨_, rfl, ?_⟩
  exact ⟨rfl, by simp only [rnsM]⟩
theorem go_18 (w t x : Int32) : goV 6 w t x = x + 1 + t + w ∧ goB 6 = [40, 20, 10] := ⟨by simp [goV], by decide⟩
theorem ct_X12_resting_12 {M : PM} {ta a n : Nat} {M0 : PM} (x1 : Int32) (h : tsP M0 ta a 12 n M) (h9 : n + 2 < 100) : Ct (YX12_resting, (2, 43, 0, 0), qi (fun r M' => r = (x1 + mI M0 a 0) * 2 ∧ M' = rnsM M ta [11, 10]), noX) [.ref a, .int x1, .ref ta] M := by
  refine ct_of [some (.ref a), some (.int x1), some (.ref ta)] rfl rfl rfl (Nat.le_of_ble_eq_true rfl) rfl rfl ?_
  refine r_aload_n (pc := 0) dX12_resting_0 rfl ?_
  refine r_bipush (pc := 1) (v := 11) dX12_resting_1 (by decide) ?_
  refine r_o2 (pc := 3) (bc' := 0) (bs' := 0) (ct_X1_runs 11 h.T h.n (by omega)) k_X12_38_1 dX12_resting_3 h.T.1 (Nat.le_of_ble_eq_true rfl) ⟨Nat.le_of_ble_eq_true rfl, Nat.le_of_ble_eq_true rfl⟩ ⟨Nat.le_of_ble_eq_true rfl, Nat.le_of_ble_eq_true rfl⟩ (r_cv fun M3 p3 => ?_) nox
  have p3 := Eq.symm (show _ = _ from p3)
  subst p3
  have h1 := h.run (by decide) 11
  refine r_aload_n (pc := 6) dX12_resting_6 rfl ?_
  refine r_iload_n (pc := 7) dX12_resting_7 rfl ?_
  refine r_aload_n (pc := 8) dX12_resting_8 rfl ?_
  refine r_o3 (pc := 9) (bc' := 0) (bs' := 0) (ct_X12_going_12 x1 h1 (by omega)) k_X12_44_12 dX12_resting_9 h1.K (Nat.le_of_ble_eq_true rfl) ⟨Nat.le_of_ble_eq_true rfl, Nat.le_of_ble_eq_true rfl⟩ ⟨Nat.le_of_ble_eq_true rfl, Nat.le_of_ble_eq_true rfl⟩ (r_ci fun r9 M9 p9 => ?_) nox
  obtain ⟨rfl, p9⟩ := p9
  have p9 := Eq.symm (show _ = _ from p9)
  subst p9
  have h2 := h1.runs (by decide) [10]
  refine r_iconst (pc := 12) (v := 2) dX12_resting_12 (by decide) ?_
  refine r_imul (pc := 13) dX12_resting_13 ?_
  refine r_ireturn (pc := 14) rfl dX12_resting_14 ⟨_, rfl, ?_⟩
  exact ⟨rfl, by simp only [rnsM]⟩
theorem ct_X12_falling_12 {M : PM} {ta a n : Nat} {M0 : PM} (x1 : Int32) (h : tsP M0 ta a 12 n M) (h9 : n + 4 < 100) : Ct (YX12_falling, (3, 65, 0, 0), qi (fun r M' => r = ((x1 + mI M0 a 0) * 2) ^^^ ((x1 - mI M0 a 1) + mI M0 a 0) ∧ M' = rnsM M ta [12, 11, 10, 10]), noX) [.ref a, .int x1, .ref ta] M := by
  refine ct_of [some (.ref a), some (.int x1), some (.ref ta), none] rfl rfl rfl (Nat.le_of_ble_eq_true rfl) rfl rfl ?_
  refine r_aload_n (pc := 0) dX12_falling_0 rfl ?_
  refine r_bipush (pc := 1) (v := 12) dX12_falling_1 (by decide) ?_
  refine r_o2 (pc := 3) (bc' := 0) (bs' := 0) (ct_X1_runs 12 h.T h.n (by omega)) k_X12_38_1 dX12_falling_3 h.T.1 (Nat.le_of_ble_eq_true rfl) ⟨Nat.le_of_ble_eq_true rfl, Nat.le_of_ble_eq_true rfl⟩ ⟨Nat.le_of_ble_eq_true rfl, Nat.le_of_ble_eq_true rfl⟩ (r_cv fun M3 p3 => ?_) nox
  have p3 := Eq.symm (show _ = _ from p3)
  subst p3
  have h1 := h.run (by decide) 12
  refine r_aload_n (pc := 6) dX12_falling_6 rfl ?_
  refine r_iload_n (pc := 7) dX12_falling_7 rfl ?_
  refine r_aload_n (pc := 8) dX12_falling_8 rfl ?_
  refine r_o3 (pc := 9) (bc' := 0) (bs' := 0) (ct_X12_resting_12 x1 h1 (by omega)) k_X12_48_12 dX12_falling_9 h1.K (Nat.le_of_ble_eq_true rfl) ⟨Nat.le_of_ble_eq_true rfl, Nat.le_of_ble_eq_true rfl⟩ ⟨Nat.le_of_ble_eq_true rfl, Nat.le_of_ble_eq_true rfl⟩ (r_ci fun r9 M9 p9 => ?_) nox
  obtain ⟨rfl, p9⟩ := p9
  have p9 := Eq.symm (show _ = _ from p9)
  subst p9
  have h2 := h1.runs (by decide) [11, 10]
  refine r_istore3 (pc := 12) dX12_falling_12 rfl ?_
  refine r_iload_n (pc := 13) dX12_falling_13 rfl ?_
  refine r_aload_n (pc := 14) dX12_falling_14 rfl ?_
  refine r_iload_n (pc := 15) dX12_falling_15 rfl ?_
  refine r_aload_n (pc := 16) dX12_falling_16 rfl ?_
  refine r_getI (pc := 17) dX12_falling_17 fl_X12_15_12 h2.K (fun _ _ => rfl) ?_
  refine r_isub (pc := 20) dX12_falling_20 ?_
  refine r_aload_n (pc := 21) dX12_falling_21 rfl ?_
  refine r_o3 (pc := 22) (bc' := 0) (bs' := 0) (ct_X12_going_12 _ h2 (by simp only [List.length_cons, List.length_nil]; omega)) k_X12_44_12 dX12_falling_22 h2.K (Nat.le_of_ble_eq_true rfl) ⟨Nat.le_of_ble_eq_true rfl, Nat.le_of_ble_eq_true rfl⟩ ⟨Nat.le_of_ble_eq_true rfl, Nat.le_of_ble_eq_true rfl⟩ (r_ci fun r22 M22 p22 => ?_) nox
  obtain ⟨rfl, p22⟩ := p22
  have p22 := Eq.symm (show _ = _ from p22)
  subst p22
  have h3 := h2.runs (by decide) [10]
  refine r_ixor (pc := 25) dX12_falling_25 ?_
  refine r_ireturn (pc := 26) rfl dX12_falling_26 ⟨_, rfl, ?_⟩
  exact ⟨by simp only [h2.I], by simp only [rnsM]⟩
theorem re_12 (w t x : Int32) : reV 0 w t x = (x + t) * 2 ∧ reB 0 = [11, 10] := ⟨by simp (decide := true) only [reV, goV, if_true, if_false], by decide⟩
theorem fa_12 (w t x : Int32) : faV 0 w t x = ((x + t) * 2) ^^^ ((x - w) + t) ∧ faB 0 = [12, 11, 10, 10] := ⟨by simp (decide := true) only [faV, reV, goV, if_true, if_false], by decide⟩
theorem ct_X12_resting_13 {M : PM} {ta a n : Nat} {M0 : PM} (x1 : Int32) (h : tsP M0 ta a 13 n M) (h9 : n + 3 < 100) : Ct (YX12_resting, (3, 65, 0, 0), qi (fun r M' => r = (x1 + mI M0 a 0 + mI M0 a 1) * 2 ∧ M' = rnsM M ta [11, 20, 10]), noX) [.ref a, .int x1, .ref ta] M := by
  refine ct_of [some (.ref a), some (.int x1), some (.ref ta)] rfl rfl rfl (Nat.le_of_ble_eq_true rfl) rfl rfl ?_
  refine r_aload_n (pc := 0) dX12_resting_0 rfl ?_
  refine r_bipush (pc := 1) (v := 11) dX12_resting_1 (by decide) ?_
  refine r_o2 (pc := 3) (bc' := 0) (bs' := 0) (ct_X1_runs 11 h.T h.n (by omega)) k_X12_38_1 dX12_resting_3 h.T.1 (Nat.le_of_ble_eq_true rfl) ⟨Nat.le_of_ble_eq_true rfl, Nat.le_of_ble_eq_true rfl⟩ ⟨Nat.le_of_ble_eq_true rfl, Nat.le_of_ble_eq_true rfl⟩ (r_cv fun M3 p3 => ?_) nox
  have p3 := Eq.symm (show _ = _ from p3)
  subst p3
  have h1 := h.run (by decide) 11
  refine r_aload_n (pc := 6) dX12_resting_6 rfl ?_
  refine r_iload_n (pc := 7) dX12_resting_7 rfl ?_
  refine r_aload_n (pc := 8) dX12_resting_8 rfl ?_
  refine r_o3 (pc := 9) (bc' := 0) (bs' := 0) (ct_X13_going_13 x1 h1 (by omega)) k_X12_44_13 dX12_resting_9 h1.K (Nat.le_of_ble_eq_true rfl) ⟨Nat.le_of_ble_eq_true rfl, Nat.le_of_ble_eq_true rfl⟩ ⟨Nat.le_of_ble_eq_true rfl, Nat.le_of_ble_eq_true rfl⟩ (r_ci fun r9 M9 p9 => ?_) nox
  obtain ⟨rfl, p9⟩ := p9
  have p9 := Eq.symm (show _ = _ from p9)
  subst p9
  have h2 := h1.runs (by decide) [20, 10]
  refine r_iconst (pc := 12) (v := 2) dX12_resting_12 (by decide) ?_
  refine r_imul (pc := 13) dX12_resting_13 ?_
  refine r_ireturn (pc := 14) rfl dX12_resting_14 ⟨_, rfl, ?_⟩
  exact ⟨rfl, by simp only [rnsM]⟩
theorem ct_X12_falling_13 {M : PM} {ta a n : Nat} {M0 : PM} (x1 : Int32) (h : tsP M0 ta a 13 n M) (h9 : n + 6 < 100) : Ct (YX12_falling, (4, 87, 0, 0), qi (fun r M' => r = ((x1 + mI M0 a 0 + mI M0 a 1) * 2) ^^^ ((x1 - mI M0 a 1) + mI M0 a 0 + mI M0 a 1) ∧ M' = rnsM M ta [12, 11, 20, 10, 20, 10]), noX) [.ref a, .int x1, .ref ta] M := by
  refine ct_of [some (.ref a), some (.int x1), some (.ref ta), none] rfl rfl rfl (Nat.le_of_ble_eq_true rfl) rfl rfl ?_
  refine r_aload_n (pc := 0) dX12_falling_0 rfl ?_
  refine r_bipush (pc := 1) (v := 12) dX12_falling_1 (by decide) ?_
  refine r_o2 (pc := 3) (bc' := 0) (bs' := 0) (ct_X1_runs 12 h.T h.n (by omega)) k_X12_38_1 dX12_falling_3 h.T.1 (Nat.le_of_ble_eq_true rfl) ⟨Nat.le_of_ble_eq_true rfl, Nat.le_of_ble_eq_true rfl⟩ ⟨Nat.le_of_ble_eq_true rfl, Nat.le_of_ble_eq_true rfl⟩ (r_cv fun M3 p3 => ?_) nox
  have p3 := Eq.symm (show _ = _ from p3)
  subst p3
  have h1 := h.run (by decide) 12
  refine r_aload_n (pc := 6) dX12_falling_6 rfl ?_
  refine r_iload_n (pc := 7) dX12_falling_7 rfl ?_
  refine r_aload_n (pc := 8) dX12_falling_8 rfl ?_
  refine r_o3 (pc := 9) (bc' := 0) (bs' := 0) (ct_X12_resting_13 x1 h1 (by omega)) k_X12_48_13 dX12_falling_9 h1.K (Nat.le_of_ble_eq_true rfl) ⟨Nat.le_of_ble_eq_true rfl, Nat.le_of_ble_eq_true rfl⟩ ⟨Nat.le_of_ble_eq_true rfl, Nat.le_of_ble_eq_true rfl⟩ (r_ci fun r9 M9 p9 => ?_) nox
  obtain ⟨rfl, p9⟩ := p9
  have p9 := Eq.symm (show _ = _ from p9)
  subst p9
  have h2 := h1.runs (by decide) [11, 20, 10]
  refine r_istore3 (pc := 12) dX12_falling_12 rfl ?_
  refine r_iload_n (pc := 13) dX12_falling_13 rfl ?_
  refine r_aload_n (pc := 14) dX12_falling_14 rfl ?_
  refine r_iload_n (pc := 15) dX12_falling_15 rfl ?_
  refine r_aload_n (pc := 16) dX12_falling_16 rfl ?_
  refine r_getI (pc := 17) dX12_falling_17 fl_X12_15_13 h2.K (fun _ _ => rfl) ?_
  refine r_isub (pc := 20) dX12_falling_20 ?_
  refine r_aload_n (pc := 21) dX12_falling_21 rfl ?_
  refine r_o3 (pc := 22) (bc' := 0) (bs' := 0) (ct_X13_going_13 _ h2 (by simp only [List.length_cons, List.length_nil]; omega)) k_X12_44_13 dX12_falling_22 h2.K (Nat.le_of_ble_eq_true rfl) ⟨Nat.le_of_ble_eq_true rfl, Nat.le_of_ble_eq_true rfl⟩ ⟨Nat.le_of_ble_eq_true rfl, Nat.le_of_ble_eq_true rfl⟩ (r_ci fun r22 M22 p22 => ?_) nox
  obtain ⟨rfl, p22⟩ := p22
  have p22 := Eq.symm (show _ = _ from p22)
  subst p22
  have h3 := h2.runs (by decide) [20, 10]
  refine r_ixor (pc := 25) dX12_falling_25 ?_
  refine r_ireturn (pc := 26) rfl dX12_falling_26 ⟨_, rfl, ?_⟩
  exact ⟨by simp only [h2.I], by simp only [rnsM]⟩
theorem re_13 (w t x : Int32) : reV 1 w t x = (x + t + w) * 2 ∧ reB 1 = [11, 20, 10] := ⟨by simp (decide := true) only [reV, goV, if_true, if_false], by decide⟩
theorem fa_13 (w t x : Int32) : faV 1 w t x = ((x + t + w) * 2) ^^^ ((x - w) + t + w) ∧ faB 1 = [12, 11, 20, 10, 20, 10] := ⟨by simp (decide := true) only [faV, reV, goV, if_true, if_false], by decide⟩
theorem ct_X12_resting_14 {M : PM} {ta a n : Nat} {M0 : PM} (x1 : Int32) (h : tsP M0 ta a 14 n M) (h9 : n + 2 < 100) : Ct (YX12_resting, (2, 43, 0, 0), qi (fun r M' => r = (x1 + mI M0 a 0) * 2 ∧ M' = rnsM M ta [11, 10]), noX) [.ref a, .int x1, .ref ta] M := by
  refine ct_of [some (.ref a), some (.int x1), some (.ref ta)] rfl rfl rfl (Nat.le_of_ble_eq_true rfl) rfl rfl ?_
  refine r_aload_n (pc := 0) dX12_resting_0 rfl ?_
  refine r_bipush (pc := 1) (v := 11) dX12_resting_1 (by decide) ?_
  refine r_o2 (pc := 3) (bc' := 0) (bs' := 0) (ct_X1_runs 11 h.T h.n (by omega)) k_X12_38_1 dX12_resting_3 h.T.1 (Nat.le_of_ble_eq_true rfl) ⟨Nat.le_of_ble_eq_true rfl, Nat.le_of_ble_eq_true rfl⟩ ⟨Nat.le_of_ble_eq_true rfl, Nat.le_of_ble_eq_true rfl⟩ (r_cv fun M3 p3 => ?_) nox
  have p3 := Eq.symm (show _ = _ from p3)
  subst p3
  have h1 := h.run (by decide) 11
  refine r_aload_n (pc := 6) dX12_resting_6 rfl ?_
  refine r_iload_n (pc := 7) dX12_resting_7 rfl ?_
  refine r_aload_n (pc := 8) dX12_resting_8 rfl ?_
  refine r_o3 (pc := 9) (bc' := 0) (bs' := 0) (ct_X12_going_14 x1 h1 (by omega)) k_X12_44_14 dX12_resting_9 h1.K (Nat.le_of_ble_eq_true rfl) ⟨Nat.le_of_ble_eq_true rfl, Nat.le_of_ble_eq_true rfl⟩ ⟨Nat.le_of_ble_eq_true rfl, Nat.le_of_ble_eq_true rfl⟩ (r_ci fun r9 M9 p9 => ?_) nox
  obtain ⟨rfl, p9⟩ := p9
  have p9 := Eq.symm (show _ = _ from p9)
  subst p9
  have h2 := h1.runs (by decide) [10]
  refine r_iconst (pc := 12) (v := 2) dX12_resting_12 (by decide) ?_
  refine r_imul (pc := 13) dX12_resting_13 ?_
  refine r_ireturn (pc := 14) rfl dX12_resting_14 ⟨_, rfl, ?_⟩
  exact ⟨rfl, by simp only [rnsM]⟩
theorem ct_X14_resting_14 {M : PM} {ta a n : Nat} {M0 : PM} (x1 : Int32) (h : tsP M0 ta a 14 n M) (h9 : n + 3 < 100) : Ct (YX14_resting, (3, 65, 0, 0), qi (fun r M' => r = -((x1 + mI M0 a 0) * 2) ∧ M' = rnsM M ta [50, 11, 10]), noX) [.ref a, .int x1, .ref ta] M := by
  refine ct_of [some (.ref a), some (.int x1), some (.ref ta)] rfl rfl rfl (Nat.le_of_ble_eq_true rfl) rfl rfl ?_
  refine r_aload_n (pc := 0) dX14_resting_0 rfl ?_
  refine r_bipush (pc := 1) (v := 50) dX14_resting_1 (by decide) ?_
  refine r_o2 (pc := 3) (bc' := 0) (bs' := 0) (ct_X1_runs 50 h.T h.n (by omega)) k_X14_13_1 dX14_resting_3 h.T.1 (Nat.le_of_ble_eq_true rfl) ⟨Nat.le_of_ble_eq_true rfl, Nat.le_of_ble_eq_true rfl⟩ ⟨Nat.le_of_ble_eq_true rfl, Nat.le_of_ble_eq_true rfl⟩ (r_cv fun M3 p3 => ?_) nox
  have p3 := Eq.symm (show _ = _ from p3)
  subst p3
  have h1 := h.run (by decide) 50
  refine r_aload_n (pc := 6) dX14_resting_6 rfl ?_
  refine r_iload_n (pc := 7) dX14_resting_7 rfl ?_
  refine r_aload_n (pc := 8) dX14_resting_8 rfl ?_
  refine r_o3 (pc := 9) (bc' := 0) (bs' := 0) (ct_X12_resting_14 x1 h1 (by omega)) k_X14_19_14 dX14_resting_9 h1.K (Nat.le_of_ble_eq_true rfl) ⟨Nat.le_of_ble_eq_true rfl, Nat.le_of_ble_eq_true rfl⟩ ⟨Nat.le_of_ble_eq_true rfl, Nat.le_of_ble_eq_true rfl⟩ (r_ci fun r9 M9 p9 => ?_) nox
  obtain ⟨rfl, p9⟩ := p9
  have p9 := Eq.symm (show _ = _ from p9)
  subst p9
  have h2 := h1.runs (by decide) [11, 10]
  refine r_ineg (pc := 12) dX14_resting_12 ?_
  refine r_ireturn (pc := 13) rfl dX14_resting_13 ⟨_, rfl, ?_⟩
  exact ⟨rfl, by simp only [rnsM]⟩
theorem ct_X12_falling_14 {M : PM} {ta a n : Nat} {M0 : PM} (x1 : Int32) (h : tsP M0 ta a 14 n M) (h9 : n + 5 < 100) : Ct (YX12_falling, (4, 87, 0, 0), qi (fun r M' => r = (-((x1 + mI M0 a 0) * 2)) ^^^ ((x1 - mI M0 a 1) + mI M0 a 0) ∧ M' = rnsM M ta [12, 50, 11, 10, 10]), noX) [.ref a, .int x1, .ref ta] M := by
  refine ct_of [some (.ref a), some (.int x1), some (.ref ta), none] rfl rfl rfl (Nat.le_of_ble_eq_true rfl) rfl rfl ?_
  refine r_aload_n (pc := 0) dX12_falling_0 rfl ?_
  refine r_bipush (pc := 1) (v := 12) dX12_falling_1 (by decide) ?_
  refine r_o2 (pc := 3) (bc' := 0) (bs' := 0) (ct_X1_runs 12 h.T h.n (by omega)) k_X12_38_1 dX12_falling_3 h.T.1 (Nat.le_of_ble_eq_true rfl) ⟨Nat.le_of_ble_eq_true rfl, Nat.le_of_ble_eq_true rfl⟩ ⟨Nat.le_of_ble_eq_true rfl, Nat.le_of_ble_eq_true rfl⟩ (r_cv fun M3 p3 => ?_) nox
  have p3 := Eq.symm (show _ = _ from p3)
  subst p3
  have h1 := h.run (by decide) 12
  refine r_aload_n (pc := 6) dX12_falling_6 rfl ?_
  refine r_iload_n (pc := 7) dX12_falling_7 rfl ?_
  refine r_aload_n (pc := 8) dX12_falling_8 rfl ?_
  refine r_o3 (pc := 9) (bc' := 0) (bs' := 0) (ct_X14_resting_14 x1 h1 (by omega)) k_X12_48_14 dX12_falling_9 h1.K (Nat.le_of_ble_eq_true rfl) ⟨Nat.le_of_ble_eq_true rfl, Nat.le_of_ble_eq_true rfl⟩ ⟨Nat.le_of_ble_eq_true rfl, Nat.le_of_ble_eq_true rfl⟩ (r_ci fun r9 M9 p9 => ?_) nox
  obtain ⟨rfl, p9⟩ := p9
  have p9 := Eq.symm (show _ = _ from p9)
  subst p9
  have h2 := h1.runs (by decide) [50, 11, 10]
  refine r_istore3 (pc := 12) dX12_falling_12 rfl ?_
  refine r_iload_n (pc := 13) dX12_falling_13 rfl ?_
  refine r_aload_n (pc := 14) dX12_falling_14 rfl ?_
  refine r_iload_n (pc := 15) dX12_falling_15 rfl ?_
  refine r_aload_n (pc := 16) dX12_falling_16 rfl ?_
  refine r_getI (pc := 17) dX12_falling_17 fl_X12_15_14 h2.K (fun _ _ => rfl) ?_
  refine r_isub (pc := 20) dX12_falling_20 ?_
  refine r_aload_n (pc := 21) dX12_falling_21 rfl ?_
  refine r_o3 (pc := 22) (bc' := 0) (bs' := 0) (ct_X12_going_14 _ h2 (by simp only [List.length_cons, List.length_nil]; omega)) k_X12_44_14 dX12_falling_22 h2.K (Nat.le_of_ble_eq_true rfl) ⟨Nat.le_of_ble_eq_true rfl, Nat.le_of_ble_eq_true rfl⟩ ⟨Nat.le_of_ble_eq_true rfl, Nat.le_of_ble_eq_true rfl⟩ (r_ci fun r22 M22 p22 => ?_) nox
  obtain ⟨rfl, p22⟩ := p22
  have p22 := Eq.symm (show _ = _ from p22)
  subst p22
  have h3 := h2.runs (by decide) [10]
  refine r_ixor (pc := 25) dX12_falling_25 ?_
  refine r_ireturn (pc := 26) rfl dX12_falling_26 ⟨_, rfl, ?_⟩
  exact ⟨by simp only [h2.I], by simp only [rnsM]⟩
theorem re_14 (w t x : Int32) : reV 2 w t x = -((x + t) * 2) ∧ reB 2 = [50, 11, 10] := ⟨by simp (decide := true) only [reV, goV, if_true, if_false], by decide⟩
theorem fa_14 (w t x : Int32) : faV 2 w t x = (-((x + t) * 2)) ^^^ ((x - w) + t) ∧ faB 2 = [12, 50, 11, 10, 10] := ⟨by simp (decide := true) only [faV, reV, goV, if_true, if_false], by decide⟩
theorem ct_X12_resting_15 {M : PM} {ta a n : Nat} {M0 : PM} (x1 : Int32) (h : tsP M0 ta a 15 n M) (h9 : n + 2 < 100) : Ct (YX12_resting, (2, 43, 0, 0), qi (fun r M' => r = (x1 + mI M0 a 0) * 2 ∧ M' = rnsM M ta [11, 10]), noX) [.ref a, .int x1, .ref ta] M := by
  refine ct_of [some (.ref a), some (.int x1), some (.ref ta)] rfl rfl rfl (Nat.le_of_ble_eq_true rfl) rfl rfl ?_
  refine r_aload_n (pc := 0) dX12_resting_0 rfl ?_
  refine r_bipush (pc := 1) (v := 11) dX12_resting_1 (by decide) ?_
  refine r_o2 (pc := 3) (bc' := 0) (bs' := 0) (ct_X1_runs 11 h.T h.n (by omega)) k_X12_38_1 dX12_resting_3 h.T.1 (Nat.le_of_ble_eq_true rfl) ⟨Nat.le_of_ble_eq_true rfl, Nat.le_of_ble_eq_true rfl⟩ ⟨Nat.le_of_ble_eq_true rfl, Nat.le_of_ble_eq_true rfl⟩ (r_cv fun M3 p3 => ?_) nox
  have p3 := Eq.symm (show _ = _ from p3)
  subst p3
  have h1 := h.run (by decide) 11
  refine r_aload_n (pc := 6) dX12_resting_6 rfl ?_
  refine r_iload_n (pc := 7) dX12_resting_7 rfl ?_
  refine r_aload_n (pc := 8) dX12_resting_8 rfl ?_
  refine r_o3 (pc := 9) (bc' := 0) (bs' := 0) (ct_X12_going_15 x1 h1 (by omega)) k_X12_44_15 dX12_resting_9 h1.K (Nat.le_of_ble_eq_true rfl) ⟨Nat.le_of_ble_eq_true rfl, Nat.le_of_ble_eq_true rfl⟩ ⟨Nat.le_of_ble_eq_true rfl, Nat.le_of_ble_eq_true rfl⟩ (r_ci fun r9 M9 p9 => ?_) nox
  obtain ⟨rfl, p9⟩ := p9
  have p9 := Eq.symm (show _ = _ from p9)
  subst p9
  have h2 := h1.runs (by decide) [10]
  refine r_iconst (pc := 12) (v := 2) dX12_resting_12 (by decide) ?_
  refine r_imul (pc := 13) dX12_resting_13 ?_
  refine r_ireturn (pc := 14) rfl dX12_resting_14 ⟨_, rfl, ?_⟩
  exact ⟨rfl, by simp only [rnsM]⟩
theorem ct_X14_resting_15 {M : PM} {ta a n : Nat} {M0 : PM} (x1 : Int32) (h : tsP M0 ta a 15 n M) (h9 : n + 3 < 100) : Ct (YX14_resting, (3, 65, 0, 0), qi (fun r M' => r = -((x1 + mI M0 a 0) * 2) ∧ M' = rnsM M ta [50, 11, 10]), noX) [.ref a, .int x1, .ref ta] M := by
  refine ct_of [some (.ref a), some (.int x1), some (.ref ta)] rfl rfl rfl (Nat.le_of_ble_eq_true rfl) rfl rfl ?_
  refine r_aload_n (pc := 0) dX14_resting_0 rfl ?_
  refine r_bipush (pc := 1) (v := 50) dX14_resting_1 (by decide) ?_
  refine r_o2 (pc := 3) (bc' := 0) (bs' := 0) (ct_X1_runs 50 h.T h.n (by omega)) k_X14_13_1 dX14_resting_3 h.T.1 (Nat.le_of_ble_eq_true rfl) ⟨Nat.le_of_ble_eq_true rfl, Nat.le_of_ble_eq_true rfl⟩ ⟨Nat.le_of_ble_eq_true rfl, Nat.le_of_ble_eq_true rfl⟩ (r_cv fun M3 p3 => ?_) nox
  have p3 := Eq.symm (show _ = _ from p3)
  subst p3
  have h1 := h.run (by decide) 50
  refine r_aload_n (pc := 6) dX14_resting_6 rfl ?_
  refine r_iload_n (pc := 7) dX14_resting_7 rfl ?_
  refine r_aload_n (pc := 8) dX14_resting_8 rfl ?_
  refine r_o3 (pc := 9) (bc' := 0) (bs' := 0) (ct_X12_resting_15 x1 h1 (by omega)) k_X14_19_15 dX14_resting_9 h1.K (Nat.le_of_ble_eq_true rfl) ⟨Nat.le_of_ble_eq_true rfl, Nat.le_of_ble_eq_true rfl⟩ ⟨Nat.le_of_ble_eq_true rfl, Nat.le_of_ble_eq_true rfl⟩ (r_ci fun r9 M9 p9 => ?_) nox
  obtain ⟨rfl, p9⟩ := p9
  have p9 := Eq.symm (show _ = _ from p9)
  subst p9
  have h2 := h1.runs (by decide) [11, 10]
  refine r_ineg (pc := 12) dX14_resting_12 ?_
  refine r_ireturn (pc := 13) rfl dX14_resting_13 ⟨_, rfl, ?_⟩
  exact ⟨rfl, by simp only [rnsM]⟩
theorem ct_X15_resting_15 {M : PM} {ta a n : Nat} {M0 : PM} (x1 : Int32) (h : tsP M0 ta a 15 n M) (h9 : n + 4 < 100) : Ct (YX15_resting, (4, 87, 0, 0), qi (fun r M' => r = -((x1 + mI M0 a 0) * 2) ^^^ 5 ∧ M' = rnsM M ta [60, 50, 11, 10]), noX) [.ref a, .int x1, .ref ta] M := by
  refine ct_of [some (.ref a), some (.int x1), some (.ref ta)] rfl rfl rfl (Nat.le_of_ble_eq_true rfl) rfl rfl ?_
  refine r_aload_n (pc := 0) dX15_resting_0 rfl ?_
  refine r_bipush (pc := 1) (v := 60) dX15_resting_1 (by decide) ?_
  refine r_o2 (pc := 3) (bc' := 0) (bs' := 0) (ct_X1_runs 60 h.T h.n (by omega)) k_X15_13_1 dX15_resting_3 h.T.1 (Nat.le_of_ble_eq_true rfl) ⟨Nat.le_of_ble_eq_true rfl, Nat.le_of_ble_eq_true rfl⟩ ⟨Nat.le_of_ble_eq_true rfl, Nat.le_of_ble_eq_true rfl⟩ (r_cv fun M3 p3 => ?_) nox
  have p3 := Eq.symm (show _ = _ from p3)
  subst p3
  have h1 := h.run (by decide) 60
  refine r_aload_n (pc := 6) dX15_resting_6 rfl ?_
  refine r_iload_n (pc := 7) dX15_resting_7 rfl ?_
  refine r_aload_n (pc := 8) dX15_resting_8 rfl ?_
  refine r_o3 (pc := 9) (bc' := 0) (bs' := 0) (ct_X14_resting_15 x1 h1 (by omega)) k_X15_19_15 dX15_resting_9 h1.K (Nat.le_of_ble_eq_true rfl) ⟨Nat.le_of_ble_eq_true rfl, Nat.le_of_ble_eq_true rfl⟩ ⟨Nat.le_of_ble_eq_true rfl, Nat.le_of_ble_eq_true rfl⟩ (r_ci fun r9 M9 p9 => ?_) nox
  obtain ⟨rfl, p9⟩ := p9
  have p9 := Eq.symm (show _ = _ from p9)
  subst p9
  have h2 := h1.runs (by decide) [50, 11, 10]
  refine r_iconst (pc := 12) (v := 5) dX15_resting_12 (by decide) ?_
  refine r_ixor (pc := 13) dX15_resting_13 ?_
  refine r_ireturn (pc := 14) rfl dX15_resting_14 ⟨_, rfl, ?_⟩
  exact ⟨rfl, by simp only [rnsM]⟩
theorem ct_X12_falling_15 {M : PM} {ta a n : Nat} {M0 : PM} (x1 : Int32) (h : tsP M0 ta a 15 n M) (h9 : n + 6 < 100) : Ct (YX12_falling, (5, 109, 0, 0), qi (fun r M' => r = (-((x1 + mI M0 a 0) * 2) ^^^ 5) ^^^ ((x1 - mI M0 a 1) + mI M0 a 0) ∧ M' = rnsM M ta [12, 60, 50, 11, 10, 10]), noX) [.ref a, .int x1, .ref ta] M := by
  refine ct_of [some (.ref a), some (.int x1), some (.ref ta), none] rfl rfl rfl (Nat.le_of_ble_eq_true rfl) rfl rfl ?_
  refine r_aload_n (pc := 0) dX12_falling_0 rfl ?_
  refine r_bipush (pc := 1) (v := 12) dX12_falling_1 (by decide) ?_
  refine r_o2 (pc := 3) (bc' := 0) (bs' := 0) (ct_X1_runs 12 h.T h.n (by omega)) k_X12_38_1 dX12_falling_3 h.T.1 (Nat.le_of_ble_eq_true rfl) ⟨Nat.le_of_ble_eq_true rfl, Nat.le_of_ble_eq_true rfl⟩ ⟨Nat.le_of_ble_eq_true rfl, Nat.le_of_ble_eq_true rfl⟩ (r_cv fun M3 p3 => ?_) nox
  have p3 := Eq.symm (show _ = _ from p3)
  subst p3
  have h1 := h.run (by decide) 12
  refine r_aload_n (pc := 6) dX12_falling_6 rfl ?_
  refine r_iload_n (pc := 7) dX12_falling_7 rfl ?_
  refine r_aload_n (pc := 8) dX12_falling_8 rfl ?_
  refine r_o3 (pc := 9) (bc' := 0) (bs' := 0) (ct_X15_resting_15 x1 h1 (by omega)) k_X12_48_15 dX12_falling_9 h1.K (Nat.le_of_ble_eq_true rfl) ⟨Nat.le_of_ble_eq_true rfl, Nat.le_of_ble_eq_true rfl⟩ ⟨Nat.le_of_ble_eq_true rfl, Nat.le_of_ble_eq_true rfl⟩ (r_ci fun r9 M9 p9 => ?_) nox
  obtain ⟨rfl, p9⟩ := p9
  have p9 := Eq.symm (show _ = _ from p9)
  subst p9
  have h2 := h1.runs (by decide) [60, 50, 11, 10]
  refine r_istore3 (pc := 12) dX12_falling_12 rfl ?_
  refine r_iload_n (pc := 13) dX12_falling_13 rfl ?_
  refine r_aload_n (pc := 14) dX12_falling_14 rfl ?_
  refine r_iload_n (pc := 15) dX12_falling_15 rfl ?_
  refine r_aload_n (pc := 16) dX12_falling_16 rfl ?_
  refine r_getI (pc := 17) dX12_falling_17 fl_X12_15_15 h2.K (fun _ _ => rfl) ?_
  refine r_isub (pc := 20) dX12_falling_20 ?_
  refine r_aload_n (pc := 21) dX12_falling_21 rfl ?_
  refine r_o3 (pc := 22) (bc' := 0) (bs' := 0) (ct_X12_going_15 _ h2 (by simp only [List.length_cons, List.length_nil]; omega)) k_X12_44_15 dX12_falling_22 h2.K (Nat.le_of_ble_eq_true rfl) ⟨Nat.le_of_ble_eq_true rfl, Nat.le_of_ble_eq_true rfl⟩ ⟨Nat.le_of_ble_eq_true rfl, Nat.le_of_ble_eq_true rfl⟩ (r_ci fun r22 M22 p22 => ?_) nox
  obtain ⟨rfl, p22⟩ := p22
  have p22 := Eq.symm (show _ = _ from p22)
  subst p22
  have h3 := h2.runs (by decide) [10]
  refine r_ixor (pc := 25) dX12_falling_25 ?_
  refine r_ireturn (pc := 26) rfl dX12_falling_26 ⟨_, rfl, ?_⟩
  exact ⟨by simp only [h2.I], by simp only [rnsM]⟩
theorem re_15 (w t x : Int32) : reV 3 w t x = -((x + t) * 2) ^^^ 5 ∧ reB 3 = [60, 50, 11, 10] := ⟨by simp (decide := true) only [reV, goV, if_true, if_false], by decide⟩
theorem fa_15 (w t x : Int32) : faV 3 w t x = (-((x + t) * 2) ^^^ 5) ^^^ ((x - w) + t) ∧ faB 3 = [12, 60, 50, 11, 10, 10] := ⟨by simp (decide := true) only [faV, reV, goV, if_true, if_false], by decide⟩
theorem ct_X12_resting_16 {M : PM} {ta a n : Nat} {M0 : PM} (x1 : Int32) (h : tsP M0 ta a 16 n M) (h9 : n + 3 < 100) : Ct (YX12_resting, (3, 65, 0, 0), qi (fun r M' => r = ((x1 + mI M0 a 0) * 2) * 2 ∧ M' = rnsM M ta [11, 70, 10]), noX) [.ref a, .int x1, .ref ta] M := by
  refine ct_of [some (.ref a), some (.int x1), some (.ref ta)] rfl rfl rfl (Nat.le_of_ble_eq_true rfl) rfl rfl ?_
  refine r_aload_n (pc := 0) dX12_resting_0 rfl ?_
  refine r_bipush (pc := 1) (v := 11) dX12_resting_1 (by decide) ?_
  refine r_o2 (pc := 3) (bc' := 0) (bs' := 0) (ct_X1_runs 11 h.T h.n (by omega)) k_X12_38_1 dX12_resting_3 h.T.1 (Nat.le_of_ble_eq_true rfl) ⟨Nat.le_of_ble_eq_true rfl, Nat.le_of_ble_eq_true rfl⟩ ⟨Nat.le_of_ble_eq_true rfl, Nat.le_of_ble_eq_true rfl⟩ (r_cv fun M3 p3 => ?_) nox
  have p3 := Eq.symm (show _ = _ from p3)
  subst p3
  have h1 := h.run (by decide) 11
  refine r_aload_n (pc := 6) dX12_resting_6 rfl ?_
  refine r_iload_n (pc := 7) dX12_resting_7 rfl ?_
  refine r_aload_n (pc := 8) dX12_resting_8 rfl ?_
  refine r_o3 (pc := 9) (bc' := 0) (bs' := 0) (ct_X16_going_16 x1 h1 (by omega)) k_X12_44_16 dX12_resting_9 h1.K (Nat.le_of_ble_eq_true rfl) ⟨Nat.le_of_ble_eq_true rfl, Nat.le_of_ble_eq_true rfl⟩ ⟨Nat.le_of_ble_eq_true rfl, Nat.le_of_ble_eq_true rfl⟩ (r_ci fun r9 M9 p9 => ?_) nox
  obtain ⟨rfl, p9⟩ := p9
  have p9 := Eq.symm (show _ = _ from p9)
  subst p9
  have h2 := h1.runs (by decide) [70, 10]
  refine r_iconst (pc := 12) (v := 2) dX12_resting_12 (by decide) ?_
  refine r_imul (pc := 13) dX12_resting_13 ?_
  refine r_ireturn (pc := 14) rfl dX12_resting_14 ⟨_, rfl, ?_⟩
  exact ⟨rfl, by simp only [rnsM]⟩
theorem ct_X12_falling_16 {M : PM} {ta a n : Nat} {M0 : PM} (x1 : Int32) (h : tsP M0 ta a 16 n M) (h9 : n + 6 < 100) : Ct (YX12_falling, (4, 87, 0, 0), qi (fun r M' => r = (((x1 + mI M0 a 0) * 2) * 2) ^^^ (((x1 - mI M0 a 1) + mI M0 a 0) * 2) ∧ M' = rnsM M ta [12, 11, 70, 10, 70, 10]), noX) [.ref a, .int x1, .ref ta] M := by
  refine ct_of [some (.ref a), some (.int x1), some (.ref ta), none] rfl rfl rfl (Nat.le_of_ble_eq_true rfl) rfl rfl ?_
  refine r_aload_n (pc := 0) dX12_falling_0 rfl ?_
  refine r_bipush (pc := 1) (v := 12) dX12_falling_1 (by decide) ?_
  refine r_o2 (pc := 3) (bc' := 0) (bs' := 0) (ct_X1_runs 12 h.T h.n (by omega)) k_X12_38_1 dX12_falling_3 h.T.1 (Nat.le_of_ble_eq_true rfl) ⟨Nat.le_of_ble_eq_true rfl, Nat.le_of_ble_eq_true rfl⟩ ⟨Nat.le_of_ble_eq_true rfl, Nat.le_of_ble_eq_true rfl⟩ (r_cv fun M3 p3 => ?_) nox
  have p3 := Eq.symm (show _ = _ from p3)
  subst p3
  have h1 := h.run (by decide) 12
  refine r_aload_n (pc := 6) dX12_falling_6 rfl ?_
  refine r_iload_n (pc := 7) dX12_falling_7 rfl ?_
  refine r_aload_n (pc := 8) dX12_falling_8 rfl ?_
  refine r_o3 (pc := 9) (bc' := 0) (bs' := 0) (ct_X12_resting_16 x1 h1 (by omega)) k_X12_48_16 dX12_falling_9 h1.K (Nat.le_of_ble_eq_true rfl) ⟨Nat.le_of_ble_eq_true rfl, Nat.le_of_ble_eq_true rfl⟩ ⟨Nat.le_of_ble_eq_true rfl, Nat.le_of_ble_eq_true rfl⟩ (r_ci fun r9 M9 p9 => ?_) nox
  obtain ⟨rfl, p9⟩ := p9
  have p9 := Eq.symm (show _ = _ from p9)
  subst p9
  have h2 := h1.runs (by decide) [11, 70, 10]
  refine r_istore3 (pc := 12) dX12_falling_12 rfl ?_
  refine r_iload_n (pc := 13) dX12_falling_13 rfl ?_
  refine r_aload_n (pc := 14) dX12_falling_14 rfl ?_
  refine r_iload_n (pc := 15) dX12_falling_15 rfl ?_
  refine r_aload_n (pc := 16) dX12_falling_16 rfl ?_
  refine r_getI (pc := 17) dX12_falling_17 fl_X12_15_16 h2.K (fun _ _ => rfl) ?_
  refine r_isub (pc := 20) dX12_falling_20 ?_
  refine r_aload_n (pc := 21) dX12_falling_21 rfl ?_
  refine r_o3 (pc := 22) (bc' := 0) (bs' := 0) (ct_X16_going_16 _ h2 (by simp only [List.length_cons, List.length_nil]; omega)) k_X12_44_16 dX12_falling_22 h2.K (Nat.le_of_ble_eq_true rfl) ⟨Nat.le_of_ble_eq_true rfl, Nat.le_of_ble_eq_true rfl⟩ ⟨Nat.le_of_ble_eq_true rfl, Nat.le_of_ble_eq_true rfl⟩ (r_ci fun r22 M22 p22 => ?_) nox
  obtain ⟨rfl, p22⟩ := p22
  have p22 := Eq.symm (show _ = _ from p22)
  subst p22
  have h3 := h2.runs (by decide) [70, 10]
  refine r_ixor (pc := 25) dX12_falling_25 ?_
  refine r_ireturn (pc := 26) rfl dX12_falling_26 ⟨_, rfl, ?_⟩
  exact ⟨by simp only [h2.I], by simp only [rnsM]⟩
theorem ct_X16_falling_16 {M : PM} {ta a n : Nat} {M0 : PM} (x1 : Int32) (h : tsP M0 ta a 16 n M) (h9 : n + 7 < 100) : Ct (YX16_falling, (5, 110, 0, 0), qi (fun r M' => r = ((((x1 - mI M0 a 1) + mI M0 a 0) * 2) * 2) ^^^ ((((x1 - mI M0 a 1) - mI M0 a 1) + mI M0 a 0) * 2) ∧ M' = rnsM M ta [71, 12, 11, 70, 10, 70, 10]), noX) [.ref a, .int x1, .ref ta] M := by
  refine ct_of [some (.ref a), some (.int x1), some (.ref ta)] rfl rfl rfl (Nat.le_of_ble_eq_true rfl) rfl rfl ?_
  refine r_aload_n (pc := 0) dX16_falling_0 rfl ?_
  refine r_bipush (pc := 1) (v := 71) dX16_falling_1 (by decide) ?_
  refine r_o2 (pc := 3) (bc' := 0) (bs' := 0) (ct_X1_runs 71 h.T h.n (by omega)) k_X16_34_1 dX16_falling_3 h.T.1 (Nat.le_of_ble_eq_true rfl) ⟨Nat.le_of_ble_eq_true rfl, Nat.le_of_ble_eq_true rfl⟩ ⟨Nat.le_of_ble_eq_true rfl, Nat.le_of_ble_eq_true rfl⟩ (r_cv fun M3 p3 => ?_) nox
  have p3 := Eq.symm (show _ = _ from p3)
  subst p3
  have h1 := h.run (by decide) 71
  refine r_aload_n (pc := 6) dX16_falling_6 rfl ?_
  refine r_iload_n (pc := 7) dX16_falling_7 rfl ?_
  refine r_aload_n (pc := 8) dX16_falling_8 rfl ?_
  refine r_getI (pc := 9) dX16_falling_9 fl_X16_44_16 h1.K (fun _ _ => rfl) ?_
  refine r_isub (pc := 12) dX16_falling_12 ?_
  refine r_aload_n (pc := 13) dX16_falling_13 rfl ?_
  refine r_o3 (pc := 14) (bc' := 0) (bs' := 0) (ct_X12_falling_16 _ h1 (by omega)) k_X16_47_16 dX16_falling_14 h1.K (Nat.le_of_ble_eq_true rfl) ⟨Nat.le_of_ble_eq_true rfl, Nat.le_of_ble_eq_true rfl⟩ ⟨Nat.le_of_ble_eq_true rfl, Nat.le_of_ble_eq_true rfl⟩ (r_ci fun r14 M14 p14 => ?_) nox
  obtain ⟨rfl, p14⟩ := p14
  have p14 := Eq.symm (show _ = _ from p14)
  subst p14
  have h2 := h1.runs (by decide) [12, 11, 70, 10, 70, 10]
  refine r_ireturn (pc := 17) rfl dX16_falling_17 ⟨_, rfl, ?_⟩
  exact ⟨by simp only [h1.I], by simp only [rnsM]⟩
theorem re_16 (w t x : Int32) : reV 4 w t x = ((x + t) * 2) * 2 ∧ reB 4 = [11, 70, 10] := ⟨by simp (decide := true) only [reV, goV, if_true, if_false], by decide⟩
theorem fa_16 (w t x : Int32) : faV 4 w t x = ((((x - w) + t) * 2) * 2) ^^^ ((((x - w) - w) + t) * 2) ∧ faB 4 = [71, 12, 11, 70, 10, 70, 10] := ⟨by simp (decide := true) only [faV, reV, goV, if_true, if_false], by decide⟩
theorem ct_X12_resting_17 {M : PM} {ta a n : Nat} {M0 : PM} (x1 : Int32) (h : tsP M0 ta a 17 n M) (h9 : n + 3 < 100) : Ct (YX12_resting, (3, 65, 0, 0), qi (fun r M' => r = (x1 + mI M0 a 0 + mI M0 a 1) * 2 ∧ M' = rnsM M ta [11, 20, 10]), noX) [.ref a, .int x1, .ref ta] M := by
  refine ct_of [some (.ref a), some (.int x1), some (.ref ta)] rfl rfl rfl (Nat.le_of_ble_eq_true rfl) rfl rfl ?_
  refine r_aload_n (pc := 0) dX12_resting_0 rfl ?_
  refine r_bipush (pc := 1) (v := 11) dX12_resting_1 (by decide) ?_
  refine r_o2 (pc := 3) (bc' := 0) (bs' := 0) (ct_X1_runs 11 h.T h.n (by omega)) k_X12_38_1 dX12_resting_3 h.T.1 (Nat.le_of_ble_eq_true rfl) ⟨Nat.le_of_ble_eq_true rfl, Nat.le_of_ble_eq_true rfl⟩ ⟨Nat.le_of_ble_eq_true rfl, Nat.le_of_ble_eq_true rfl⟩ (r_cv fun M3 p3 => ?_) nox
  have p3 := Eq.symm (show _ = _ from p3)
  subst p3
  have h1 := h.run (by decide) 11
  refine r_aload_n (pc := 6) dX12_resting_6 rfl ?_
  refine r_iload_n (pc := 7) dX12_resting_7 rfl ?_
  refine r_aload_n (pc := 8) dX12_resting_8 rfl ?_
  refine r_o3 (pc := 9) (bc' := 0) (bs' := 0) (ct_X13_going_17 x1 h1 (by omega)) k_X12_44_17 dX12_resting_9 h1.K (Nat.le_of_ble_eq_true rfl) ⟨Nat.le_of_ble_eq_true rfl, Nat.le_of_ble_eq_true rfl⟩ ⟨Nat.le_of_ble_eq_true rfl, Nat.le_of_ble_eq_true rfl⟩ (r_ci fun r9 M9 p9 => ?_) nox
  obtain ⟨rfl, p9⟩ := p9
  have p9 := Eq.symm (show _ = _ from p9)
  subst p9
  have h2 := h1.runs (by decide) [20, 10]
  refine r_iconst (pc := 12) (v := 2) dX12_resting_12 (by decide) ?_
  refine r_imul (pc := 13) dX12_resting_13 ?_
  refine r_ireturn (pc := 14) rfl dX12_resting_14 ⟨_, rfl, ?_⟩
  exact ⟨rfl, by simp only [rnsM]⟩
theorem ct_X17_resting_17 {M : PM} {ta a n : Nat} {M0 : PM} (x1 : Int32) (h : tsP M0 ta a 17 n M) (h9 : n + 4 < 100) : Ct (YX17_resting, (4, 87, 0, 0), qi (fun r M' => r = (x1 + mI M0 a 0 + mI M0 a 1) * 2 * 3 ∧ M' = rnsM M ta [30, 11, 20, 10]), noX) [.ref a, .int x1, .ref ta] M := by
  refine ct_of [some (.ref a), some (.int x1), some (.ref ta)] rfl rfl rfl (Nat.le_of_ble_eq_true rfl) rfl rfl ?_
  refine r_aload_n (pc := 0) dX17_resting_0 rfl ?_
  refine r_bipush (pc := 1) (v := 30) dX17_resting_1 (by decide) ?_
  refine r_o2 (pc := 3) (bc' := 0) (bs' := 0) (ct_X1_runs 30 h.T h.n (by omega)) k_X17_19_1 dX17_resting_3 h.T.1 (Nat.le_of_ble_eq_true rfl) ⟨Nat.le_of_ble_eq_true rfl, Nat.le_of_ble_eq_true rfl⟩ ⟨Nat.le_of_ble_eq_true rfl, Nat.le_of_ble_eq_true rfl⟩ (r_cv fun M3 p3 => ?_) nox
  have p3 := Eq.symm (show _ = _ from p3)
  subst p3
  have h1 := h.run (by decide) 30
  refine r_aload_n (pc := 6) dX17_resting_6 rfl ?_
  refine r_iload_n (pc := 7) dX17_resting_7 rfl ?_
  refine r_aload_n (pc := 8) dX17_resting_8 rfl ?_
  refine r_o3 (pc := 9) (bc' := 0) (bs' := 0) (ct_X12_resting_17 x1 h1 (by omega)) k_X17_25_17 dX17_resting_9 h1.K (Nat.le_of_ble_eq_true rfl) ⟨Nat.le_of_ble_eq_true rfl, Nat.le_of_ble_eq_true rfl⟩ ⟨Nat.le_of_ble_eq_true rfl, Nat.le_of_ble_eq_true rfl⟩ (r_ci fun r9 M9 p9 => ?_) nox
  obtain ⟨rfl, p9⟩ := p9
  have p9 := Eq.symm (show _ = _ from p9)
  subst p9
  have h2 := h1.runs (by decide) [11, 20, 10]
  refine r_iconst (pc := 12) (v := 3) dX17_resting_12 (by decide) ?_
  refine r_imul (pc := 13) dX17_resting_13 ?_
  refine r_ireturn (pc := 14) rfl dX17_resting_14 ⟨_, rfl, ?_⟩
  exact ⟨rfl, by simp only [rnsM]⟩
theorem ct_X12_falling_17 {M : PM} {ta a n : Nat} {M0 : PM} (x1 : Int32) (h : tsP M0 ta a 17 n M) (h9 : n + 7 < 100) : Ct (YX12_falling, (5, 109, 0, 0), qi (fun r M' => r = ((x1 + mI M0 a 0 + mI M0 a 1) * 2 * 3) ^^^ ((x1 - mI M0 a 1) + mI M0 a 0 + mI M0 a 1) ∧ M' = rnsM M ta [12, 30, 11, 20, 10, 20, 10]), noX) [.ref a, .int x1, .ref ta] M := by
  refine ct_of [some (.ref a), some (.int x1), some (.ref ta), none] rfl rfl rfl (Nat.le_of_ble_eq_true rfl) rfl rfl ?_
  refine r_aload_n (pc := 0) dX12_falling_0 rfl ?_
  refine r_bipush (pc := 1) (v := 12) dX12_falling_1 (by decide) ?_
  refine r_o2 (pc := 3) (bc' := 0) (bs' := 0) (ct_X1_runs 12 h.T h.n (by omega)) k_X12_38_1 dX12_falling_3 h.T.1 (Nat.le_of_ble_eq_true rfl) ⟨Nat.le_of_ble_eq_true rfl, Nat.le_of_ble_eq_true rfl⟩ ⟨Nat.le_of_ble_eq_true rfl, Nat.le_of_ble_eq_true rfl⟩ (r_cv fun M3 p3 => ?_) nox
  have p3 := Eq.symm (show _ = _ from p3)
  subst p3
  have h1 := h.run (by decide) 12
  refine r_aload_n (pc := 6) dX12_falling_6 rfl ?_
  refine r_iload_n (pc := 7) dX12_falling_7 rfl ?_
  refine r_aload_n (pc := 8) dX12_falling_8 rfl ?_
  refine r_o3 (pc := 9) (bc' := 0) (bs' := 0) (ct_X17_resting_17 x1 h1 (by omega)) k_X12_48_17 dX12_falling_9 h1.K (Nat.le_of_ble_eq_true rfl) ⟨Nat.le_of_ble_eq_true rfl, Nat.le_of_ble_eq_true rfl⟩ ⟨Nat.le_of_ble_eq_true rfl, Nat.le_of_ble_eq_true rfl⟩ (r_ci fun r9 M9 p9 => ?_) nox
  obtain ⟨rfl, p9⟩ := p9
  have p9 := Eq.symm (show _ = _ from p9)
  subst p9
  have h2 := h1.runs (by decide) [30, 11, 20, 10]
  refine r_istore3 (pc := 12) dX12_falling_12 rfl ?_
  refine r_iload_n (pc := 13) dX12_falling_13 rfl ?_
  refine r_aload_n (pc := 14) dX12_falling_14 rfl ?_
  refine r_iload_n (pc := 15) dX12_falling_15 rfl ?_
  refine r_aload_n (pc := 16) dX12_falling_16 rfl ?_
  refine r_getI (pc := 17) dX12_falling_17 fl_X12_15_17 h2.K (fun _ _ => rfl) ?_
  refine r_isub (pc := 20) dX12_falling_20 ?_
  refine r_aload_n (pc := 21) dX12_falling_21 rfl ?_
  refine r_o3 (pc := 22) (bc' := 0) (bs' := 0) (ct_X13_going_17 _ h2 (by simp only [List.length_cons, List.length_nil]; omega)) k_X12_44_17 dX12_falling_22 h2.K (Nat.le_of_ble_eq_true rfl) ⟨Nat.le_of_ble_eq_true rfl, Nat.le_of_ble_eq_true rfl⟩ ⟨Nat.le_of_ble_eq_true rfl, Nat.le_of_ble_eq_true rfl⟩ (r_ci fun r22 M22 p22 => ?_) nox
  obtain ⟨rfl, p22⟩ := p22
  have p22 := Eq.symm (show _ = _ from p22)
  subst p22
  have h3 := h2.runs (by decide) [20, 10]
  refine r_ixor (pc := 25) dX12_falling_25 ?_
  refine r_ireturn (pc := 26) rfl dX12_falling_26 ⟨_, rfl, ?_⟩
  exact ⟨by simp only [h2.I], by simp only [rnsM]⟩
theorem re_17 (w t x : Int32) : reV 5 w t x = (x + t + w) * 2 * 3 ∧ reB 5 = [30, 11, 20, 10] := ⟨by simp (decide := true) only [reV, goV, if_true, if_false], by decide⟩
theorem fa_17 (w t x : Int32) : faV 5 w t x = ((x + t + w) * 2 * 3) ^^^ ((x - w) + t + w) ∧ faB 5 = [12, 30, 11, 20, 10, 20, 10] := ⟨by simp (decide := true) only [faV, reV, goV, if_true, if_false], by decide⟩
theorem ct_X12_resting_18 {M : PM} {ta a n : Nat} {M0 : PM} (x1 : Int32) (h : tsP M0 ta a 18 n M) (h9 : n + 4 < 100) : Ct (YX12_resting, (4, 87, 0, 0), qi (fun r M' => r = (x1 + 1 + mI M0 a 0 + mI M0 a 1) * 2 ∧ M' = rnsM M ta [11, 40, 20, 10]), noX) [.ref a, .int x1, .ref ta] M := by
  refine ct_of [some (.ref a), some (.int x1), some (.ref ta)] rfl rfl rfl (Nat.le_of_ble_eq_true rfl) rfl rfl ?_
  refine r_aload_n (pc := 0) dX12_resting_0 rfl ?_
  refine r_bipush (pc := 1) (v := 11) dX12_resting_1 (by decide) ?_
  refine r_o2 (pc := 3) (bc' := 0) (bs' := 0) (ct_X1_runs 11 h.T h.n (by omega)) k_X12_38_1 dX12_resting_3 h.T.1 (Nat.le_of_ble_eq_true rfl) ⟨Nat.le_of_ble_eq_true rfl, Nat.le_of_ble_eq_true rfl⟩ ⟨Nat.le_of_ble_eq_true rfl, Nat.le_of_ble_eq_true rfl⟩ (r_cv fun M3 p3 => ?_) nox
  have p3 := Eq.symm (show _ = _ from p3)
  subst p3
  have h1 := h.run (by decide) 11
  refine r_aload_n (pc := 6) dX12_resting_6 rfl ?_
  refine r_iload_n (pc := 7) dX12_resting_7 rfl ?_
  refine r_aload_n (pc := 8) dX12_resting_8 rfl ?_
  refine r_o3 (pc := 9) (bc' := 0) (bs' := 0) (ct_X18_going_18 x1 h1 (by omega)) k_X12_44_18 dX12_resting_9 h1.K (Nat.le_of_ble_eq_true rfl) ⟨Nat.le_of_ble_eq_true rfl, Nat.le_of_ble_eq_true rfl⟩ ⟨Nat.le_of_ble_eq_true rfl, Nat.le_of_ble_eq_true rfl⟩ (r_ci fun r9 M9 p9 => ?_) nox
  obtain ⟨rfl, p9⟩ := p9
  have p9 := Eq.symm (show _ = _ from p9)
  subst p9
  have h2 := h1.runs (by decide) [40, 20, 10]
  refine r_iconst (pc := 12) (v := 2) dX12_resting_12 (by decide) ?_
  refine r_imul (pc := 13) dX12_resting_13 ?_
  refine r_ireturn (pc := 14) rfl dX12_resting_14 ⟨_, rfl, ?_⟩
  exact ⟨rfl, by simp only [rnsM]⟩
theorem ct_X12_falling_18 {M : PM} {ta a n : Nat} {M0 : PM} (x1 : Int32) (h : tsP M0 ta a 18 n M) (h9 : n + 8 < 100) : Ct (YX12_falling, (5, 109, 0, 0), qi (fun r M' => r = ((x1 + 1 + mI M0 a 0 + mI M0 a 1) * 2) ^^^ ((x1 - mI M0 a 1) + 1 + mI M0 a 0 + mI M0 a 1) ∧ M' = rnsM M ta [12, 11, 40, 20, 10, 40, 20, 10]), noX) [.ref a, .int x1, .ref ta] M := by
  refine ct_of [some (.ref a), some (.int x1), some (.ref ta), none] rfl rfl rfl (Nat.le_of_ble_eq_true rfl) rfl rfl ?_
  refine r_aload_n (pc := 0) dX12_falling_0 rfl ?_
  refine r_bipush (pc := 1) (v := 12) dX12_falling_1 (by decide) ?_
  refine r_o2 (pc := 3) (bc' := 0) (bs' := 0) (ct_X1_runs 12 h.T h.n (by omega)) k_X12_38_1 dX12_falling_3 h.T.1 (Nat.le_of_ble_eq_true rfl) ⟨Nat.le_of_ble_eq_true rfl, Nat.le_of_ble_eq_true rfl⟩ ⟨Nat.le_of_ble_eq_true rfl, Nat.le_of_ble_eq_true rfl⟩ (r_cv fun M3 p3 => ?_) nox
  have p3 := Eq.symm (show _ = _ from p3)
  subst p3
  have h1 := h.run (by decide) 12
  refine r_aload_n (pc := 6) dX12_falling_6 rfl ?_
  refine r_iload_n (pc := 7) dX12_falling_7 rfl ?_
  refine r_aload_n (pc := 8) dX12_falling_8 rfl ?_
  refine r_o3 (pc := 9) (bc' := 0) (bs' := 0) (ct_X12_resting_18 x1 h1 (by omega)) k_X12_48_18 dX12_falling_9 h1.K (Nat.le_of_ble_eq_true rfl) ⟨Nat.le_of_ble_eq_true rfl, Nat.le_of_ble_eq_true rfl⟩ ⟨Nat.le_of_ble_eq_true rfl, Nat.le_of_ble_eq_true rfl⟩ (r_ci fun r9 M9 p9 => ?_) nox
  obtain ⟨rfl, p9⟩ := p9
  have p9 := Eq.symm (show _ = _ from p9)
  subst p9
  have h2 := h1.runs (by decide) [11, 40, 20, 10]
  refine r_istore3 (pc := 12) dX12_falling_12 rfl ?_
  refine r_iload_n (pc := 13) dX12_falling_13 rfl ?_
  refine r_aload_n (pc := 14) dX12_falling_14 rfl ?_
  refine r_iload_n (pc := 15) dX12_falling_15 rfl ?_
  refine r_aload_n (pc := 16) dX12_falling_16 rfl ?_
  refine r_getI (pc := 17) dX12_falling_17 fl_X12_15_18 h2.K (fun _ _ => rfl) ?_
  refine r_isub (pc := 20) dX12_falling_20 ?_
  refine r_aload_n (pc := 21) dX12_falling_21 rfl ?_
  refine r_o3 (pc := 22) (bc' := 0) (bs' := 0) (ct_X18_going_18 _ h2 (by simp only [List.length_cons, List.length_nil]; omega)) k_X12_44_18 dX12_falling_22 h2.K (Nat.le_of_ble_eq_true rfl) ⟨Nat.le_of_ble_eq_true rfl, Nat.le_of_ble_eq_true rfl⟩ ⟨Nat.le_of_ble_eq_true rfl, Nat.le_of_ble_eq_true rfl⟩ (r_ci fun r22 M22 p22 => ?_) nox
  obtain ⟨rfl, p22⟩ := p22
  have p22 := Eq.symm (show _ = _ from p22)
  subst p22
  have h3 := h2.runs (by decide) [40, 20, 10]
  refine r_ixor (pc := 25) dX12_falling_25 ?_
  refine r_ireturn (pc := 26) rfl dX12_falling_26 ⟨_, rfl, ?_⟩
  exact ⟨by simp only [h2.I], by simp only [rnsM]⟩
theorem ct_X18_falling_18 {M : PM} {ta a n : Nat} {M0 : PM} (x1 : Int32) (h : tsP M0 ta a 18 n M) (h9 : n + 9 < 100) : Ct (YX18_falling, (6, 132, 0, 0), qi (fun r M' => r = (((x1 + 1 + mI M0 a 0 + mI M0 a 1) * 2) ^^^ ((x1 - mI M0 a 1) + 1 + mI M0 a 0 + mI M0 a 1)) - mI M0 a 0 ∧ M' = rnsM M ta [41, 12, 11, 40, 20, 10, 40, 20, 10]), noX) [.ref a, .int x1, .ref ta] M := by
  refine ct_of [some (.ref a), some (.int x1), some (.ref ta)] rfl rfl rfl (Nat.le_of_ble_eq_true rfl) rfl rfl ?_
  refine r_aload_n (pc := 0) dX18_falling_0 rfl ?_
  refine r_bipush (pc := 1) (v := 41) dX18_falling_1 (by decide) ?_
  refine r_o2 (pc := 3) (bc' := 0) (bs' := 0) (ct_X1_runs 41 h.T h.n (by omega)) k_X18_19_1 dX18_falling_3 h.T.1 (Nat.le_of_ble_eq_true rfl) ⟨Nat.le_of_ble_eq_true rfl, Nat.le_of_ble_eq_true rfl⟩ ⟨Nat.le_of_ble_eq_true rfl, Nat.le_of_ble_eq_true rfl⟩ (r_cv fun M3 p3 => ?_) nox
  have p3 := Eq.symm (show _ = _ from p3)
  subst p3
  have h1 := h.run (by decide) 41
  refine r_aload_n (pc := 6) dX18_falling_6 rfl ?_
  refine r_iload_n (pc := 7) dX18_falling_7 rfl ?_
  refine r_aload_n (pc := 8) dX18_falling_8 rfl ?_
  refine r_o3 (pc := 9) (bc' := 0) (bs' := 0) (ct_X12_falling_18 x1 h1 (by omega)) k_X18_29_18 dX18_falling_9 h1.K (Nat.le_of_ble_eq_true rfl) ⟨Nat.le_of_ble_eq_true rfl, Nat.le_of_ble_eq_true rfl⟩ ⟨Nat.le_of_ble_eq_true rfl, Nat.le_of_ble_eq_true rfl⟩ (r_ci fun r9 M9 p9 => ?_) nox
  obtain ⟨rfl, p9⟩ := p9
  have p9 := Eq.symm (show _ = _ from p9)
  subst p9
  have h2 := h1.runs (by decide) [12, 11, 40, 20, 10, 40, 20, 10]
  refine r_aload_n (pc := 12) dX18_falling_12 rfl ?_
  refine r_getI (pc := 13) dX18_falling_13 fl_X18_32_18 h2.K (fun _ _ => rfl) ?_
  refine r_isub (pc := 16) dX18_falling_16 ?_
  refine r_ireturn (pc := 17) rfl dX18_falling_17 ⟨_, rfl, ?_⟩
  exact ⟨by simp only [h2.I], by simp only [rnsM]⟩
theorem re_18 (w t x : Int32) : reV 6 w t x = (x + 1 + t + w) * 2 ∧ reB 6 = [11, 40, 20, 10] := ⟨by simp (decide := true) only [reV, goV, if_true, if_false], by decide⟩
theorem fa_18 (w t x : Int32) : faV 6 w t x = (((x + 1 + t + w) * 2) ^^^ ((x - w) + 1 + t + w)) - t ∧ faB 6 = [41, 12, 11, 40, 20, 10, 40, 20, 10] := ⟨by simp (decide := true) only [faV, reV, goV, if_true, if_false], by decide⟩
