/-! THE MODEL's calls: images, judge, copies, men (printed by gen/model7.py) -/
set_option maxRecDepth 100000
theorem ct_X5_keeps0 {M0 : PM} {mo : Nat} {I : Nat → Nat → Int32} {L : Nat → Nat → Int64} (hm : MR M0 mo) (o a n f z : Nat) (ko : mK M0 o = (2, 0)) (zo : mZ M0 o = z) (hn : n ≤ z) (hz : z ≤ 8) (ka : mK M0 a = (2, 0)) (za : mZ M0 a = 90) (hf : f + n ≤ 90) (hoa : o ≠ a) : Ct (YX5_keeps, (0, 0, 0, 0), qi (fun r M' => r = nI (f + n) ∧ ∃ I', M' = wIL M0 I' L ∧ (∀ x, x ≠ a → I' x = I x) ∧ (∀ j, j < n → I' a (f + j) = I o j) ∧ (∀ j, j < f → I' a j = I a j)), noX) [.ref mo, .ref o, .int (nI n), .ref a, .int (nI f), .int 0] (wIL M0 I L) := by
  refine ct_of [some (.ref mo), some (.ref o), some (.int (nI n)), some (.ref a), some (.int (nI f)), some (.int 0), none] rfl rfl rfl (Nat.le_of_ble_eq_true rfl) rfl rfl ?_
  have L1 : ∀ (k j : Nat) (I1 : Nat → Nat → Int32), j + k = n → (∀ x, x ≠ a → I1 x = I x) → (∀ i, i < j → I1 a (f + i) = I o i) → (∀ i, i < f → I1 a i = I a i) → Wx (YX5_keeps, (0, 0, 0, 0), qi (fun r M' => r = nI (f + n) ∧ ∃ I', M' = wIL M0 I' L ∧ (∀ x, x ≠ a → I' x = I x) ∧ (∀ j, j < n → I' a (f + j) = I o j) ∧ (∀ j, j < f → I' a j = I a j)), noX) 0 0 (wIL M0 I1 L) 3 [some (.ref mo), some (.ref o), some (.int (nI n)), some (.ref a), some (.int (nI f)), some (.int 0), some (.int (nI j))] [] := by
    intro k
    induction k with
    | zero =>
      intro j I1 hj a1 a2 a3
      refine r_iload (pc := 3) dX5_keeps_3 rfl ?_
      refine r_iload_n (pc := 5) dX5_keeps_5 rfl ?_
      refine r_icmp_ge (pc := 6) 45 dX5_keeps_6 rfl (fun _ => ?_) (fun hno => False.elim (by rw [nI_ltI (by omega) (by omega)] at hno; omega))
      refine r_iload (pc := 45) dX5_keeps_45 rfl ?_
      refine r_iload_n (pc := 47) dX5_keeps_47 rfl ?_
      refine r_iadd (pc := 48) dX5_keeps_48 ?_
      refine r_ireturn (pc := 49) rfl dX5_keeps_49 ⟨_, rfl, ?_⟩
      have hj : j = n := by omega
      subst hj
      exact ⟨(nI_add _ _), _, rfl, a1, a2, a3⟩
    | succ k ih =>
      intro j I1 hj a1 a2 a3
      have hv : vp_in (nI j) z := vp_in_nI (by omega) (by omega)
      have hv2 : vp_in (nI f + nI j) 90 := by rw [nI_add]; exact vp_in_nI (by omega) (by decide)
      have ej : Int32.toNatClampNeg (nI j) = j := ix_nI (by omega)
      have ef : Int32.toNatClampNeg (nI f + nI j) = f + j := by rw [nI_add, ix_nI (by omega)]
      refine r_iload (pc := 3) dX5_keeps_3 rfl ?_
      refine r_iload_n (pc := 5) dX5_keeps_5 rfl ?_
      refine r_icmp_ge (pc := 6) 45 dX5_keeps_6 rfl (fun hno => False.elim (by rw [nI_ltI (by omega) (by omega)] at hno; omega)) (fun _ => ?_)
      refine r_iload (pc := 9) dX5_keeps_9 rfl ?_
      refine r_if_eq (pc := 11) 28 dX5_keeps_11 rfl (fun _ => ?_) (fun hno => absurd hno (by decide))
      refine r_aload_n (pc := 28) dX5_keeps_28 rfl ?_
      refine r_iload (pc := 29) dX5_keeps_29 rfl ?_
      refine r_iload (pc := 31) dX5_keeps_31 rfl ?_
      refine r_iadd (pc := 33) dX5_keeps_33 ?_
      refine r_aload_n (pc := 34) dX5_keeps_34 rfl ?_
      refine r_iload (pc := 35) dX5_keeps_35 rfl ?_
      refine rm_iald (pc := 37) dX5_keeps_37 ko zo (by first | assumption | exact vp_in_lit rfl) ?_
      refine rm_iast (pc := 38) dX5_keeps_38 ka za (by first | assumption | exact vp_in_lit rfl) ?_
      refine r_iinc6 (pc := 39) dX5_keeps_39 (nI_1 _) rfl ?_
      refine r_goto (pc := 42) 3 dX5_keeps_42 rfl ?_
      refine ih (j + 1) _ (by omega) (fun x hx => (up2_ne hx).trans (a1 x hx)) (fun i hi => ?_) (fun i hi => ?_)
      · rw [up2_self, ef, ej]
        by_cases h : i = j
        · subst h; rw [va_up_self, a1 o hoa]
        · rw [va_up_ne _ _ (by omega)]; exact a2 i (by omega)
      · rw [up2_self, ef, va_up_ne _ _ (by omega)]; exact a3 i hi
  refine r_iconst (pc := 0) (v := 0) dX5_keeps_0 (by decide) ?_
  refine r_istore6 (pc := 1) dX5_keeps_1 rfl ?_
  exact L1 n 0 I (by omega) (fun _ _ => rfl) (fun i hi => absurd hi (by omega)) (fun _ _ => rfl)
theorem ct_X5_keeps1 {M0 : PM} {mo : Nat} {I : Nat → Nat → Int32} {L : Nat → Nat → Int64} (hm : MR M0 mo) (o a n f z : Nat) (ko : mK M0 o = (2, 0)) (zo : mZ M0 o = z) (hn : n ≤ z) (hz : z ≤ 8) (ka : mK M0 a = (2, 0)) (za : mZ M0 a = 90) (hf : f + n ≤ 90) (hoa : o ≠ a) : Ct (YX5_keeps, (0, 0, 0, 0), qi (fun r M' => r = nI (f + n) ∧ ∃ I', M' = wIL M0 I' L ∧ (∀ x, x ≠ o → I' x = I x) ∧ (∀ j, j < n → I' o j = I a (f + j))), noX) [.ref mo, .ref o, .int (nI n), .ref a, .int (nI f), .int 1] (wIL M0 I L) := by
  refine ct_of [some (.ref mo), some (.ref o), some (.int (nI n)), some (.ref a), some (.int (nI f)), some (.int 1), none] rfl rfl rfl (Nat.le_of_ble_eq_true rfl) rfl rfl ?_
  have L1 : ∀ (k j : Nat) (I1 : Nat → Nat → Int32), j + k = n → (∀ x, x ≠ o → I1 x = I x) → (∀ i, i < j → I1 o i = I a (f + i)) → Wx (YX5_keeps, (0, 0, 0, 0), qi (fun r M' => r = nI (f + n) ∧ ∃ I', M' = wIL M0 I' L ∧ (∀ x, x ≠ o → I' x = I x) ∧ (∀ j, j < n → I' o j = I a (f + j))), noX) 0 0 (wIL M0 I1 L) 3 [some (.ref mo), some (.ref o), some (.int (nI n)), some (.ref a), some (.int (nI f)), some (.int 1), some (.int (nI j))] [] := by
    intro k
    induction k with
    | zero =>
      intro j I1 hj a1 a2
      refine r_iload (pc := 3) dX5_keeps_3 rfl ?_
      refine r_iload_n (pc := 5) dX5_keeps_5 rfl ?_
      refine r_icmp_ge (pc := 6) 45 dX5_keeps_6 rfl (fun _ => ?_) (fun hno => False.elim (by rw [nI_ltI (by omega) (by omega)] at hno; omega))
      refine r_iload (pc := 45) dX5_keeps_45 rfl ?_
      refine r_iload_n (pc := 47) dX5_keeps_47 rfl ?_
      refine r_iadd (pc := 48) dX5_keeps_48 ?_
      refine r_ireturn (pc := 49) rfl dX5_keeps_49 ⟨_, rfl, ?_⟩
      have hj : j = n := by omega
      subst hj
      exact ⟨(nI_add _ _), _, rfl, a1, a2⟩
    | succ k ih =>
      intro j I1 hj a1 a2
      have hv : vp_in (nI j) z := vp_in_nI (by omega) (by omega)
      have hv2 : vp_in (nI f + nI j) 90 := by rw [nI_add]; exact vp_in_nI (by omega) (by decide)
      have ej : Int32.toNatClampNeg (nI j) = j := ix_nI (by omega)
      have ef : Int32.toNatClampNeg (nI f + nI j) = f + j := by rw [nI_add, ix_nI (by omega)]
      refine r_iload (pc := 3) dX5_keeps_3 rfl ?_
      refine r_iload_n (pc := 5) dX5_keeps_5 rfl ?_
      refine r_icmp_ge (pc := 6) 45 dX5_keeps_6 rfl (fun hno => False.elim (by rw [nI_ltI (by omega) (by omega)] at hno; omega)) (fun _ => ?_)
      refine r_iload (pc := 9) dX5_keeps_9 rfl ?_
      refine r_if_eq (pc := 11) 28 dX5_keeps_11 rfl (fun hno => absurd hno (by decide)) (fun _ => ?_)
      refine r_aload_n (pc := 14) dX5_keeps_14 rfl ?_
      refine r_iload (pc := 15) dX5_keeps_15 rfl ?_
      refine r_aload_n (pc := 17) dX5_keeps_17 rfl ?_
      refine r_iload (pc := 18) dX5_keeps_18 rfl ?_
      refine r_iload (pc := 20) dX5_keeps_20 rfl ?_
      refine r_iadd (pc := 22) dX5_keeps_22 ?_
      refine rm_iald (pc := 23) dX5_keeps_23 ka za (by first | assumption | exact vp_in_lit rfl) ?_
      refine rm_iast (pc := 24) dX5_keeps_24 ko zo (by first | assumption | exact vp_in_lit rfl) ?_
      refine r_goto (pc := 25) 39 dX5_keeps_25 rfl ?_
      refine r_iinc6 (pc := 39) dX5_keeps_39 (nI_1 _) rfl ?_
      refine r_goto (pc := 42) 3 dX5_keeps_42 rfl ?_
      refine ih (j + 1) _ (by omega) (fun x hx => (up2_ne hx).trans (a1 x hx)) (fun i hi => ?_)
      rw [up2_self, ef, ej]
      by_cases h : i = j
      · subst h; rw [va_up_self, a1 a (Ne.symm hoa)]
      · rw [va_up_ne _ _ (by omega)]; exact a2 i (by omega)
  refine r_iconst (pc := 0) (v := 0) dX5_keeps_0 (by decide) ?_
  refine r_istore6 (pc := 1) dX5_keeps_1 rfl ?_
  exact L1 n 0 I (by omega) (fun _ _ => rfl) (fun i hi => absurd hi (by omega))
theorem keep_g {I1 I2 : Nat → Nat → Int32} {a o f n : Nat} {P : Nat → Int32} (h1 : ∀ j, j < f → I1 a j = P j) (h2 : ∀ j, j < n → I2 a (f + j) = I1 o j) (h3 : ∀ j, j < f → I2 a j = I1 a j) (h4 : ∀ j, j < n → I1 o j = P (f + j)) : ∀ j, j < f + n → I2 a j = P j := by
  intro j hj
  by_cases h : j < f
  · rw [h3 j h, h1 j h]
  · have e : j = f + (j - f) := by omega
    rw [e, h2 (j - f) (by omega), h4 (j - f) (by omega)]
theorem back_g {I I1 I2 : Nat → Nat → Int32} {mo a m : Nat} (ha : mo + 12 < a) (hm : m < 8) (e : ∀ x, (x < mo + 2 ∨ mo + 2 + m ≤ x) → I1 x = I x) (g : ∀ k, k < m → ∀ i, i < 8 → I1 (mo + 2 + k) i = I a (8 * k + i)) (s1 : ∀ x, x ≠ mo + 2 + m → I2 x = I1 x) (s2 : ∀ j, j < 8 → I2 (mo + 2 + m) j = I1 a (8 * m + j)) : (∀ x, (x < mo + 2 ∨ mo + 2 + (m + 1) ≤ x) → I2 x = I x) ∧ (∀ k, k < m + 1 → ∀ i, i < 8 → I2 (mo + 2 + k) i = I a (8 * k + i)) := by
  refine ⟨fun x hx => (s1 x (by omega)).trans (e x (by omega)), fun k hk i hi => ?_⟩
  by_cases h : k = m
  · subst h; rw [s2 i hi, e a (by omega)]
  · rw [s1 _ (by omega)]; exact g k (by omega) i hi
theorem back_h {I I1 I2 : Nat → Nat → Int32} {mo a m : Nat} (ha : mo + 12 < a) (hm : m < 3) (e : ∀ x, (x < mo + 2 ∨ mo + 10 + m ≤ x) → I1 x = I x) (g : ∀ k, k < 8 → ∀ i, i < 8 → I1 (mo + 2 + k) i = I a (8 * k + i)) (g2 : ∀ k, k < m → ∀ i, i < 4 → I1 (mo + 10 + k) i = I a (64 + 4 * k + i)) (s1 : ∀ x, x ≠ mo + 10 + m → I2 x = I1 x) (s2 : ∀ j, j < 4 → I2 (mo + 10 + m) j = I1 a (64 + 4 * m + j)) : (∀ x, (x < mo + 2 ∨ mo + 10 + (m + 1) ≤ x) → I2 x = I x) ∧ (∀ k, k < 8 → ∀ i, i < 8 → I2 (mo + 2 + k) i = I a (8 * k + i)) ∧ (∀ k, k < m + 1 → ∀ i, i < 4 → I2 (mo + 10 + k) i = I a (64 + 4 * k + i)) := by
  refine ⟨fun x hx => (s1 x (by omega)).trans (e x (by omega)), fun k hk i hi => ?_, fun k hk i hi => ?_⟩
  · rw [s1 _ (by omega)]; exact g k hk i hi
  · by_cases h : k = m
    · subst h; rw [s2 i hi, e a (by omega)]
    · rw [s1 _ (by omega)]; exact g2 k (by omega) i hi
theorem ct_X5_all0 {M0 : PM} {mo : Nat} {I : Nat → Nat → Int32} {L : Nat → Nat → Int64} (hm : MR M0 mo) (a : Nat) (ka : mK M0 a = (2, 0)) (za : mZ M0 a = 90) (ha : mo + 12 < a) : Ct (YX5_all, (1, 26, 0, 0), qv (fun M' => ∃ I', M' = wIL M0 I' L ∧ (∀ x, x ≠ a → I' x = I x) ∧ ∀ j, j < 85 → I' a j = pkC (sM I mo) j), noX) [.ref mo, .ref a, .int 0] (wIL M0 I L) := by
  refine ct_of [some (.ref mo), some (.ref a), some (.int 0), none] rfl rfl rfl (Nat.le_of_ble_eq_true rfl) rfl rfl ?_
  have e0 : ∀ x, x ≠ a → I x = I x := fun _ _ => rfl
  have g0 : ∀ j, j < 0 → I a j = pkC (sM I mo) j := fun j h => absurd h (by omega)
  refine r_aload_n (pc := 0) dX5_all_0 rfl ?_
  refine r_aload_n (pc := 1) dX5_all_1 rfl ?_
  refine r_getR (pc := 2) dX5_all_2 fl_X5_23_5 (MR_k hm) (fun _ _ => rfl) (MR_r11 hm) ?_
  refine r_bipush (pc := 5) (v := 8) dX5_all_5 (by decide) ?_
  refine r_aload_n (pc := 7) dX5_all_7 rfl ?_
  refine r_iconst (pc := 8) (v := 0) dX5_all_8 (by decide) ?_
  refine r_iload_n (pc := 9) dX5_all_9 rfl ?_
  refine r_o6 (pc := 10) (bc' := 0) (bs' := 0) (ct_X5_keeps0 (I := I) hm (mo + 2) a 8 0 8 (MR_k11 hm) (MR_z11 hm) (by decide) (by decide) ka za (by decide) (by omega)) k_X5_219_5 dX5_all_10 (MR_k hm) (Nat.le_of_ble_eq_true rfl) ⟨Nat.le_of_ble_eq_true rfl, Nat.le_of_ble_eq_true rfl⟩ ⟨Nat.le_of_ble_eq_true rfl, Nat.le_of_ble_eq_true rfl⟩ (r_ci fun r10 M10 p10 => ?_) nox
  obtain ⟨rfl, I1, rfl, s1_0, s2_0, s3_0⟩ := p10
  have e1 : ∀ x, x ≠ a → I1 x = I x := fun x hx => (s1_0 x hx).trans (e0 x hx)
  have g1 : ∀ j, j < 0 + 8 → I1 a j = pkC (sM I mo) j := keep_g g0 s2_0 s3_0 (fun j hj => by rw [e0 _ (by omega)]; exact (pk_a (σ := sM I mo) (m := 0) (i := j) (by decide) hj).symm)
  refine r_eqi (nI 8) (by decide) ?_
  refine r_istore3 (pc := 13) dX5_all_13 rfl ?_
  refine r_aload_n (pc := 14) dX5_all_14 rfl ?_
  refine r_aload_n (pc := 15) dX5_all_15 rfl ?_
  refine r_getR (pc := 16) dX5_all_16 fl_X5_26_5 (MR_k hm) (fun _ _ => rfl) (MR_r12 hm) ?_
  refine r_bipush (pc := 19) (v := 8) dX5_all_19 (by decide) ?_
  refine r_aload_n (pc := 21) dX5_all_21 rfl ?_
  refine r_iload_n (pc := 22) dX5_all_22 rfl ?_
  refine r_iload_n (pc := 23) dX5_all_23 rfl ?_
  refine r_o6 (pc := 24) (bc' := 0) (bs' := 0) (ct_X5_keeps0 (I := I1) hm (mo + 3) a 8 8 8 (MR_k12 hm) (MR_z12 hm) (by decide) (by decide) ka za (by decide) (by omega)) k_X5_219_5 dX5_all_24 (MR_k hm) (Nat.le_of_ble_eq_true rfl) ⟨Nat.le_of_ble_eq_true rfl, Nat.le_of_ble_eq_true rfl⟩ ⟨Nat.le_of_ble_eq_true rfl, Nat.le_of_ble_eq_true rfl⟩ (r_ci fun r24 M24 p24 => ?_) nox
  obtain ⟨rfl, I2, rfl, s1_1, s2_1, s3_1⟩ := p24
  have e2 : ∀ x, x ≠ a → I2 x = I x := fun x hx => (s1_1 x hx).trans (e1 x hx)
  have g2 : ∀ j, j < 8 + 8 → I2 a j = pkC (sM I mo) j := keep_g g1 s2_1 s3_1 (fun j hj => by rw [e1 _ (by omega)]; exact (pk_a (σ := sM I mo) (m := 1) (i := j) (by decide) hj).symm)
  refine r_eqi (nI 16) (by decide) ?_
  refine r_istore3 (pc := 27) dX5_all_27 rfl ?_
  refine r_aload_n (pc := 28) dX5_all_28 rfl ?_
  refine r_aload_n (pc := 29) dX5_all_29 rfl ?_
  refine r_getR (pc := 30) dX5_all_30 fl_X5_29_5 (MR_k hm) (fun _ _ => rfl) (MR_r13 hm) ?_
  refine r_bipush (pc := 33) (v := 8) dX5_all_33 (by decide) ?_
  refine r_aload_n (pc := 35) dX5_all_35 rfl ?_
  refine r_iload_n (pc := 36) dX5_all_36 rfl ?_
  refine r_iload_n (pc := 37) dX5_all_37 rfl ?_
  refine r_o6 (pc := 38) (bc' := 0) (bs' := 0) (ct_X5_keeps0 (I := I2) hm (mo + 4) a 8 16 8 (MR_k13 hm) (MR_z13 hm) (by decide) (by decide) ka za (by decide) (by omega)) k_X5_219_5 dX5_all_38 (MR_k hm) (Nat.le_of_ble_eq_true rfl) ⟨Nat.le_of_ble_eq_true rfl, Nat.le_of_ble_eq_true rfl⟩ ⟨Nat.le_of_ble_eq_true rfl, Nat.le_of_ble_eq_true rfl⟩ (r_ci fun r38 M38 p38 => ?_) nox
  obtain ⟨rfl, I3, rfl, s1_2, s2_2, s3_2⟩ := p38
  have e3 : ∀ x, x ≠ a → I3 x = I x := fun x hx => (s1_2 x hx).trans (e2 x hx)
  have g3 : ∀ j, j < 16 + 8 → I3 a j = pkC (sM I mo) j := keep_g g2 s2_2 s3_2 (fun j hj => by rw [e2 _ (by omega)]; exact (pk_a (σ := sM I mo) (m := 2) (i := j) (by decide) hj).symm)
  refine r_eqi (nI 24) (by decide) ?_
  refine r_istore3 (pc := 41) dX5_all_41 rfl ?_
  refine r_aload_n (pc := 42) dX5_all_42 rfl ?_
  refine r_aload_n (pc := 43) dX5_all_43 rfl ?_
  refine r_getR (pc := 44) dX5_all_44 fl_X5_32_5 (MR_k hm) (fun _ _ => rfl) (MR_r14 hm) ?_
  refine r_bipush (pc := 47) (v := 8) dX5_all_47 (by decide) ?_
  refine r_aload_n (pc := 49) dX5_all_49 rfl ?_
  refine r_iload_n (pc := 50) dX5_all_50 rfl ?_
  refine r_iload_n (pc := 51) dX5_all_51 rfl ?_
  refine r_o6 (pc := 52) (bc' := 0) (bs' := 0) (ct_X5_keeps0 (I := I3) hm (mo + 5) a 8 24 8 (MR_k14 hm) (MR_z14 hm) (by decide) (by decide) ka za (by decide) (by omega)) k_X5_219_5 dX5_all_52 (MR_k hm) (Nat.le_of_ble_eq_true rfl) ⟨Nat.le_of_ble_eq_true rfl, Nat.le_of_ble_eq_true rfl⟩ ⟨Nat.le_of_ble_eq_true rfl, Nat.le_of_ble_eq_true rfl⟩ (r_ci fun r52 M52 p52 => ?_) nox
  obtain ⟨rfl, I4, rfl, s1_3, s2_3, s3_3⟩ := p52
  have e4 : ∀ x, x ≠ a → I4 x = I x := fun x hx => (s1_3 x hx).trans (e3 x hx)
  have g4 : ∀ j, j < 24 + 8 → I4 a j = pkC (sM I mo) j := keep_g g3 s2_3 s3_3 (fun j hj => by rw [e3 _ (by omega)]; exact (pk_a (σ := sM I mo) (m := 3) (i := j) (by decide) hj).symm)
  refine r_eqi (nI 32) (by decide) ?_
  refine r_istore3 (pc := 55) dX5_all_55 rfl ?_
  refine r_aload_n (pc := 56) dX5_all_56 rfl ?_
  refine r_aload_n (pc := 57) dX5_all_57 rfl ?_
  refine r_getR (pc := 58) dX5_all_58 fl_X5_35_5 (MR_k hm) (fun _ _ => rfl) (MR_r15 hm) ?_
  refine r_bipush (pc := 61) (v := 8) dX5_all_61 (by decide) ?_
  refine r_aload_n (pc := 63) dX5_all_63 rfl ?_
  refine r_iload_n (pc := 64) dX5_all_64 rfl ?_
  refine r_iload_n (pc := 65) dX5_all_65 rfl ?_
  refine r_o6 (pc := 66) (bc' := 0) (bs' := 0) (ct_X5_keeps0 (I := I4) hm (mo + 6) a 8 32 8 (MR_k15 hm) (MR_z15 hm) (by decide) (by decide) ka za (by decide) (by omega)) k_X5_219_5 dX5_all_66 (MR_k hm) (Nat.le_of_ble_eq_true rfl) ⟨Nat.le_of_ble_eq_true rfl, Nat.le_of_ble_eq_true rfl⟩ ⟨Nat.le_of_ble_eq_true rfl, Nat.le_of_ble_eq_true rfl⟩ (r_ci fun r66 M66 p66 => ?_) nox
  obtain ⟨rfl, I5, rfl, s1_4, s2_4, s3_4⟩ := p66
  have e5 : ∀ x, x ≠ a → I5 x = I x := fun x hx => (s1_4 x hx).trans (e4 x hx)
  have g5 : ∀ j, j < 32 + 8 → I5 a j = pkC (sM I mo) j := keep_g g4 s2_4 s3_4 (fun j hj => by rw [e4 _ (by omega)]; exact (pk_a (σ := sM I mo) (m := 4) (i := j) (by decide) hj).symm)
  refine r_eqi (nI 40) (by decide) ?_
  refine r_istore3 (pc := 69) dX5_all_69 rfl ?_
  refine r_aload_n (pc := 70) dX5_all_70 rfl ?_
  refine r_aload_n (pc := 71) dX5_all_71 rfl ?_
  refine r_getR (pc := 72) dX5_all_72 fl_X5_38_5 (MR_k hm) (fun _ _ => rfl) (MR_r16 hm) ?_
  refine r_bipush (pc := 75) (v := 8) dX5_all_75 (by decide) ?_
  refine r_aload_n (pc := 77) dX5_all_77 rfl ?_
  refine r_iload_n (pc := 78) dX5_all_78 rfl ?_
  refine r_iload_n (pc := 79) dX5_all_79 rfl ?_
  refine r_o6 (pc := 80) (bc' := 0) (bs' := 0) (ct_X5_keeps0 (I := I5) hm (mo + 7) a 8 40 8 (MR_k16 hm) (MR_z16 hm) (by decide) (by decide) ka za (by decide) (by omega)) k_X5_219_5 dX5_all_80 (MR_k hm) (Nat.le_of_ble_eq_true rfl) ⟨Nat.le_of_ble_eq_true rfl, Nat.le_of_ble_eq_true rfl⟩ ⟨Nat.le_of_ble_eq_true rfl, Nat.le_of_ble_eq_true rfl⟩ (r_ci fun r80 M80 p80 => ?_) nox
  obtain ⟨rfl, I6, rfl, s1_5, s2_5, s3_5⟩ := p80
  have e6 : ∀ x, x ≠ a → I6 x = I x := fun x hx => (s1_5 x hx).trans (e5 x hx)
  have g6 : ∀ j, j < 40 + 8 → I6 a j = pkC (sM I mo) j := keep_g g5 s2_5 s3_5 (fun j hj => by rw [e5 _ (by omega)]; exact (pk_a (σ := sM I mo) (m := 5) (i := j) (by decide) hj).symm)
  refine r_eqi (nI 48) (by decide) ?_
  refine r_istore3 (pc := 83) dX5_all_83 rfl ?_
  refine r_aload_n (pc := 84) dX5_all_84 rfl ?_
  refine r_aload_n (pc := 85) dX5_all_85 rfl ?_
  refine r_getR (pc := 86) dX5_all_86 fl_X5_41_5 (MR_k hm) (fun _ _ => rfl) (MR_r17 hm) ?_
  refine r_bipush (pc := 89) (v := 8) dX5_all_89 (by decide) ?_
  refine r_aload_n (pc := 91) dX5_all_91 rfl ?_
  refine r_iload_n (pc := 92) dX5_all_92 rfl ?_
  refine r_iload_n (pc := 93) dX5_all_93 rfl ?_
  refine r_o6 (pc := 94) (bc' := 0) (bs' := 0) (ct_X5_keeps0 (I := I6) hm (mo + 8) a 8 48 8 (MR_k17 hm) (MR_z17 hm) (by decide) (by decide) ka za (by decide) (by omega)) k_X5_219_5 dX5_all_94 (MR_k hm) (Nat.le_of_ble_eq_true rfl) ⟨Nat.le_of_ble_eq_true rfl, Nat.le_of_ble_eq_true rfl⟩ ⟨Nat.le_of_ble_eq_true rfl, Nat.le_of_ble_eq_true rfl⟩ (r_ci fun r94 M94 p94 => ?_) nox
  obtain ⟨rfl, I7, rfl, s1_6, s2_6, s3_6⟩ := p94
  have e7 : ∀ x, x ≠ a → I7 x = I x := fun x hx => (s1_6 x hx).trans (e6 x hx)
  have g7 : ∀ j, j < 48 + 8 → I7 a j = pkC (sM I mo) j := keep_g g6 s2_6 s3_6 (fun j hj => by rw [e6 _ (by omega)]; exact (pk_a (σ := sM I mo) (m := 6) (i := j) (by decide) hj).symm)
  refine r_eqi (nI 56) (by decide) ?_
  refine r_istore3 (pc := 97) dX5_all_97 rfl ?_
  refine r_aload_n (pc := 98) dX5_all_98 rfl ?_
  refine r_aload_n (pc := 99) dX5_all_99 rfl ?_
  refine r_getR (pc := 100) dX5_all_100 fl_X5_44_5 (MR_k hm) (fun _ _ => rfl) (MR_r18 hm) ?_
  refine r_bipush (pc := 103) (v := 8) dX5_all_103 (by decide) ?_
  refine r_aload_n (pc := 105) dX5_all_105 rfl ?_
  refine r_iload_n (pc := 106) dX5_all_106 rfl ?_
  refine r_iload_n (pc := 107) dX5_all_107 rfl ?_
  refine r_o6 (pc := 108) (bc' := 0) (bs' := 0) (ct_X5_keeps0 (I := I7) hm (mo + 9) a 8 56 8 (MR_k18 hm) (MR_z18 hm) (by decide) (by decide) ka za (by decide) (by omega)) k_X5_219_5 dX5_all_108 (MR_k hm) (Nat.le_of_ble_eq_true rfl) ⟨Nat.le_of_ble_eq_true rfl, Nat.le_of_ble_eq_true rfl⟩ ⟨Nat.le_of_ble_eq_true rfl, Nat.le_of_ble_eq_true rfl⟩ (r_ci fun r108 M108 p108 => ?_) nox
  obtain ⟨rfl, I8, rfl, s1_7, s2_7, s3_7⟩ := p108
  have e8 : ∀ x, x ≠ a → I8 x = I x := fun x hx => (s1_7 x hx).trans (e7 x hx)
  have g8 : ∀ j, j < 56 + 8 → I8 a j = pkC (sM I mo) j := keep_g g7 s2_7 s3_7 (fun j hj => by rw [e7 _ (by omega)]; exact (pk_a (σ := sM I mo) (m := 7) (i := j) (by decide) hj).symm)
  refine r_eqi (nI 64) (by decide) ?_
  refine r_istore3 (pc := 111) dX5_all_111 rfl ?_
  refine r_aload_n (pc := 112) dX5_all_112 rfl ?_
  refine r_aload_n (pc := 113) dX5_all_113 rfl ?_
  refine r_getR (pc := 114) dX5_all_114 fl_X5_47_5 (MR_k hm) (fun _ _ => rfl) (MR_r19 hm) ?_
  refine r_iconst (pc := 117) (v := 4) dX5_all_117 (by decide) ?_
  refine r_aload_n (pc := 118) dX5_all_118 rfl ?_
  refine r_iload_n (pc := 119) dX5_all_119 rfl ?_
  refine r_iload_n (pc := 120) dX5_all_120 rfl ?_
  refine r_o6 (pc := 121) (bc' := 0) (bs' := 0) (ct_X5_keeps0 (I := I8) hm (mo + 10) a 4 64 4 (MR_k19 hm) (MR_z19 hm) (by decide) (by decide) ka za (by decide) (by omega)) k_X5_219_5 dX5_all_121 (MR_k hm) (Nat.le_of_ble_eq_true rfl) ⟨Nat.le_of_ble_eq_true rfl, Nat.le_of_ble_eq_true rfl⟩ ⟨Nat.le_of_ble_eq_true rfl, Nat.le_of_ble_eq_true rfl⟩ (r_ci fun r121 M121 p121 => ?_) nox
  obtain ⟨rfl, I9, rfl, s1_8, s2_8, s3_8⟩ := p121
  have e9 : ∀ x, x ≠ a → I9 x = I x := fun x hx => (s1_8 x hx).trans (e8 x hx)
  have g9 : ∀ j, j < 64 + 4 → I9 a j = pkC (sM I mo) j := keep_g g8 s2_8 s3_8 (fun j hj => by rw [e8 _ (by omega)]; exact (pk_b (σ := sM I mo) (m := 0) (i := j) (by decide) hj).symm)
  refine r_eqi (nI 68) (by decide) ?_
  refine r_istore3 (pc := 124) dX5_all_124 rfl ?_
  refine r_aload_n (pc := 125) dX5_all_125 rfl ?_
  refine r_aload_n (pc := 126) dX5_all_126 rfl ?_
  refine r_getR (pc := 127) dX5_all_127 fl_X5_50_5 (MR_k hm) (fun _ _ => rfl) (MR_r20 hm) ?_
  refine r_iconst (pc := 130) (v := 4) dX5_all_130 (by decide) ?_
  refine r_aload_n (pc := 131) dX5_all_131 rfl ?_
  refine r_iload_n (pc := 132) dX5_all_132 rfl ?_
  refine r_iload_n (pc := 133) dX5_all_133 rfl ?_
  refine r_o6 (pc := 134) (bc' := 0) (bs' := 0) (ct_X5_keeps0 (I := I9) hm (mo + 11) a 4 68 4 (MR_k20 hm) (MR_z20 hm) (by decide) (by decide) ka za (by decide) (by omega)) k_X5_219_5 dX5_all_134 (MR_k hm) (Nat.le_of_ble_eq_true rfl) ⟨Nat.le_of_ble_eq_true rfl, Nat.le_of_ble_eq_true rfl⟩ ⟨Nat.le_of_ble_eq_true rfl, Nat.le_of_ble_eq_true rfl⟩ (r_ci fun r134 M134 p134 => ?_) nox
  obtain ⟨rfl, I10, rfl, s1_9, s2_9, s3_9⟩ := p134
  have e10 : ∀ x, x ≠ a → I10 x = I x := fun x hx => (s1_9 x hx).trans (e9 x hx)
  have g10 : ∀ j, j < 68 + 4 → I10 a j = pkC (sM I mo) j := keep_g g9 s2_9 s3_9 (fun j hj => by rw [e9 _ (by omega)]; exact (pk_b (σ := sM I mo) (m := 1) (i := j) (by decide) hj).symm)
  refine r_eqi (nI 72) (by decide) ?_
  refine r_istore3 (pc := 137) dX5_all_137 rfl ?_
  refine r_aload_n (pc := 138) dX5_all_138 rfl ?_
  refine r_aload_n (pc := 139) dX5_all_139 rfl ?_
  refine r_getR (pc := 140) dX5_all_140 fl_X5_53_5 (MR_k hm) (fun _ _ => rfl) (MR_r21 hm) ?_
  refine r_iconst (pc := 143) (v := 4) dX5_all_143 (by decide) ?_
  refine r_aload_n (pc := 144) dX5_all_144 rfl ?_
  refine r_iload_n (pc := 145) dX5_all_145 rfl ?_
  refine r_iload_n (pc := 146) dX5_all_146 rfl ?_
  refine r_o6 (pc := 147) (bc' := 0) (bs' := 0) (ct_X5_keeps0 (I := I10) hm (mo + 12) a 4 72 4 (MR_k21 hm) (MR_z21 hm) (by decide) (by decide) ka za (by decide) (by omega)) k_X5_219_5 dX5_all_147 (MR_k hm) (Nat.le_of_ble_eq_true rfl) ⟨Nat.le_of_ble_eq_true rfl, Nat.le_of_ble_eq_true rfl⟩ ⟨Nat.le_of_ble_eq_true rfl, Nat.le_of_ble_eq_true rfl⟩ (r_ci fun r147 M147 p147 => ?_) nox
  obtain ⟨rfl, I11, rfl, s1_10, s2_10, s3_10⟩ := p147
  have e11 : ∀ x, x ≠ a → I11 x = I x := fun x hx => (s1_10 x hx).trans (e10 x hx)
  have g11 : ∀ j, j < 72 + 4 → I11 a j = pkC (sM I mo) j := keep_g g10 s2_10 s3_10 (fun j hj => by rw [e10 _ (by omega)]; exact (pk_b (σ := sM I mo) (m := 2) (i := j) (by decide) hj).symm)
  refine r_eqi (nI 76) (by decide) ?_
  refine r_istore3 (pc := 150) dX5_all_150 rfl ?_
  refine r_iload_n (pc := 151) dX5_all_151 rfl ?_
  refine r_if_eq (pc := 152) 240 dX5_all_152 rfl (fun _ => ?_) (fun hno => absurd hno (by decide))
  refine r_aload_n (pc := 240) dX5_all_240 rfl ?_
  refine r_iload_n (pc := 241) dX5_all_241 rfl ?_
  refine r_aload_n (pc := 242) dX5_all_242 rfl ?_
  refine rm_getI (pc := 243) dX5_all_243 fl_X5_117_5 (MR_k hm) (fun _ _ => rfl) ?_
  refine rm_iast (pc := 246) dX5_all_246 ka za (by first | assumption | exact vp_in_lit rfl) ?_
  refine r_aload_n (pc := 247) dX5_all_247 rfl ?_
  refine r_iload_n (pc := 248) dX5_all_248 rfl ?_
  refine r_iconst (pc := 249) (v := 1) dX5_all_249 (by decide) ?_
  refine r_iadd (pc := 250) dX5_all_250 ?_
  refine r_eqi (nI 77) (by decide) ?_
  refine r_aload_n (pc := 251) dX5_all_251 rfl ?_
  refine rm_getIe (pc := 252) (v := I11 mo 1) dX5_all_252 fl_X5_120_5 (MR_k hm) (fun _ _ => rfl) (by simp [up2_ne, show mo ≠ a by omega]) ?_
  refine rm_iast (pc := 255) dX5_all_255 ka za (by first | assumption | exact vp_in_lit rfl) ?_
  refine r_aload_n (pc := 256) dX5_all_256 rfl ?_
  refine r_iload_n (pc := 257) dX5_all_257 rfl ?_
  refine r_iconst (pc := 258) (v := 2) dX5_all_258 (by decide) ?_
  refine r_iadd (pc := 259) dX5_all_259 ?_
  refine r_eqi (nI 78) (by decide) ?_
  refine r_aload_n (pc := 260) dX5_all_260 rfl ?_
  refine rm_getIe (pc := 261) (v := I11 mo 2) dX5_all_261 fl_X5_162_5 (MR_k hm) (fun _ _ => rfl) (by simp [up2_ne, show mo ≠ a by omega]) ?_
  refine rm_iast (pc := 264) dX5_all_264 ka za (by first | assumption | exact vp_in_lit rfl) ?_
  refine r_aload_n (pc := 265) dX5_all_265 rfl ?_
  refine r_iload_n (pc := 266) dX5_all_266 rfl ?_
  refine r_iconst (pc := 267) (v := 3) dX5_all_267 (by decide) ?_
  refine r_iadd (pc := 268) dX5_all_268 ?_
  refine r_eqi (nI 79) (by decide) ?_
  refine r_aload_n (pc := 269) dX5_all_269 rfl ?_
  refine rm_getIe (pc := 270) (v := I11 mo 3) dX5_all_270 fl_X5_7_5 (MR_k hm) (fun _ _ => rfl) (by simp [up2_ne, show mo ≠ a by omega]) ?_
  refine rm_iast (pc := 273) dX5_all_273 ka za (by first | assumption | exact vp_in_lit rfl) ?_
  refine r_aload_n (pc := 274) dX5_all_274 rfl ?_
  refine r_iload_n (pc := 275) dX5_all_275 rfl ?_
  refine r_iconst (pc := 276) (v := 4) dX5_all_276 (by decide) ?_
  refine r_iadd (pc := 277) dX5_all_277 ?_
  refine r_eqi (nI 80) (by decide) ?_
  refine r_aload_n (pc := 278) dX5_all_278 rfl ?_
  refine rm_getIe (pc := 279) (v := I11 mo 4) dX5_all_279 fl_X5_123_5 (MR_k hm) (fun _ _ => rfl) (by simp [up2_ne, show mo ≠ a by omega]) ?_
  refine rm_iast (pc := 282) dX5_all_282 ka za (by first | assumption | exact vp_in_lit rfl) ?_
  refine r_aload_n (pc := 283) dX5_all_283 rfl ?_
  refine r_iload_n (pc := 284) dX5_all_284 rfl ?_
  refine r_iconst (pc := 285) (v := 5) dX5_all_285 (by decide) ?_
  refine r_iadd (pc := 286) dX5_all_286 ?_
  refine r_eqi (nI 81) (by decide) ?_
  refine r_aload_n (pc := 287) dX5_all_287 rfl ?_
  refine rm_getIe (pc := 288) (v := I11 mo 5) dX5_all_288 fl_X5_126_5 (MR_k hm) (fun _ _ => rfl) (by simp [up2_ne, show mo ≠ a by omega]) ?_
  refine rm_iast (pc := 291) dX5_all_291 ka za (by first | assumption | exact vp_in_lit rfl) ?_
  refine r_aload_n (pc := 292) dX5_all_292 rfl ?_
  refine r_iload_n (pc := 293) dX5_all_293 rfl ?_
  refine r_bipush (pc := 294) (v := 6) dX5_all_294 (by decide) ?_
  refine r_iadd (pc := 296) dX5_all_296 ?_
  refine r_eqi (nI 82) (by decide) ?_
  refine r_aload_n (pc := 297) dX5_all_297 rfl ?_
  refine rm_getIe (pc := 298) (v := I11 mo 6) dX5_all_298 fl_X5_171_5 (MR_k hm) (fun _ _ => rfl) (by simp [up2_ne, show mo ≠ a by omega]) ?_
  refine rm_iast (pc := 301) dX5_all_301 ka za (by first | assumption | exact vp_in_lit rfl) ?_
  refine r_aload_n (pc := 302) dX5_all_302 rfl ?_
  refine r_iload_n (pc := 303) dX5_all_303 rfl ?_
  refine r_bipush (pc := 304) (v := 7) dX5_all_304 (by decide) ?_
  refine r_iadd (pc := 306) dX5_all_306 ?_
  refine r_eqi (nI 83) (by decide) ?_
  refine r_aload_n (pc := 307) dX5_all_307 rfl ?_
  refine rm_getIe (pc := 308) (v := I11 mo 7) dX5_all_308 fl_X5_13_5 (MR_k hm) (fun _ _ => rfl) (by simp [up2_ne, show mo ≠ a by omega]) ?_
  refine rm_iast (pc := 311) dX5_all_311 ka za (by first | assumption | exact vp_in_lit rfl) ?_
  refine r_aload_n (pc := 312) dX5_all_312 rfl ?_
  refine r_iload_n (pc := 313) dX5_all_313 rfl ?_
  refine r_bipush (pc := 314) (v := 8) dX5_all_314 (by decide) ?_
  refine r_iadd (pc := 316) dX5_all_316 ?_
  refine r_eqi (nI 84) (by decide) ?_
  refine r_aload_n (pc := 317) dX5_all_317 rfl ?_
  refine rm_getIe (pc := 318) (v := I11 mo 8) dX5_all_318 fl_X5_223_5 (MR_k hm) (fun _ _ => rfl) (by simp [up2_ne, show mo ≠ a by omega]) ?_
  refine rm_iast (pc := 321) dX5_all_321 ka za (by first | assumption | exact vp_in_lit rfl) ?_
  refine r_return (pc := 322) rfl dX5_all_322 ⟨rfl, ?_⟩
  simp only [show Int32.toNatClampNeg (nI 76) = 76 from rfl, show Int32.toNatClampNeg (nI 77) = 77 from rfl, show Int32.toNatClampNeg (nI 78) = 78 from rfl, show Int32.toNatClampNeg (nI 79) = 79 from rfl, show Int32.toNatClampNeg (nI 80) = 80 from rfl, show Int32.toNatClampNeg (nI 81) = 81 from rfl, show Int32.toNatClampNeg (nI 82) = 82 from rfl, show Int32.toNatClampNeg (nI 83) = 83 from rfl, show Int32.toNatClampNeg (nI 84) = 84 from rfl]
  refine ⟨_, rfl, fun x hx => ?_, fun j hj => ?_⟩
  · rw [up2_ne hx, up2_ne hx, up2_ne hx, up2_ne hx, up2_ne hx, up2_ne hx, up2_ne hx, up2_ne hx, up2_ne hx]; exact e11 x hx
  · by_cases h : j < 76
    · rw [up2_self, va_up_ne _ _ (by omega), up2_self, va_up_ne _ _ (by omega), up2_self, va_up_ne _ _ (by omega), up2_self, va_up_ne _ _ (by omega), up2_self, va_up_ne _ _ (by omega), up2_self, va_up_ne _ _ (by omega), up2_self, va_up_ne _ _ (by omega), up2_self, va_up_ne _ _ (by omega), up2_self, va_up_ne _ _ (by omega)]; exact g11 j h
    · have hc : j = 76 ∨ j = 77 ∨ j = 78 ∨ j = 79 ∨ j = 80 ∨ j = 81 ∨ j = 82 ∨ j = 83 ∨ j = 84 := by omega
      have em : I11 mo = I mo := e11 mo (by omega)
      simp only [up2_self]
      rcases hc with rfl | rfl | rfl | rfl | rfl | rfl | rfl | rfl | rfl
      · simp (decide := true) only [va_up, if_true, if_false, em]; exact (pk_c (σ := sM I mo) (k := 0)).symm
      · simp (decide := true) only [va_up, if_true, if_false, em]; exact (pk_c (σ := sM I mo) (k := 1)).symm
      · simp (decide := true) only [va_up, if_true, if_false, em]; exact (pk_c (σ := sM I mo) (k := 2)).symm
      · simp (decide := true) only [va_up, if_true, if_false, em]; exact (pk_c (σ := sM I mo) (k := 3)).symm
      · simp (decide := true) only [va_up, if_true, if_false, em]; exact (pk_c (σ := sM I mo) (k := 4)).symm
      · simp (decide := true) only [va_up, if_true, if_false, em]; exact (pk_c (σ := sM I mo) (k := 5)).symm
      · simp (decide := true) only [va_up, if_true, if_false, em]; exact (pk_c (σ := sM I mo) (k := 6)).symm
      · simp (decide := true) only [va_up, if_true, if_false, em]; exact (pk_c (σ := sM I mo) (k := 7)).symm
      · simp (decide := true) only [va_up, if_true, if_false, em]; exact (pk_c (σ := sM I mo) (k := 8)).symm
theorem ct_X5_all1 {M0 : PM} {mo : Nat} {I : Nat → Nat → Int32} {L : Nat → Nat → Int64} (hm : MR M0 mo) (a : Nat) (ka : mK M0 a = (2, 0)) (za : mZ M0 a = 90) (ha : mo + 12 < a) : Ct (YX5_all, (1, 26, 0, 0), qv (fun M' => ∃ I', M' = wIL M0 I' L ∧ (∀ k, k < 8 → ∀ i, i < 8 → I' (mo + 2 + k) i = I a (8 * k + i)) ∧ (∀ k, k < 3 → ∀ i, i < 4 → I' (mo + 10 + k) i = I a (64 + 4 * k + i)) ∧ (∀ k, k < 9 → I' mo k = I a (76 + k)) ∧ (∀ k, 9 ≤ k → I' mo k = I mo k) ∧ (∀ x, x ≠ mo → (x < mo + 2 ∨ mo + 12 < x) → I' x = I x)), noX) [.ref mo, .ref a, .int 1] (wIL M0 I L) := by
  refine ct_of [some (.ref mo), some (.ref a), some (.int 1), none] rfl rfl rfl (Nat.le_of_ble_eq_true rfl) rfl rfl ?_
  have e0 : ∀ x, (x < mo + 2 ∨ mo + 2 + 0 ≤ x) → I x = I x := fun _ _ => rfl
  have g0 : ∀ k, k < 0 → ∀ i, i < 8 → I (mo + 2 + k) i = I a (8 * k + i) := fun k h => absurd h (by omega)
  refine r_aload_n (pc := 0) dX5_all_0 rfl ?_
  refine r_aload_n (pc := 1) dX5_all_1 rfl ?_
  refine r_getR (pc := 2) dX5_all_2 fl_X5_23_5 (MR_k hm) (fun _ _ => rfl) (MR_r11 hm) ?_
  refine r_bipush (pc := 5) (v := 8) dX5_all_5 (by decide) ?_
  refine r_aload_n (pc := 7) dX5_all_7 rfl ?_
  refine r_iconst (pc := 8) (v := 0) dX5_all_8 (by decide) ?_
  refine r_iload_n (pc := 9) dX5_all_9 rfl ?_
  refine r_o6 (pc := 10) (bc' := 0) (bs' := 0) (ct_X5_keeps1 (I := I) hm (mo + 2) a 8 0 8 (MR_k11 hm) (MR_z11 hm) (by decide) (by decide) ka za (by decide) (by omega)) k_X5_219_5 dX5_all_10 (MR_k hm) (Nat.le_of_ble_eq_true rfl) ⟨Nat.le_of_ble_eq_true rfl, Nat.le_of_ble_eq_true rfl⟩ ⟨Nat.le_of_ble_eq_true rfl, Nat.le_of_ble_eq_true rfl⟩ (r_ci fun r10 M10 p10 => ?_) nox
  obtain ⟨rfl, I1, rfl, s1_0, s2_0⟩ := p10
  obtain ⟨e1, g1⟩ := back_g (m := 0) ha (by decide) e0 g0 s1_0 s2_0
  refine r_eqi (nI 8) (by decide) ?_
  refine r_istore3 (pc := 13) dX5_all_13 rfl ?_
  refine r_aload_n (pc := 14) dX5_all_14 rfl ?_
  refine r_aload_n (pc := 15) dX5_all_15 rfl ?_
  refine r_getR (pc := 16) dX5_all_16 fl_X5_26_5 (MR_k hm) (fun _ _ => rfl) (MR_r12 hm) ?_
  refine r_bipush (pc := 19) (v := 8) dX5_all_19 (by decide) ?_
  refine r_aload_n (pc := 21) dX5_all_21 rfl ?_
  refine r_iload_n (pc := 22) dX5_all_22 rfl ?_
  refine r_iload_n (pc := 23) dX5_all_23 rfl ?_
  refine r_o6 (pc := 24) (bc' := 0) (bs' := 0) (ct_X5_keeps1 (I := I1) hm (mo + 3) a 8 8 8 (MR_k12 hm) (MR_z12 hm) (by decide) (by decide) ka za (by decide) (by omega)) k_X5_219_5 dX5_all_24 (MR_k hm) (Nat.le_of_ble_eq_true rfl) ⟨Nat.le_of_ble_eq_true rfl, Nat.le_of_ble_eq_true rfl⟩ ⟨Nat.le_of_ble_eq_true rfl, Nat.le_of_ble_eq_true rfl⟩ (r_ci fun r24 M24 p24 => ?_) nox
  obtain ⟨rfl, I2, rfl, s1_1, s2_1⟩ := p24
  obtain ⟨e2, g2⟩ := back_g (m := 1) ha (by decide) e1 g1 s1_1 s2_1
  refine r_eqi (nI 16) (by decide) ?_
  refine r_istore3 (pc := 27) dX5_all_27 rfl ?_
  refine r_aload_n (pc := 28) dX5_all_28 rfl ?_
  refine r_aload_n (pc := 29) dX5_all_29 rfl ?_
  refine r_getR (pc := 30) dX5_all_30 fl_X5_29_5 (MR_k hm) (fun _ _ => rfl) (MR_r13 hm) ?_
  refine r_bipush (pc := 33) (v := 8) dX5_all_33 (by decide) ?_
  refine r_aload_n (pc := 35) dX5_all_35 rfl ?_
  refine r_iload_n (pc := 36) dX5_all_36 rfl ?_
  refine r_iload_n (pc := 37) dX5_all_37 rfl ?_
  refine r_o6 (pc := 38) (bc' := 0) (bs' := 0) (ct_X5_keeps1 (I := I2) hm (mo + 4) a 8 16 8 (MR_k13 hm) (MR_z13 hm) (by decide) (by decide) ka za (by decide) (by omega)) k_X5_219_5 dX5_all_38 (MR_k hm) (Nat.le_of_ble_eq_true rfl) ⟨Nat.le_of_ble_eq_true rfl, Nat.le_of_ble_eq_true rfl⟩ ⟨Nat.le_of_ble_eq_true rfl, Nat.le_of_ble_eq_true rfl⟩ (r_ci fun r38 M38 p38 => ?_) nox
  obtain ⟨rfl, I3, rfl, s1_2, s2_2⟩ := p38
  obtain ⟨e3, g3⟩ := back_g (m := 2) ha (by decide) e2 g2 s1_2 s2_2
  refine r_eqi (nI 24) (by decide) ?_
  refine r_istore3 (pc := 41) dX5_all_41 rfl ?_
  refine r_aload_n (pc := 42) dX5_all_42 rfl ?_
  refine r_aload_n (pc := 43) dX5_all_43 rfl ?_
  refine r_getR (pc := 44) dX5_all_44 fl_X5_32_5 (MR_k hm) (fun _ _ => rfl) (MR_r14 hm) ?_
  refine r_bipush (pc := 47) (v := 8) dX5_all_47 (by decide) ?_
  refine r_aload_n (pc := 49) dX5_all_49 rfl ?_
  refine r_iload_n (pc := 50) dX5_all_50 rfl ?_
  refine r_iload_n (pc := 51) dX5_all_51 rfl ?_
  refine r_o6 (pc := 52) (bc' := 0) (bs' := 0) (ct_X5_keeps1 (I := I3) hm (mo + 5) a 8 24 8 (MR_k14 hm) (MR_z14 hm) (by decide) (by decide) ka za (by decide) (by omega)) k_X5_219_5 dX5_all_52 (MR_k hm) (Nat.le_of_ble_eq_true rfl) ⟨Nat.le_of_ble_eq_true rfl, Nat.le_of_ble_eq_true rfl⟩ ⟨Nat.le_of_ble_eq_true rfl, Nat.le_of_ble_eq_true rfl⟩ (r_ci fun r52 M52 p52 => ?_) nox
  obtain ⟨rfl, I4, rfl, s1_3, s2_3⟩ := p52
  obtain ⟨e4, g4⟩ := back_g (m := 3) ha (by decide) e3 g3 s1_3 s2_3
  refine r_eqi (nI 32) (by decide) ?_
  refine r_istore3 (pc := 55) dX5_all_55 rfl ?_
  refine r_aload_n (pc := 56) dX5_all_56 rfl ?_
  refine r_aload_n (pc := 57) dX5_all_57 rfl ?_
  refine r_getR (pc := 58) dX5_all_58 fl_X5_35_5 (MR_k hm) (fun _ _ => rfl) (MR_r15 hm) ?_
  refine r_bipush (pc := 61) (v := 8) dX5_all_61 (by decide) ?_
  refine r_aload_n (pc := 63) dX5_all_63 rfl ?_
  refine r_iload_n (pc := 64) dX5_all_64 rfl ?_
  refine r_iload_n (pc := 65) dX5_all_65 rfl ?_
  refine r_o6 (pc := 66) (bc' := 0) (bs' := 0) (ct_X5_keeps1 (I := I4) hm (mo + 6) a 8 32 8 (MR_k15 hm) (MR_z15 hm) (by decide) (by decide) ka za (by decide) (by omega)) k_X5_219_5 dX5_all_66 (MR_k hm) (Nat.le_of_ble_eq_true rfl) ⟨Nat.le_of_ble_eq_true rfl, Nat.le_of_ble_eq_true rfl⟩ ⟨Nat.le_of_ble_eq_true rfl, Nat.le_of_ble_eq_true rfl⟩ (r_ci fun r66 M66 p66 => ?_) nox
  obtain ⟨rfl, I5, rfl, s1_4, s2_4⟩ := p66
  obtain ⟨e5, g5⟩ := back_g (m := 4) ha (by decide) e4 g4 s1_4 s2_4
  refine r_eqi (nI 40) (by decide) ?_
  refine r_istore3 (pc := 69) dX5_all_69 rfl ?_
  refine r_aload_n (pc := 70) dX5_all_70 rfl ?_
  refine r_aload_n (pc := 71) dX5_all_71 rfl ?_
  refine r_getR (pc := 72) dX5_all_72 fl_X5_38_5 (MR_k hm) (fun _ _ => rfl) (MR_r16 hm) ?_
  refine r_bipush (pc := 75) (v := 8) dX5_all_75 (by decide) ?_
  refine r_aload_n (pc := 77) dX5_all_77 rfl ?_
  refine r_iload_n (pc := 78) dX5_all_78 rfl ?_
  refine r_iload_n (pc := 79) dX5_all_79 rfl ?_
  refine r_o6 (pc := 80) (bc' := 0) (bs' := 0) (ct_X5_keeps1 (I := I5) hm (mo + 7) a 8 40 8 (MR_k16 hm) (MR_z16 hm) (by decide) (by decide) ka za (by decide) (by omega)) k_X5_219_5 dX5_all_80 (MR_k hm) (Nat.le_of_ble_eq_true rfl) ⟨Nat.le_of_ble_eq_true rfl, Nat.le_of_ble_eq_true rfl⟩ ⟨Nat.le_of_ble_eq_true rfl, Nat.le_of_ble_eq_true rfl⟩ (r_ci fun r80 M80 p80 => ?_) nox
  obtain ⟨rfl, I6, rfl, s1_5, s2_5⟩ := p80
  obtain ⟨e6, g6⟩ := back_g (m := 5) ha (by decide) e5 g5 s1_5 s2_5
  refine r_eqi (nI 48) (by decide) ?_
  refine r_istore3 (pc := 83) dX5_all_83 rfl ?_
  refine r_aload_n (pc := 84) dX5_all_84 rfl ?_
  refine r_aload_n (pc := 85) dX5_all_85 rfl ?_
  refine r_getR (pc := 86) dX5_all_86 fl_X5_41_5 (MR_k hm) (fun _ _ => rfl) (MR_r17 hm) ?_
  refine r_bipush (pc := 89) (v := 8) dX5_all_89 (by decide) ?_
  refine r_aload_n (pc := 91) dX5_all_91 rfl ?_
  refine r_iload_n (pc := 92) dX5_all_92 rfl ?_
  refine r_iload_n (pc := 93) dX5_all_93 rfl ?_
  refine r_o6 (pc := 94) (bc' := 0) (bs' := 0) (ct_X5_keeps1 (I := I6) hm (mo + 8) a 8 48 8 (MR_k17 hm) (MR_z17 hm) (by decide) (by decide) ka za (by decide) (by omega)) k_X5_219_5 dX5_all_94 (MR_k hm) (Nat.le_of_ble_eq_true rfl) ⟨Nat.le_of_ble_eq_true rfl, Nat.le_of_ble_eq_true rfl⟩ ⟨Nat.le_of_ble_eq_true rfl, Nat.le_of_ble_eq_true rfl⟩ (r_ci fun r94 M94 p94 => ?_) nox
  obtain ⟨rfl, I7, rfl, s1_6, s2_6⟩ := p94
  obtain ⟨e7, g7⟩ := back_g (m := 6) ha (by decide) e6 g6 s1_6 s2_6
  refine r_eqi (nI 56) (by decide) ?_
  refine r_istore3 (pc := 97) dX5_all_97 rfl ?_
  refine r_aload_n (pc := 98) dX5_all_98 rfl ?_
  refine r_aload_n (pc := 99) dX5_all_99 rfl ?_
  refine r_getR (pc := 100) dX5_all_100 fl_X5_44_5 (MR_k hm) (fun _ _ => rfl) (MR_r18 hm) ?_
  refine r_bipush (pc := 103) (v := 8) dX5_all_103 (by decide) ?_
  refine r_aload_n (pc := 105) dX5_all_105 rfl ?_
  refine r_iload_n (pc := 106) dX5_all_106 rfl ?_
  refine r_iload_n (pc := 107) dX5_all_107 rfl ?_
  refine r_o6 (pc := 108) (bc' := 0) (bs' := 0) (ct_X5_keeps1 (I := I7) hm (mo + 9) a 8 56 8 (MR_k18 hm) (MR_z18 hm) (by decide) (by decide) ka za (by decide) (by omega)) k_X5_219_5 dX5_all_108 (MR_k hm) (Nat.le_of_ble_eq_true rfl) ⟨Nat.le_of_ble_eq_true rfl, Nat.le_of_ble_eq_true rfl⟩ ⟨Nat.le_of_ble_eq_true rfl, Nat.le_of_ble_eq_true rfl⟩ (r_ci fun r108 M108 p108 => ?_) nox
  obtain ⟨rfl, I8, rfl, s1_7, s2_7⟩ := p108
  obtain ⟨e8, g8⟩ := back_g (m := 7) ha (by decide) e7 g7 s1_7 s2_7
  have h8 : ∀ k, k < 0 → ∀ i, i < 4 → I8 (mo + 10 + k) i = I a (64 + 4 * k + i) := fun k h => absurd h (by omega)
  have e8 : ∀ x, (x < mo + 2 ∨ mo + 10 + 0 ≤ x) → I8 x = I x := e8
  refine r_eqi (nI 64) (by decide) ?_
  refine r_istore3 (pc := 111) dX5_all_111 rfl ?_
  refine r_aload_n (pc := 112) dX5_all_112 rfl ?_
  refine r_aload_n (pc := 113) dX5_all_113 rfl ?_
  refine r_getR (pc := 114) dX5_all_114 fl_X5_47_5 (MR_k hm) (fun _ _ => rfl) (MR_r19 hm) ?_
  refine r_iconst (pc := 117) (v := 4) dX5_all_117 (by decide) ?_
  refine r_aload_n (pc := 118) dX5_all_118 rfl ?_
  refine r_iload_n (pc := 119) dX5_all_119 rfl ?_
  refine r_iload_n (pc := 120) dX5_all_120 rfl ?_
  refine r_o6 (pc := 121) (bc' := 0) (bs' := 0) (ct_X5_keeps1 (I := I8) hm (mo + 10) a 4 64 4 (MR_k19 hm) (MR_z19 hm) (by decide) (by decide) ka za (by decide) (by omega)) k_X5_219_5 dX5_all_121 (MR_k hm) (Nat.le_of_ble_eq_true rfl) ⟨Nat.le_of_ble_eq_true rfl, Nat.le_of_ble_eq_true rfl⟩ ⟨Nat.le_of_ble_eq_true rfl, Nat.le_of_ble_eq_true rfl⟩ (r_ci fun r121 M121 p121 => ?_) nox
  obtain ⟨rfl, I9, rfl, s1_8, s2_8⟩ := p121
  obtain ⟨e9, g9, h9⟩ := back_h (m := 0) ha (by decide) e8 g8 h8 s1_8 s2_8
  refine r_eqi (nI 68) (by decide) ?_
  refine r_istore3 (pc := 124) dX5_all_124 rfl ?_
  refine r_aload_n (pc := 125) dX5_all_125 rfl ?_
  refine r_aload_n (pc := 126) dX5_all_126 rfl ?_
  refine r_getR (pc := 127) dX5_all_127 fl_X5_50_5 (MR_k hm) (fun _ _ => rfl) (MR_r20 hm) ?_
  refine r_iconst (pc := 130) (v := 4) dX5_all_130 (by decide) ?_
  refine r_aload_n (pc := 131) dX5_all_131 rfl ?_
  refine r_iload_n (pc := 132) dX5_all_132 rfl ?_
  refine r_iload_n (pc := 133) dX5_all_133 rfl ?_
  refine r_o6 (pc := 134) (bc' := 0) (bs' := 0) (ct_X5_keeps1 (I := I9) hm (mo + 11) a 4 68 4 (MR_k20 hm) (MR_z20 hm) (by decide) (by decide) ka za (by decide) (by omega)) k_X5_219_5 dX5_all_134 (MR_k hm) (Nat.le_of_ble_eq_true rfl) ⟨Nat.le_of_ble_eq_true rfl, Nat.le_of_ble_eq_true rfl⟩ ⟨Nat.le_of_ble_eq_true rfl, Nat.le_of_ble_eq_true rfl⟩ (r_ci fun r134 M134 p134 => ?_) nox
  obtain ⟨rfl, I10, rfl, s1_9, s2_9⟩ := p134
  obtain ⟨e10, g10, h10⟩ := back_h (m := 1) ha (by decide) e9 g9 h9 s1_9 s2_9
  refine r_eqi (nI 72) (by decide) ?_
  refine r_istore3 (pc := 137) dX5_all_137 rfl ?_
  refine r_aload_n (pc := 138) dX5_all_138 rfl ?_
  refine r_aload_n (pc := 139) dX5_all_139 rfl ?_
  refine r_getR (pc := 140) dX5_all_140 fl_X5_53_5 (MR_k hm) (fun _ _ => rfl) (MR_r21 hm) ?_
  refine r_iconst (pc := 143) (v := 4) dX5_all_143 (by decide) ?_
  refine r_aload_n (pc := 144) dX5_all_144 rfl ?_
  refine r_iload_n (pc := 145) dX5_all_145 rfl ?_
  refine r_iload_n (pc := 146) dX5_all_146 rfl ?_
  refine r_o6 (pc := 147) (bc' := 0) (bs' := 0) (ct_X5_keeps1 (I := I10) hm (mo + 12) a 4 72 4 (MR_k21 hm) (MR_z21 hm) (by decide) (by decide) ka za (by decide) (by omega)) k_X5_219_5 dX5_all_147 (MR_k hm) (Nat.le_of_ble_eq_true rfl) ⟨Nat.le_of_ble_eq_true rfl, Nat.le_of_ble_eq_true rfl⟩ ⟨Nat.le_of_ble_eq_true rfl, Nat.le_of_ble_eq_true rfl⟩ (r_ci fun r147 M147 p147 => ?_) nox
  obtain ⟨rfl, I11, rfl, s1_10, s2_10⟩ := p147
  obtain ⟨e11, g11, h11⟩ := back_h (m := 2) ha (by decide) e10 g10 h10 s1_10 s2_10
  refine r_eqi (nI 76) (by decide) ?_
  refine r_istore3 (pc := 150) dX5_all_150 rfl ?_
  refine r_iload_n (pc := 151) dX5_all_151 rfl ?_
  refine r_if_eq (pc := 152) 240 dX5_all_152 rfl (fun hno => absurd hno (by decide)) (fun _ => ?_)
  refine r_aload_n (pc := 155) dX5_all_155 rfl ?_
  refine r_aload_n (pc := 156) dX5_all_156 rfl ?_
  refine r_iload_n (pc := 157) dX5_all_157 rfl ?_
  refine rm_iald (pc := 158) dX5_all_158 ka za (by first | assumption | exact vp_in_lit rfl) ?_
  refine rm_putI (pc := 159) dX5_all_159 fl_X5_117_5 (MR_k hm) rfl rfl ?_
  refine r_aload_n (pc := 162) dX5_all_162 rfl ?_
  refine r_aload_n (pc := 163) dX5_all_163 rfl ?_
  refine r_iload_n (pc := 164) dX5_all_164 rfl ?_
  refine r_iconst (pc := 165) (v := 1) dX5_all_165 (by decide) ?_
  refine r_iadd (pc := 166) dX5_all_166 ?_
  refine r_eqi (nI 77) (by decide) ?_
  refine rm_ialde (pc := 167) (f := I11 a) dX5_all_167 ka za (by first | assumption | exact vp_in_lit rfl) (by simp [up2_ne, show a ≠ mo by omega]) ?_
  refine rm_putI (pc := 168) dX5_all_168 fl_X5_120_5 (MR_k hm) rfl rfl ?_
  refine r_aload_n (pc := 171) dX5_all_171 rfl ?_
  refine r_aload_n (pc := 172) dX5_all_172 rfl ?_
  refine r_iload_n (pc := 173) dX5_all_173 rfl ?_
  refine r_iconst (pc := 174) (v := 2) dX5_all_174 (by decide) ?_
  refine r_iadd (pc := 175) dX5_all_175 ?_
  refine r_eqi (nI 78) (by decide) ?_
  refine rm_ialde (pc := 176) (f := I11 a) dX5_all_176 ka za (by first | assumption | exact vp_in_lit rfl) (by simp [up2_ne, show a ≠ mo by omega]) ?_
  refine rm_putI (pc := 177) dX5_all_177 fl_X5_162_5 (MR_k hm) rfl rfl ?_
  refine r_aload_n (pc := 180) dX5_all_180 rfl ?_
  refine r_aload_n (pc := 181) dX5_all_181 rfl ?_
  refine r_iload_n (pc := 182) dX5_all_182 rfl ?_
  refine r_iconst (pc := 183) (v := 3) dX5_all_183 (by decide) ?_
  refine r_iadd (pc := 184) dX5_all_184 ?_
  refine r_eqi (nI 79) (by decide) ?_
  refine rm_ialde (pc := 185) (f := I11 a) dX5_all_185 ka za (by first | assumption | exact vp_in_lit rfl) (by simp [up2_ne, show a ≠ mo by omega]) ?_
  refine rm_putI (pc := 186) dX5_all_186 fl_X5_7_5 (MR_k hm) rfl rfl ?_
  refine r_aload_n (pc := 189) dX5_all_189 rfl ?_
  refine r_aload_n (pc := 190) dX5_all_190 rfl ?_
  refine r_iload_n (pc := 191) dX5_all_191 rfl ?_
  refine r_iconst (pc := 192) (v := 4) dX5_all_192 (by decide) ?_
  refine r_iadd (pc := 193) dX5_all_193 ?_
  refine r_eqi (nI 80) (by decide) ?_
  refine rm_ialde (pc := 194) (f := I11 a) dX5_all_194 ka za (by first | assumption | exact vp_in_lit rfl) (by simp [up2_ne, show a ≠ mo by omega]) ?_
  refine rm_putI (pc := 195) dX5_all_195 fl_X5_123_5 (MR_k hm) rfl rfl ?_
  refine r_aload_n (pc := 198) dX5_all_198 rfl ?_
  refine r_aload_n (pc := 199) dX5_all_199 rfl ?_
  refine r_iload_n (pc := 200) dX5_all_200 rfl ?_
  refine r_iconst (pc := 201) (v := 5) dX5_all_201 (by decide) ?_
  refine r_iadd (pc := 202) dX5_all_202 ?_
  refine r_eqi (nI 81) (by decide) ?_
  refine rm_ialde (pc := 203) (f := I11 a) dX5_all_203 ka za (by first | assumption | exact vp_in_lit rfl) (by simp [up2_ne, show a ≠ mo by omega]) ?_
  refine rm_putI (pc := 204) dX5_all_204 fl_X5_126_5 (MR_k hm) rfl rfl ?_
  refine r_aload_n (pc := 207) dX5_all_207 rfl ?_
  refine r_aload_n (pc := 208) dX5_all_208 rfl ?_
  refine r_iload_n (pc := 209) dX5_all_209 rfl ?_
  refine r_bipush (pc := 210) (v := 6) dX5_all_210 (by decide) ?_
  refine r_iadd (pc := 212) dX5_all_212 ?_
  refine r_eqi (nI 82) (by decide) ?_
  refine rm_ialde (pc := 213) (f := I11 a) dX5_all_213 ka za (by first | assumption | exact vp_in_lit rfl) (by simp [up2_ne, show a ≠ mo by omega]) ?_
  refine rm_putI (pc := 214) dX5_all_214 fl_X5_171_5 (MR_k hm) rfl rfl ?_
  refine r_aload_n (pc := 217) dX5_all_217 rfl ?_
  refine r_aload_n (pc := 218) dX5_all_218 rfl ?_
  refine r_iload_n (pc := 219) dX5_all_219 rfl ?_
  refine r_bipush (pc := 220) (v := 7) dX5_all_220 (by decide) ?_
  refine r_iadd (pc := 222) dX5_all_222 ?_
  refine r_eqi (nI 83) (by decide) ?_
  refine rm_ialde (pc := 223) (f := I11 a) dX5_all_223 ka za (by first | assumption | exact vp_in_lit rfl) (by simp [up2_ne, show a ≠ mo by omega]) ?_
  refine rm_putI (pc := 224) dX5_all_224 fl_X5_13_5 (MR_k hm) rfl rfl ?_
  refine r_aload_n (pc := 227) dX5_all_227 rfl ?_
  refine r_aload_n (pc := 228) dX5_all_228 rfl ?_
  refine r_iload_n (pc := 229) dX5_all_229 rfl ?_
  refine r_bipush (pc := 230) (v := 8) dX5_all_230 (by decide) ?_
  refine r_iadd (pc := 232) dX5_all_232 ?_
  refine r_eqi (nI 84) (by decide) ?_
  refine rm_ialde (pc := 233) (f := I11 a) dX5_all_233 ka za (by first | assumption | exact vp_in_lit rfl) (by simp [up2_ne, show a ≠ mo by omega]) ?_
  refine rm_putI (pc := 234) dX5_all_234 fl_X5_223_5 (MR_k hm) rfl rfl ?_
  refine r_goto (pc := 237) 322 dX5_all_237 rfl ?_
  refine r_return (pc := 322) rfl dX5_all_322 ⟨rfl, ?_⟩
  simp only [show Int32.toNatClampNeg (nI 76) = 76 from rfl, show Int32.toNatClampNeg (nI 77) = 77 from rfl, show Int32.toNatClampNeg (nI 78) = 78 from rfl, show Int32.toNatClampNeg (nI 79) = 79 from rfl, show Int32.toNatClampNeg (nI 80) = 80 from rfl, show Int32.toNatClampNeg (nI 81) = 81 from rfl, show Int32.toNatClampNeg (nI 82) = 82 from rfl, show Int32.toNatClampNeg (nI 83) = 83 from rfl, show Int32.toNatClampNeg (nI 84) = 84 from rfl]
  refine ⟨_, rfl, fun k hk i hi => ?_, fun k hk i hi => ?_, fun k hk => ?_, fun k hk => ?_, fun x hx hx2 => ?_⟩
  · rw [up2_ne (by omega), up2_ne (by omega), up2_ne (by omega), up2_ne (by omega), up2_ne (by omega), up2_ne (by omega), up2_ne (by omega), up2_ne (by omega), up2_ne (by omega)]; exact g11 k hk i hi
  · rw [up2_ne (by omega), up2_ne (by omega), up2_ne (by omega), up2_ne (by omega), up2_ne (by omega), up2_ne (by omega), up2_ne (by omega), up2_ne (by omega), up2_ne (by omega)]; exact h11 k hk i hi
  · have hc : k = 0 ∨ k = 1 ∨ k = 2 ∨ k = 3 ∨ k = 4 ∨ k = 5 ∨ k = 6 ∨ k = 7 ∨ k = 8 := by omega
    have em : I11 a = I a := e11 a (by omega)
    simp only [up2_self]
    rcases hc with rfl | rfl | rfl | rfl | rfl | rfl | rfl | rfl | rfl
    · simp (decide := true) only [va_up, if_true, if_false, em]
    · simp (decide := true) only [va_up, if_true, if_false, em]
    · simp (decide := true) only [va_up, if_true, if_false, em]
    · simp (decide := true) only [va_up, if_true, if_false, em]
    · simp (decide := true) only [va_up, if_true, if_false, em]
    · simp (decide := true) only [va_up, if_true, if_false, em]
    · simp (decide := true) only [va_up, if_true, if_false, em]
    · simp (decide := true) only [va_up, if_true, if_false, em]
    · simp (decide := true) only [va_up, if_true, if_false, em]
  · rw [up2_self, va_up_ne _ _ (by omega), up2_self, va_up_ne _ _ (by omega), up2_self, va_up_ne _ _ (by omega), up2_self, va_up_ne _ _ (by omega), up2_self, va_up_ne _ _ (by omega), up2_self, va_up_ne _ _ (by omega), up2_self, va_up_ne _ _ (by omega), up2_self, va_up_ne _ _ (by omega), up2_self, va_up_ne _ _ (by omega), e11 mo (by omega)]
  · rw [up2_ne hx, up2_ne hx, up2_ne hx, up2_ne hx, up2_ne hx, up2_ne hx, up2_ne hx, up2_ne hx, up2_ne hx]; exact e11 x (by omega)
theorem sM_eq {I I' : Nat → Nat → Int32} {mo k : Nat} (h0 : I' mo k = I mo k) (h1 : ∀ o, isAd k o → I' (mo + o) = I (mo + o)) : sM I' mo k = sM I mo k := by
  unfold sM
  split
  · rw [h0]
  · split
    · exact h1 _ (Or.inl ⟨by omega, by omega, rfl⟩)
    · split
      · rw [h0]
      · split
        · exact h1 _ (Or.inr (Or.inl ⟨by omega, by omega, rfl⟩))
        · split
          · exact h1 _ (Or.inr (Or.inr ⟨by omega, rfl⟩))
          · split
            · rw [h0]
            · rfl
theorem un_pk {σ τ : cS} {k i : Nat} (hk : k < 9 ∨ (11 ≤ k ∧ k ≤ 21)) (hi : i < lnF k) : unC (pkC σ) τ k i = σ k i := by
  unfold unC
  by_cases h1 : k < 9
  · rw [if_pos h1]
    have : i = 0 := by
      have e : lnF k = 1 := by unfold lnF; rw [if_pos (by omega)]
      omega
    subst this
    exact pk_c
  · rw [if_neg h1]
    by_cases h2 : 11 ≤ k ∧ k ≤ 18
    · rw [if_pos h2]
      have e : lnF k = 8 := by unfold lnF; rw [if_neg (by omega), if_pos (by omega)]
      have := pk_a (σ := σ) (m := k - 11) (i := i) (by omega) (by omega)
      rw [show 11 + (k - 11) = k by omega] at this
      exact this
    · rw [if_neg h2, if_pos (by omega)]
      have e : lnF k = 4 := by unfold lnF; rw [if_neg (by omega), if_neg (by omega), if_pos (by omega)]
      have := pk_b (σ := σ) (m := k - 19) (i := i) (by omega) (by omega)
      rw [show 19 + (k - 19) = k by omega] at this
      exact this
/-- behind 'all' the way back -/
theorem back_S {I2 I3 : Nat → Nat → Int32} {mo a : Nat} {τ : cS} (b1 : ∀ k, k < 8 → ∀ i, i < 8 → I3 (mo + 2 + k) i = I2 a (8 * k + i)) (b2 : ∀ k, k < 3 → ∀ i, i < 4 → I3 (mo + 10 + k) i = I2 a (64 + 4 * k + i)) (b3 : ∀ k, k < 9 → I3 mo k = I2 a (76 + k)) (b4 : ∀ k, 9 ≤ k → I3 mo k = I2 mo k) (b5 : ∀ x, x ≠ mo → (x < mo + 2 ∨ mo + 12 < x) → I3 x = I2 x) :
    (∀ k, (k < 9 ∨ (11 ≤ k ∧ k ≤ 21)) → ∀ i, i < lnF k → sM I3 mo k i = unC (I2 a) τ k i) ∧ (∀ k, ¬ (k < 9 ∨ (11 ≤ k ∧ k ≤ 21)) → sM I3 mo k = sM I2 mo k) := by
  refine ⟨fun k hk i hi => ?_, fun k hk => sM_eq (b4 k (by omega)) (fun o ho => b5 _ ?_ ?_)⟩
  · unfold unC
    by_cases h1 : k < 9
    · rw [if_pos h1, sM_sc (Or.inl (by omega)), b3 k h1]
    · rw [if_neg h1]
      by_cases h2 : 11 ≤ k ∧ k ≤ 18
      · rw [if_pos h2, sM_ar (o := k - 9) (Or.inl ⟨by omega, by omega, rfl⟩)]
        have e : lnF k = 8 := by unfold lnF; rw [if_neg (by omega), if_pos (by omega)]
        have := b1 (k - 11) (by omega) i (by omega)
        rw [show mo + 2 + (k - 11) = mo + (k - 9) by omega] at this
        exact this
      · rw [if_neg h2, if_pos (by omega), sM_ar (o := k - 9) (Or.inl ⟨by omega, by omega, rfl⟩)]
        have e : lnF k = 4 := by unfold lnF; rw [if_neg (by omega), if_neg (by omega), if_pos (by omega)]
        have := b2 (k - 19) (by omega) i (by omega)
        rw [show mo + 10 + (k - 19) = mo + (k - 9) by omega] at this
        exact this
  · rcases ho with ⟨h1, h2, h3⟩ | ⟨h1, h2, h3⟩ | ⟨h1, h3⟩ <;> omega
  · rcases ho with ⟨h1, h2, h3⟩ | ⟨h1, h2, h3⟩ | ⟨h1, h3⟩ <;> omega
theorem un_c {f g : Nat → Int32} {τ : cS} {k i : Nat} (hk : k < 9 ∨ (11 ≤ k ∧ k ≤ 21)) (hi : i < lnF k) (h : ∀ j, j < 85 → f j = g j) : unC f τ k i = unC g τ k i := by
  unfold unC
  by_cases h1 : k < 9
  · rw [if_pos h1, if_pos h1, h _ (by omega)]
  · rw [if_neg h1, if_neg h1]
    by_cases h2 : 11 ≤ k ∧ k ≤ 18
    · have e : lnF k = 8 := by unfold lnF; rw [if_neg (by omega), if_pos (by omega)]
      rw [if_pos h2, if_pos h2, h _ (by omega)]
    · have e : lnF k = 4 := by unfold lnF; rw [if_neg (by omega), if_neg (by omega), if_pos (by omega)]
      rw [if_neg h2, if_neg h2, if_pos (by omega), if_pos (by omega), h _ (by omega)]
theorem up2_c {σ τ : cS} {k a i : Nat} {v : Int32} (h : σ k = τ k) : up2 σ a i v k = up2 τ a i v k := by
  by_cases e : k = a
  · subst e; rw [up2_self, up2_self, h]
  · rw [up2_ne e, up2_ne e, h]
theorem judge_c {f : Nat → Int32} {t : Nat} : ∀ (n i : Nat) (σ τ : cS), (∀ k, k ≤ 21 → σ k = τ k) → judgeL f t n i σ = judgeL f t n i τ
  | 0, _, _, _, _ => rfl
  | n + 1, i, σ, τ, h => by
    have hc : carriesS σ (f (2 * i)) t (f (2 * i + 1)) = carriesS σ (f (2 * i)) t (f (2 * i + 1)) := rfl
    have e : ∀ k, k ≤ 21 → carriesS σ (f (2 * i)) t (f (2 * i + 1)) k = carriesS τ (f (2 * i)) t (f (2 * i + 1)) k := by
      intro k hk
      unfold carriesS
      rw [h 14 (by omega), h 18 (by omega), h 12 (by omega)]
      exact up2_c (up2_c (up2_c (h k hk)))
    have ew : wrongS σ (f (2 * i)) t (nearC (f (2 * i + 1))) = wrongS τ (f (2 * i)) t (nearC (f (2 * i + 1))) := by
      unfold wrongS farS farBS
      rw [h 15 (by omega), h 14 (by omega), h 3 (by omega), h 4 (by omega), h 5 (by omega), h 11 (by omega), h 12 (by omega), h 13 (by omega), h 6 (by omega), h 17 (by omega), h 18 (by omega), h 16 (by omega)]
    rw [judgeL, judgeL, judge_c n (i + 1) _ _ e, ew]
    unfold mnP
    rw [h 1 (by omega)]
theorem wz_1 {S : ST} {s : Int32} (h : wantsC S s = 0) : shelfP s := by
  unfold wantsC at h
  by_cases c : shelfP s
  · exact c
  · rw [if_pos c] at h; exact absurd h (by decide)
theorem wz_2 {S : ST} {s : Int32} (hk : OkS S.1) (h : wantsC S s = 0) : S.1 22 (Int32.toNatClampNeg s) = 1 := by
  have hs := wz_1 h
  unfold wantsC at h
  rw [if_neg (fun q => q hs)] at h
  rcases (hk.2.1 (Int32.toNatClampNeg s) (vp_in_lt (vp_sh hs))).1 with e | e | e
  · rw [if_neg (by rw [e]; decide), if_pos e] at h; exact absurd h (by decide)
  · exact e
  · rw [if_pos e] at h; exact absurd h (by decide)
theorem wz_3 {S : ST} {s r : Int32} (hr : ¬ r = 0) (h : wantsC S s = r) : vp_in (-r) 8 := by
  subst h
  unfold wantsC at hr ⊢
  split
  · exact vp_in_lit rfl
  · split
    · exact vp_in_lit rfl
    · split
      · exact vp_in_lit rfl
      · exact absurd (by rw [if_neg ‹_›, if_neg ‹_›, if_neg ‹_›]) hr
theorem pk_up {σ τ : cS} (h : ∀ k, k ≤ 21 → σ k = τ k) {j : Nat} (hj : j < 85) : pkC σ j = pkC τ j := by
  unfold pkC
  split
  · rw [h _ (by omega)]
  · split
    · rw [h _ (by omega)]
    · rw [h _ (by omega)]
theorem ct_X5_image {M0 : PM} {mo : Nat} {I : Nat → Nat → Int32} {L : Nat → Nat → Int64} (hm : MR M0 mo)  (hk : OkS (sM I mo)) : Ct (YX5_image, (2, 49, 0, 0), qi (fun r M' => oM M0 mo I L (imageS (sS I L mo)) r M'), noX) [.ref mo] (wIL M0 I L) := by
  refine ct_of [some (.ref mo)] rfl rfl rfl (Nat.le_of_ble_eq_true rfl) rfl rfl ?_
  refine r_aload_n (pc := 0) dX5_image_0 rfl ?_
  refine r_iconst (pc := 1) (v := 1) dX5_image_1 (by decide) ?_
  refine rm_putZ (pc := 2) dX5_image_2 fl_X5_319_5 (MR_k hm) rfl rfl rfl rfl ?_
  refine r_aload_n (pc := 5) dX5_image_5 rfl ?_
  refine r_aload_n (pc := 6) dX5_image_6 rfl ?_
  refine r_getR (pc := 7) dX5_image_7 fl_X5_84_5 (MR_k hm) (fun _ _ => rfl) (MR_r36 hm) ?_
  refine r_iconst (pc := 10) (v := 0) dX5_image_10 (by decide) ?_
  refine r_o3 (pc := 11) (bc' := 0) (bs' := 0) (ct_X5_all0 (I := up2 I mo 49 1) hm (mo + 22) (MR_k36 hm) (MR_z36 hm) (by omega)) k_X5_226_5 dX5_image_11 (MR_k hm) (Nat.le_of_ble_eq_true rfl) ⟨Nat.le_of_ble_eq_true rfl, Nat.le_of_ble_eq_true rfl⟩ ⟨Nat.le_of_ble_eq_true rfl, Nat.le_of_ble_eq_true rfl⟩ (r_cv fun M11 p11 => ?_) nox
  obtain ⟨I1, rfl, e1, g1⟩ := p11
  refine r_aload_n (pc := 14) dX5_image_14 rfl ?_
  refine rm_getI (pc := 15) dX5_image_15 fl_X5_117_5 (MR_k hm) (fun _ _ => rfl) ?_
  refine r_ireturn (pc := 18) rfl dX5_image_18 ⟨_, rfl, ?_⟩
  refine ⟨?_, I1, L, rfl, ⟨fun k hk i hi => ?_, fun _ _ => rfl⟩, fun a ha => ⟨(e1 a (by omega)).trans (up2_ne (by omega)), rfl⟩⟩
  · rw [e1 mo (by omega), up2_self, va_up_ne _ _ (by decide)]; rfl
  · show sM I1 mo k i = (if k = 49 then sc 1 else if k = 36 then pkC (sM I mo) else sM I mo k) i
    by_cases h49 : k = 49
    · subst h49; rw [if_pos rfl, sM_sc (by unfold isSc; decide), e1 mo (by omega), up2_self, va_up_self]
    · rw [if_neg h49]
      by_cases h36 : k = 36
      · subst h36; rw [if_pos rfl, show sM I1 mo 36 = I1 (mo + 22) from rfl, g1 i hi]
        refine pk_up (fun k hk => sM_eq ?_ (fun o ho => up2_ne ?_)) hi
        · rw [up2_self, va_up_ne _ _ (by omega)]
        · rcases ho with ⟨h1, h2, h3⟩ | ⟨h1, h2, h3⟩ | ⟨h1, h3⟩ <;> omega
      · rw [if_neg h36]
        refine congrFun (sM_eq ?_ (fun o ho => ?_)) i
        · rw [e1 mo (by omega), up2_self, va_up_ne _ _ h49]
        · have ho2 : o ≠ 22 ∧ 1 ≤ o := by rcases ho with ⟨h1, h2, h3⟩ | ⟨h1, h2, h3⟩ | ⟨h1, h3⟩ <;> omega
          rw [e1 _ (by omega), up2_ne (by omega)]
theorem ct_X5_restore {M0 : PM} {mo : Nat} {I : Nat → Nat → Int32} {L : Nat → Nat → Int64} (hm : MR M0 mo)  (hk : OkS (sM I mo)) : Ct (YX5_restore, (2, 49, 0, 0), qi (fun r M' => oM M0 mo I L (restoreS (sS I L mo)) r M'), noX) [.ref mo] (wIL M0 I L) := by
  refine ct_of [some (.ref mo), none] rfl rfl rfl (Nat.le_of_ble_eq_true rfl) rfl rfl ?_
  have base : ∀ I1 : Nat → Nat → Int32, ¬ I mo 49 = 0 → (∀ k, k < 8 → ∀ i, i < 8 → I1 (mo + 2 + k) i = I (mo + 22) (8 * k + i)) → (∀ k, k < 3 → ∀ i, i < 4 → I1 (mo + 10 + k) i = I (mo + 22) (64 + 4 * k + i)) → (∀ k, k < 9 → I1 mo k = I (mo + 22) (76 + k)) → (∀ k, 9 ≤ k → I1 mo k = I mo k) → (∀ x, x ≠ mo → (x < mo + 2 ∨ mo + 12 < x) → I1 x = I x) → Wx (YX5_restore, (2, 49, 0, 0), qi (fun r M' => oM M0 mo I L (restoreS (sS I L mo)) r M'), noX) 0 0 (wIL M0 I1 L) 23 [some (.ref mo), none] [] := by
    intro I1 h0 b1 b2 b3 b4 b5
    have L1 : ∀ (n : Nat) (j : Nat) (I2 : Nat → Nat → Int32), j + n = 8 → (∀ x, x ≠ mo + 13 → I2 x = I1 x) → (∀ i, i < j → I2 (mo + 13) i = (if I (mo + 13) i = 2 ∧ ¬ I (mo + 16) i < I1 mo 0 then 0 else I (mo + 13) i)) → (∀ i, j ≤ i → I2 (mo + 13) i = I (mo + 13) i) → Wx (YX5_restore, (2, 49, 0, 0), qi (fun r M' => oM M0 mo I L (restoreS (sS I L mo)) r M'), noX) 0 0 (wIL M0 I2 L) 25 [some (.ref mo), some (.int (nI j))] [] := by
      intro n
      induction n with
      | zero =>
        intro j I2 hj a1 a2 a3
        refine r_iload_n (pc := 25) dX5_restore_25 rfl ?_
        refine r_bipush (pc := 26) (v := 8) dX5_restore_26 (by decide) ?_
        refine r_icmp_ge (pc := 28) 67 dX5_restore_28 rfl (fun _ => ?_) (fun hno => False.elim (by rw [show (8 : Int32) = nI 8 from rfl, nI_ltI (by omega) (by omega)] at hno; omega))
        refine r_aload_n (pc := 67) dX5_restore_67 rfl ?_
        refine rm_getI (pc := 68) dX5_restore_68 fl_X5_117_5 (MR_k hm) (fun _ _ => rfl) ?_
        refine r_ireturn (pc := 71) rfl dX5_restore_71 ⟨_, rfl, ?_⟩
        refine ⟨?_, I2, L, rfl, ?_, fun a ha => ⟨(a1 a (by omega)).trans (b5 a (by omega) (by omega)), rfl⟩⟩
        · rw [a1 mo (by omega), b3 0 (by omega), restoreS, cI_f (show ¬ (sS I L mo).1 49 0 = 0 from h0)]; rfl
        · rw [restoreS, cI_f (show ¬ (sS I L mo).1 49 0 = 0 from h0)]
          refine ⟨fun k hk i hi => ?_, fun _ _ => rfl⟩
          obtain ⟨u1, u2⟩ := back_S (τ := sM I mo) b1 b2 b3 b4 b5
          show sM I2 mo k i = restM (sM I mo) k i
          unfold restM
          by_cases h22 : k = 22
          · subst h22
            rw [if_pos rfl, show sM I2 mo 22 = I2 (mo + 13) from rfl, a2 i (by have : lnF 22 = 8 := rfl; omega), b3 0 (by omega)]
            show _ = cI (I (mo + 13) i = 2 ∧ ¬ I (mo + 16) i < I (mo + 22) 76) 0 (I (mo + 13) i)
            by_cases hc : I (mo + 13) i = 2 ∧ ¬ I (mo + 16) i < I (mo + 22) 76
            · rw [if_pos hc, cI_t hc]
            · rw [if_neg hc, cI_f hc]
          · rw [if_neg h22]
            have e2 : sM I2 mo k = sM I1 mo k := sM_eq (by rw [a1 mo (by omega)]) (fun o ho => a1 _ (by rcases ho with ⟨h1, h2, h3⟩ | ⟨h1, h2, h3⟩ | ⟨h1, h3⟩ <;> omega))
            rw [e2]
            by_cases hr : k < 9 ∨ (11 ≤ k ∧ k ≤ 21)
            · exact u1 k hr i hi
            · rw [u2 k hr]; unfold unC; rw [if_neg (by omega), if_neg (by omega), if_neg (by omega)]
      | succ n ih =>
        intro j I2 hj a1 a2 a3
        have hv : vp_in (nI j) 8 := vp_in_nI (by omega) (by decide)
        have ej : Int32.toNatClampNeg (nI j) = j := ix_nI (by omega)
        have c13 : I2 (mo + 13) j = I (mo + 13) j := a3 j (by omega)
        have c16 : I2 (mo + 16) j = I (mo + 16) j := by rw [a1 _ (by omega), b5 _ (by omega) (by omega)]
        have c0 : I2 mo 0 = I1 mo 0 := by rw [a1 _ (by omega)]
        refine r_iload_n (pc := 25) dX5_restore_25 rfl ?_
        refine r_bipush (pc := 26) (v := 8) dX5_restore_26 (by decide) ?_
        refine r_icmp_ge (pc := 28) 67 dX5_restore_28 rfl (fun hno => False.elim (by rw [show (8 : Int32) = nI 8 from rfl, nI_ltI (by omega) (by omega)] at hno; omega)) (fun _ => ?_)
        refine r_aload_n (pc := 31) dX5_restore_31 rfl ?_
        refine r_getR (pc := 32) dX5_restore_32 fl_X5_56_5 (MR_k hm) (fun _ _ => rfl) (MR_r22 hm) ?_
        refine r_iload_n (pc := 35) dX5_restore_35 rfl ?_
        refine rm_iald (pc := 36) dX5_restore_36 (MR_k22 hm) (MR_z22 hm) (by first | assumption | exact vp_in_lit rfl) ?_
        refine r_iconst (pc := 37) (v := 2) dX5_restore_37 (by decide) ?_
        refine r_icmp_ne (pc := 38) 61 dX5_restore_38 rfl (fun h38 => ?_) (fun h38 => ?_)
        · simp only [ej, c13, c16, c0] at h38
          refine r_iinc1 (pc := 61) dX5_restore_61 (nI_1 _) rfl ?_
          refine r_goto (pc := 64) 25 dX5_restore_64 rfl ?_
          refine ih (j + 1) _ (by omega) (fun x hx => ?_) (fun i hi => ?_) (fun i hi => ?_)
          · first | exact a1 x hx | exact (up2_ne hx).trans (a1 x hx)
          · by_cases e : i = j
            · subst e
              first
                | (rw [up2_self, ej, va_up_self, if_pos ⟨h38, h51⟩]; done)
                | (rw [if_neg (fun q => h38 q.1)]; exact c13)
                | (rw [if_neg (fun q => q.2 h51)]; exact c13)
            · first
                | exact a2 i (by omega)
                | (rw [up2_self, ej, va_up_ne _ _ e]; exact a2 i (by omega))
          · first
              | exact a3 i (by omega)
              | (rw [up2_self, ej, va_up_ne _ _ (by omega)]; exact a3 i (by omega))
        · simp only [ej, c13, c16, c0] at h38
          refine r_aload_n (pc := 41) dX5_restore_41 rfl ?_
          refine r_getR (pc := 42) dX5_restore_42 fl_X5_65_5 (MR_k hm) (fun _ _ => rfl) (MR_r25 hm) ?_
          refine r_iload_n (pc := 45) dX5_restore_45 rfl ?_
          refine rm_iald (pc := 46) dX5_restore_46 (MR_k25 hm) (MR_z25 hm) (by first | assumption | exact vp_in_lit rfl) ?_
          refine r_aload_n (pc := 47) dX5_restore_47 rfl ?_
          refine rm_getI (pc := 48) dX5_restore_48 fl_X5_117_5 (MR_k hm) (fun _ _ => rfl) ?_
          refine r_icmp_lt (pc := 51) 61 dX5_restore_51 rfl (fun h51 => ?_) (fun h51 => ?_)
          · simp only [ej, c13, c16, c0] at h51
            refine r_iinc1 (pc := 61) dX5_restore_61 (nI_1 _) rfl ?_
            refine r_goto (pc := 64) 25 dX5_restore_64 rfl ?_
            refine ih (j + 1) _ (by omega) (fun x hx => ?_) (fun i hi => ?_) (fun i hi => ?_)
            · first | exact a1 x hx | exact (up2_ne hx).trans (a1 x hx)
            · by_cases e : i = j
              · subst e
                first
                  | (rw [up2_self, ej, va_up_self, if_pos ⟨h38, h51⟩]; done)
                  | (rw [if_neg (fun q => h38 q.1)]; exact c13)
                  | (rw [if_neg (fun q => q.2 h51)]; exact c13)
              · first
                  | exact a2 i (by omega)
                  | (rw [up2_self, ej, va_up_ne _ _ e]; exact a2 i (by omega))
            · first
                | exact a3 i (by omega)
                | (rw [up2_self, ej, va_up_ne _ _ (by omega)]; exact a3 i (by omega))
          · simp only [ej, c13, c16, c0] at h51
            refine r_aload_n (pc := 54) dX5_restore_54 rfl ?_
            refine r_getR (pc := 55) dX5_restore_55 fl_X5_56_5 (MR_k hm) (fun _ _ => rfl) (MR_r22 hm) ?_
            refine r_iload_n (pc := 58) dX5_restore_58 rfl ?_
            refine r_iconst (pc := 59) (v := 0) dX5_restore_59 (by decide) ?_
            refine rm_iast (pc := 60) dX5_restore_60 (MR_k22 hm) (MR_z22 hm) (by first | assumption | exact vp_in_lit rfl) ?_
            refine r_iinc1 (pc := 61) dX5_restore_61 (nI_1 _) rfl ?_
            refine r_goto (pc := 64) 25 dX5_restore_64 rfl ?_
            refine ih (j + 1) _ (by omega) (fun x hx => ?_) (fun i hi => ?_) (fun i hi => ?_)
            · first | exact a1 x hx | exact (up2_ne hx).trans (a1 x hx)
            · by_cases e : i = j
              · subst e
                first
                  | (rw [up2_self, ej, va_up_self, if_pos ⟨h38, h51⟩]; done)
                  | (rw [if_neg (fun q => h38 q.1)]; exact c13)
                  | (rw [if_neg (fun q => q.2 h51)]; exact c13)
              · first
                  | exact a2 i (by omega)
                  | (rw [up2_self, ej, va_up_ne _ _ e]; exact a2 i (by omega))
            · first
                | exact a3 i (by omega)
                | (rw [up2_self, ej, va_up_ne _ _ (by omega)]; exact a3 i (by omega))
    refine r_iconst (pc := 23) (v := 0) dX5_restore_23 (by decide) ?_
    refine r_istore1 (pc := 24) dX5_restore_24 rfl ?_
    exact L1 8 0 I1 rfl (fun _ _ => rfl) (fun i hi => absurd hi (by omega)) (fun i hi => by rw [b5 _ (by omega) (by omega)])
  refine r_aload_n (pc := 0) dX5_restore_0 rfl ?_
  refine rm_getI (pc := 1) dX5_restore_1 fl_X5_319_5 (MR_k hm) (fun _ _ => rfl) ?_
  refine r_if_ne (pc := 4) 14 dX5_restore_4 rfl (fun h4 => ?_) (fun h4 => ?_)
  · refine r_aload_n (pc := 14) dX5_restore_14 rfl ?_
    refine r_aload_n (pc := 15) dX5_restore_15 rfl ?_
    refine r_getR (pc := 16) dX5_restore_16 fl_X5_84_5 (MR_k hm) (fun _ _ => rfl) (MR_r36 hm) ?_
    refine r_iconst (pc := 19) (v := 1) dX5_restore_19 (by decide) ?_
    refine r_o3 (pc := 20) (bc' := 0) (bs' := 0) (ct_X5_all1 hm (mo + 22) (MR_k36 hm) (MR_z36 hm) (by omega)) k_X5_226_5 dX5_restore_20 (MR_k hm) (Nat.le_of_ble_eq_true rfl) ⟨Nat.le_of_ble_eq_true rfl, Nat.le_of_ble_eq_true rfl⟩ ⟨Nat.le_of_ble_eq_true rfl, Nat.le_of_ble_eq_true rfl⟩ (r_cv fun M20 p20 => ?_) nox
    obtain ⟨I1, rfl, b1, b2, b3, b4, b5⟩ := p20
    exact base I1 h4 b1 b2 b3 b4 b5
  · refine r_aload_n (pc := 7) dX5_restore_7 rfl ?_
    refine r_bipush (pc := 8) (v := (-6)) dX5_restore_8 (by decide) ?_
    refine r_o2 (pc := 10) (bc' := 0) (bs' := 0) (ct_X5_no hm _ (vp_in_lit rfl)) k_X5_136_5 dX5_restore_10 (MR_k hm) (Nat.le_of_ble_eq_true rfl) ⟨Nat.le_of_ble_eq_true rfl, Nat.le_of_ble_eq_true rfl⟩ ⟨Nat.le_of_ble_eq_true rfl, Nat.le_of_ble_eq_true rfl⟩ (r_ci fun r10 M10 p10 => ?_) nox
    obtain ⟨rfl, rfl⟩ := p10
    refine r_ireturn (pc := 13) rfl dX5_restore_13 ⟨_, rfl, ?_⟩
    first
      | contradiction
      | (refine oM.of ?_ (by repeat' (first | exact frM.rf | assumption | refine frM.up0 ?_ | refine frM.up ?_ (by decide) | refine frM.upL ?_ (by decide)))
         simp (decide := true) only [restoreS, noS, noTenS, thP, mnP, shelfP, stepS, farP, h4, not_true_eq_false, not_false_eq_true, true_and, and_true, false_and, and_false, true_or, or_true, false_or, or_false, cI_True, cI_False, if_true, if_false, sm0, sm1, sm2, sm3, sm4, sm5, sm6, sm7, sm8, sm9, sm10, sm11, sm12, sm13, sm14, sm15, sm16, sm17, sm18, sm19, sm20, sm21, sm22, sm23, sm24, sm25, sm26, sm27, sm28, sm29, sm30, sm31, sm32, sm33, sm34, sm35, sm36, sm37, sm38, sm39, sm40, sm41, sm42, sm43, sm44, sm45, sm46, sm47, sm48, sm49, su0, su1, su2, su3, su4, su5, su6, su7, su8, su9, su10, su11, su12, su13, su14, su15, su16, su17, su18, su19, su20, su21, su22, su23, su24, su25, su26, su27, su28, su29, su30, su31, su32, su33, su34, su35, su36, su37, su38, su39, su40, su41, su42, su43, su44, su45, su46, su47, su48, su49])
theorem ct_X5_judge {M0 : PM} {mo : Nat} {I : Nat → Nat → Int32} {L : Nat → Nat → Int64} (hm : MR M0 mo) (x1 : Int32) (x2 : Int32) (x3 : Int32) (hk : OkS (sM I mo)) : Ct (YX5_judge, (4, 93, 0, 0), qi (fun r M' => oM M0 mo I L (judgeS (sS I L mo) x1 x2 x3) r M'), noX) [.ref mo, .int x1, .int x2, .int x3] (wIL M0 I L) := by
  refine ct_of [some (.ref mo), some (.int x1), some (.int x2), some (.int x3), none, none, none, none, none] rfl rfl rfl (Nat.le_of_ble_eq_true rfl) rfl rfl ?_
  have base : ∀ I1 : Nat → Nat → Int32, thP (sM I mo) x1 → shelfP x2 → I (mo + 13) (Int32.toNatClampNeg x2) = 1 → ¬ x3 < 0 → ¬ I (mo + 15) (Int32.toNatClampNeg x2) / 2 < x3 → ¬ 40 < x3 → judgeS (sS I L mo) x1 x2 x3 = (judgeL (fun k => (L (mo + 17) (160 * (Int32.toNatClampNeg x2) + k)).toInt32) (Int32.toNatClampNeg x1) (Int32.toNatClampNeg x3) 0 (sM I mo), sS I L mo) → (∀ x, x ≠ mo + 23 → I1 x = I x) → (∀ j, j < 85 → I1 (mo + 23) j = pkC (sM I mo) j) → Wx (YX5_judge, (4, 93, 0, 0), qi (fun r M' => oM M0 mo I L (judgeS (sS I L mo) x1 x2 x3) r M'), noX) 0 0 (wIL M0 I1 L) 85 [some (.ref mo), some (.int x1), some (.int x2), some (.int x3), some (.int 0), none, none, none, none] [] := by
    intro I1 t1 t2 t3 t4 t5 t6 hw0 e1 g1
    have ht := vp_b (n := 8) t1.1 t1.2 hk.1.1.1.2
    have hd := hk.1.far (ix_lt t1.1 t1.2)
    have hx := vp_sh t2
    obtain ⟨N, hN9, eN⟩ := nI_of t4
    have hN40 : N ≤ 40 := by rw [eN, show (40 : Int32) = nI 40 from rfl, nI_ltI (by omega) (by omega)] at t6; omega
    have iN : (Int32.toNatClampNeg x3) = N := by rw [eN, ix_nI (by omega)]
    obtain ⟨S, hS, eS⟩ := bd_nI (n := 160) ((hk.2.1 (Int32.toNatClampNeg x2) (vp_in_lt hx)).2.1 t3).2
    have hNS : 2 * N ≤ S := by rw [show I (mo + 15) (Int32.toNatClampNeg x2) = nI S from eS, eN, show (2 : Int32) = nI 2 from rfl, pk_div (by omega) (by omega) (by omega), nI_ltI (by omega) (by omega)] at t5; omega
    rw [iN] at hw0
    have ls17 : I1 mo = I mo := e1 mo (by omega)
    have fin : ∀ (I2 : Nat → Nat → Int32) (b v : Int32) (o1 o2 : Option Value), (∀ x, x ≠ mo + 5 → x ≠ mo + 6 → x ≠ mo + 9 → I2 x = I1 x) → judgeS (sS I L mo) x1 x2 x3 = (b, sS I L mo) → Wx (YX5_judge, (4, 93, 0, 0), qi (fun r M' => oM M0 mo I L (judgeS (sS I L mo) x1 x2 x3) r M'), noX) 0 0 (wIL M0 I2 L) 174 [some (.ref mo), some (.int x1), some (.int x2), some (.int x3), some (.int 0), some (.int b), some (.int v), o1, o2] [] := by
      intro I2 b v o1 o2 a1 hw
      refine r_aload_n (pc := 174) dX5_judge_174 rfl ?_
      refine r_aload_n (pc := 175) dX5_judge_175 rfl ?_
      refine r_getR (pc := 176) dX5_judge_176 fl_X5_87_5 (MR_k hm) (fun _ _ => rfl) (MR_r37 hm) ?_
      refine r_iconst (pc := 179) (v := 1) dX5_judge_179 (by decide) ?_
      refine r_o3 (pc := 180) (bc' := 0) (bs' := 0) (ct_X5_all1 hm (mo + 23) (MR_k37 hm) (MR_z37 hm) (by omega)) k_X5_226_5 dX5_judge_180 (MR_k hm) (Nat.le_of_ble_eq_true rfl) ⟨Nat.le_of_ble_eq_true rfl, Nat.le_of_ble_eq_true rfl⟩ ⟨Nat.le_of_ble_eq_true rfl, Nat.le_of_ble_eq_true rfl⟩ (r_cv fun M180 p180 => ?_) nox
      obtain ⟨I3, rfl, b1, b2, b3, b4, b5⟩ := p180
      refine r_iload (pc := 183) dX5_judge_183 rfl ?_
      refine r_ireturn (pc := 185) rfl dX5_judge_185 ⟨_, rfl, ?_⟩
      refine ⟨by rw [hw], I3, L, rfl, ?_, fun a ha => ⟨(b5 a (by omega) (by omega)).trans ((a1 a (by omega) (by omega) (by omega)).trans (e1 a (by omega))), rfl⟩⟩
      rw [hw]
      refine ⟨fun k hk i hi => ?_, fun _ _ => rfl⟩
      obtain ⟨u1, u2⟩ := back_S (τ := sM I mo) b1 b2 b3 b4 b5
      show sM I3 mo k i = sM I mo k i
      by_cases hr : k < 9 ∨ (11 ≤ k ∧ k ≤ 21)
      · rw [u1 k hr i hi]
        have eA : ∀ j, j < 85 → I2 (mo + 23) j = pkC (sM I mo) j := fun j hj => by rw [a1 _ (by omega) (by omega) (by omega)]; exact g1 j hj
        rw [← un_pk (σ := sM I mo) (τ := sM I mo) hr hi]
        exact un_c hr hi eA
      · rw [u2 k hr]
        refine congrFun (sM_eq ?_ (fun o ho => ?_)) i
        · rw [a1 mo (by omega) (by omega) (by omega), e1 mo (by omega)]
        · have hq : (o ≠ 5 ∧ o ≠ 6 ∧ o ≠ 9) ∧ (o ≠ 23) := by
            have hp : k ≤ 26 ∨ k = 28 ∨ k = 36 ∨ k = 47 ∨ k = 48 ∨ k = 49 := of_decide_eq_true hk
            rcases ho with ⟨h1, h2, h3⟩ | ⟨h1, h2, h3⟩ | ⟨h1, h3⟩ <;> omega
          rw [a1 _ (by omega) (by omega) (by omega), e1 _ (by omega)]
    have brk : ∀ (I2 : Nat → Nat → Int32) (b v : Int32) (o1 o2 : Option Value), (∀ x, x ≠ mo + 5 → x ≠ mo + 6 → x ≠ mo + 9 → I2 x = I1 x) → ¬ b = -1 → judgeS (sS I L mo) x1 x2 x3 = (b, sS I L mo) → Wx (YX5_judge, (4, 93, 0, 0), qi (fun r M' => oM M0 mo I L (judgeS (sS I L mo) x1 x2 x3) r M'), noX) 0 0 (wIL M0 I2 L) 91 [some (.ref mo), some (.int x1), some (.int x2), some (.int x3), some (.int 0), some (.int b), some (.int v), o1, o2] [] := by
      intro I2 b v o1 o2 a1 hb hw
      refine r_iload (pc := 91) dX5_judge_91 rfl ?_
      refine r_iload_n (pc := 93) dX5_judge_93 rfl ?_
      refine r_icmp_ge (pc := 94) 174 dX5_judge_94 rfl (fun h94 => ?_) (fun h94 => ?_)
      · exact fin _ _ _ _ _ a1 hw
      · refine r_iload (pc := 97) dX5_judge_97 rfl ?_
        refine r_iconst (pc := 99) (v := (-1)) dX5_judge_99 (by decide) ?_
        refine r_icmp_ne (pc := 100) 174 dX5_judge_100 rfl (fun _ => ?_) (fun hno => False.elim (hb hno))
        exact fin _ _ _ _ _ a1 hw
    have L1 : ∀ (n : Nat) (j : Nat) (I2 : Nat → Nat → Int32) (o1 o2 : Option Value), j + n = N → (∀ x, x ≠ mo + 5 → x ≠ mo + 6 → x ≠ mo + 9 → I2 x = I1 x) → judgeS (sS I L mo) x1 x2 x3 = (judgeL (fun k => (L (mo + 17) (160 * (Int32.toNatClampNeg x2) + k)).toInt32) (Int32.toNatClampNeg x1) n j (sM I2 mo), sS I L mo) → Wx (YX5_judge, (4, 93, 0, 0), qi (fun r M' => oM M0 mo I L (judgeS (sS I L mo) x1 x2 x3) r M'), noX) 0 0 (wIL M0 I2 L) 91 [some (.ref mo), some (.int x1), some (.int x2), some (.int x3), some (.int 0), some (.int (-1)), some (.int (nI j)), o1, o2] [] := by
      intro n
      induction n with
      | zero =>
        intro j I2 o1 o2 hj a1 hw
        refine r_iload (pc := 91) dX5_judge_91 rfl ?_
        refine r_iload_n (pc := 93) dX5_judge_93 rfl ?_
        refine r_icmp_ge (pc := 94) 174 dX5_judge_94 rfl (fun _ => ?_) (fun hno => False.elim (by rw [eN, nI_ltI (by omega) (by omega)] at hno; omega))
        exact fin I2 _ _ _ _ a1 hw
      | succ n ih =>
        intro j I2 o1 o2 hj a1 hw
        have q0 : I2 mo = I mo := (a1 mo (by omega) (by omega) (by omega)).trans ls17
        have q2 : I2 (mo + 2) = I (mo + 2) := (a1 _ (by omega) (by omega) (by omega)).trans (e1 _ (by omega))
        have q3 : I2 (mo + 3) = I (mo + 3) := (a1 _ (by omega) (by omega) (by omega)).trans (e1 _ (by omega))
        have q4 : I2 (mo + 4) = I (mo + 4) := (a1 _ (by omega) (by omega) (by omega)).trans (e1 _ (by omega))
        have y1 := cix hx (vp_in_nI (n := 2 * j) (N := 160) (by omega) (by decide))
        have y2 := cix hx (vp_in_nI (n := 2 * j + 1) (N := 160) (by omega) (by decide))
        rw [ix_nI (by omega)] at y1 y2
        rw [judgeL] at hw
        refine r_iload (pc := 91) dX5_judge_91 rfl ?_
        refine r_iload_n (pc := 93) dX5_judge_93 rfl ?_
        refine r_icmp_ge (pc := 94) 174 dX5_judge_94 rfl (fun hno => False.elim (by rw [eN, nI_ltI (by omega) (by omega)] at hno; omega)) (fun _ => ?_)
        refine r_iload (pc := 97) dX5_judge_97 rfl ?_
        refine r_iconst (pc := 99) (v := (-1)) dX5_judge_99 (by decide) ?_
        refine r_icmp_ne (pc := 100) 174 dX5_judge_100 rfl (fun hno => absurd hno (by decide)) (fun _ => ?_)
        refine r_aload_n (pc := 103) dX5_judge_103 rfl ?_
        refine r_iload_n (pc := 104) dX5_judge_104 rfl ?_
        refine r_iconst (pc := 105) (v := 2) dX5_judge_105 (by decide) ?_
        refine r_iload (pc := 106) dX5_judge_106 rfl ?_
        refine r_imul (pc := 108) dX5_judge_108 ?_
        refine r_eqi (nI (2 * j)) (by rw [show (2 : Int32) = nI 2 from rfl, pk_mul]) ?_
        refine r_o3 (pc := 109) (bc' := 0) (bs' := 0) (ct_X5_intAt hm _ _ y1.1) k_X5_159_5 dX5_judge_109 (MR_k hm) (Nat.le_of_ble_eq_true rfl) ⟨Nat.le_of_ble_eq_true rfl, Nat.le_of_ble_eq_true rfl⟩ ⟨Nat.le_of_ble_eq_true rfl, Nat.le_of_ble_eq_true rfl⟩ (r_ci fun r109 M109 p109 => ?_) nox
        obtain ⟨rfl, rfl⟩ := p109
        rw [y1.2]
        refine r_istore7 (pc := 112) dX5_judge_112 rfl ?_
        refine r_aload_n (pc := 114) dX5_judge_114 rfl ?_
        refine r_iload_n (pc := 115) dX5_judge_115 rfl ?_
        refine r_iconst (pc := 116) (v := 2) dX5_judge_116 (by decide) ?_
        refine r_iload (pc := 117) dX5_judge_117 rfl ?_
        refine r_imul (pc := 119) dX5_judge_119 ?_
        refine r_iconst (pc := 120) (v := 1) dX5_judge_120 (by decide) ?_
        refine r_iadd (pc := 121) dX5_judge_121 ?_
        refine r_eqi (nI (2 * j + 1)) (by rw [show (2 : Int32) = nI 2 from rfl, pk_mul, nI_1]) ?_
        refine r_o3 (pc := 122) (bc' := 0) (bs' := 0) (ct_X5_intAt hm _ _ y2.1) k_X5_159_5 dX5_judge_122 (MR_k hm) (Nat.le_of_ble_eq_true rfl) ⟨Nat.le_of_ble_eq_true rfl, Nat.le_of_ble_eq_true rfl⟩ ⟨Nat.le_of_ble_eq_true rfl, Nat.le_of_ble_eq_true rfl⟩ (r_ci fun r122 M122 p122 => ?_) nox
        obtain ⟨rfl, rfl⟩ := p122
        rw [y2.2]
        refine r_istore8 (pc := 125) dX5_judge_125 rfl ?_
        refine r_aload_n (pc := 127) dX5_judge_127 rfl ?_
        refine r_iload (pc := 128) dX5_judge_128 rfl ?_
        refine r_o2 (pc := 130) (bc' := 0) (bs' := 0) (ct_X5_isMan hm _) k_X5_178_5 dX5_judge_130 (MR_k hm) (Nat.le_of_ble_eq_true rfl) ⟨Nat.le_of_ble_eq_true rfl, Nat.le_of_ble_eq_true rfl⟩ ⟨Nat.le_of_ble_eq_true rfl, Nat.le_of_ble_eq_true rfl⟩ (r_ci fun r130 M130 p130 => ?_) nox
        obtain ⟨rfl, rfl⟩ := p130
        refine r_if_eq (pc := 133) 152 dX5_judge_133 rfl (fun h133 => ?_) (fun h133 => ?_)
        · rw [bI_eq0] at h133
          rw [cI_f (fun q => h133 q.1)] at hw
          refine r_iload (pc := 152) dX5_judge_152 rfl ?_
          refine r_istore5 (pc := 154) dX5_judge_154 rfl ?_
          refine r_goto (pc := 156) 168 dX5_judge_156 rfl ?_
          refine r_iinc6 (pc := 168) dX5_judge_168 (nI_1 _) rfl ?_
          refine r_goto (pc := 171) 91 dX5_judge_171 rfl ?_
          first
            | (refine ih (j + 1) _ _ _ (by omega) (fun x h5 h6 h9 => ?_) ?_
               · rw [up2_ne h9, up2_ne h6, up2_ne h5]; exact a1 x h5 h6 h9
               · rw [hw, carriesS, su14, su15, su18]; rfl)
            | exact brk _ _ _ _ _ a1 (fun h => absurd (congrArg Int32.toInt h) (by rw [nI_toInt (by omega), c_m1]; omega)) hw
        · rw [bI_ne0] at h133
          have hn := vp_b (n := 8) h133.1 (by have h := h133.2; rw [q0] at h; exact h) hk.1.1.2.1.2
          refine r_aload_n (pc := 136) dX5_judge_136 rfl ?_
          refine r_iload (pc := 137) dX5_judge_137 rfl ?_
          refine r_iload_n (pc := 139) dX5_judge_139 rfl ?_
          refine r_aload_n (pc := 140) dX5_judge_140 rfl ?_
          refine r_iload (pc := 141) dX5_judge_141 rfl ?_
          refine r_o2 (pc := 143) (bc' := 0) (bs' := 0) (ct_X5_near hm _) k_X5_239_5 dX5_judge_143 (MR_k hm) (Nat.le_of_ble_eq_true rfl) ⟨Nat.le_of_ble_eq_true rfl, Nat.le_of_ble_eq_true rfl⟩ ⟨Nat.le_of_ble_eq_true rfl, Nat.le_of_ble_eq_true rfl⟩ (r_ci fun r143 M143 p143 => ?_) nox
          obtain ⟨rfl, rfl⟩ := p143
          refine r_o4 (pc := 146) (bc' := 0) (bs' := 0) (ct_X5_wrongBy hm _ _ _ hn ht (by rw [q3]; exact hd.1) (by rw [q2, q3, q4]; exact hd.2)) k_X5_242_5 dX5_judge_146 (MR_k hm) (Nat.le_of_ble_eq_true rfl) ⟨Nat.le_of_ble_eq_true rfl, Nat.le_of_ble_eq_true rfl⟩ ⟨Nat.le_of_ble_eq_true rfl, Nat.le_of_ble_eq_true rfl⟩ (r_ci fun r146 M146 p146 => ?_) nox
          obtain ⟨rfl, rfl⟩ := p146
          refine r_if_eq (pc := 149) 159 dX5_judge_149 rfl (fun h149 => ?_) (fun h149 => ?_)
          · rw [cI_t ⟨h133, h149⟩] at hw
            refine r_aload_n (pc := 159) dX5_judge_159 rfl ?_
            refine r_iload (pc := 160) dX5_judge_160 rfl ?_
            refine r_iload_n (pc := 162) dX5_judge_162 rfl ?_
            refine r_iload (pc := 163) dX5_judge_163 rfl ?_
            refine r_o4 (pc := 165) (bc' := 0) (bs' := 0) (ct_X5_carries hm _ _ _ hn ht) k_X5_249_5 dX5_judge_165 (MR_k hm) (Nat.le_of_ble_eq_true rfl) ⟨Nat.le_of_ble_eq_true rfl, Nat.le_of_ble_eq_true rfl⟩ ⟨Nat.le_of_ble_eq_true rfl, Nat.le_of_ble_eq_true rfl⟩ (r_cv fun M165 p165 => ?_) nox
            have p165 : _ = _ := p165
            subst p165
            refine r_iinc6 (pc := 168) dX5_judge_168 (nI_1 _) rfl ?_
            refine r_goto (pc := 171) 91 dX5_judge_171 rfl ?_
            first
              | (refine ih (j + 1) _ _ _ (by omega) (fun x h5 h6 h9 => ?_) ?_
                 · rw [up2_ne h9, up2_ne h6, up2_ne h5]; exact a1 x h5 h6 h9
                 · rw [hw, carriesS, su14, su15, su18]; rfl)
              | exact brk _ _ _ _ _ a1 (fun h => absurd (congrArg Int32.toInt h) (by rw [nI_toInt (by omega), c_m1]; omega)) hw
          · rw [cI_f (fun q => h149 q.2)] at hw
            refine r_iload (pc := 152) dX5_judge_152 rfl ?_
            refine r_istore5 (pc := 154) dX5_judge_154 rfl ?_
            refine r_goto (pc := 156) 168 dX5_judge_156 rfl ?_
            refine r_iinc6 (pc := 168) dX5_judge_168 (nI_1 _) rfl ?_
            refine r_goto (pc := 171) 91 dX5_judge_171 rfl ?_
            first
              | (refine ih (j + 1) _ _ _ (by omega) (fun x h5 h6 h9 => ?_) ?_
                 · rw [up2_ne h9, up2_ne h6, up2_ne h5]; exact a1 x h5 h6 h9
                 · rw [hw, carriesS, su14, su15, su18]; rfl)
              | exact brk _ _ _ _ _ a1 (fun h => absurd (congrArg Int32.toInt h) (by rw [nI_toInt (by omega), c_m1]; omega)) hw
    refine r_iconst (pc := 85) (v := (-1)) dX5_judge_85 (by decide) ?_
    refine r_istore5 (pc := 86) dX5_judge_86 rfl ?_
    refine r_iconst (pc := 88) (v := 0) dX5_judge_88 (by decide) ?_
    refine r_istore6 (pc := 89) dX5_judge_89 rfl ?_
    refine L1 N 0 I1 _ _ (by omega) (fun _ _ _ _ => rfl) ?_
    rw [hw0, judge_c N 0 (sM I mo) (sM I1 mo) (fun k hk => (sM_eq (by rw [ls17]) (fun o ho => e1 _ (by rcases ho with ⟨h1, h2, h3⟩ | ⟨h1, h2, h3⟩ | ⟨h1, h3⟩ <;> omega))).symm)]
  refine r_aload_n (pc := 0) dX5_judge_0 rfl ?_
  refine r_iload_n (pc := 1) dX5_judge_1 rfl ?_
  refine r_o2 (pc := 2) (bc' := 0) (bs' := 0) (ct_X5_isThing hm _) k_X5_140_5 dX5_judge_2 (MR_k hm) (Nat.le_of_ble_eq_true rfl) ⟨Nat.le_of_ble_eq_true rfl, Nat.le_of_ble_eq_true rfl⟩ ⟨Nat.le_of_ble_eq_true rfl, Nat.le_of_ble_eq_true rfl⟩ (r_ci fun r2 M2 p2 => ?_) nox
  obtain ⟨rfl, rfl⟩ := p2
  refine r_if_ne (pc := 5) 14 dX5_judge_5 rfl (fun h5 => ?_) (fun h5 => ?_)
  · rw [bI_ne0] at h5
    have ht := vp_b (n := 8) h5.1 h5.2 hk.1.1.1.2
    have hd := hk.1.far (ix_lt h5.1 h5.2)
    refine r_aload_n (pc := 14) dX5_judge_14 rfl ?_
    refine r_iload_n (pc := 15) dX5_judge_15 rfl ?_
    refine r_o2 (pc := 16) (bc' := 0) (bs' := 0) (ct_X5_wants hm _) k_X5_156_5 dX5_judge_16 (MR_k hm) (Nat.le_of_ble_eq_true rfl) ⟨Nat.le_of_ble_eq_true rfl, Nat.le_of_ble_eq_true rfl⟩ ⟨Nat.le_of_ble_eq_true rfl, Nat.le_of_ble_eq_true rfl⟩ (r_ci fun r16 M16 p16 => ?_) nox
    obtain ⟨er, rfl⟩ := p16
    have ew : wantsC (sS I L mo) x2 = r16 := er.symm
    refine r_istore4 (pc := 19) dX5_judge_19 rfl ?_
    refine r_iload (pc := 21) dX5_judge_21 rfl ?_
    refine r_if_eq (pc := 23) 33 dX5_judge_23 rfl (fun h23 => ?_) (fun h23 => ?_)
    · have hsh : shelfP x2 := wz_1 (ew.trans h23)
      have hx := vp_sh hsh
      have hz : I (mo + 13) (Int32.toNatClampNeg x2) = 1 := wz_2 hk (ew.trans h23)
      subst h23
      refine r_iload_n (pc := 33) dX5_judge_33 rfl ?_
      refine r_if_ge (pc := 34) 44 dX5_judge_34 rfl (fun h34 => ?_) (fun h34 => ?_)
      · refine r_iload_n (pc := 44) dX5_judge_44 rfl ?_
        refine r_aload_n (pc := 45) dX5_judge_45 rfl ?_
        refine r_getR (pc := 46) dX5_judge_46 fl_X5_62_5 (MR_k hm) (fun _ _ => rfl) (MR_r24 hm) ?_
        refine r_iload_n (pc := 49) dX5_judge_49 rfl ?_
        refine rm_iald (pc := 50) dX5_judge_50 (MR_k24 hm) (MR_z24 hm) (by first | assumption | exact vp_in_lit rfl) ?_
        refine r_iconst (pc := 51) (v := 2) dX5_judge_51 (by decide) ?_
        refine r_idiv (pc := 52) dX5_judge_52 (by decide) ?_
        refine r_icmp_le (pc := 53) 63 dX5_judge_53 rfl (fun h53 => ?_) (fun h53 => ?_)
        · refine r_iload_n (pc := 63) dX5_judge_63 rfl ?_
          refine r_bipush (pc := 64) (v := 40) dX5_judge_64 (by decide) ?_
          refine r_icmp_le (pc := 66) 76 dX5_judge_66 rfl (fun h66 => ?_) (fun h66 => ?_)
          · refine r_aload_n (pc := 76) dX5_judge_76 rfl ?_
            refine r_aload_n (pc := 77) dX5_judge_77 rfl ?_
            refine r_getR (pc := 78) dX5_judge_78 fl_X5_87_5 (MR_k hm) (fun _ _ => rfl) (MR_r37 hm) ?_
            refine r_iconst (pc := 81) (v := 0) dX5_judge_81 (by decide) ?_
            refine r_o3 (pc := 82) (bc' := 0) (bs' := 0) (ct_X5_all0 hm (mo + 23) (MR_k37 hm) (MR_z37 hm) (by omega)) k_X5_226_5 dX5_judge_82 (MR_k hm) (Nat.le_of_ble_eq_true rfl) ⟨Nat.le_of_ble_eq_true rfl, Nat.le_of_ble_eq_true rfl⟩ ⟨Nat.le_of_ble_eq_true rfl, Nat.le_of_ble_eq_true rfl⟩ (r_cv fun M82 p82 => ?_) nox
            obtain ⟨I1, rfl, e1, g1⟩ := p82
            refine base I1 h5 hsh hz h34 h53 h66 ?_ e1 g1
            rw [judgeS, cI_f (by intro q; exact q h5), cI_f (by intro q; exact q ew), cI_f h34, cI_f (show ¬ ((sS I L mo).1 24 (Int32.toNatClampNeg x2) / 2 < x3) from h53), cI_f h66]
          · refine r_aload_n (pc := 69) dX5_judge_69 rfl ?_
            refine r_bipush (pc := 70) (v := (-6)) dX5_judge_70 (by decide) ?_
            refine r_o2 (pc := 72) (bc' := 0) (bs' := 0) (ct_X5_no hm _ (vp_in_lit rfl)) k_X5_136_5 dX5_judge_72 (MR_k hm) (Nat.le_of_ble_eq_true rfl) ⟨Nat.le_of_ble_eq_true rfl, Nat.le_of_ble_eq_true rfl⟩ ⟨Nat.le_of_ble_eq_true rfl, Nat.le_of_ble_eq_true rfl⟩ (r_ci fun r72 M72 p72 => ?_) nox
            obtain ⟨rfl, rfl⟩ := p72
            refine r_ireturn (pc := 75) rfl dX5_judge_75 ⟨_, rfl, ?_⟩
            first
              | contradiction
              | (refine oM.of ?_ (by repeat' (first | exact frM.rf | assumption | refine frM.up0 ?_ | refine frM.up ?_ (by decide) | refine frM.upL ?_ (by decide)))
                 simp (decide := true) only [judgeS, noS, noTenS, thP, mnP, shelfP, stepS, farP, ew, eq_true h5, h34, h53, h66, not_true_eq_false, not_false_eq_true, true_and, and_true, false_and, and_false, true_or, or_true, false_or, or_false, cI_True, cI_False, if_true, if_false, sm0, sm1, sm2, sm3, sm4, sm5, sm6, sm7, sm8, sm9, sm10, sm11, sm12, sm13, sm14, sm15, sm16, sm17, sm18, sm19, sm20, sm21, sm22, sm23, sm24, sm25, sm26, sm27, sm28, sm29, sm30, sm31, sm32, sm33, sm34, sm35, sm36, sm37, sm38, sm39, sm40, sm41, sm42, sm43, sm44, sm45, sm46, sm47, sm48, sm49, su0, su1, su2, su3, su4, su5, su6, su7, su8, su9, su10, su11, su12, su13, su14, su15, su16, su17, su18, su19, su20, su21, su22, su23, su24, su25, su26, su27, su28, su29, su30, su31, su32, su33, su34, su35, su36, su37, su38, su39, su40, su41, su42, su43, su44, su45, su46, su47, su48, su49])
        · refine r_aload_n (pc := 56) dX5_judge_56 rfl ?_
          refine r_bipush (pc := 57) (v := (-5)) dX5_judge_57 (by decide) ?_
          refine r_o2 (pc := 59) (bc' := 0) (bs' := 0) (ct_X5_no hm _ (vp_in_lit rfl)) k_X5_136_5 dX5_judge_59 (MR_k hm) (Nat.le_of_ble_eq_true rfl) ⟨Nat.le_of_ble_eq_true rfl, Nat.le_of_ble_eq_true rfl⟩ ⟨Nat.le_of_ble_eq_true rfl, Nat.le_of_ble_eq_true rfl⟩ (r_ci fun r59 M59 p59 => ?_) nox
          obtain ⟨rfl, rfl⟩ := p59
          refine r_ireturn (pc := 62) rfl dX5_judge_62 ⟨_, rfl, ?_⟩
          first
            | contradiction
            | (refine oM.of ?_ (by repeat' (first | exact frM.rf | assumption | refine frM.up0 ?_ | refine frM.up ?_ (by decide) | refine frM.upL ?_ (by decide)))
               simp (decide := true) only [judgeS, noS, noTenS, thP, mnP, shelfP, stepS, farP, ew, eq_true h5, h34, h53, not_true_eq_false, not_false_eq_true, true_and, and_true, false_and, and_false, true_or, or_true, false_or, or_false, cI_True, cI_False, if_true, if_false, sm0, sm1, sm2, sm3, sm4, sm5, sm6, sm7, sm8, sm9, sm10, sm11, sm12, sm13, sm14, sm15, sm16, sm17, sm18, sm19, sm20, sm21, sm22, sm23, sm24, sm25, sm26, sm27, sm28, sm29, sm30, sm31, sm32, sm33, sm34, sm35, sm36, sm37, sm38, sm39, sm40, sm41, sm42, sm43, sm44, sm45, sm46, sm47, sm48, sm49, su0, su1, su2, su3, su4, su5, su6, su7, su8, su9, su10, su11, su12, su13, su14, su15, su16, su17, su18, su19, su20, su21, su22, su23, su24, su25, su26, su27, su28, su29, su30, su31, su32, su33, su34, su35, su36, su37, su38, su39, su40, su41, su42, su43, su44, su45, su46, su47, su48, su49])
      · refine r_aload_n (pc := 37) dX5_judge_37 rfl ?_
        refine r_bipush (pc := 38) (v := (-4)) dX5_judge_38 (by decide) ?_
        refine r_o2 (pc := 40) (bc' := 0) (bs' := 0) (ct_X5_no hm _ (vp_in_lit rfl)) k_X5_136_5 dX5_judge_40 (MR_k hm) (Nat.le_of_ble_eq_true rfl) ⟨Nat.le_of_ble_eq_true rfl, Nat.le_of_ble_eq_true rfl⟩ ⟨Nat.le_of_ble_eq_true rfl, Nat.le_of_ble_eq_true rfl⟩ (r_ci fun r40 M40 p40 => ?_) nox
        obtain ⟨rfl, rfl⟩ := p40
        refine r_ireturn (pc := 43) rfl dX5_judge_43 ⟨_, rfl, ?_⟩
        first
          | contradiction
          | (refine oM.of ?_ (by repeat' (first | exact frM.rf | assumption | refine frM.up0 ?_ | refine frM.up ?_ (by decide) | refine frM.upL ?_ (by decide)))
             simp (decide := true) only [judgeS, noS, noTenS, thP, mnP, shelfP, stepS, farP, ew, eq_true h5, h34, not_true_eq_false, not_false_eq_true, true_and, and_true, false_and, and_false, true_or, or_true, false_or, or_false, cI_True, cI_False, if_true, if_false, sm0, sm1, sm2, sm3, sm4, sm5, sm6, sm7, sm8, sm9, sm10, sm11, sm12, sm13, sm14, sm15, sm16, sm17, sm18, sm19, sm20, sm21, sm22, sm23, sm24, sm25, sm26, sm27, sm28, sm29, sm30, sm31, sm32, sm33, sm34, sm35, sm36, sm37, sm38, sm39, sm40, sm41, sm42, sm43, sm44, sm45, sm46, sm47, sm48, sm49, su0, su1, su2, su3, su4, su5, su6, su7, su8, su9, su10, su11, su12, su13, su14, su15, su16, su17, su18, su19, su20, su21, su22, su23, su24, su25, su26, su27, su28, su29, su30, su31, su32, su33, su34, su35, su36, su37, su38, su39, su40, su41, su42, su43, su44, su45, su46, su47, su48, su49])
    · refine r_aload_n (pc := 26) dX5_judge_26 rfl ?_
      refine r_iload (pc := 27) dX5_judge_27 rfl ?_
      refine r_o2 (pc := 29) (bc' := 0) (bs' := 0) (ct_X5_no hm _ (wz_3 h23 ew)) k_X5_136_5 dX5_judge_29 (MR_k hm) (Nat.le_of_ble_eq_true rfl) ⟨Nat.le_of_ble_eq_true rfl, Nat.le_of_ble_eq_true rfl⟩ ⟨Nat.le_of_ble_eq_true rfl, Nat.le_of_ble_eq_true rfl⟩ (r_ci fun r29 M29 p29 => ?_) nox
      obtain ⟨rfl, rfl⟩ := p29
      refine r_ireturn (pc := 32) rfl dX5_judge_32 ⟨_, rfl, ?_⟩
      first
        | contradiction
        | (refine oM.of ?_ (by repeat' (first | exact frM.rf | assumption | refine frM.up0 ?_ | refine frM.up ?_ (by decide) | refine frM.upL ?_ (by decide)))
           simp (decide := true) only [judgeS, noS, noTenS, thP, mnP, shelfP, stepS, farP, ew, eq_true h5, h23, not_true_eq_false, not_false_eq_true, true_and, and_true, false_and, and_false, true_or, or_true, false_or, or_false, cI_True, cI_False, if_true, if_false, sm0, sm1, sm2, sm3, sm4, sm5, sm6, sm7, sm8, sm9, sm10, sm11, sm12, sm13, sm14, sm15, sm16, sm17, sm18, sm19, sm20, sm21, sm22, sm23, sm24, sm25, sm26, sm27, sm28, sm29, sm30, sm31, sm32, sm33, sm34, sm35, sm36, sm37, sm38, sm39, sm40, sm41, sm42, sm43, sm44, sm45, sm46, sm47, sm48, sm49, su0, su1, su2, su3, su4, su5, su6, su7, su8, su9, su10, su11, su12, su13, su14, su15, su16, su17, su18, su19, su20, su21, su22, su23, su24, su25, su26, su27, su28, su29, su30, su31, su32, su33, su34, su35, su36, su37, su38, su39, su40, su41, su42, su43, su44, su45, su46, su47, su48, su49])
  · rw [bI_eq0] at h5
    refine r_aload_n (pc := 8) dX5_judge_8 rfl ?_
    refine r_iconst (pc := 9) (v := (-1)) dX5_judge_9 (by decide) ?_
    refine r_o2 (pc := 10) (bc' := 0) (bs' := 0) (ct_X5_no hm _ (vp_in_lit rfl)) k_X5_136_5 dX5_judge_10 (MR_k hm) (Nat.le_of_ble_eq_true rfl) ⟨Nat.le_of_ble_eq_true rfl, Nat.le_of_ble_eq_true rfl⟩ ⟨Nat.le_of_ble_eq_true rfl, Nat.le_of_ble_eq_true rfl⟩ (r_ci fun r10 M10 p10 => ?_) nox
    obtain ⟨rfl, rfl⟩ := p10
    refine r_ireturn (pc := 13) rfl dX5_judge_13 ⟨_, rfl, ?_⟩
    first
      | contradiction
      | (refine oM.of ?_ (by repeat' (first | exact frM.rf | assumption | refine frM.up0 ?_ | refine frM.up ?_ (by decide) | refine frM.upL ?_ (by decide)))
         simp (decide := true) only [judgeS, noS, noTenS, thP, mnP, shelfP, stepS, farP, eq_false h5, not_true_eq_false, not_false_eq_true, true_and, and_true, false_and, and_false, true_or, or_true, false_or, or_false, cI_True, cI_False, if_true, if_false, sm0, sm1, sm2, sm3, sm4, sm5, sm6, sm7, sm8, sm9, sm10, sm11, sm12, sm13, sm14, sm15, sm16, sm17, sm18, sm19, sm20, sm21, sm22, sm23, sm24, sm25, sm26, sm27, sm28, sm29, sm30, sm31, sm32, sm33, sm34, sm35, sm36, sm37, sm38, sm39, sm40, sm41, sm42, sm43, sm44, sm45, sm46, sm47, sm48, sm49, su0, su1, su2, su3, su4, su5, su6, su7, su8, su9, su10, su11, su12, su13, su14, su15, su16, su17, su18, su19, su20, su21, su22, su23, su24, su25, su26, su27, su28, su29, su30, su31, su32, su33, su34, su35, su36, su37, su38, su39, su40, su41, su42, su43, su44, su45, su46, su47, su48, su49])
theorem ct_X5_men_2 {M0 : PM} {mo : Nat} {I : Nat → Nat → Int32} {L : Nat → Nat → Int64} (hm : MR M0 mo) (x1 : Int32) (x2 : Int32) (x3 : Int32) (hk : OkS (sM I mo)) : Ct (YX5_men_2, (2, 42, 0, 0), qi (fun r M' => oM M0 mo I L (menRS (sS I L mo) x1 x2 x3) r M'), noX) [.ref mo, .int x1, .int x2, .int x3] (wIL M0 I L) := by
  refine ct_of [some (.ref mo), some (.int x1), some (.int x2), some (.int x3), none, none, none] rfl rfl rfl (Nat.le_of_ble_eq_true rfl) rfl rfl ?_
  have base : shelfP x1 → I (mo + 13) (Int32.toNatClampNeg x1) = 1 → ¬ x3 < 0 → ¬ x2 < 0 → ¬ I (mo + 15) (Int32.toNatClampNeg x1) - x3 < x2 → menRS (sS I L mo) x1 x2 x3 = ((menL (fun k => (L (mo + 17) (160 * (Int32.toNatClampNeg x1) + (Int32.toNatClampNeg x2) + k)).toInt32) (Int32.toNatClampNeg x3) 0 (sM I mo)).1, ((menL (fun k => (L (mo + 17) (160 * (Int32.toNatClampNeg x1) + (Int32.toNatClampNeg x2) + k)).toInt32) (Int32.toNatClampNeg x3) 0 (sM I mo)).2, L (mo + 17))) → Wx (YX5_men_2, (2, 42, 0, 0), qi (fun r M' => oM M0 mo I L (menRS (sS I L mo) x1 x2 x3) r M'), noX) 0 0 (wIL M0 I L) 53 [some (.ref mo), some (.int x1), some (.int x2), some (.int x3), some (.int 0), none, none] [] := by
    intro t2 t3 t4 t5 t6 hw0
    have hx := vp_sh t2
    obtain ⟨N, hN9, eN⟩ := nI_of t4
    obtain ⟨i0, hi9, ei⟩ := nI_of t5
    have iN : (Int32.toNatClampNeg x3) = N := by rw [eN, ix_nI (by omega)]
    have ii : (Int32.toNatClampNeg x2) = i0 := by rw [ei, ix_nI (by omega)]
    obtain ⟨S, hS, eS⟩ := bd_nI (n := 160) ((hk.2.1 (Int32.toNatClampNeg x1) (vp_in_lt hx)).2.1 t3).2
    have hNS : i0 + N ≤ S := by
      rw [show I (mo + 15) (Int32.toNatClampNeg x1) = nI S from eS, i_lt, i_sub (by rw [nI_toInt (by omega), eN, nI_toInt hN9]; omega) (by rw [nI_toInt (by omega), eN, nI_toInt hN9]; omega), nI_toInt (by omega), eN, nI_toInt hN9, ei, nI_toInt hi9] at t6
      omega
    rw [iN, ii] at hw0
    have L1 : ∀ (n : Nat) (j : Nat) (I2 : Nat → Nat → Int32) (o : Option Value), j + n = N → (∃ q : Nat, q ≤ 8 ∧ I2 mo 1 = nI q) → frM mo I I2 L L → menRS (sS I L mo) x1 x2 x3 = ((menL (fun k => (L (mo + 17) (160 * (Int32.toNatClampNeg x1) + i0 + k)).toInt32) n j (sM I2 mo)).1, ((menL (fun k => (L (mo + 17) (160 * (Int32.toNatClampNeg x1) + i0 + k)).toInt32) n j (sM I2 mo)).2, L (mo + 17))) → Wx (YX5_men_2, (2, 42, 0, 0), qi (fun r M' => oM M0 mo I L (menRS (sS I L mo) x1 x2 x3) r M'), noX) 0 0 (wIL M0 I2 L) 56 [some (.ref mo), some (.int x1), some (.int x2), some (.int x3), some (.int 0), some (.int (nI j)), o] [] := by
      intro n
      induction n with
      | zero =>
        intro j I2 o hj hq f2 hw
        refine r_iload (pc := 56) dX5_men_2_56 rfl ?_
        refine r_iload_n (pc := 58) dX5_men_2_58 rfl ?_
        refine r_icmp_ge (pc := 59) 111 dX5_men_2_59 rfl (fun _ => ?_) (fun hno => False.elim (by rw [eN, nI_ltI (by omega) (by omega)] at hno; omega))
        refine r_iload_n (pc := 111) dX5_men_2_111 rfl ?_
        refine r_ireturn (pc := 112) rfl dX5_men_2_112 ⟨_, rfl, ?_⟩
        refine oM.of ?_ f2
        rw [hw, eN, show j = N by omega]; rfl
      | succ n ih =>
        intro j I2 o hj hq f2 hw
        obtain ⟨q, hq, eq⟩ := hq
        have y1 := cix hx (vp_in_nI (n := i0 + j) (N := 160) (by omega) (by decide))
        rw [ix_nI (by omega)] at y1
        rw [menL] at hw
        refine r_iload (pc := 56) dX5_men_2_56 rfl ?_
        refine r_iload_n (pc := 58) dX5_men_2_58 rfl ?_
        refine r_icmp_ge (pc := 59) 111 dX5_men_2_59 rfl (fun hno => False.elim (by rw [eN, nI_ltI (by omega) (by omega)] at hno; omega)) (fun _ => ?_)
        refine r_aload_n (pc := 62) dX5_men_2_62 rfl ?_
        refine r_iload_n (pc := 63) dX5_men_2_63 rfl ?_
        refine r_iload_n (pc := 64) dX5_men_2_64 rfl ?_
        refine r_iload (pc := 65) dX5_men_2_65 rfl ?_
        refine r_iadd (pc := 67) dX5_men_2_67 ?_
        refine r_eqi (nI (i0 + j)) (by rw [ei, nI_add]) ?_
        refine r_o3 (pc := 68) (bc' := 0) (bs' := 0) (ct_X5_intAt hm _ _ y1.1) k_X5_159_5 dX5_men_2_68 (MR_k hm) (Nat.le_of_ble_eq_true rfl) ⟨Nat.le_of_ble_eq_true rfl, Nat.le_of_ble_eq_true rfl⟩ ⟨Nat.le_of_ble_eq_true rfl, Nat.le_of_ble_eq_true rfl⟩ (r_ci fun r68 M68 p68 => ?_) nox
        obtain ⟨rfl, rfl⟩ := p68
        refine r_eqi (L (mo + 17) (160 * (Int32.toNatClampNeg x1) + i0 + j)).toInt32 (by rw [y1.2, Nat.add_assoc]) ?_
        refine r_istore6 (pc := 71) dX5_men_2_71 rfl ?_
        refine r_aload_n (pc := 73) dX5_men_2_73 rfl ?_
        refine rm_getI (pc := 74) dX5_men_2_74 fl_X5_120_5 (MR_k hm) (fun _ _ => rfl) ?_
        refine r_bipush (pc := 77) (v := 8) dX5_men_2_77 (by decide) ?_
        refine r_icmp_eq (pc := 79) 95 dX5_men_2_79 rfl (fun h79 => ?_) (fun h79 => ?_)
        · rw [cI_t (Or.inl (show sM I2 mo 1 0 = 8 from h79))] at hw
          refine r_iload (pc := 95) dX5_men_2_95 rfl ?_
          refine r_ireturn (pc := 97) rfl dX5_men_2_97 ⟨_, rfl, ?_⟩
          refine oM.of ?_ f2
          rw [hw]
        · have hy : vp_in (I2 mo 1) 8 := by
            rw [eq]; refine vp_in_nI ?_ (by decide)
            rw [eq] at h79; have : ¬ q = 8 := fun e => h79 (by rw [e]; rfl)
            omega
          refine r_iload (pc := 82) dX5_men_2_82 rfl ?_
          refine r_iconst (pc := 84) (v := 1) dX5_men_2_84 (by decide) ?_
          refine r_icmp_lt (pc := 85) 95 dX5_men_2_85 rfl (fun h85 => ?_) (fun h85 => ?_)
          · rw [cI_t (Or.inr (Or.inl h85))] at hw
            refine r_iload (pc := 95) dX5_men_2_95 rfl ?_
            refine r_ireturn (pc := 97) rfl dX5_men_2_97 ⟨_, rfl, ?_⟩
            refine oM.of ?_ f2
            rw [hw]
          · refine r_iload (pc := 88) dX5_men_2_88 rfl ?_
            refine r_bipush (pc := 90) (v := 99) dX5_men_2_90 (by decide) ?_
            refine r_icmp_le (pc := 92) 98 dX5_men_2_92 rfl (fun h92 => ?_) (fun h92 => ?_)
            · rw [cI_f (by intro z; rcases z with z | z | z; exact h79 z; exact h85 z; exact h92 z)] at hw
              refine r_aload_n (pc := 98) dX5_men_2_98 rfl ?_
              refine r_iload (pc := 99) dX5_men_2_99 rfl ?_
              refine r_o2 (pc := 101) (bc' := 0) (bs' := 0) (ct_X5_men hm _ hy) k_X5_153_5 dX5_men_2_101 (MR_k hm) (Nat.le_of_ble_eq_true rfl) ⟨Nat.le_of_ble_eq_true rfl, Nat.le_of_ble_eq_true rfl⟩ ⟨Nat.le_of_ble_eq_true rfl, Nat.le_of_ble_eq_true rfl⟩ (r_ci fun r101 M101 p101 => ?_) nox
              obtain ⟨rfl, I3, rfl, e3, f3⟩ := p101
              refine r_pop (pc := 104) dX5_men_2_104 rfl ?_
              refine r_iinc5 (pc := 105) dX5_men_2_105 (nI_1 _) rfl ?_
              refine r_goto (pc := 108) 56 dX5_men_2_108 rfl ?_
              refine ih (j + 1) _ _ (by omega) ?_ (f2.trans f3) ?_
              · refine ⟨q + 1, ?_, ?_⟩
                · rw [eq] at h79; have : ¬ q = 8 := fun e => h79 (by rw [e]; rfl)
                  omega
                · rw [show I3 mo 1 = sM I3 mo 1 0 from rfl, e3, menS, up2_self, va_up_self, show sM I2 mo 1 0 = I2 mo 1 from rfl, eq, nI_1]
              · rw [hw, e3]
            · rw [cI_t (Or.inr (Or.inr h92))] at hw
              refine r_iload (pc := 95) dX5_men_2_95 rfl ?_
              refine r_ireturn (pc := 97) rfl dX5_men_2_97 ⟨_, rfl, ?_⟩
              refine oM.of ?_ f2
              rw [hw]
    refine r_iconst (pc := 53) (v := 0) dX5_men_2_53 (by decide) ?_
    refine r_istore5 (pc := 54) dX5_men_2_54 rfl ?_
    obtain ⟨q, h1, h2⟩ := bd_nI (n := 8) hk.1.1.2.1
    exact L1 N 0 I _ (by omega) ⟨q, h1, h2⟩ frM.rf hw0
  refine r_aload_n (pc := 0) dX5_men_2_0 rfl ?_
  refine r_iload_n (pc := 1) dX5_men_2_1 rfl ?_
  refine r_o2 (pc := 2) (bc' := 0) (bs' := 0) (ct_X5_wants hm _) k_X5_156_5 dX5_men_2_2 (MR_k hm) (Nat.le_of_ble_eq_true rfl) ⟨Nat.le_of_ble_eq_true rfl, Nat.le_of_ble_eq_true rfl⟩ ⟨Nat.le_of_ble_eq_true rfl, Nat.le_of_ble_eq_true rfl⟩ (r_ci fun r2 M2 p2 => ?_) nox
  obtain ⟨er, rfl⟩ := p2
  have ew : wantsC (sS I L mo) x1 = r2 := er.symm
  refine r_istore4 (pc := 5) dX5_men_2_5 rfl ?_
  refine r_iload (pc := 7) dX5_men_2_7 rfl ?_
  refine r_if_eq (pc := 9) 19 dX5_men_2_9 rfl (fun h9 => ?_) (fun h9 => ?_)
  · have hsh : shelfP x1 := wz_1 (ew.trans h9)
    have hx := vp_sh hsh
    have hz : I (mo + 13) (Int32.toNatClampNeg x1) = 1 := wz_2 hk (ew.trans h9)
    subst h9
    refine r_iload_n (pc := 19) dX5_men_2_19 rfl ?_
    refine r_if_ge (pc := 20) 30 dX5_men_2_20 rfl (fun h20 => ?_) (fun h20 => ?_)
    · refine r_iload_n (pc := 30) dX5_men_2_30 rfl ?_
      refine r_if_lt (pc := 31) 46 dX5_men_2_31 rfl (fun h31 => ?_) (fun h31 => ?_)
      · refine r_aload_n (pc := 46) dX5_men_2_46 rfl ?_
        refine r_bipush (pc := 47) (v := (-5)) dX5_men_2_47 (by decide) ?_
        refine r_o2 (pc := 49) (bc' := 0) (bs' := 0) (ct_X5_no hm _ (vp_in_lit rfl)) k_X5_136_5 dX5_men_2_49 (MR_k hm) (Nat.le_of_ble_eq_true rfl) ⟨Nat.le_of_ble_eq_true rfl, Nat.le_of_ble_eq_true rfl⟩ ⟨Nat.le_of_ble_eq_true rfl, Nat.le_of_ble_eq_true rfl⟩ (r_ci fun r49 M49 p49 => ?_) nox
        obtain ⟨rfl, rfl⟩ := p49
        refine r_ireturn (pc := 52) rfl dX5_men_2_52 ⟨_, rfl, ?_⟩
        first
          | contradiction
          | (refine oM.of ?_ (by repeat' (first | exact frM.rf | assumption | refine frM.up0 ?_ | refine frM.up ?_ (by decide) | refine frM.upL ?_ (by decide)))
             simp (decide := true) only [menRS, noS, noTenS, thP, mnP, shelfP, stepS, farP, ew, h20, h31, not_true_eq_false, not_false_eq_true, true_and, and_true, false_and, and_false, true_or, or_true, false_or, or_false, cI_True, cI_False, if_true, if_false, sm0, sm1, sm2, sm3, sm4, sm5, sm6, sm7, sm8, sm9, sm10, sm11, sm12, sm13, sm14, sm15, sm16, sm17, sm18, sm19, sm20, sm21, sm22, sm23, sm24, sm25, sm26, sm27, sm28, sm29, sm30, sm31, sm32, sm33, sm34, sm35, sm36, sm37, sm38, sm39, sm40, sm41, sm42, sm43, sm44, sm45, sm46, sm47, sm48, sm49, su0, su1, su2, su3, su4, su5, su6, su7, su8, su9, su10, su11, su12, su13, su14, su15, su16, su17, su18, su19, su20, su21, su22, su23, su24, su25, su26, su27, su28, su29, su30, su31, su32, su33, su34, su35, su36, su37, su38, su39, su40, su41, su42, su43, su44, su45, su46, su47, su48, su49])
      · refine r_iload_n (pc := 34) dX5_men_2_34 rfl ?_
        refine r_aload_n (pc := 35) dX5_men_2_35 rfl ?_
        refine r_getR (pc := 36) dX5_men_2_36 fl_X5_62_5 (MR_k hm) (fun _ _ => rfl) (MR_r24 hm) ?_
        refine r_iload_n (pc := 39) dX5_men_2_39 rfl ?_
        refine rm_iald (pc := 40) dX5_men_2_40 (MR_k24 hm) (MR_z24 hm) (by first | assumption | exact vp_in_lit rfl) ?_
        refine r_iload_n (pc := 41) dX5_men_2_41 rfl ?_
        refine r_isub (pc := 42) dX5_men_2_42 ?_
        refine r_icmp_le (pc := 43) 53 dX5_men_2_43 rfl (fun h43 => ?_) (fun h43 => ?_)
        · refine base hsh hz h20 h31 h43 ?_
          rw [menRS, cI_f (by intro q; exact q ew), cI_f h20, cI_f (by intro q; exact q.elim h31 h43)]
        · refine r_aload_n (pc := 46) dX5_men_2_46 rfl ?_
          refine r_bipush (pc := 47) (v := (-5)) dX5_men_2_47 (by decide) ?_
          refine r_o2 (pc := 49) (bc' := 0) (bs' := 0) (ct_X5_no hm _ (vp_in_lit rfl)) k_X5_136_5 dX5_men_2_49 (MR_k hm) (Nat.le_of_ble_eq_true rfl) ⟨Nat.le_of_ble_eq_true rfl, Nat.le_of_ble_eq_true rfl⟩ ⟨Nat.le_of_ble_eq_true rfl, Nat.le_of_ble_eq_true rfl⟩ (r_ci fun r49 M49 p49 => ?_) nox
          obtain ⟨rfl, rfl⟩ := p49
          refine r_ireturn (pc := 52) rfl dX5_men_2_52 ⟨_, rfl, ?_⟩
          first
            | contradiction
            | (refine oM.of ?_ (by repeat' (first | exact frM.rf | assumption | refine frM.up0 ?_ | refine frM.up ?_ (by decide) | refine frM.upL ?_ (by decide)))
               simp (decide := true) only [menRS, noS, noTenS, thP, mnP, shelfP, stepS, farP, ew, h20, h31, h43, not_true_eq_false, not_false_eq_true, true_and, and_true, false_and, and_false, true_or, or_true, false_or, or_false, cI_True, cI_False, if_true, if_false, sm0, sm1, sm2, sm3, sm4, sm5, sm6, sm7, sm8, sm9, sm10, sm11, sm12, sm13, sm14, sm15, sm16, sm17, sm18, sm19, sm20, sm21, sm22, sm23, sm24, sm25, sm26, sm27, sm28, sm29, sm30, sm31, sm32, sm33, sm34, sm35, sm36, sm37, sm38, sm39, sm40, sm41, sm42, sm43, sm44, sm45, sm46, sm47, sm48, sm49, su0, su1, su2, su3, su4, su5, su6, su7, su8, su9, su10, su11, su12, su13, su14, su15, su16, su17, su18, su19, su20, su21, su22, su23, su24, su25, su26, su27, su28, su29, su30, su31, su32, su33, su34, su35, su36, su37, su38, su39, su40, su41, su42, su43, su44, su45, su46, su47, su48, su49])
    · refine r_aload_n (pc := 23) dX5_men_2_23 rfl ?_
      refine r_bipush (pc := 24) (v := (-4)) dX5_men_2_24 (by decide) ?_
      refine r_o2 (pc := 26) (bc' := 0) (bs' := 0) (ct_X5_no hm _ (vp_in_lit rfl)) k_X5_136_5 dX5_men_2_26 (MR_k hm) (Nat.le_of_ble_eq_true rfl) ⟨Nat.le_of_ble_eq_true rfl, Nat.le_of_ble_eq_true rfl⟩ ⟨Nat.le_of_ble_eq_true rfl, Nat.le_of_ble_eq_true rfl⟩ (r_ci fun r26 M26 p26 => ?_) nox
      obtain ⟨rfl, rfl⟩ := p26
      refine r_ireturn (pc := 29) rfl dX5_men_2_29 ⟨_, rfl, ?_⟩
      first
        | contradiction
        | (refine oM.of ?_ (by repeat' (first | exact frM.rf | assumption | refine frM.up0 ?_ | refine frM.up ?_ (by decide) | refine frM.upL ?_ (by decide)))
           simp (decide := true) only [menRS, noS, noTenS, thP, mnP, shelfP, stepS, farP, ew, h20, not_true_eq_false, not_false_eq_true, true_and, and_true, false_and, and_false, true_or, or_true, false_or, or_false, cI_True, cI_False, if_true, if_false, sm0, sm1, sm2, sm3, sm4, sm5, sm6, sm7, sm8, sm9, sm10, sm11, sm12, sm13, sm14, sm15, sm16, sm17, sm18, sm19, sm20, sm21, sm22, sm23, sm24, sm25, sm26, sm27, sm28, sm29, sm30, sm31, sm32, sm33, sm34, sm35, sm36, sm37, sm38, sm39, sm40, sm41, sm42, sm43, sm44, sm45, sm46, sm47, sm48, sm49, su0, su1, su2, su3, su4, su5, su6, su7, su8, su9, su10, su11, su12, su13, su14, su15, su16, su17, su18, su19, su20, su21, su22, su23, su24, su25, su26, su27, su28, su29, su30, su31, su32, su33, su34, su35, su36, su37, su38, su39, su40, su41, su42, su43, su44, su45, su46, su47, su48, su49])
  · refine r_aload_n (pc := 12) dX5_men_2_12 rfl ?_
    refine r_iload (pc := 13) dX5_men_2_13 rfl ?_
    refine r_o2 (pc := 15) (bc' := 0) (bs' := 0) (ct_X5_no hm _ (wz_3 h9 ew)) k_X5_136_5 dX5_men_2_15 (MR_k hm) (Nat.le_of_ble_eq_true rfl) ⟨Nat.le_of_ble_eq_true rfl, Nat.le_of_ble_eq_true rfl⟩ ⟨Nat.le_of_ble_eq_true rfl, Nat.le_of_ble_eq_true rfl⟩ (r_ci fun r15 M15 p15 => ?_) nox
    obtain ⟨rfl, rfl⟩ := p15
    refine r_ireturn (pc := 18) rfl dX5_men_2_18 ⟨_, rfl, ?_⟩
    first
      | contradiction
      | (refine oM.of ?_ (by repeat' (first | exact frM.rf | assumption | refine frM.up0 ?_ | refine frM.up ?_ (by decide) | refine frM.upL ?_ (by decide)))
         simp (decide := true) only [menRS, noS, noTenS, thP, mnP, shelfP, stepS, farP, ew, h9, not_true_eq_false, not_false_eq_true, true_and, and_true, false_and, and_false, true_or, or_true, false_or, or_false, cI_True, cI_False, if_true, if_false, sm0, sm1, sm2, sm3, sm4, sm5, sm6, sm7, sm8, sm9, sm10, sm11, sm12, sm13, sm14, sm15, sm16, sm17, sm18, sm19, sm20, sm21, sm22, sm23, sm24, sm25, sm26, sm27, sm28, sm29, sm30, sm31, sm32, sm33, sm34, sm35, sm36, sm37, sm38, sm39, sm40, sm41, sm42, sm43, sm44, sm45, sm46, sm47, sm48, sm49, su0, su1, su2, su3, su4, su5, su6, su7, su8, su9, su10, su11, su12, su13, su14, su15, su16, su17, su18, su19, su20, su21, su22, su23, su24, su25, su26, su27, su28, su29, su30, su31, su32, su33, su34, su35, su36, su37, su38, su39, su40, su41, su42, su43, su44, su45, su46, su47, su48, su49])
theorem ct_X5_copy {M0 : PM} {mo : Nat} {I : Nat → Nat → Int32} {L : Nat → Nat → Int64} (hm : MR M0 mo) (x1 : Int32) (x2 : Int32) (x3 : Int32) (x4 : Int32) (x5 : Int32) (hk : OkS (sM I mo)) : Ct (YX5_copy, (1, 21, 0, 0), qi (fun r M' => oM M0 mo I L (copyS (sS I L mo) x1 x2 x3 x4 x5) r M'), noX) [.ref mo, .int x1, .int x2, .int x3, .int x4, .int x5] (wIL M0 I L) := by
  refine ct_of [some (.ref mo), some (.int x1), some (.int x2), some (.int x3), some (.int x4), some (.int x5), none] rfl rfl rfl (Nat.le_of_ble_eq_true rfl) rfl rfl ?_
  have base : shelfP x1 → shelfP x2 → I (mo + 13) (Int32.toNatClampNeg x1) = 1 → I (mo + 13) (Int32.toNatClampNeg x2) = 1 → ¬ x5 < 0 → ¬ x3 < 0 → ¬ x4 < 0 → ¬ I (mo + 15) (Int32.toNatClampNeg x1) - x5 < x3 → ¬ I (mo + 15) (Int32.toNatClampNeg x2) - x5 < x4 → copyS (sS I L mo) x1 x2 x3 x4 x5 = (1, (sM I mo, va_cpy (L (mo + 17)) (L (mo + 17)) (160 * (Int32.toNatClampNeg x1) + (Int32.toNatClampNeg x3)) (160 * (Int32.toNatClampNeg x2) + (Int32.toNatClampNeg x4)) (Int32.toNatClampNeg x5))) → Wx (YX5_copy, (1, 21, 0, 0), qi (fun r M' => oM M0 mo I L (copyS (sS I L mo) x1 x2 x3 x4 x5) r M'), noX) 0 0 (wIL M0 I L) 164 [some (.ref mo), some (.int x1), some (.int x2), some (.int x3), some (.int x4), some (.int x5), none] [] := by
    intro t1 t2 z1 z2 t4 t5 t6 t7 t8 hw0
    have hx := vp_sh t1
    have hx2 := vp_sh t2
    obtain ⟨N, hN9, eN⟩ := nI_of t4
    obtain ⟨i0, hi9, ei⟩ := nI_of t5
    obtain ⟨j0, hj9, ej0⟩ := nI_of t6
    have iN : (Int32.toNatClampNeg x5) = N := by rw [eN, ix_nI (by omega)]
    have ii : (Int32.toNatClampNeg x3) = i0 := by rw [ei, ix_nI (by omega)]
    have ij : (Int32.toNatClampNeg x4) = j0 := by rw [ej0, ix_nI (by omega)]
    obtain ⟨S, hS, eS⟩ := bd_nI (n := 160) ((hk.2.1 (Int32.toNatClampNeg x1) (vp_in_lt hx)).2.1 z1).2
    obtain ⟨S2, hS2, eS2⟩ := bd_nI (n := 160) ((hk.2.1 (Int32.toNatClampNeg x2) (vp_in_lt hx2)).2.1 z2).2
    have hNS : i0 + N ≤ S := by
      rw [show I (mo + 15) (Int32.toNatClampNeg x1) = nI S from eS, i_lt, i_sub (by rw [nI_toInt (by omega), eN, nI_toInt hN9]; omega) (by rw [nI_toInt (by omega), eN, nI_toInt hN9]; omega), nI_toInt (by omega), eN, nI_toInt hN9, ei, nI_toInt hi9] at t7
      omega
    have hNS2 : j0 + N ≤ S2 := by
      rw [show I (mo + 15) (Int32.toNatClampNeg x2) = nI S2 from eS2, i_lt, i_sub (by rw [nI_toInt (by omega), eN, nI_toInt hN9]; omega) (by rw [nI_toInt (by omega), eN, nI_toInt hN9]; omega), nI_toInt (by omega), eN, nI_toInt hN9, ej0, nI_toInt hj9] at t8
      omega
    rw [iN, ii, ij] at hw0
    have L2 : ∀ (n : Nat) (j : Nat) (L1 L2 : Nat → Nat → Int64), j + n = N → (∀ x, x ≠ mo + 18 → L1 x = L x) → (∀ i, i < N → L1 (mo + 18) i = L (mo + 17) (160 * (Int32.toNatClampNeg x1) + i0 + i)) → (∀ x, x ≠ mo + 17 → L2 x = L1 x) → L2 (mo + 17) = va_cpy (L (mo + 17)) (L (mo + 17)) (160 * (Int32.toNatClampNeg x1) + i0) (160 * (Int32.toNatClampNeg x2) + j0) j → Wx (YX5_copy, (1, 21, 0, 0), qi (fun r M' => oM M0 mo I L (copyS (sS I L mo) x1 x2 x3 x4 x5) r M'), noX) 0 0 (wIL M0 I L2) 205 [some (.ref mo), some (.int x1), some (.int x2), some (.int x3), some (.int x4), some (.int x5), some (.int (nI j))] [] := by
      intro n
      induction n with
      | zero =>
        intro j L1 L2 hj a1 a2 a3 a4
        refine r_iload (pc := 205) dX5_copy_205 rfl ?_
        refine r_iload (pc := 207) dX5_copy_207 rfl ?_
        refine r_icmp_ge (pc := 209) 241 dX5_copy_209 rfl (fun _ => ?_) (fun hno => False.elim (by rw [eN, nI_ltI (by omega) (by omega)] at hno; omega))
        refine r_iconst (pc := 241) (v := 1) dX5_copy_241 (by decide) ?_
        refine r_ireturn (pc := 242) rfl dX5_copy_242 ⟨_, rfl, ?_⟩
        refine oM.of ?_ (fun a ha => ⟨rfl, (a3 a (by omega)).trans (a1 a (by omega))⟩)
        rw [hw0, a4, show j = N by omega]
      | succ n ih =>
        intro j L1 L2 hj a1 a2 a3 a4
        have y1 := cix hx2 (vp_in_nI (n := j0 + j) (N := 160) (by omega) (by decide))
        rw [ix_nI (by omega), ← nI_add, ← ej0, ← Int32.add_assoc] at y1
        have hv : vp_in (nI j) 160 := vp_in_nI (by omega) (by decide)
        have ej : Int32.toNatClampNeg (nI j) = j := ix_nI (by omega)
        refine r_iload (pc := 205) dX5_copy_205 rfl ?_
        refine r_iload (pc := 207) dX5_copy_207 rfl ?_
        refine r_icmp_ge (pc := 209) 241 dX5_copy_209 rfl (fun hno => False.elim (by rw [eN, nI_ltI (by omega) (by omega)] at hno; omega)) (fun _ => ?_)
        refine r_aload_n (pc := 212) dX5_copy_212 rfl ?_
        refine r_getR (pc := 213) dX5_copy_213 fl_X5_68_5 (MR_k hm) (fun _ _ => rfl) (MR_r26 hm) ?_
        refine r_sipush (pc := 216) (v := 160) dX5_copy_216 (by decide) ?_
        refine r_iload_n (pc := 219) dX5_copy_219 rfl ?_
        refine r_imul (pc := 220) dX5_copy_220 ?_
        refine r_iload (pc := 221) dX5_copy_221 rfl ?_
        refine r_iadd (pc := 223) dX5_copy_223 ?_
        refine r_iload (pc := 224) dX5_copy_224 rfl ?_
        refine r_iadd (pc := 226) dX5_copy_226 ?_
        refine r_aload_n (pc := 227) dX5_copy_227 rfl ?_
        refine r_getR (pc := 228) dX5_copy_228 fl_X5_72_5 (MR_k hm) (fun _ _ => rfl) (MR_r27 hm) ?_
        refine r_iload (pc := 231) dX5_copy_231 rfl ?_
        refine rm_lald (pc := 233) dX5_copy_233 (MR_k27 hm) (MR_z27 hm) (by first | assumption | exact vp_in_lit rfl) ?_
        refine rm_last (pc := 234) dX5_copy_234 (MR_k26 hm) (MR_z26 hm) y1.1 ?_
        rw [y1.2, ej, a3 (mo + 18) (by omega), a2 j (by omega)]
        refine r_iinc6 (pc := 235) dX5_copy_235 (nI_1 _) rfl ?_
        refine r_goto (pc := 238) 205 dX5_copy_238 rfl ?_
        refine ih (j + 1) L1 _ (by omega) a1 a2 (fun x hx => (up2_ne hx).trans (a3 x hx)) ?_
        rw [up2_self, a4]
        funext k
        simp only [va_up, va_cpy]
        by_cases e : k = 160 * (Int32.toNatClampNeg x2) + (j0 + j)
        · rw [if_pos e, if_pos (by omega), e]
          congr 1; omega
        · rw [if_neg e]
          by_cases g : 160 * (Int32.toNatClampNeg x2) + j0 ≤ k ∧ k < 160 * (Int32.toNatClampNeg x2) + j0 + j
          · rw [if_pos g, if_pos (by omega)]
          · rw [if_neg g, if_neg (by omega)]
    have L1 : ∀ (n : Nat) (j : Nat) (L1 : Nat → Nat → Int64), j + n = N → (∀ x, x ≠ mo + 18 → L1 x = L x) → (∀ i, i < j → L1 (mo + 18) i = L (mo + 17) (160 * (Int32.toNatClampNeg x1) + i0 + i)) → Wx (YX5_copy, (1, 21, 0, 0), qi (fun r M' => oM M0 mo I L (copyS (sS I L mo) x1 x2 x3 x4 x5) r M'), noX) 0 0 (wIL M0 I L1) 167 [some (.ref mo), some (.int x1), some (.int x2), some (.int x3), some (.int x4), some (.int x5), some (.int (nI j))] [] := by
      intro n
      induction n with
      | zero =>
        intro j L1 hj a1 a2
        refine r_iload (pc := 167) dX5_copy_167 rfl ?_
        refine r_iload (pc := 169) dX5_copy_169 rfl ?_
        refine r_icmp_ge (pc := 171) 202 dX5_copy_171 rfl (fun _ => ?_) (fun hno => False.elim (by rw [eN, nI_ltI (by omega) (by omega)] at hno; omega))
        refine r_iconst (pc := 202) (v := 0) dX5_copy_202 (by decide) ?_
        refine r_istore6 (pc := 203) dX5_copy_203 rfl ?_
        refine L2 N 0 L1 L1 (by omega) a1 (fun i hi => a2 i (by omega)) (fun _ _ => rfl) ?_
        rw [a1 _ (by omega)]
        funext k
        simp only [va_cpy]
        rw [if_neg (by omega)]
      | succ n ih =>
        intro j L1 hj a1 a2
        have y1 := cix hx (vp_in_nI (n := i0 + j) (N := 160) (by omega) (by decide))
        rw [ix_nI (by omega), ← nI_add, ← ei, ← Int32.add_assoc] at y1
        have hv : vp_in (nI j) 160 := vp_in_nI (by omega) (by decide)
        have ej : Int32.toNatClampNeg (nI j) = j := ix_nI (by omega)
        refine r_iload (pc := 167) dX5_copy_167 rfl ?_
        refine r_iload (pc := 169) dX5_copy_169 rfl ?_
        refine r_icmp_ge (pc := 171) 202 dX5_copy_171 rfl (fun hno => False.elim (by rw [eN, nI_ltI (by omega) (by omega)] at hno; omega)) (fun _ => ?_)
        refine r_aload_n (pc := 174) dX5_copy_174 rfl ?_
        refine r_getR (pc := 175) dX5_copy_175 fl_X5_72_5 (MR_k hm) (fun _ _ => rfl) (MR_r27 hm) ?_
        refine r_iload (pc := 178) dX5_copy_178 rfl ?_
        refine r_aload_n (pc := 180) dX5_copy_180 rfl ?_
        refine r_getR (pc := 181) dX5_copy_181 fl_X5_68_5 (MR_k hm) (fun _ _ => rfl) (MR_r26 hm) ?_
        refine r_sipush (pc := 184) (v := 160) dX5_copy_184 (by decide) ?_
        refine r_iload_n (pc := 187) dX5_copy_187 rfl ?_
        refine r_imul (pc := 188) dX5_copy_188 ?_
        refine r_iload_n (pc := 189) dX5_copy_189 rfl ?_
        refine r_iadd (pc := 190) dX5_copy_190 ?_
        refine r_iload (pc := 191) dX5_copy_191 rfl ?_
        refine r_iadd (pc := 193) dX5_copy_193 ?_
        refine rm_lald (pc := 194) dX5_copy_194 (MR_k26 hm) (MR_z26 hm) y1.1 ?_
        refine rm_last (pc := 195) dX5_copy_195 (MR_k27 hm) (MR_z27 hm) (by first | assumption | exact vp_in_lit rfl) ?_
        rw [y1.2, ej, a1 (mo + 17) (by omega)]
        refine r_iinc6 (pc := 196) dX5_copy_196 (nI_1 _) rfl ?_
        refine r_goto (pc := 199) 167 dX5_copy_199 rfl ?_
        refine ih (j + 1) _ (by omega) (fun x hx => (up2_ne hx).trans (a1 x hx)) (fun i hi => ?_)
        rw [up2_self]
        by_cases e : i = j
        · subst e; rw [va_up_self, Nat.add_assoc]
        · rw [va_up_ne _ _ e]; exact a2 i (by omega)
    refine r_iconst (pc := 164) (v := 0) dX5_copy_164 (by decide) ?_
    refine r_istore6 (pc := 165) dX5_copy_165 rfl ?_
    exact L1 N 0 L (by omega) (fun _ _ => rfl) (fun i hi => absurd hi (by omega))
  refine r_aload_n (pc := 0) dX5_copy_0 rfl ?_
  refine r_iload_n (pc := 1) dX5_copy_1 rfl ?_
  refine r_o2 (pc := 2) (bc' := 0) (bs' := 0) (ct_X5_isShelf hm _) k_X5_133_5 dX5_copy_2 (MR_k hm) (Nat.le_of_ble_eq_true rfl) ⟨Nat.le_of_ble_eq_true rfl, Nat.le_of_ble_eq_true rfl⟩ ⟨Nat.le_of_ble_eq_true rfl, Nat.le_of_ble_eq_true rfl⟩ (r_ci fun r2 M2 p2 => ?_) nox
  obtain ⟨rfl, rfl⟩ := p2
  refine r_if_eq (pc := 5) 16 dX5_copy_5 rfl (fun h5 => ?_) (fun h5 => ?_)
  · rw [bI_eq0] at h5
    refine r_aload_n (pc := 16) dX5_copy_16 rfl ?_
    refine r_iconst (pc := 17) (v := (-1)) dX5_copy_17 (by decide) ?_
    refine r_o2 (pc := 18) (bc' := 0) (bs' := 0) (ct_X5_no hm _ (vp_in_lit rfl)) k_X5_136_5 dX5_copy_18 (MR_k hm) (Nat.le_of_ble_eq_true rfl) ⟨Nat.le_of_ble_eq_true rfl, Nat.le_of_ble_eq_true rfl⟩ ⟨Nat.le_of_ble_eq_true rfl, Nat.le_of_ble_eq_true rfl⟩ (r_ci fun r18 M18 p18 => ?_) nox
    obtain ⟨rfl, rfl⟩ := p18
    refine r_ireturn (pc := 21) rfl dX5_copy_21 ⟨_, rfl, ?_⟩
    first
      | contradiction
      | (refine oM.of ?_ (by repeat' (first | exact frM.rf | assumption | refine frM.up0 ?_ | refine frM.up ?_ (by decide) | refine frM.upL ?_ (by decide)))
         simp (decide := true) only [copyS, noS, noTenS, thP, mnP, shelfP, stepS, farP, eq_false h5, not_true_eq_false, not_false_eq_true, true_and, and_true, false_and, and_false, true_or, or_true, false_or, or_false, cI_True, cI_False, if_true, if_false, sm0, sm1, sm2, sm3, sm4, sm5, sm6, sm7, sm8, sm9, sm10, sm11, sm12, sm13, sm14, sm15, sm16, sm17, sm18, sm19, sm20, sm21, sm22, sm23, sm24, sm25, sm26, sm27, sm28, sm29, sm30, sm31, sm32, sm33, sm34, sm35, sm36, sm37, sm38, sm39, sm40, sm41, sm42, sm43, sm44, sm45, sm46, sm47, sm48, sm49, su0, su1, su2, su3, su4, su5, su6, su7, su8, su9, su10, su11, su12, su13, su14, su15, su16, su17, su18, su19, su20, su21, su22, su23, su24, su25, su26, su27, su28, su29, su30, su31, su32, su33, su34, su35, su36, su37, su38, su39, su40, su41, su42, su43, su44, su45, su46, su47, su48, su49])
  · rw [bI_ne0] at h5
    have hx := vp_sh h5
    refine r_aload_n (pc := 8) dX5_copy_8 rfl ?_
    refine r_iload_n (pc := 9) dX5_copy_9 rfl ?_
    refine r_o2 (pc := 10) (bc' := 0) (bs' := 0) (ct_X5_isShelf hm _) k_X5_133_5 dX5_copy_10 (MR_k hm) (Nat.le_of_ble_eq_true rfl) ⟨Nat.le_of_ble_eq_true rfl, Nat.le_of_ble_eq_true rfl⟩ ⟨Nat.le_of_ble_eq_true rfl, Nat.le_of_ble_eq_true rfl⟩ (r_ci fun r10 M10 p10 => ?_) nox
    obtain ⟨rfl, rfl⟩ := p10
    refine r_if_ne (pc := 13) 22 dX5_copy_13 rfl (fun h13 => ?_) (fun h13 => ?_)
    · rw [bI_ne0] at h13
      have hx2 := vp_sh h13
      refine r_aload_n (pc := 22) dX5_copy_22 rfl ?_
      refine r_getR (pc := 23) dX5_copy_23 fl_X5_56_5 (MR_k hm) (fun _ _ => rfl) (MR_r22 hm) ?_
      refine r_iload_n (pc := 26) dX5_copy_26 rfl ?_
      refine rm_iald (pc := 27) dX5_copy_27 (MR_k22 hm) (MR_z22 hm) (by first | assumption | exact vp_in_lit rfl) ?_
      refine r_iconst (pc := 28) (v := 2) dX5_copy_28 (by decide) ?_
      refine r_icmp_eq (pc := 29) 77 dX5_copy_29 rfl (fun h29 => ?_) (fun h29 => ?_)
      · refine r_aload_n (pc := 77) dX5_copy_77 rfl ?_
        refine r_bipush (pc := 78) (v := (-2)) dX5_copy_78 (by decide) ?_
        refine r_o2 (pc := 80) (bc' := 0) (bs' := 0) (ct_X5_no hm _ (vp_in_lit rfl)) k_X5_136_5 dX5_copy_80 (MR_k hm) (Nat.le_of_ble_eq_true rfl) ⟨Nat.le_of_ble_eq_true rfl, Nat.le_of_ble_eq_true rfl⟩ ⟨Nat.le_of_ble_eq_true rfl, Nat.le_of_ble_eq_true rfl⟩ (r_ci fun r80 M80 p80 => ?_) nox
        obtain ⟨rfl, rfl⟩ := p80
        refine r_ireturn (pc := 83) rfl dX5_copy_83 ⟨_, rfl, ?_⟩
        first
          | contradiction
          | (refine oM.of ?_ (by repeat' (first | exact frM.rf | assumption | refine frM.up0 ?_ | refine frM.up ?_ (by decide) | refine frM.upL ?_ (by decide)))
             simp (decide := true) only [copyS, noS, noTenS, thP, mnP, shelfP, stepS, farP, eq_true h5, eq_true h13, h29, not_true_eq_false, not_false_eq_true, true_and, and_true, false_and, and_false, true_or, or_true, false_or, or_false, cI_True, cI_False, if_true, if_false, sm0, sm1, sm2, sm3, sm4, sm5, sm6, sm7, sm8, sm9, sm10, sm11, sm12, sm13, sm14, sm15, sm16, sm17, sm18, sm19, sm20, sm21, sm22, sm23, sm24, sm25, sm26, sm27, sm28, sm29, sm30, sm31, sm32, sm33, sm34, sm35, sm36, sm37, sm38, sm39, sm40, sm41, sm42, sm43, sm44, sm45, sm46, sm47, sm48, sm49, su0, su1, su2, su3, su4, su5, su6, su7, su8, su9, su10, su11, su12, su13, su14, su15, su16, su17, su18, su19, su20, su21, su22, su23, su24, su25, su26, su27, su28, su29, su30, su31, su32, su33, su34, su35, su36, su37, su38, su39, su40, su41, su42, su43, su44, su45, su46, su47, su48, su49])
      · refine r_aload_n (pc := 32) dX5_copy_32 rfl ?_
        refine r_getR (pc := 33) dX5_copy_33 fl_X5_56_5 (MR_k hm) (fun _ _ => rfl) (MR_r22 hm) ?_
        refine r_iload_n (pc := 36) dX5_copy_36 rfl ?_
        refine rm_iald (pc := 37) dX5_copy_37 (MR_k22 hm) (MR_z22 hm) (by first | assumption | exact vp_in_lit rfl) ?_
        refine r_iconst (pc := 38) (v := 2) dX5_copy_38 (by decide) ?_
        refine r_icmp_eq (pc := 39) 77 dX5_copy_39 rfl (fun h39 => ?_) (fun h39 => ?_)
        · refine r_aload_n (pc := 77) dX5_copy_77 rfl ?_
          refine r_bipush (pc := 78) (v := (-2)) dX5_copy_78 (by decide) ?_
          refine r_o2 (pc := 80) (bc' := 0) (bs' := 0) (ct_X5_no hm _ (vp_in_lit rfl)) k_X5_136_5 dX5_copy_80 (MR_k hm) (Nat.le_of_ble_eq_true rfl) ⟨Nat.le_of_ble_eq_true rfl, Nat.le_of_ble_eq_true rfl⟩ ⟨Nat.le_of_ble_eq_true rfl, Nat.le_of_ble_eq_true rfl⟩ (r_ci fun r80 M80 p80 => ?_) nox
          obtain ⟨rfl, rfl⟩ := p80
          refine r_ireturn (pc := 83) rfl dX5_copy_83 ⟨_, rfl, ?_⟩
          first
            | contradiction
            | (refine oM.of ?_ (by repeat' (first | exact frM.rf | assumption | refine frM.up0 ?_ | refine frM.up ?_ (by decide) | refine frM.upL ?_ (by decide)))
               simp (decide := true) only [copyS, noS, noTenS, thP, mnP, shelfP, stepS, farP, eq_true h5, eq_true h13, h29, h39, not_true_eq_false, not_false_eq_true, true_and, and_true, false_and, and_false, true_or, or_true, false_or, or_false, cI_True, cI_False, if_true, if_false, sm0, sm1, sm2, sm3, sm4, sm5, sm6, sm7, sm8, sm9, sm10, sm11, sm12, sm13, sm14, sm15, sm16, sm17, sm18, sm19, sm20, sm21, sm22, sm23, sm24, sm25, sm26, sm27, sm28, sm29, sm30, sm31, sm32, sm33, sm34, sm35, sm36, sm37, sm38, sm39, sm40, sm41, sm42, sm43, sm44, sm45, sm46, sm47, sm48, sm49, su0, su1, su2, su3, su4, su5, su6, su7, su8, su9, su10, su11, su12, su13, su14, su15, su16, su17, su18, su19, su20, su21, su22, su23, su24, su25, su26, su27, su28, su29, su30, su31, su32, su33, su34, su35, su36, su37, su38, su39, su40, su41, su42, su43, su44, su45, su46, su47, su48, su49])
        · refine r_aload_n (pc := 42) dX5_copy_42 rfl ?_
          refine r_getR (pc := 43) dX5_copy_43 fl_X5_56_5 (MR_k hm) (fun _ _ => rfl) (MR_r22 hm) ?_
          refine r_iload_n (pc := 46) dX5_copy_46 rfl ?_
          refine rm_iald (pc := 47) dX5_copy_47 (MR_k22 hm) (MR_z22 hm) (by first | assumption | exact vp_in_lit rfl) ?_
          refine r_iconst (pc := 48) (v := 1) dX5_copy_48 (by decide) ?_
          refine r_icmp_ne (pc := 49) 84 dX5_copy_49 rfl (fun h49 => ?_) (fun h49 => ?_)
          · refine r_aload_n (pc := 84) dX5_copy_84 rfl ?_
            refine r_getR (pc := 85) dX5_copy_85 fl_X5_56_5 (MR_k hm) (fun _ _ => rfl) (MR_r22 hm) ?_
            refine r_iload_n (pc := 88) dX5_copy_88 rfl ?_
            refine rm_iald (pc := 89) dX5_copy_89 (MR_k22 hm) (MR_z22 hm) (by first | assumption | exact vp_in_lit rfl) ?_
            refine r_if_eq (pc := 90) 102 dX5_copy_90 rfl (fun h90 => ?_) (fun h90 => ?_)
            · refine r_aload_n (pc := 102) dX5_copy_102 rfl ?_
              refine r_bipush (pc := 103) (v := (-3)) dX5_copy_103 (by decide) ?_
              refine r_o2 (pc := 105) (bc' := 0) (bs' := 0) (ct_X5_no hm _ (vp_in_lit rfl)) k_X5_136_5 dX5_copy_105 (MR_k hm) (Nat.le_of_ble_eq_true rfl) ⟨Nat.le_of_ble_eq_true rfl, Nat.le_of_ble_eq_true rfl⟩ ⟨Nat.le_of_ble_eq_true rfl, Nat.le_of_ble_eq_true rfl⟩ (r_ci fun r105 M105 p105 => ?_) nox
              obtain ⟨rfl, rfl⟩ := p105
              refine r_ireturn (pc := 108) rfl dX5_copy_108 ⟨_, rfl, ?_⟩
              first
                | exact absurd (h90.symm.trans h49) (by decide)
                | exact absurd (h99.symm.trans h59) (by decide)
                | contradiction
                | (refine oM.of ?_ (by repeat' (first | exact frM.rf | assumption | refine frM.up0 ?_ | refine frM.up ?_ (by decide) | refine frM.upL ?_ (by decide)))
                   simp (decide := true) only [copyS, noS, noTenS, thP, mnP, shelfP, stepS, farP, eq_true h5, eq_true h13, h29, h39, h49, h90, not_true_eq_false, not_false_eq_true, true_and, and_true, false_and, and_false, true_or, or_true, false_or, or_false, cI_True, cI_False, if_true, if_false, sm0, sm1, sm2, sm3, sm4, sm5, sm6, sm7, sm8, sm9, sm10, sm11, sm12, sm13, sm14, sm15, sm16, sm17, sm18, sm19, sm20, sm21, sm22, sm23, sm24, sm25, sm26, sm27, sm28, sm29, sm30, sm31, sm32, sm33, sm34, sm35, sm36, sm37, sm38, sm39, sm40, sm41, sm42, sm43, sm44, sm45, sm46, sm47, sm48, sm49, su0, su1, su2, su3, su4, su5, su6, su7, su8, su9, su10, su11, su12, su13, su14, su15, su16, su17, su18, su19, su20, su21, su22, su23, su24, su25, su26, su27, su28, su29, su30, su31, su32, su33, su34, su35, su36, su37, su38, su39, su40, su41, su42, su43, su44, su45, su46, su47, su48, su49])
            · refine r_aload_n (pc := 93) dX5_copy_93 rfl ?_
              refine r_getR (pc := 94) dX5_copy_94 fl_X5_56_5 (MR_k hm) (fun _ _ => rfl) (MR_r22 hm) ?_
              refine r_iload_n (pc := 97) dX5_copy_97 rfl ?_
              refine rm_iald (pc := 98) dX5_copy_98 (MR_k22 hm) (MR_z22 hm) (by first | assumption | exact vp_in_lit rfl) ?_
              refine r_if_ne (pc := 99) 109 dX5_copy_99 rfl (fun h99 => ?_) (fun h99 => ?_)
              · refine r_iload (pc := 109) dX5_copy_109 rfl ?_
                refine r_if_ge (pc := 111) 121 dX5_copy_111 rfl (fun h111 => ?_) (fun h111 => ?_)
                · refine r_iload_n (pc := 121) dX5_copy_121 rfl ?_
                  refine r_if_lt (pc := 122) 157 dX5_copy_122 rfl (fun h122 => ?_) (fun h122 => ?_)
                  · refine r_aload_n (pc := 157) dX5_copy_157 rfl ?_
                    refine r_bipush (pc := 158) (v := (-5)) dX5_copy_158 (by decide) ?_
                    refine r_o2 (pc := 160) (bc' := 0) (bs' := 0) (ct_X5_no hm _ (vp_in_lit rfl)) k_X5_136_5 dX5_copy_160 (MR_k hm) (Nat.le_of_ble_eq_true rfl) ⟨Nat.le_of_ble_eq_true rfl, Nat.le_of_ble_eq_true rfl⟩ ⟨Nat.le_of_ble_eq_true rfl, Nat.le_of_ble_eq_true rfl⟩ (r_ci fun r160 M160 p160 => ?_) nox
                    obtain ⟨rfl, rfl⟩ := p160
                    refine r_ireturn (pc := 163) rfl dX5_copy_163 ⟨_, rfl, ?_⟩
                    first
                      | contradiction
                      | (refine oM.of ?_ (by repeat' (first | exact frM.rf | assumption | refine frM.up0 ?_ | refine frM.up ?_ (by decide) | refine frM.upL ?_ (by decide)))
                         simp (decide := true) only [copyS, noS, noTenS, thP, mnP, shelfP, stepS, farP, eq_true h5, eq_true h13, h29, h39, h49, h90, h99, h111, h122, not_true_eq_false, not_false_eq_true, true_and, and_true, false_and, and_false, true_or, or_true, false_or, or_false, cI_True, cI_False, if_true, if_false, sm0, sm1, sm2, sm3, sm4, sm5, sm6, sm7, sm8, sm9, sm10, sm11, sm12, sm13, sm14, sm15, sm16, sm17, sm18, sm19, sm20, sm21, sm22, sm23, sm24, sm25, sm26, sm27, sm28, sm29, sm30, sm31, sm32, sm33, sm34, sm35, sm36, sm37, sm38, sm39, sm40, sm41, sm42, sm43, sm44, sm45, sm46, sm47, sm48, sm49, su0, su1, su2, su3, su4, su5, su6, su7, su8, su9, su10, su11, su12, su13, su14, su15, su16, su17, su18, su19, su20, su21, su22, su23, su24, su25, su26, su27, su28, su29, su30, su31, su32, su33, su34, su35, su36, su37, su38, su39, su40, su41, su42, su43, su44, su45, su46, su47, su48, su49])
                  · refine r_iload (pc := 125) dX5_copy_125 rfl ?_
                    refine r_if_lt (pc := 127) 157 dX5_copy_127 rfl (fun h127 => ?_) (fun h127 => ?_)
                    · refine r_aload_n (pc := 157) dX5_copy_157 rfl ?_
                      refine r_bipush (pc := 158) (v := (-5)) dX5_copy_158 (by decide) ?_
                      refine r_o2 (pc := 160) (bc' := 0) (bs' := 0) (ct_X5_no hm _ (vp_in_lit rfl)) k_X5_136_5 dX5_copy_160 (MR_k hm) (Nat.le_of_ble_eq_true rfl) ⟨Nat.le_of_ble_eq_true rfl, Nat.le_of_ble_eq_true rfl⟩ ⟨Nat.le_of_ble_eq_true rfl, Nat.le_of_ble_eq_true rfl⟩ (r_ci fun r160 M160 p160 => ?_) nox
                      obtain ⟨rfl, rfl⟩ := p160
                      refine r_ireturn (pc := 163) rfl dX5_copy_163 ⟨_, rfl, ?_⟩
                      first
                        | contradiction
                        | (refine oM.of ?_ (by repeat' (first | exact frM.rf | assumption | refine frM.up0 ?_ | refine frM.up ?_ (by decide) | refine frM.upL ?_ (by decide)))
                           simp (decide := true) only [copyS, noS, noTenS, thP, mnP, shelfP, stepS, farP, eq_true h5, eq_true h13, h29, h39, h49, h90, h99, h111, h122, h127, not_true_eq_false, not_false_eq_true, true_and, and_true, false_and, and_false, true_or, or_true, false_or, or_false, cI_True, cI_False, if_true, if_false, sm0, sm1, sm2, sm3, sm4, sm5, sm6, sm7, sm8, sm9, sm10, sm11, sm12, sm13, sm14, sm15, sm16, sm17, sm18, sm19, sm20, sm21, sm22, sm23, sm24, sm25, sm26, sm27, sm28, sm29, sm30, sm31, sm32, sm33, sm34, sm35, sm36, sm37, sm38, sm39, sm40, sm41, sm42, sm43, sm44, sm45, sm46, sm47, sm48, sm49, su0, su1, su2, su3, su4, su5, su6, su7, su8, su9, su10, su11, su12, su13, su14, su15, su16, su17, su18, su19, su20, su21, su22, su23, su24, su25, su26, su27, su28, su29, su30, su31, su32, su33, su34, su35, su36, su37, su38, su39, su40, su41, su42, su43, su44, su45, su46, su47, su48, su49])
                    · refine r_iload_n (pc := 130) dX5_copy_130 rfl ?_
                      refine r_aload_n (pc := 131) dX5_copy_131 rfl ?_
                      refine r_getR (pc := 132) dX5_copy_132 fl_X5_62_5 (MR_k hm) (fun _ _ => rfl) (MR_r24 hm) ?_
                      refine r_iload_n (pc := 135) dX5_copy_135 rfl ?_
                      refine rm_iald (pc := 136) dX5_copy_136 (MR_k24 hm) (MR_z24 hm) (by first | assumption | exact vp_in_lit rfl) ?_
                      refine r_iload (pc := 137) dX5_copy_137 rfl ?_
                      refine r_isub (pc := 139) dX5_copy_139 ?_
                      refine r_icmp_gt (pc := 140) 157 dX5_copy_140 rfl (fun h140 => ?_) (fun h140 => ?_)
                      · refine r_aload_n (pc := 157) dX5_copy_157 rfl ?_
                        refine r_bipush (pc := 158) (v := (-5)) dX5_copy_158 (by decide) ?_
                        refine r_o2 (pc := 160) (bc' := 0) (bs' := 0) (ct_X5_no hm _ (vp_in_lit rfl)) k_X5_136_5 dX5_copy_160 (MR_k hm) (Nat.le_of_ble_eq_true rfl) ⟨Nat.le_of_ble_eq_true rfl, Nat.le_of_ble_eq_true rfl⟩ ⟨Nat.le_of_ble_eq_true rfl, Nat.le_of_ble_eq_true rfl⟩ (r_ci fun r160 M160 p160 => ?_) nox
                        obtain ⟨rfl, rfl⟩ := p160
                        refine r_ireturn (pc := 163) rfl dX5_copy_163 ⟨_, rfl, ?_⟩
                        first
                          | contradiction
                          | (refine oM.of ?_ (by repeat' (first | exact frM.rf | assumption | refine frM.up0 ?_ | refine frM.up ?_ (by decide) | refine frM.upL ?_ (by decide)))
                             simp (decide := true) only [copyS, noS, noTenS, thP, mnP, shelfP, stepS, farP, eq_true h5, eq_true h13, h29, h39, h49, h90, h99, h111, h122, h127, h140, not_true_eq_false, not_false_eq_true, true_and, and_true, false_and, and_false, true_or, or_true, false_or, or_false, cI_True, cI_False, if_true, if_false, sm0, sm1, sm2, sm3, sm4, sm5, sm6, sm7, sm8, sm9, sm10, sm11, sm12, sm13, sm14, sm15, sm16, sm17, sm18, sm19, sm20, sm21, sm22, sm23, sm24, sm25, sm26, sm27, sm28, sm29, sm30, sm31, sm32, sm33, sm34, sm35, sm36, sm37, sm38, sm39, sm40, sm41, sm42, sm43, sm44, sm45, sm46, sm47, sm48, sm49, su0, su1, su2, su3, su4, su5, su6, su7, su8, su9, su10, su11, su12, su13, su14, su15, su16, su17, su18, su19, su20, su21, su22, su23, su24, su25, su26, su27, su28, su29, su30, su31, su32, su33, su34, su35, su36, su37, su38, su39, su40, su41, su42, su43, su44, su45, su46, su47, su48, su49])
                      · refine r_iload (pc := 143) dX5_copy_143 rfl ?_
                        refine r_aload_n (pc := 145) dX5_copy_145 rfl ?_
                        refine r_getR (pc := 146) dX5_copy_146 fl_X5_62_5 (MR_k hm) (fun _ _ => rfl) (MR_r24 hm) ?_
                        refine r_iload_n (pc := 149) dX5_copy_149 rfl ?_
                        refine rm_iald (pc := 150) dX5_copy_150 (MR_k24 hm) (MR_z24 hm) (by first | assumption | exact vp_in_lit rfl) ?_
                        refine r_iload (pc := 151) dX5_copy_151 rfl ?_
                        refine r_isub (pc := 153) dX5_copy_153 ?_
                        refine r_icmp_le (pc := 154) 164 dX5_copy_154 rfl (fun h154 => ?_) (fun h154 => ?_)
                        · have z1 : I (mo + 13) (Int32.toNatClampNeg x1) = 1 := by
                            rcases (hk.2.1 (Int32.toNatClampNeg x1) (vp_in_lt hx)).1 with h | h | h
                            · exact absurd h h90
                            · exact h
                            · exact absurd h h29
                          have z2 : I (mo + 13) (Int32.toNatClampNeg x2) = 1 := by
                            rcases (hk.2.1 (Int32.toNatClampNeg x2) (vp_in_lt hx2)).1 with h | h | h
                            · exact absurd h h99
                            · exact h
                            · exact absurd h h39
                          refine base h5 h13 z1 z2 h111 h122 h127 h140 h154 ?_
                          rw [copyS, cI_f (by intro q; exact q.elim (fun q => q h5) (fun q => q h13)), cI_f ?_, cI_f (show ¬ ((sS I L mo).1 22 (Int32.toNatClampNeg x1) = 0 ∨ (sS I L mo).1 22 (Int32.toNatClampNeg x2) = 0) from fun q => q.elim h90 h99), cI_f h111, cI_f (show ¬ (x3 < 0 ∨ x4 < 0 ∨ (sS I L mo).1 24 (Int32.toNatClampNeg x1) - x5 < x3 ∨ (sS I L mo).1 24 (Int32.toNatClampNeg x2) - x5 < x4) from fun q => q.elim h122 (fun q => q.elim h127 (fun q => q.elim h140 h154)))]
                          show ¬ (I (mo + 13) (Int32.toNatClampNeg x1) = 2 ∨ I (mo + 13) (Int32.toNatClampNeg x2) = 2 ∨ (I (mo + 13) (Int32.toNatClampNeg x1) = 1 ∧ I (mo + 13) (Int32.toNatClampNeg x2) = 1 ∧ ¬ I (mo + 14) (Int32.toNatClampNeg x1) = I (mo + 14) (Int32.toNatClampNeg x2)))
                          first
                            | exact fun q => q.elim h29 (fun q => q.elim h39 (fun q => h49 q.1))
                            | exact fun q => q.elim h29 (fun q => q.elim h39 (fun q => h59 q.2.1))
                            | exact fun q => q.elim h29 (fun q => q.elim h39 (fun q => q.2.2 h74))
                        · refine r_aload_n (pc := 157) dX5_copy_157 rfl ?_
                          refine r_bipush (pc := 158) (v := (-5)) dX5_copy_158 (by decide) ?_
                          refine r_o2 (pc := 160) (bc' := 0) (bs' := 0) (ct_X5_no hm _ (vp_in_lit rfl)) k_X5_136_5 dX5_copy_160 (MR_k hm) (Nat.le_of_ble_eq_true rfl) ⟨Nat.le_of_ble_eq_true rfl, Nat.le_of_ble_eq_true rfl⟩ ⟨Nat.le_of_ble_eq_true rfl, Nat.le_of_ble_eq_true rfl⟩ (r_ci fun r160 M160 p160 => ?_) nox
                          obtain ⟨rfl, rfl⟩ := p160
                          refine r_ireturn (pc := 163) rfl dX5_copy_163 ⟨_, rfl, ?_⟩
                          first
                            | contradiction
                            | (refine oM.of ?_ (by repeat' (first | exact frM.rf | assumption | refine frM.up0 ?_ | refine frM.up ?_ (by decide) | refine frM.upL ?_ (by decide)))
                               simp (decide := true) only [copyS, noS, noTenS, thP, mnP, shelfP, stepS, farP, eq_true h5, eq_true h13, h29, h39, h49, h90, h99, h111, h122, h127, h140, h154, not_true_eq_false, not_false_eq_true, true_and, and_true, false_and, and_false, true_or, or_true, false_or, or_false, cI_True, cI_False, if_true, if_false, sm0, sm1, sm2, sm3, sm4, sm5, sm6, sm7, sm8, sm9, sm10, sm11, sm12, sm13, sm14, sm15, sm16, sm17, sm18, sm19, sm20, sm21, sm22, sm23, sm24, sm25, sm26, sm27, sm28, sm29, sm30, sm31, sm32, sm33, sm34, sm35, sm36, sm37, sm38, sm39, sm40, sm41, sm42, sm43, sm44, sm45, sm46, sm47, sm48, sm49, su0, su1, su2, su3, su4, su5, su6, su7, su8, su9, su10, su11, su12, su13, su14, su15, su16, su17, su18, su19, su20, su21, su22, su23, su24, su25, su26, su27, su28, su29, su30, su31, su32, su33, su34, su35, su36, su37, su38, su39, su40, su41, su42, su43, su44, su45, su46, su47, su48, su49])
                · refine r_aload_n (pc := 114) dX5_copy_114 rfl ?_
                  refine r_bipush (pc := 115) (v := (-4)) dX5_copy_115 (by decide) ?_
                  refine r_o2 (pc := 117) (bc' := 0) (bs' := 0) (ct_X5_no hm _ (vp_in_lit rfl)) k_X5_136_5 dX5_copy_117 (MR_k hm) (Nat.le_of_ble_eq_true rfl) ⟨Nat.le_of_ble_eq_true rfl, Nat.le_of_ble_eq_true rfl⟩ ⟨Nat.le_of_ble_eq_true rfl, Nat.le_of_ble_eq_true rfl⟩ (r_ci fun r117 M117 p117 => ?_) nox
                  obtain ⟨rfl, rfl⟩ := p117
                  refine r_ireturn (pc := 120) rfl dX5_copy_120 ⟨_, rfl, ?_⟩
                  first
                    | contradiction
                    | (refine oM.of ?_ (by repeat' (first | exact frM.rf | assumption | refine frM.up0 ?_ | refine frM.up ?_ (by decide) | refine frM.upL ?_ (by decide)))
                       simp (decide := true) only [copyS, noS, noTenS, thP, mnP, shelfP, stepS, farP, eq_true h5, eq_true h13, h29, h39, h49, h90, h99, h111, not_true_eq_false, not_false_eq_true, true_and, and_true, false_and, and_false, true_or, or_true, false_or, or_false, cI_True, cI_False, if_true, if_false, sm0, sm1, sm2, sm3, sm4, sm5, sm6, sm7, sm8, sm9, sm10, sm11, sm12, sm13, sm14, sm15, sm16, sm17, sm18, sm19, sm20, sm21, sm22, sm23, sm24, sm25, sm26, sm27, sm28, sm29, sm30, sm31, sm32, sm33, sm34, sm35, sm36, sm37, sm38, sm39, sm40, sm41, sm42, sm43, sm44, sm45, sm46, sm47, sm48, sm49, su0, su1, su2, su3, su4, su5, su6, su7, su8, su9, su10, su11, su12, su13, su14, su15, su16, su17, su18, su19, su20, su21, su22, su23, su24, su25, su26, su27, su28, su29, su30, su31, su32, su33, su34, su35, su36, su37, su38, su39, su40, su41, su42, su43, su44, su45, su46, su47, su48, su49])
              · refine r_aload_n (pc := 102) dX5_copy_102 rfl ?_
                refine r_bipush (pc := 103) (v := (-3)) dX5_copy_103 (by decide) ?_
                refine r_o2 (pc := 105) (bc' := 0) (bs' := 0) (ct_X5_no hm _ (vp_in_lit rfl)) k_X5_136_5 dX5_copy_105 (MR_k hm) (Nat.le_of_ble_eq_true rfl) ⟨Nat.le_of_ble_eq_true rfl, Nat.le_of_ble_eq_true rfl⟩ ⟨Nat.le_of_ble_eq_true rfl, Nat.le_of_ble_eq_true rfl⟩ (r_ci fun r105 M105 p105 => ?_) nox
                obtain ⟨rfl, rfl⟩ := p105
                refine r_ireturn (pc := 108) rfl dX5_copy_108 ⟨_, rfl, ?_⟩
                first
                  | exact absurd (h90.symm.trans h49) (by decide)
                  | exact absurd (h99.symm.trans h59) (by decide)
                  | contradiction
                  | (refine oM.of ?_ (by repeat' (first | exact frM.rf | assumption | refine frM.up0 ?_ | refine frM.up ?_ (by decide) | refine frM.upL ?_ (by decide)))
                     simp (decide := true) only [copyS, noS, noTenS, thP, mnP, shelfP, stepS, farP, eq_true h5, eq_true h13, h29, h39, h49, h90, h99, not_true_eq_false, not_false_eq_true, true_and, and_true, false_and, and_false, true_or, or_true, false_or, or_false, cI_True, cI_False, if_true, if_false, sm0, sm1, sm2, sm3, sm4, sm5, sm6, sm7, sm8, sm9, sm10, sm11, sm12, sm13, sm14, sm15, sm16, sm17, sm18, sm19, sm20, sm21, sm22, sm23, sm24, sm25, sm26, sm27, sm28, sm29, sm30, sm31, sm32, sm33, sm34, sm35, sm36, sm37, sm38, sm39, sm40, sm41, sm42, sm43, sm44, sm45, sm46, sm47, sm48, sm49, su0, su1, su2, su3, su4, su5, su6, su7, su8, su9, su10, su11, su12, su13, su14, su15, su16, su17, su18, su19, su20, su21, su22, su23, su24, su25, su26, su27, su28, su29, su30, su31, su32, su33, su34, su35, su36, su37, su38, su39, su40, su41, su42, su43, su44, su45, su46, su47, su48, su49])
          · refine r_aload_n (pc := 52) dX5_copy_52 rfl ?_
            refine r_getR (pc := 53) dX5_copy_53 fl_X5_56_5 (MR_k hm) (fun _ _ => rfl) (MR_r22 hm) ?_
            refine r_iload_n (pc := 56) dX5_copy_56 rfl ?_
            refine rm_iald (pc := 57) dX5_copy_57 (MR_k22 hm) (MR_z22 hm) (by first | assumption | exact vp_in_lit rfl) ?_
            refine r_iconst (pc := 58) (v := 1) dX5_copy_58 (by decide) ?_
            refine r_icmp_ne (pc := 59) 84 dX5_copy_59 rfl (fun h59 => ?_) (fun h59 => ?_)
            · refine r_aload_n (pc := 84) dX5_copy_84 rfl ?_
              refine r_getR (pc := 85) dX5_copy_85 fl_X5_56_5 (MR_k hm) (fun _ _ => rfl) (MR_r22 hm) ?_
              refine r_iload_n (pc := 88) dX5_copy_88 rfl ?_
              refine rm_iald (pc := 89) dX5_copy_89 (MR_k22 hm) (MR_z22 hm) (by first | assumption | exact vp_in_lit rfl) ?_
              refine r_if_eq (pc := 90) 102 dX5_copy_90 rfl (fun h90 => ?_) (fun h90 => ?_)
              · refine r_aload_n (pc := 102) dX5_copy_102 rfl ?_
                refine r_bipush (pc := 103) (v := (-3)) dX5_copy_103 (by decide) ?_
                refine r_o2 (pc := 105) (bc' := 0) (bs' := 0) (ct_X5_no hm _ (vp_in_lit rfl)) k_X5_136_5 dX5_copy_105 (MR_k hm) (Nat.le_of_ble_eq_true rfl) ⟨Nat.le_of_ble_eq_true rfl, Nat.le_of_ble_eq_true rfl⟩ ⟨Nat.le_of_ble_eq_true rfl, Nat.le_of_ble_eq_true rfl⟩ (r_ci fun r105 M105 p105 => ?_) nox
                obtain ⟨rfl, rfl⟩ := p105
                refine r_ireturn (pc := 108) rfl dX5_copy_108 ⟨_, rfl, ?_⟩
                first
                  | exact absurd (h90.symm.trans h49) (by decide)
                  | exact absurd (h99.symm.trans h59) (by decide)
                  | contradiction
                  | (refine oM.of ?_ (by repeat' (first | exact frM.rf | assumption | refine frM.up0 ?_ | refine frM.up ?_ (by decide) | refine frM.upL ?_ (by decide)))
                     simp (decide := true) only [copyS, noS, noTenS, thP, mnP, shelfP, stepS, farP, eq_true h5, eq_true h13, h29, h39, h49, h59, h90, not_true_eq_false, not_false_eq_true, true_and, and_true, false_and, and_false, true_or, or_true, false_or, or_false, cI_True, cI_False, if_true, if_false, sm0, sm1, sm2, sm3, sm4, sm5, sm6, sm7, sm8, sm9, sm10, sm11, sm12, sm13, sm14, sm15, sm16, sm17, sm18, sm19, sm20, sm21, sm22, sm23, sm24, sm25, sm26, sm27, sm28, sm29, sm30, sm31, sm32, sm33, sm34, sm35, sm36, sm37, sm38, sm39, sm40, sm41, sm42, sm43, sm44, sm45, sm46, sm47, sm48, sm49, su0, su1, su2, su3, su4, su5, su6, su7, su8, su9, su10, su11, su12, su13, su14, su15, su16, su17, su18, su19, su20, su21, su22, su23, su24, su25, su26, su27, su28, su29, su30, su31, su32, su33, su34, su35, su36, su37, su38, su39, su40, su41, su42, su43, su44, su45, su46, su47, su48, su49])
              · refine r_aload_n (pc := 93) dX5_copy_93 rfl ?_
                refine r_getR (pc := 94) dX5_copy_94 fl_X5_56_5 (MR_k hm) (fun _ _ => rfl) (MR_r22 hm) ?_
                refine r_iload_n (pc := 97) dX5_copy_97 rfl ?_
                refine rm_iald (pc := 98) dX5_copy_98 (MR_k22 hm) (MR_z22 hm) (by first | assumption | exact vp_in_lit rfl) ?_
                refine r_if_ne (pc := 99) 109 dX5_copy_99 rfl (fun h99 => ?_) (fun h99 => ?_)
                · refine r_iload (pc := 109) dX5_copy_109 rfl ?_
                  refine r_if_ge (pc := 111) 121 dX5_copy_111 rfl (fun h111 => ?_) (fun h111 => ?_)
                  · refine r_iload_n (pc := 121) dX5_copy_121 rfl ?_
                    refine r_if_lt (pc := 122) 157 dX5_copy_122 rfl (fun h122 => ?_) (fun h122 => ?_)
                    · refine r_aload_n (pc := 157) dX5_copy_157 rfl ?_
                      refine r_bipush (pc := 158) (v := (-5)) dX5_copy_158 (by decide) ?_
                      refine r_o2 (pc := 160) (bc' := 0) (bs' := 0) (ct_X5_no hm _ (vp_in_lit rfl)) k_X5_136_5 dX5_copy_160 (MR_k hm) (Nat.le_of_ble_eq_true rfl) ⟨Nat.le_of_ble_eq_true rfl, Nat.le_of_ble_eq_true rfl⟩ ⟨Nat.le_of_ble_eq_true rfl, Nat.le_of_ble_eq_true rfl⟩ (r_ci fun r160 M160 p160 => ?_) nox
                      obtain ⟨rfl, rfl⟩ := p160
                      refine r_ireturn (pc := 163) rfl dX5_copy_163 ⟨_, rfl, ?_⟩
                      first
                        | contradiction
                        | (refine oM.of ?_ (by repeat' (first | exact frM.rf | assumption | refine frM.up0 ?_ | refine frM.up ?_ (by decide) | refine frM.upL ?_ (by decide)))
                           simp (decide := true) only [copyS, noS, noTenS, thP, mnP, shelfP, stepS, farP, eq_true h5, eq_true h13, h29, h39, h49, h59, h90, h99, h111, h122, not_true_eq_false, not_false_eq_true, true_and, and_true, false_and, and_false, true_or, or_true, false_or, or_false, cI_True, cI_False, if_true, if_false, sm0, sm1, sm2, sm3, sm4, sm5, sm6, sm7, sm8, sm9, sm10, sm11, sm12, sm13, sm14, sm15, sm16, sm17, sm18, sm19, sm20, sm21, sm22, sm23, sm24, sm25, sm26, sm27, sm28, sm29, sm30, sm31, sm32, sm33, sm34, sm35, sm36, sm37, sm38, sm39, sm40, sm41, sm42, sm43, sm44, sm45, sm46, sm47, sm48, sm49, su0, su1, su2, su3, su4, su5, su6, su7, su8, su9, su10, su11, su12, su13, su14, su15, su16, su17, su18, su19, su20, su21, su22, su23, su24, su25, su26, su27, su28, su29, su30, su31, su32, su33, su34, su35, su36, su37, su38, su39, su40, su41, su42, su43, su44, su45, su46, su47, su48, su49])
                    · refine r_iload (pc := 125) dX5_copy_125 rfl ?_
                      refine r_if_lt (pc := 127) 157 dX5_copy_127 rfl (fun h127 => ?_) (fun h127 => ?_)
                      · refine r_aload_n (pc := 157) dX5_copy_157 rfl ?_
                        refine r_bipush (pc := 158) (v := (-5)) dX5_copy_158 (by decide) ?_
                        refine r_o2 (pc := 160) (bc' := 0) (bs' := 0) (ct_X5_no hm _ (vp_in_lit rfl)) k_X5_136_5 dX5_copy_160 (MR_k hm) (Nat.le_of_ble_eq_true rfl) ⟨Nat.le_of_ble_eq_true rfl, Nat.le_of_ble_eq_true rfl⟩ ⟨Nat.le_of_ble_eq_true rfl, Nat.le_of_ble_eq_true rfl⟩ (r_ci fun r160 M160 p160 => ?_) nox
                        obtain ⟨rfl, rfl⟩ := p160
                        refine r_ireturn (pc := 163) rfl dX5_copy_163 ⟨_, rfl, ?_⟩
                        first
                          | contradiction
                          | (refine oM.of ?_ (by repeat' (first | exact frM.rf | assumption | refine frM.up0 ?_ | refine frM.up ?_ (by decide) | refine frM.upL ?_ (by decide)))
                             simp (decide := true) only [copyS, noS, noTenS, thP, mnP, shelfP, stepS, farP, eq_true h5, eq_true h13, h29, h39, h49, h59, h90, h99, h111, h122, h127, not_true_eq_false, not_false_eq_true, true_and, and_true, false_and, and_false, true_or, or_true, false_or, or_false, cI_True, cI_False, if_true, if_false, sm0, sm1, sm2, sm3, sm4, sm5, sm6, sm7, sm8, sm9, sm10, sm11, sm12, sm13, sm14, sm15, sm16, sm17, sm18, sm19, sm20, sm21, sm22, sm23, sm24, sm25, sm26, sm27, sm28, sm29, sm30, sm31, sm32, sm33, sm34, sm35, sm36, sm37, sm38, sm39, sm40, sm41, sm42, sm43, sm44, sm45, sm46, sm47, sm48, sm49, su0, su1, su2, su3, su4, su5, su6, su7, su8, su9, su10, su11, su12, su13, su14, su15, su16, su17, su18, su19, su20, su21, su22, su23, su24, su25, su26, su27, su28, su29, su30, su31, su32, su33, su34, su35, su36, su37, su38, su39, su40, su41, su42, su43, su44, su45, su46, su47, su48, su49])
                      · refine r_iload_n (pc := 130) dX5_copy_130 rfl ?_
                        refine r_aload_n (pc := 131) dX5_copy_131 rfl ?_
                        refine r_getR (pc := 132) dX5_copy_132 fl_X5_62_5 (MR_k hm) (fun _ _ => rfl) (MR_r24 hm) ?_
                        refine r_iload_n (pc := 135) dX5_copy_135 rfl ?_
                        refine rm_iald (pc := 136) dX5_copy_136 (MR_k24 hm) (MR_z24 hm) (by first | assumption | exact vp_in_lit rfl) ?_
                        refine r_iload (pc := 137) dX5_copy_137 rfl ?_
                        refine r_isub (pc := 139) dX5_copy_139 ?_
                        refine r_icmp_gt (pc := 140) 157 dX5_copy_140 rfl (fun h140 => ?_) (fun h140 => ?_)
                        · refine r_aload_n (pc := 157) dX5_copy_157 rfl ?_
                          refine r_bipush (pc := 158) (v := (-5)) dX5_copy_158 (by decide) ?_
                          refine r_o2 (pc := 160) (bc' := 0) (bs' := 0) (ct_X5_no hm _ (vp_in_lit rfl)) k_X5_136_5 dX5_copy_160 (MR_k hm) (Nat.le_of_ble_eq_true rfl) ⟨Nat.le_of_ble_eq_true rfl, Nat.le_of_ble_eq_true rfl⟩ ⟨Nat.le_of_ble_eq_true rfl, Nat.le_of_ble_eq_true rfl⟩ (r_ci fun r160 M160 p160 => ?_) nox
                          obtain ⟨rfl, rfl⟩ := p160
                          refine r_ireturn (pc := 163) rfl dX5_copy_163 ⟨_, rfl, ?_⟩
                          first
                            | contradiction
                            | (refine oM.of ?_ (by repeat' (first | exact frM.rf | assumption | refine frM.up0 ?_ | refine frM.up ?_ (by decide) | refine frM.upL ?_ (by decide)))
                               simp (decide := true) only [copyS, noS, noTenS, thP, mnP, shelfP, stepS, farP, eq_true h5, eq_true h13, h29, h39, h49, h59, h90, h99, h111, h122, h127, h140, not_true_eq_false, not_false_eq_true, true_and, and_true, false_and, and_false, true_or, or_true, false_or, or_false, cI_True, cI_False, if_true, if_false, sm0, sm1, sm2, sm3, sm4, sm5, sm6, sm7, sm8, sm9, sm10, sm11, sm12, sm13, sm14, sm15, sm16, sm17, sm18, sm19, sm20, sm21, sm22, sm23, sm24, sm25, sm26, sm27, sm28, sm29, sm30, sm31, sm32, sm33, sm34, sm35, sm36, sm37, sm38, sm39, sm40, sm41, sm42, sm43, sm44, sm45, sm46, sm47, sm48, sm49, su0, su1, su2, su3, su4, su5, su6, su7, su8, su9, su10, su11, su12, su13, su14, su15, su16, su17, su18, su19, su20, su21, su22, su23, su24, su25, su26, su27, su28, su29, su30, su31, su32, su33, su34, su35, su36, su37, su38, su39, su40, su41, su42, su43, su44, su45, su46, su47, su48, su49])
                        · refine r_iload (pc := 143) dX5_copy_143 rfl ?_
                          refine r_aload_n (pc := 145) dX5_copy_145 rfl ?_
                          refine r_getR (pc := 146) dX5_copy_146 fl_X5_62_5 (MR_k hm) (fun _ _ => rfl) (MR_r24 hm) ?_
                          refine r_iload_n (pc := 149) dX5_copy_149 rfl ?_
                          refine rm_iald (pc := 150) dX5_copy_150 (MR_k24 hm) (MR_z24 hm) (by first | assumption | exact vp_in_lit rfl) ?_
                          refine r_iload (pc := 151) dX5_copy_151 rfl ?_
                          refine r_isub (pc := 153) dX5_copy_153 ?_
                          refine r_icmp_le (pc := 154) 164 dX5_copy_154 rfl (fun h154 => ?_) (fun h154 => ?_)
                          · have z1 : I (mo + 13) (Int32.toNatClampNeg x1) = 1 := by
                              rcases (hk.2.1 (Int32.toNatClampNeg x1) (vp_in_lt hx)).1 with h | h | h
                              · exact absurd h h90
                              · exact h
                              · exact absurd h h29
                            have z2 : I (mo + 13) (Int32.toNatClampNeg x2) = 1 := by
                              rcases (hk.2.1 (Int32.toNatClampNeg x2) (vp_in_lt hx2)).1 with h | h | h
                              · exact absurd h h99
                              · exact h
                              · exact absurd h h39
                            refine base h5 h13 z1 z2 h111 h122 h127 h140 h154 ?_
                            rw [copyS, cI_f (by intro q; exact q.elim (fun q => q h5) (fun q => q h13)), cI_f ?_, cI_f (show ¬ ((sS I L mo).1 22 (Int32.toNatClampNeg x1) = 0 ∨ (sS I L mo).1 22 (Int32.toNatClampNeg x2) = 0) from fun q => q.elim h90 h99), cI_f h111, cI_f (show ¬ (x3 < 0 ∨ x4 < 0 ∨ (sS I L mo).1 24 (Int32.toNatClampNeg x1) - x5 < x3 ∨ (sS I L mo).1 24 (Int32.toNatClampNeg x2) - x5 < x4) from fun q => q.elim h122 (fun q => q.elim h127 (fun q => q.elim h140 h154)))]
                            show ¬ (I (mo + 13) (Int32.toNatClampNeg x1) = 2 ∨ I (mo + 13) (Int32.toNatClampNeg x2) = 2 ∨ (I (mo + 13) (Int32.toNatClampNeg x1) = 1 ∧ I (mo + 13) (Int32.toNatClampNeg x2) = 1 ∧ ¬ I (mo + 14) (Int32.toNatClampNeg x1) = I (mo + 14) (Int32.toNatClampNeg x2)))
                            first
                              | exact fun q => q.elim h29 (fun q => q.elim h39 (fun q => h49 q.1))
                              | exact fun q => q.elim h29 (fun q => q.elim h39 (fun q => h59 q.2.1))
                              | exact fun q => q.elim h29 (fun q => q.elim h39 (fun q => q.2.2 h74))
                          · refine r_aload_n (pc := 157) dX5_copy_157 rfl ?_
                            refine r_bipush (pc := 158) (v := (-5)) dX5_copy_158 (by decide) ?_
                            refine r_o2 (pc := 160) (bc' := 0) (bs' := 0) (ct_X5_no hm _ (vp_in_lit rfl)) k_X5_136_5 dX5_copy_160 (MR_k hm) (Nat.le_of_ble_eq_true rfl) ⟨Nat.le_of_ble_eq_true rfl, Nat.le_of_ble_eq_true rfl⟩ ⟨Nat.le_of_ble_eq_true rfl, Nat.le_of_ble_eq_true rfl⟩ (r_ci fun r160 M160 p160 => ?_) nox
                            obtain ⟨rfl, rfl⟩ := p160
                            refine r_ireturn (pc := 163) rfl dX5_copy_163 ⟨_, rfl, ?_⟩
                            first
                              | contradiction
                              | (refine oM.of ?_ (by repeat' (first | exact frM.rf | assumption | refine frM.up0 ?_ | refine frM.up ?_ (by decide) | refine frM.upL ?_ (by decide)))
                                 simp (decide := true) only [copyS, noS, noTenS, thP, mnP, shelfP, stepS, farP, eq_true h5, eq_true h13, h29, h39, h49, h59, h90, h99, h111, h122, h127, h140, h154, not_true_eq_false, not_false_eq_true, true_and, and_true, false_and, and_false, true_or, or_true, false_or, or_false, cI_True, cI_False, if_true, if_false, sm0, sm1, sm2, sm3, sm4, sm5, sm6, sm7, sm8, sm9, sm10, sm11, sm12, sm13, sm14, sm15, sm16, sm17, sm18, sm19, sm20, sm21, sm22, sm23, sm24, sm25, sm26, sm27, sm28, sm29, sm30, sm31, sm32, sm33, sm34, sm35, sm36, sm37, sm38, sm39, sm40, sm41, sm42, sm43, sm44, sm45, sm46, sm47, sm48, sm49, su0, su1, su2, su3, su4, su5, su6, su7, su8, su9, su10, su11, su12, su13, su14, su15, su16, su17, su18, su19, su20, su21, su22, su23, su24, su25, su26, su27, su28, su29, su30, su31, su32, su33, su34, su35, su36, su37, su38, su39, su40, su41, su42, su43, su44, su45, su46, su47, su48, su49])
                  · refine r_aload_n (pc := 114) dX5_copy_114 rfl ?_
                    refine r_bipush (pc := 115) (v := (-4)) dX5_copy_115 (by decide) ?_
                    refine r_o2 (pc := 117) (bc' := 0) (bs' := 0) (ct_X5_no hm _ (vp_in_lit rfl)) k_X5_136_5 dX5_copy_117 (MR_k hm) (Nat.le_of_ble_eq_true rfl) ⟨Nat.le_of_ble_eq_true rfl, Nat.le_of_ble_eq_true rfl⟩ ⟨Nat.le_of_ble_eq_true rfl, Nat.le_of_ble_eq_true rfl⟩ (r_ci fun r117 M117 p117 => ?_) nox
                    obtain ⟨rfl, rfl⟩ := p117
                    refine r_ireturn (pc := 120) rfl dX5_copy_120 ⟨_, rfl, ?_⟩
                    first
                      | contradiction
                      | (refine oM.of ?_ (by repeat' (first | exact frM.rf | assumption | refine frM.up0 ?_ | refine frM.up ?_ (by decide) | refine frM.upL ?_ (by decide)))
                         simp (decide := true) only [copyS, noS, noTenS, thP, mnP, shelfP, stepS, farP, eq_true h5, eq_true h13, h29, h39, h49, h59, h90, h99, h111, not_true_eq_false, not_false_eq_true, true_and, and_true, false_and, and_false, true_or, or_true, false_or, or_false, cI_True, cI_False, if_true, if_false, sm0, sm1, sm2, sm3, sm4, sm5, sm6, sm7, sm8, sm9, sm10, sm11, sm12, sm13, sm14, sm15, sm16, sm17, sm18, sm19, sm20, sm21, sm22, sm23, sm24, sm25, sm26, sm27, sm28, sm29, sm30, sm31, sm32, sm33, sm34, sm35, sm36, sm37, sm38, sm39, sm40, sm41, sm42, sm43, sm44, sm45, sm46, sm47, sm48, sm49, su0, su1, su2, su3, su4, su5, su6, su7, su8, su9, su10, su11, su12, su13, su14, su15, su16, su17, su18, su19, su20, su21, su22, su23, su24, su25, su26, su27, su28, su29, su30, su31, su32, su33, su34, su35, su36, su37, su38, su39, su40, su41, su42, su43, su44, su45, su46, su47, su48, su49])
                · refine r_aload_n (pc := 102) dX5_copy_102 rfl ?_
                  refine r_bipush (pc := 103) (v := (-3)) dX5_copy_103 (by decide) ?_
                  refine r_o2 (pc := 105) (bc' := 0) (bs' := 0) (ct_X5_no hm _ (vp_in_lit rfl)) k_X5_136_5 dX5_copy_105 (MR_k hm) (Nat.le_of_ble_eq_true rfl) ⟨Nat.le_of_ble_eq_true rfl, Nat.le_of_ble_eq_true rfl⟩ ⟨Nat.le_of_ble_eq_true rfl, Nat.le_of_ble_eq_true rfl⟩ (r_ci fun r105 M105 p105 => ?_) nox
                  obtain ⟨rfl, rfl⟩ := p105
                  refine r_ireturn (pc := 108) rfl dX5_copy_108 ⟨_, rfl, ?_⟩
                  first
                    | exact absurd (h90.symm.trans h49) (by decide)
                    | exact absurd (h99.symm.trans h59) (by decide)
                    | contradiction
                    | (refine oM.of ?_ (by repeat' (first | exact frM.rf | assumption | refine frM.up0 ?_ | refine frM.up ?_ (by decide) | refine frM.upL ?_ (by decide)))
                       simp (decide := true) only [copyS, noS, noTenS, thP, mnP, shelfP, stepS, farP, eq_true h5, eq_true h13, h29, h39, h49, h59, h90, h99, not_true_eq_false, not_false_eq_true, true_and, and_true, false_and, and_false, true_or, or_true, false_or, or_false, cI_True, cI_False, if_true, if_false, sm0, sm1, sm2, sm3, sm4, sm5, sm6, sm7, sm8, sm9, sm10, sm11, sm12, sm13, sm14, sm15, sm16, sm17, sm18, sm19, sm20, sm21, sm22, sm23, sm24, sm25, sm26, sm27, sm28, sm29, sm30, sm31, sm32, sm33, sm34, sm35, sm36, sm37, sm38, sm39, sm40, sm41, sm42, sm43, sm44, sm45, sm46, sm47, sm48, sm49, su0, su1, su2, su3, su4, su5, su6, su7, su8, su9, su10, su11, su12, su13, su14, su15, su16, su17, su18, su19, su20, su21, su22, su23, su24, su25, su26, su27, su28, su29, su30, su31, su32, su33, su34, su35, su36, su37, su38, su39, su40, su41, su42, su43, su44, su45, su46, su47, su48, su49])
            · refine r_aload_n (pc := 62) dX5_copy_62 rfl ?_
              refine r_getR (pc := 63) dX5_copy_63 fl_X5_59_5 (MR_k hm) (fun _ _ => rfl) (MR_r23 hm) ?_
              refine r_iload_n (pc := 66) dX5_copy_66 rfl ?_
              refine rm_iald (pc := 67) dX5_copy_67 (MR_k23 hm) (MR_z23 hm) (by first | assumption | exact vp_in_lit rfl) ?_
              refine r_aload_n (pc := 68) dX5_copy_68 rfl ?_
              refine r_getR (pc := 69) dX5_copy_69 fl_X5_59_5 (MR_k hm) (fun _ _ => rfl) (MR_r23 hm) ?_
              refine r_iload_n (pc := 72) dX5_copy_72 rfl ?_
              refine rm_iald (pc := 73) dX5_copy_73 (MR_k23 hm) (MR_z23 hm) (by first | assumption | exact vp_in_lit rfl) ?_
              refine r_icmp_eq (pc := 74) 84 dX5_copy_74 rfl (fun h74 => ?_) (fun h74 => ?_)
              · refine r_aload_n (pc := 84) dX5_copy_84 rfl ?_
                refine r_getR (pc := 85) dX5_copy_85 fl_X5_56_5 (MR_k hm) (fun _ _ => rfl) (MR_r22 hm) ?_
                refine r_iload_n (pc := 88) dX5_copy_88 rfl ?_
                refine rm_iald (pc := 89) dX5_copy_89 (MR_k22 hm) (MR_z22 hm) (by first | assumption | exact vp_in_lit rfl) ?_
                refine r_if_eq (pc := 90) 102 dX5_copy_90 rfl (fun h90 => ?_) (fun h90 => ?_)
                · refine r_aload_n (pc := 102) dX5_copy_102 rfl ?_
                  refine r_bipush (pc := 103) (v := (-3)) dX5_copy_103 (by decide) ?_
                  refine r_o2 (pc := 105) (bc' := 0) (bs' := 0) (ct_X5_no hm _ (vp_in_lit rfl)) k_X5_136_5 dX5_copy_105 (MR_k hm) (Nat.le_of_ble_eq_true rfl) ⟨Nat.le_of_ble_eq_true rfl, Nat.le_of_ble_eq_true rfl⟩ ⟨Nat.le_of_ble_eq_true rfl, Nat.le_of_ble_eq_true rfl⟩ (r_ci fun r105 M105 p105 => ?_) nox
                  obtain ⟨rfl, rfl⟩ := p105
                  refine r_ireturn (pc := 108) rfl dX5_copy_108 ⟨_, rfl, ?_⟩
                  first
                    | exact absurd (h90.symm.trans h49) (by decide)
                    | exact absurd (h99.symm.trans h59) (by decide)
                    | contradiction
                    | (refine oM.of ?_ (by repeat' (first | exact frM.rf | assumption | refine frM.up0 ?_ | refine frM.up ?_ (by decide) | refine frM.upL ?_ (by decide)))
                       simp (decide := true) only [copyS, noS, noTenS, thP, mnP, shelfP, stepS, farP, eq_true h5, eq_true h13, h29, h39, h49, h59, h74, h90, not_true_eq_false, not_false_eq_true, true_and, and_true, false_and, and_false, true_or, or_true, false_or, or_false, cI_True, cI_False, if_true, if_false, sm0, sm1, sm2, sm3, sm4, sm5, sm6, sm7, sm8, sm9, sm10, sm11, sm12, sm13, sm14, sm15, sm16, sm17, sm18, sm19, sm20, sm21, sm22, sm23, sm24, sm25, sm26, sm27, sm28, sm29, sm30, sm31, sm32, sm33, sm34, sm35, sm36, sm37, sm38, sm39, sm40, sm41, sm42, sm43, sm44, sm45, sm46, sm47, sm48, sm49, su0, su1, su2, su3, su4, su5, su6, su7, su8, su9, su10, su11, su12, su13, su14, su15, su16, su17, su18, su19, su20, su21, su22, su23, su24, su25, su26, su27, su28, su29, su30, su31, su32, su33, su34, su35, su36, su37, su38, su39, su40, su41, su42, su43, su44, su45, su46, su47, su48, su49])
                · refine r_aload_n (pc := 93) dX5_copy_93 rfl ?_
                  refine r_getR (pc := 94) dX5_copy_94 fl_X5_56_5 (MR_k hm) (fun _ _ => rfl) (MR_r22 hm) ?_
                  refine r_iload_n (pc := 97) dX5_copy_97 rfl ?_
                  refine rm_iald (pc := 98) dX5_copy_98 (MR_k22 hm) (MR_z22 hm) (by first | assumption | exact vp_in_lit rfl) ?_
                  refine r_if_ne (pc := 99) 109 dX5_copy_99 rfl (fun h99 => ?_) (fun h99 => ?_)
                  · refine r_iload (pc := 109) dX5_copy_109 rfl ?_
                    refine r_if_ge (pc := 111) 121 dX5_copy_111 rfl (fun h111 => ?_) (fun h111 => ?_)
                    · refine r_iload_n (pc := 121) dX5_copy_121 rfl ?_
                      refine r_if_lt (pc := 122) 157 dX5_copy_122 rfl (fun h122 => ?_) (fun h122 => ?_)
                      · refine r_aload_n (pc := 157) dX5_copy_157 rfl ?_
                        refine r_bipush (pc := 158) (v := (-5)) dX5_copy_158 (by decide) ?_
                        refine r_o2 (pc := 160) (bc' := 0) (bs' := 0) (ct_X5_no hm _ (vp_in_lit rfl)) k_X5_136_5 dX5_copy_160 (MR_k hm) (Nat.le_of_ble_eq_true rfl) ⟨Nat.le_of_ble_eq_true rfl, Nat.le_of_ble_eq_true rfl⟩ ⟨Nat.le_of_ble_eq_true rfl, Nat.le_of_ble_eq_true rfl⟩ (r_ci fun r160 M160 p160 => ?_) nox
                        obtain ⟨rfl, rfl⟩ := p160
                        refine r_ireturn (pc := 163) rfl dX5_copy_163 ⟨_, rfl, ?_⟩
                        first
                          | contradiction
                          | (refine oM.of ?_ (by repeat' (first | exact frM.rf | assumption | refine frM.up0 ?_ | refine frM.up ?_ (by decide) | refine frM.upL ?_ (by decide)))
                             simp (decide := true) only [copyS, noS, noTenS, thP, mnP, shelfP, stepS, farP, eq_true h5, eq_true h13, h29, h39, h49, h59, h74, h90, h99, h111, h122, not_true_eq_false, not_false_eq_true, true_and, and_true, false_and, and_false, true_or, or_true, false_or, or_false, cI_True, cI_False, if_true, if_false, sm0, sm1, sm2, sm3, sm4, sm5, sm6, sm7, sm8, sm9, sm10, sm11, sm12, sm13, sm14, sm15, sm16, sm17, sm18, sm19, sm20, sm21, sm22, sm23, sm24, sm25, sm26, sm27, sm28, sm29, sm30, sm31, sm32, sm33, sm34, sm35, sm36, sm37, sm38, sm39, sm40, sm41, sm42, sm43, sm44, sm45, sm46, sm47, sm48, sm49, su0, su1, su2, su3, su4, su5, su6, su7, su8, su9, su10, su11, su12, su13, su14, su15, su16, su17, su18, su19, su20, su21, su22, su23, su24, su25, su26, su27, su28, su29, su30, su31, su32, su33, su34, su35, su36, su37, su38, su39, su40, su41, su42, su43, su44, su45, su46, su47, su48, su49])
                      · refine r_iload (pc := 125) dX5_copy_125 rfl ?_
                        refine r_if_lt (pc := 127) 157 dX5_copy_127 rfl (fun h127 => ?_) (fun h127 => ?_)
                        · refine r_aload_n (pc := 157) dX5_copy_157 rfl ?_
                          refine r_bipush (pc := 158) (v := (-5)) dX5_copy_158 (by decide) ?_
                          refine r_o2 (pc := 160) (bc' := 0) (bs' := 0) (ct_X5_no hm _ (vp_in_lit rfl)) k_X5_136_5 dX5_copy_160 (MR_k hm) (Nat.le_of_ble_eq_true rfl) ⟨Nat.le_of_ble_eq_true rfl, Nat.le_of_ble_eq_true rfl⟩ ⟨Nat.le_of_ble_eq_true rfl, Nat.le_of_ble_eq_true rfl⟩ (r_ci fun r160 M160 p160 => ?_) nox
                          obtain ⟨rfl, rfl⟩ := p160
                          refine r_ireturn (pc := 163) rfl dX5_copy_163 ⟨_, rfl, ?_⟩
                          first
                            | contradiction
                            | (refine oM.of ?_ (by repeat' (first | exact frM.rf | assumption | refine frM.up0 ?_ | refine frM.up ?_ (by decide) | refine frM.upL ?_ (by decide)))
                               simp (decide := true) only [copyS, noS, noTenS, thP, mnP, shelfP, stepS, farP, eq_true h5, eq_true h13, h29, h39, h49, h59, h74, h90, h99, h111, h122, h127, not_true_eq_false, not_false_eq_true, true_and, and_true, false_and, and_false, true_or, or_true, false_or, or_false, cI_True, cI_False, if_true, if_false, sm0, sm1, sm2, sm3, sm4, sm5, sm6, sm7, sm8, sm9, sm10, sm11, sm12, sm13, sm14, sm15, sm16, sm17, sm18, sm19, sm20, sm21, sm22, sm23, sm24, sm25, sm26, sm27, sm28, sm29, sm30, sm31, sm32, sm33, sm34, sm35, sm36, sm37, sm38, sm39, sm40, sm41, sm42, sm43, sm44, sm45, sm46, sm47, sm48, sm49, su0, su1, su2, su3, su4, su5, su6, su7, su8, su9, su10, su11, su12, su13, su14, su15, su16, su17, su18, su19, su20, su21, su22, su23, su24, su25, su26, su27, su28, su29, su30, su31, su32, su33, su34, su35, su36, su37, su38, su39, su40, su41, su42, su43, su44, su45, su46, su47, su48, su49])
                        · refine r_iload_n (pc := 130) dX5_copy_130 rfl ?_
                          refine r_aload_n (pc := 131) dX5_copy_131 rfl ?_
                          refine r_getR (pc := 132) dX5_copy_132 fl_X5_62_5 (MR_k hm) (fun _ _ => rfl) (MR_r24 hm) ?_
                          refine r_iload_n (pc := 135) dX5_copy_135 rfl ?_
                          refine rm_iald (pc := 136) dX5_copy_136 (MR_k24 hm) (MR_z24 hm) (by first | assumption | exact vp_in_lit rfl) ?_
                          refine r_iload (pc := 137) dX5_copy_137 rfl ?_
                          refine r_isub (pc := 139) dX5_copy_139 ?_
                          refine r_icmp_gt (pc := 140) 157 dX5_copy_140 rfl (fun h140 => ?_) (fun h140 => ?_)
                          · refine r_aload_n (pc := 157) dX5_copy_157 rfl ?_
                            refine r_bipush (pc := 158) (v := (-5)) dX5_copy_158 (by decide) ?_
                            refine r_o2 (pc := 160) (bc' := 0) (bs' := 0) (ct_X5_no hm _ (vp_in_lit rfl)) k_X5_136_5 dX5_copy_160 (MR_k hm) (Nat.le_of_ble_eq_true rfl) ⟨Nat.le_of_ble_eq_true rfl, Nat.le_of_ble_eq_true rfl⟩ ⟨Nat.le_of_ble_eq_true rfl, Nat.le_of_ble_eq_true rfl⟩ (r_ci fun r160 M160 p160 => ?_) nox
                            obtain ⟨rfl, rfl⟩ := p160
                            refine r_ireturn (pc := 163) rfl dX5_copy_163 ⟨_, rfl, ?_⟩
                            first
                              | contradiction
                              | (refine oM.of ?_ (by repeat' (first | exact frM.rf | assumption | refine frM.up0 ?_ | refine frM.up ?_ (by decide) | refine frM.upL ?_ (by decide)))
                                 simp (decide := true) only [copyS, noS, noTenS, thP, mnP, shelfP, stepS, farP, eq_true h5, eq_true h13, h29, h39, h49, h59, h74, h90, h99, h111, h122, h127, h140, not_true_eq_false, not_false_eq_true, true_and, and_true, false_and, and_false, true_or, or_true, false_or, or_false, cI_True, cI_False, if_true, if_false, sm0, sm1, sm2, sm3, sm4, sm5, sm6, sm7, sm8, sm9, sm10, sm11, sm12, sm13, sm14, sm15, sm16, sm17, sm18, sm19, sm20, sm21, sm22, sm23, sm24, sm25, sm26, sm27, sm28, sm29, sm30, sm31, sm32, sm33, sm34, sm35, sm36, sm37, sm38, sm39, sm40, sm41, sm42, sm43, sm44, sm45, sm46, sm47, sm48, sm49, su0, su1, su2, su3, su4, su5, su6, su7, su8, su9, su10, su11, su12, su13, su14, su15, su16, su17, su18, su19, su20, su21, su22, su23, su24, su25, su26, su27, su28, su29, su30, su31, su32, su33, su34, su35, su36, su37, su38, su39, su40, su41, su42, su43, su44, su45, su46, su47, su48, su49])
                          · refine r_iload (pc := 143) dX5_copy_143 rfl ?_
                            refine r_aload_n (pc := 145) dX5_copy_145 rfl ?_
                            refine r_getR (pc := 146) dX5_copy_146 fl_X5_62_5 (MR_k hm) (fun _ _ => rfl) (MR_r24 hm) ?_
                            refine r_iload_n (pc := 149) dX5_copy_149 rfl ?_
                            refine rm_iald (pc := 150) dX5_copy_150 (MR_k24 hm) (MR_z24 hm) (by first | assumption | exact vp_in_lit rfl) ?_
                            refine r_iload (pc := 151) dX5_copy_151 rfl ?_
                            refine r_isub (pc := 153) dX5_copy_153 ?_
                            refine r_icmp_le (pc := 154) 164 dX5_copy_154 rfl (fun h154 => ?_) (fun h154 => ?_)
                            · have z1 : I (mo + 13) (Int32.toNatClampNeg x1) = 1 := by
                                rcases (hk.2.1 (Int32.toNatClampNeg x1) (vp_in_lt hx)).1 with h | h | h
                                · exact absurd h h90
                                · exact h
                                · exact absurd h h29
                              have z2 : I (mo + 13) (Int32.toNatClampNeg x2) = 1 := by
                                rcases (hk.2.1 (Int32.toNatClampNeg x2) (vp_in_lt hx2)).1 with h | h | h
                                · exact absurd h h99
                                · exact h
                                · exact absurd h h39
                              refine base h5 h13 z1 z2 h111 h122 h127 h140 h154 ?_
                              rw [copyS, cI_f (by intro q; exact q.elim (fun q => q h5) (fun q => q h13)), cI_f ?_, cI_f (show ¬ ((sS I L mo).1 22 (Int32.toNatClampNeg x1) = 0 ∨ (sS I L mo).1 22 (Int32.toNatClampNeg x2) = 0) from fun q => q.elim h90 h99), cI_f h111, cI_f (show ¬ (x3 < 0 ∨ x4 < 0 ∨ (sS I L mo).1 24 (Int32.toNatClampNeg x1) - x5 < x3 ∨ (sS I L mo).1 24 (Int32.toNatClampNeg x2) - x5 < x4) from fun q => q.elim h122 (fun q => q.elim h127 (fun q => q.elim h140 h154)))]
                              show ¬ (I (mo + 13) (Int32.toNatClampNeg x1) = 2 ∨ I (mo + 13) (Int32.toNatClampNeg x2) = 2 ∨ (I (mo + 13) (Int32.toNatClampNeg x1) = 1 ∧ I (mo + 13) (Int32.toNatClampNeg x2) = 1 ∧ ¬ I (mo + 14) (Int32.toNatClampNeg x1) = I (mo + 14) (Int32.toNatClampNeg x2)))
                              first
                                | exact fun q => q.elim h29 (fun q => q.elim h39 (fun q => h49 q.1))
                                | exact fun q => q.elim h29 (fun q => q.elim h39 (fun q => h59 q.2.1))
                                | exact fun q => q.elim h29 (fun q => q.elim h39 (fun q => q.2.2 h74))
                            · refine r_aload_n (pc := 157) dX5_copy_157 rfl ?_
                              refine r_bipush (pc := 158) (v := (-5)) dX5_copy_158 (by decide) ?_
                              refine r_o2 (pc := 160) (bc' := 0) (bs' := 0) (ct_X5_no hm _ (vp_in_lit rfl)) k_X5_136_5 dX5_copy_160 (MR_k hm) (Nat.le_of_ble_eq_true rfl) ⟨Nat.le_of_ble_eq_true rfl, Nat.le_of_ble_eq_true rfl⟩ ⟨Nat.le_of_ble_eq_true rfl, Nat.le_of_ble_eq_true rfl⟩ (r_ci fun r160 M160 p160 => ?_) nox
                              obtain ⟨rfl, rfl⟩ := p160
                              refine r_ireturn (pc := 163) rfl dX5_copy_163 ⟨_, rfl, ?_⟩
                              first
                                | contradiction
                                | (refine oM.of ?_ (by repeat' (first | exact frM.rf | assumption | refine frM.up0 ?_ | refine frM.up ?_ (by decide) | refine frM.upL ?_ (by decide)))
                                   simp (decide := true) only [copyS, noS, noTenS, thP, mnP, shelfP, stepS, farP, eq_true h5, eq_true h13, h29, h39, h49, h59, h74, h90, h99, h111, h122, h127, h140, h154, not_true_eq_false, not_false_eq_true, true_and, and_true, false_and, and_false, true_or, or_true, false_or, or_false, cI_True, cI_False, if_true, if_false, sm0, sm1, sm2, sm3, sm4, sm5, sm6, sm7, sm8, sm9, sm10, sm11, sm12, sm13, sm14, sm15, sm16, sm17, sm18, sm19, sm20, sm21, sm22, sm23, sm24, sm25, sm26, sm27, sm28, sm29, sm30, sm31, sm32, sm33, sm34, sm35, sm36, sm37, sm38, sm39, sm40, sm41, sm42, sm43, sm44, sm45, sm46, sm47, sm48, sm49, su0, su1, su2, su3, su4, su5, su6, su7, su8, su9, su10, su11, su12, su13, su14, su15, su16, su17, su18, su19, su20, su21, su22, su23, su24, su25, su26, su27, su28, su29, su30, su31, su32, su33, su34, su35, su36, su37, su38, su39, su40, su41, su42, su43, su44, su45, su46, su47, su48, su49])
                    · refine r_aload_n (pc := 114) dX5_copy_114 rfl ?_
                      refine r_bipush (pc := 115) (v := (-4)) dX5_copy_115 (by decide) ?_
                      refine r_o2 (pc := 117) (bc' := 0) (bs' := 0) (ct_X5_no hm _ (vp_in_lit rfl)) k_X5_136_5 dX5_copy_117 (MR_k hm) (Nat.le_of_ble_eq_true rfl) ⟨Nat.le_of_ble_eq_true rfl, Nat.le_of_ble_eq_true rfl⟩ ⟨Nat.le_of_ble_eq_true rfl, Nat.le_of_ble_eq_true rfl⟩ (r_ci fun r117 M117 p117 => ?_) nox
                      obtain ⟨rfl, rfl⟩ := p117
                      refine r_ireturn (pc := 120) rfl dX5_copy_120 ⟨_, rfl, ?_⟩
                      first
                        | contradiction
                        | (refine oM.of ?_ (by repeat' (first | exact frM.rf | assumption | refine frM.up0 ?_ | refine frM.up ?_ (by decide) | refine frM.upL ?_ (by decide)))
                           simp (decide := true) only [copyS, noS, noTenS, thP, mnP, shelfP, stepS, farP, eq_true h5, eq_true h13, h29, h39, h49, h59, h74, h90, h99, h111, not_true_eq_false, not_false_eq_true, true_and, and_true, false_and, and_false, true_or, or_true, false_or, or_false, cI_True, cI_False, if_true, if_false, sm0, sm1, sm2, sm3, sm4, sm5, sm6, sm7, sm8, sm9, sm10, sm11, sm12, sm13, sm14, sm15, sm16, sm17, sm18, sm19, sm20, sm21, sm22, sm23, sm24, sm25, sm26, sm27, sm28, sm29, sm30, sm31, sm32, sm33, sm34, sm35, sm36, sm37, sm38, sm39, sm40, sm41, sm42, sm43, sm44, sm45, sm46, sm47, sm48, sm49, su0, su1, su2, su3, su4, su5, su6, su7, su8, su9, su10, su11, su12, su13, su14, su15, su16, su17, su18, su19, su20, su21, su22, su23, su24, su25, su26, su27, su28, su29, su30, su31, su32, su33, su34, su35, su36, su37, su38, su39, su40, su41, su42, su43, su44, su45, su46, su47, su48, su49])
                  · refine r_aload_n (pc := 102) dX5_copy_102 rfl ?_
                    refine r_bipush (pc := 103) (v := (-3)) dX5_copy_103 (by decide) ?_
                    refine r_o2 (pc := 105) (bc' := 0) (bs' := 0) (ct_X5_no hm _ (vp_in_lit rfl)) k_X5_136_5 dX5_copy_105 (MR_k hm) (Nat.le_of_ble_eq_true rfl) ⟨Nat.le_of_ble_eq_true rfl, Nat.le_of_ble_eq_true rfl⟩ ⟨Nat.le_of_ble_eq_true rfl, Nat.le_of_ble_eq_true rfl⟩ (r_ci fun r105 M105 p105 => ?_) nox
                    obtain ⟨rfl, rfl⟩ := p105
                    refine r_ireturn (pc := 108) rfl dX5_copy_108 ⟨_, rfl, ?_⟩
                    first
                      | exact absurd (h90.symm.trans h49) (by decide)
                      | exact absurd (h99.symm.trans h59) (by decide)
                      | contradiction
                      | (refine oM.of ?_ (by repeat' (first | exact frM.rf | assumption | refine frM.up0 ?_ | refine frM.up ?_ (by decide) | refine frM.upL ?_ (by decide)))
                         simp (decide := true) only [copyS, noS, noTenS, thP, mnP, shelfP, stepS, farP, eq_true h5, eq_true h13, h29, h39, h49, h59, h74, h90, h99, not_true_eq_false, not_false_eq_true, true_and, and_true, false_and, and_false, true_or, or_true, false_or, or_false, cI_True, cI_False, if_true, if_false, sm0, sm1, sm2, sm3, sm4, sm5, sm6, sm7, sm8, sm9, sm10, sm11, sm12, sm13, sm14, sm15, sm16, sm17, sm18, sm19, sm20, sm21, sm22, sm23, sm24, sm25, sm26, sm27, sm28, sm29, sm30, sm31, sm32, sm33, sm34, sm35, sm36, sm37, sm38, sm39, sm40, sm41, sm42, sm43, sm44, sm45, sm46, sm47, sm48, sm49, su0, su1, su2, su3, su4, su5, su6, su7, su8, su9, su10, su11, su12, su13, su14, su15, su16, su17, su18, su19, su20, su21, su22, su23, su24, su25, su26, su27, su28, su29, su30, su31, su32, su33, su34, su35, su36, su37, su38, su39, su40, su41, su42, su43, su44, su45, su46, su47, su48, su49])
              · refine r_aload_n (pc := 77) dX5_copy_77 rfl ?_
                refine r_bipush (pc := 78) (v := (-2)) dX5_copy_78 (by decide) ?_
                refine r_o2 (pc := 80) (bc' := 0) (bs' := 0) (ct_X5_no hm _ (vp_in_lit rfl)) k_X5_136_5 dX5_copy_80 (MR_k hm) (Nat.le_of_ble_eq_true rfl) ⟨Nat.le_of_ble_eq_true rfl, Nat.le_of_ble_eq_true rfl⟩ ⟨Nat.le_of_ble_eq_true rfl, Nat.le_of_ble_eq_true rfl⟩ (r_ci fun r80 M80 p80 => ?_) nox
                obtain ⟨rfl, rfl⟩ := p80
                refine r_ireturn (pc := 83) rfl dX5_copy_83 ⟨_, rfl, ?_⟩
                first
                  | contradiction
                  | (refine oM.of ?_ (by repeat' (first | exact frM.rf | assumption | refine frM.up0 ?_ | refine frM.up ?_ (by decide) | refine frM.upL ?_ (by decide)))
                     simp (decide := true) only [copyS, noS, noTenS, thP, mnP, shelfP, stepS, farP, eq_true h5, eq_true h13, h29, h39, h49, h59, h74, not_true_eq_false, not_false_eq_true, true_and, and_true, false_and, and_false, true_or, or_true, false_or, or_false, cI_True, cI_False, if_true, if_false, sm0, sm1, sm2, sm3, sm4, sm5, sm6, sm7, sm8, sm9, sm10, sm11, sm12, sm13, sm14, sm15, sm16, sm17, sm18, sm19, sm20, sm21, sm22, sm23, sm24, sm25, sm26, sm27, sm28, sm29, sm30, sm31, sm32, sm33, sm34, sm35, sm36, sm37, sm38, sm39, sm40, sm41, sm42, sm43, sm44, sm45, sm46, sm47, sm48, sm49, su0, su1, su2, su3, su4, su5, su6, su7, su8, su9, su10, su11, su12, su13, su14, su15, su16, su17, su18, su19, su20, su21, su22, su23, su24, su25, su26, su27, su28, su29, su30, su31, su32, su33, su34, su35, su36, su37, su38, su39, su40, su41, su42, su43, su44, su45, su46, su47, su48, su49])
    · rw [bI_eq0] at h13
      refine r_aload_n (pc := 16) dX5_copy_16 rfl ?_
      refine r_iconst (pc := 17) (v := (-1)) dX5_copy_17 (by decide) ?_
      refine r_o2 (pc := 18) (bc' := 0) (bs' := 0) (ct_X5_no hm _ (vp_in_lit rfl)) k_X5_136_5 dX5_copy_18 (MR_k hm) (Nat.le_of_ble_eq_true rfl) ⟨Nat.le_of_ble_eq_true rfl, Nat.le_of_ble_eq_true rfl⟩ ⟨Nat.le_of_ble_eq_true rfl, Nat.le_of_ble_eq_true rfl⟩ (r_ci fun r18 M18 p18 => ?_) nox
      obtain ⟨rfl, rfl⟩ := p18
      refine r_ireturn (pc := 21) rfl dX5_copy_21 ⟨_, rfl, ?_⟩
      first
        | contradiction
        | (refine oM.of ?_ (by repeat' (first | exact frM.rf | assumption | refine frM.up0 ?_ | refine frM.up ?_ (by decide) | refine frM.upL ?_ (by decide)))
           simp (decide := true) only [copyS, noS, noTenS, thP, mnP, shelfP, stepS, farP, eq_true h5, eq_false h13, not_true_eq_false, not_false_eq_true, true_and, and_true, false_and, and_false, true_or, or_true, false_or, or_false, cI_True, cI_False, if_true, if_false, sm0, sm1, sm2, sm3, sm4, sm5, sm6, sm7, sm8, sm9, sm10, sm11, sm12, sm13, sm14, sm15, sm16, sm17, sm18, sm19, sm20, sm21, sm22, sm23, sm24, sm25, sm26, sm27, sm28, sm29, sm30, sm31, sm32, sm33, sm34, sm35, sm36, sm37, sm38, sm39, sm40, sm41, sm42, sm43, sm44, sm45, sm46, sm47, sm48, sm49, su0, su1, su2, su3, su4, su5, su6, su7, su8, su9, su10, su11, su12, su13, su14, su15, su16, su17, su18, su19, su20, su21, su22, su23, su24, su25, su26, su27, su28, su29, su30, su31, su32, su33, su34, su35, su36, su37, su38, su39, su40, su41, su42, su43, su44, su45, su46, su47, su48, su49])
