/-! THE MODEL's small methods (printed by gen/model2.py) -/
set_option maxRecDepth 100000
theorem ct_X5_isShelf {M0 : PM} {mo : Nat} {I : Nat → Nat → Int32} {L : Nat → Nat → Int64} (hm : MR M0 mo) (x1 : Int32) : Ct (YX5_isShelf, (0, 0, 0, 0), qi (fun r M' => r = bI (shelfP x1) ∧ M' = wIL M0 I L), noX) [.ref mo, .int x1] (wIL M0 I L) := by
  refine ct_of [some (.ref mo), some (.int x1)] rfl rfl rfl (Nat.le_of_ble_eq_true rfl) rfl rfl ?_
  refine r_iload_n (pc := 0) dX5_isShelf_0 rfl ?_
  refine r_if_lt (pc := 1) 14 dX5_isShelf_1 rfl (fun h1 => ?_) (fun h1 => ?_)
  · refine r_iconst (pc := 14) (v := 0) dX5_isShelf_14 (by decide) ?_
    refine r_zreturn (pc := 15) rfl rfl dX5_isShelf_15 ⟨_, rfl, ?_⟩
    refine ⟨bI_f' ?_, rfl⟩
    clear hm
    grind
  · refine r_iload_n (pc := 4) dX5_isShelf_4 rfl ?_
    refine r_bipush (pc := 5) (v := 8) dX5_isShelf_5 (by decide) ?_
    refine r_icmp_ge (pc := 7) 14 dX5_isShelf_7 rfl (fun h7 => ?_) (fun h7 => ?_)
    · refine r_iconst (pc := 14) (v := 0) dX5_isShelf_14 (by decide) ?_
      refine r_zreturn (pc := 15) rfl rfl dX5_isShelf_15 ⟨_, rfl, ?_⟩
      refine ⟨bI_f' ?_, rfl⟩
      clear hm
      grind
    · refine r_iconst (pc := 10) (v := 1) dX5_isShelf_10 (by decide) ?_
      refine r_goto (pc := 11) 15 dX5_isShelf_11 rfl ?_
      refine r_zreturn (pc := 15) rfl rfl dX5_isShelf_15 ⟨_, rfl, ?_⟩
      refine ⟨bI_t' ?_, rfl⟩
      clear hm
      grind
theorem ct_X5_isThing {M0 : PM} {mo : Nat} {I : Nat → Nat → Int32} {L : Nat → Nat → Int64} (hm : MR M0 mo) (x1 : Int32) : Ct (YX5_isThing, (0, 0, 0, 0), qi (fun r M' => r = bI (¬ x1 < 0 ∧ x1 < I mo 0) ∧ M' = wIL M0 I L), noX) [.ref mo, .int x1] (wIL M0 I L) := by
  refine ct_of [some (.ref mo), some (.int x1)] rfl rfl rfl (Nat.le_of_ble_eq_true rfl) rfl rfl ?_
  refine r_iload_n (pc := 0) dX5_isThing_0 rfl ?_
  refine r_if_lt (pc := 1) 16 dX5_isThing_1 rfl (fun h1 => ?_) (fun h1 => ?_)
  · refine r_iconst (pc := 16) (v := 0) dX5_isThing_16 (by decide) ?_
    refine r_zreturn (pc := 17) rfl rfl dX5_isThing_17 ⟨_, rfl, ?_⟩
    refine ⟨bI_f' ?_, rfl⟩
    clear hm
    grind
  · refine r_iload_n (pc := 4) dX5_isThing_4 rfl ?_
    refine r_aload_n (pc := 5) dX5_isThing_5 rfl ?_
    refine rm_getI (pc := 6) dX5_isThing_6 fl_X5_117_5 (MR_k hm) (fun _ _ => rfl) ?_
    refine r_icmp_ge (pc := 9) 16 dX5_isThing_9 rfl (fun h9 => ?_) (fun h9 => ?_)
    · refine r_iconst (pc := 16) (v := 0) dX5_isThing_16 (by decide) ?_
      refine r_zreturn (pc := 17) rfl rfl dX5_isThing_17 ⟨_, rfl, ?_⟩
      refine ⟨bI_f' ?_, rfl⟩
      clear hm
      grind
    · refine r_iconst (pc := 12) (v := 1) dX5_isThing_12 (by decide) ?_
      refine r_goto (pc := 13) 17 dX5_isThing_13 rfl ?_
      refine r_zreturn (pc := 17) rfl rfl dX5_isThing_17 ⟨_, rfl, ?_⟩
      refine ⟨bI_t' ?_, rfl⟩
      clear hm
      grind
theorem ct_X5_isMan {M0 : PM} {mo : Nat} {I : Nat → Nat → Int32} {L : Nat → Nat → Int64} (hm : MR M0 mo) (x1 : Int32) : Ct (YX5_isMan, (0, 0, 0, 0), qi (fun r M' => r = bI (¬ x1 < 0 ∧ x1 < I mo 1) ∧ M' = wIL M0 I L), noX) [.ref mo, .int x1] (wIL M0 I L) := by
  refine ct_of [some (.ref mo), some (.int x1)] rfl rfl rfl (Nat.le_of_ble_eq_true rfl) rfl rfl ?_
  refine r_iload_n (pc := 0) dX5_isMan_0 rfl ?_
  refine r_if_lt (pc := 1) 16 dX5_isMan_1 rfl (fun h1 => ?_) (fun h1 => ?_)
  · refine r_iconst (pc := 16) (v := 0) dX5_isMan_16 (by decide) ?_
    refine r_zreturn (pc := 17) rfl rfl dX5_isMan_17 ⟨_, rfl, ?_⟩
    refine ⟨bI_f' ?_, rfl⟩
    clear hm
    grind
  · refine r_iload_n (pc := 4) dX5_isMan_4 rfl ?_
    refine r_aload_n (pc := 5) dX5_isMan_5 rfl ?_
    refine rm_getI (pc := 6) dX5_isMan_6 fl_X5_120_5 (MR_k hm) (fun _ _ => rfl) ?_
    refine r_icmp_ge (pc := 9) 16 dX5_isMan_9 rfl (fun h9 => ?_) (fun h9 => ?_)
    · refine r_iconst (pc := 16) (v := 0) dX5_isMan_16 (by decide) ?_
      refine r_zreturn (pc := 17) rfl rfl dX5_isMan_17 ⟨_, rfl, ?_⟩
      refine ⟨bI_f' ?_, rfl⟩
      clear hm
      grind
    · refine r_iconst (pc := 12) (v := 1) dX5_isMan_12 (by decide) ?_
      refine r_goto (pc := 13) 17 dX5_isMan_13 rfl ?_
      refine r_zreturn (pc := 17) rfl rfl dX5_isMan_17 ⟨_, rfl, ?_⟩
      refine ⟨bI_t' ?_, rfl⟩
      clear hm
      grind
theorem ct_X5_isSet {M0 : PM} {mo : Nat} {I : Nat → Nat → Int32} {L : Nat → Nat → Int64} (hm : MR M0 mo) (x1 : Int32) : Ct (YX5_isSet, (0, 0, 0, 0), qi (fun r M' => r = bI (¬ x1 < 0 ∧ x1 < (1 : Int32) <<< (I mo 1 &&& 31)) ∧ M' = wIL M0 I L), noX) [.ref mo, .int x1] (wIL M0 I L) := by
  refine ct_of [some (.ref mo), some (.int x1)] rfl rfl rfl (Nat.le_of_ble_eq_true rfl) rfl rfl ?_
  refine r_iload_n (pc := 0) dX5_isSet_0 rfl ?_
  refine r_if_lt (pc := 1) 18 dX5_isSet_1 rfl (fun h1 => ?_) (fun h1 => ?_)
  · refine r_iconst (pc := 18) (v := 0) dX5_isSet_18 (by decide) ?_
    refine r_zreturn (pc := 19) rfl rfl dX5_isSet_19 ⟨_, rfl, ?_⟩
    refine ⟨bI_f' ?_, rfl⟩
    clear hm
    grind
  · refine r_iload_n (pc := 4) dX5_isSet_4 rfl ?_
    refine r_iconst (pc := 5) (v := 1) dX5_isSet_5 (by decide) ?_
    refine r_aload_n (pc := 6) dX5_isSet_6 rfl ?_
    refine rm_getI (pc := 7) dX5_isSet_7 fl_X5_120_5 (MR_k hm) (fun _ _ => rfl) ?_
    refine r_ishl (pc := 10) dX5_isSet_10 ?_
    refine r_icmp_ge (pc := 11) 18 dX5_isSet_11 rfl (fun h11 => ?_) (fun h11 => ?_)
    · refine r_iconst (pc := 18) (v := 0) dX5_isSet_18 (by decide) ?_
      refine r_zreturn (pc := 19) rfl rfl dX5_isSet_19 ⟨_, rfl, ?_⟩
      refine ⟨bI_f' ?_, rfl⟩
      clear hm
      grind
    · refine r_iconst (pc := 14) (v := 1) dX5_isSet_14 (by decide) ?_
      refine r_goto (pc := 15) 19 dX5_isSet_15 rfl ?_
      refine r_zreturn (pc := 19) rfl rfl dX5_isSet_19 ⟨_, rfl, ?_⟩
      refine ⟨bI_t' ?_, rfl⟩
      clear hm
      grind
theorem ct_X5_isWet {M0 : PM} {mo : Nat} {I : Nat → Nat → Int32} {L : Nat → Nat → Int64} (hm : MR M0 mo) (x1 : Int32) : Ct (YX5_isWet, (0, 0, 0, 0), qi (fun r M' => r = bI (wetP (I mo 4) (I mo 5) x1) ∧ M' = wIL M0 I L), noX) [.ref mo, .int x1] (wIL M0 I L) := by
  refine ct_of [some (.ref mo), some (.int x1)] rfl rfl rfl (Nat.le_of_ble_eq_true rfl) rfl rfl ?_
  refine r_iload_n (pc := 0) dX5_isWet_0 rfl ?_
  refine r_aload_n (pc := 1) dX5_isWet_1 rfl ?_
  refine rm_getI (pc := 2) dX5_isWet_2 fl_X5_123_5 (MR_k hm) (fun _ _ => rfl) ?_
  refine r_icmp_le (pc := 5) 20 dX5_isWet_5 rfl (fun h5 => ?_) (fun h5 => ?_)
  · refine r_iconst (pc := 20) (v := 0) dX5_isWet_20 (by decide) ?_
    refine r_zreturn (pc := 21) rfl rfl dX5_isWet_21 ⟨_, rfl, ?_⟩
    refine ⟨bI_f' ?_, rfl⟩
    clear hm
    grind
  · refine r_iload_n (pc := 8) dX5_isWet_8 rfl ?_
    refine r_aload_n (pc := 9) dX5_isWet_9 rfl ?_
    refine rm_getI (pc := 10) dX5_isWet_10 fl_X5_126_5 (MR_k hm) (fun _ _ => rfl) ?_
    refine r_icmp_ge (pc := 13) 20 dX5_isWet_13 rfl (fun h13 => ?_) (fun h13 => ?_)
    · refine r_iconst (pc := 20) (v := 0) dX5_isWet_20 (by decide) ?_
      refine r_zreturn (pc := 21) rfl rfl dX5_isWet_21 ⟨_, rfl, ?_⟩
      refine ⟨bI_f' ?_, rfl⟩
      clear hm
      grind
    · refine r_iconst (pc := 16) (v := 1) dX5_isWet_16 (by decide) ?_
      refine r_goto (pc := 17) 21 dX5_isWet_17 rfl ?_
      refine r_zreturn (pc := 21) rfl rfl dX5_isWet_21 ⟨_, rfl, ?_⟩
      refine ⟨bI_t' ?_, rfl⟩
      clear hm
      grind
theorem ct_X5_isStep {M0 : PM} {mo : Nat} {I : Nat → Nat → Int32} {L : Nat → Nat → Int64} (hm : MR M0 mo) (x1 : Int32) : Ct (YX5_isStep, (1, 21, 0, 0), qi (fun r M' => r = bI (stepP (I mo 3) (I mo 4) (I mo 5) x1) ∧ M' = wIL M0 I L), noX) [.ref mo, .int x1] (wIL M0 I L) := by
  refine ct_of [some (.ref mo), some (.int x1)] rfl rfl rfl (Nat.le_of_ble_eq_true rfl) rfl rfl ?_
  refine r_iload_n (pc := 0) dX5_isStep_0 rfl ?_
  refine r_if_lt (pc := 1) 24 dX5_isStep_1 rfl (fun h1 => ?_) (fun h1 => ?_)
  · refine r_iconst (pc := 24) (v := 0) dX5_isStep_24 (by decide) ?_
    refine r_zreturn (pc := 25) rfl rfl dX5_isStep_25 ⟨_, rfl, ?_⟩
    refine ⟨bI_f' ?_, rfl⟩
    clear hm
    grind
  · refine r_iload_n (pc := 4) dX5_isStep_4 rfl ?_
    refine r_aload_n (pc := 5) dX5_isStep_5 rfl ?_
    refine rm_getI (pc := 6) dX5_isStep_6 fl_X5_7_5 (MR_k hm) (fun _ _ => rfl) ?_
    refine r_icmp_gt (pc := 9) 24 dX5_isStep_9 rfl (fun h9 => ?_) (fun h9 => ?_)
    · refine r_iconst (pc := 24) (v := 0) dX5_isStep_24 (by decide) ?_
      refine r_zreturn (pc := 25) rfl rfl dX5_isStep_25 ⟨_, rfl, ?_⟩
      refine ⟨bI_f' ?_, rfl⟩
      clear hm
      grind
    · refine r_aload_n (pc := 12) dX5_isStep_12 rfl ?_
      refine r_iload_n (pc := 13) dX5_isStep_13 rfl ?_
      refine r_o2 (pc := 14) (bc' := 0) (bs' := 0) (ct_X5_isWet hm _) k_X5_129_5 dX5_isStep_14 (MR_k hm) (Nat.le_of_ble_eq_true rfl) ⟨Nat.le_of_ble_eq_true rfl, Nat.le_of_ble_eq_true rfl⟩ ⟨Nat.le_of_ble_eq_true rfl, Nat.le_of_ble_eq_true rfl⟩ (r_ci fun r14 M14 p14 => ?_) nox
      obtain ⟨rfl, rfl⟩ := p14
      refine r_if_ne (pc := 17) 24 dX5_isStep_17 rfl (fun h17 => ?_) (fun h17 => ?_)
      · rw [bI_ne0] at h17
        refine r_iconst (pc := 24) (v := 0) dX5_isStep_24 (by decide) ?_
        refine r_zreturn (pc := 25) rfl rfl dX5_isStep_25 ⟨_, rfl, ?_⟩
        refine ⟨bI_f' ?_, rfl⟩
        clear hm
        grind
      · rw [bI_eq0] at h17
        refine r_iconst (pc := 20) (v := 1) dX5_isStep_20 (by decide) ?_
        refine r_goto (pc := 21) 25 dX5_isStep_21 rfl ?_
        refine r_zreturn (pc := 25) rfl rfl dX5_isStep_25 ⟨_, rfl, ?_⟩
        refine ⟨bI_t' ?_, rfl⟩
        clear hm
        grind
theorem ct_X5_low {M0 : PM} {mo : Nat} {I : Nat → Nat → Int32} {L : Nat → Nat → Int64} (hm : MR M0 mo) (x1 : Int32) (x2 : Int32) : Ct (YX5_low, (0, 0, 0, 0), qi (fun r M' => r = lowC x1 x2 ∧ M' = wIL M0 I L), noX) [.ref mo, .int x1, .int x2] (wIL M0 I L) := by
  refine ct_of [some (.ref mo), some (.int x1), some (.int x2)] rfl rfl rfl (Nat.le_of_ble_eq_true rfl) rfl rfl ?_
  refine r_iload_n (pc := 0) dX5_low_0 rfl ?_
  refine r_iload_n (pc := 1) dX5_low_1 rfl ?_
  refine r_icmp_ge (pc := 2) 9 dX5_low_2 rfl (fun h2 => ?_) (fun h2 => ?_)
  · refine r_iload_n (pc := 9) dX5_low_9 rfl ?_
    refine r_ireturn (pc := 10) rfl dX5_low_10 ⟨_, rfl, ?_⟩
    refine ⟨?_, rfl⟩
    clear hm
    grind
  · refine r_iload_n (pc := 5) dX5_low_5 rfl ?_
    refine r_goto (pc := 6) 10 dX5_low_6 rfl ?_
    refine r_ireturn (pc := 10) rfl dX5_low_10 ⟨_, rfl, ?_⟩
    refine ⟨?_, rfl⟩
    clear hm
    grind
theorem ct_X5_near {M0 : PM} {mo : Nat} {I : Nat → Nat → Int32} {L : Nat → Nat → Int64} (hm : MR M0 mo) (x1 : Int32) : Ct (YX5_near, (0, 0, 0, 0), qi (fun r M' => r = nearC x1 ∧ M' = wIL M0 I L), noX) [.ref mo, .int x1] (wIL M0 I L) := by
  refine ct_of [some (.ref mo), some (.int x1)] rfl rfl rfl (Nat.le_of_ble_eq_true rfl) rfl rfl ?_
  refine r_iload_n (pc := 0) dX5_near_0 rfl ?_
  refine r_sipush (pc := 1) (v := 1000) dX5_near_1 (by decide) ?_
  refine r_icmp_le (pc := 4) 13 dX5_near_4 rfl (fun h4 => ?_) (fun h4 => ?_)
  · refine r_iload_n (pc := 13) dX5_near_13 rfl ?_
    refine r_sipush (pc := 14) (v := (-1000)) dX5_near_14 (by decide) ?_
    refine r_icmp_ge (pc := 17) 26 dX5_near_17 rfl (fun h17 => ?_) (fun h17 => ?_)
    · refine r_iload_n (pc := 26) dX5_near_26 rfl ?_
      refine r_ireturn (pc := 27) rfl dX5_near_27 ⟨_, rfl, ?_⟩
      refine ⟨?_, rfl⟩
      clear hm
      simp only [nearC]
      grind
    · refine r_sipush (pc := 20) (v := (-1000)) dX5_near_20 (by decide) ?_
      refine r_goto (pc := 23) 27 dX5_near_23 rfl ?_
      refine r_ireturn (pc := 27) rfl dX5_near_27 ⟨_, rfl, ?_⟩
      refine ⟨?_, rfl⟩
      clear hm
      simp only [nearC]
      grind
  · refine r_sipush (pc := 7) (v := 1000) dX5_near_7 (by decide) ?_
    refine r_goto (pc := 10) 27 dX5_near_10 rfl ?_
    refine r_ireturn (pc := 27) rfl dX5_near_27 ⟨_, rfl, ?_⟩
    refine ⟨?_, rfl⟩
    clear hm
    simp only [nearC]
    grind
theorem ct_X5_no {M0 : PM} {mo : Nat} {I : Nat → Nat → Int32} {L : Nat → Nat → Int64} (hm : MR M0 mo) (x1 : Int32) (hx : vp_in (-x1) 8) : Ct (YX5_no, (0, 0, 0, 0), qi (fun r M' => r = x1 ∧ M' = wIL M0 (up2 I (mo + 1) (Int32.toNatClampNeg (-x1)) (I (mo + 1) (Int32.toNatClampNeg (-x1)) + 1)) L), noX) [.ref mo, .int x1] (wIL M0 I L) := by
  refine ct_of [some (.ref mo), some (.int x1)] rfl rfl rfl (Nat.le_of_ble_eq_true rfl) rfl rfl ?_
  refine r_aload_n (pc := 0) dX5_no_0 rfl ?_
  refine r_getR (pc := 1) dX5_no_1 fl_X5_19_5 (MR_k hm) (fun _ _ => rfl) (MR_r10 hm) ?_
  refine r_iload_n (pc := 4) dX5_no_4 rfl ?_
  refine r_ineg (pc := 5) dX5_no_5 ?_
  refine r_dup2 (pc := 6) dX5_no_6 rfl rfl ?_
  refine rm_iald (pc := 7) dX5_no_7 (MR_k10 hm) (MR_z10 hm) (by first | assumption | exact vp_in_lit rfl) ?_
  refine r_iconst (pc := 8) (v := 1) dX5_no_8 (by decide) ?_
  refine r_iadd (pc := 9) dX5_no_9 ?_
  refine rm_iast (pc := 10) dX5_no_10 (MR_k10 hm) (MR_z10 hm) (by first | assumption | exact vp_in_lit rfl) ?_
  refine r_iload_n (pc := 11) dX5_no_11 rfl ?_
  refine r_ireturn (pc := 12) rfl dX5_no_12 ⟨_, rfl, ?_⟩
  exact ⟨rfl, rfl⟩
theorem ct_X5_noTen {M0 : PM} {mo : Nat} {I : Nat → Nat → Int32} {L : Nat → Nat → Int64} (hm : MR M0 mo) (x1 : Int32) (hx : vp_in (-x1) 8) : Ct (YX5_noTen, (0, 0, 0, 0), qi (fun r M' => r = x1 - 10 ∧ M' = wIL M0 (up2 I (mo + 1) (Int32.toNatClampNeg (-x1)) (I (mo + 1) (Int32.toNatClampNeg (-x1)) + 1)) L), noX) [.ref mo, .int x1] (wIL M0 I L) := by
  refine ct_of [some (.ref mo), some (.int x1)] rfl rfl rfl (Nat.le_of_ble_eq_true rfl) rfl rfl ?_
  refine r_aload_n (pc := 0) dX5_noTen_0 rfl ?_
  refine r_getR (pc := 1) dX5_noTen_1 fl_X5_19_5 (MR_k hm) (fun _ _ => rfl) (MR_r10 hm) ?_
  refine r_iload_n (pc := 4) dX5_noTen_4 rfl ?_
  refine r_ineg (pc := 5) dX5_noTen_5 ?_
  refine r_dup2 (pc := 6) dX5_noTen_6 rfl rfl ?_
  refine rm_iald (pc := 7) dX5_noTen_7 (MR_k10 hm) (MR_z10 hm) (by first | assumption | exact vp_in_lit rfl) ?_
  refine r_iconst (pc := 8) (v := 1) dX5_noTen_8 (by decide) ?_
  refine r_iadd (pc := 9) dX5_noTen_9 ?_
  refine rm_iast (pc := 10) dX5_noTen_10 (MR_k10 hm) (MR_z10 hm) (by first | assumption | exact vp_in_lit rfl) ?_
  refine r_iload_n (pc := 11) dX5_noTen_11 rfl ?_
  refine r_bipush (pc := 12) (v := 10) dX5_noTen_12 (by decide) ?_
  refine r_isub (pc := 14) dX5_noTen_14 ?_
  refine r_ireturn (pc := 15) rfl dX5_noTen_15 ⟨_, rfl, ?_⟩
  exact ⟨rfl, rfl⟩
theorem ct_X5_goes {M0 : PM} {mo : Nat} {I : Nat → Nat → Int32} {L : Nat → Nat → Int64} (hm : MR M0 mo) (x1 : Int32) (x2 : Int32) (x3 : Int32) : Ct (YX5_goes, (1, 22, 0, 0), qi (fun r M' => r = goesC (I mo 4) (I mo 5) x1 x2 x3 ∧ M' = wIL M0 I L), noX) [.ref mo, .int x1, .int x2, .int x3] (wIL M0 I L) := by
  refine ct_of [some (.ref mo), some (.int x1), some (.int x2), some (.int x3), none] rfl rfl rfl (Nat.le_of_ble_eq_true rfl) rfl rfl ?_
  refine r_aload_n (pc := 0) dX5_goes_0 rfl ?_
  refine r_iload_n (pc := 1) dX5_goes_1 rfl ?_
  refine r_iload_n (pc := 2) dX5_goes_2 rfl ?_
  refine r_iadd (pc := 3) dX5_goes_3 ?_
  refine r_iload_n (pc := 4) dX5_goes_4 rfl ?_
  refine r_o3 (pc := 5) (bc' := 0) (bs' := 0) (ct_X5_low hm _ _) k_X5_233_5 dX5_goes_5 (MR_k hm) (Nat.le_of_ble_eq_true rfl) ⟨Nat.le_of_ble_eq_true rfl, Nat.le_of_ble_eq_true rfl⟩ ⟨Nat.le_of_ble_eq_true rfl, Nat.le_of_ble_eq_true rfl⟩ (r_ci fun r5 M5 p5 => ?_) nox
  obtain ⟨rfl, rfl⟩ := p5
  refine r_istore4 (pc := 8) dX5_goes_8 rfl ?_
  refine r_aload_n (pc := 10) dX5_goes_10 rfl ?_
  refine r_iload (pc := 11) dX5_goes_11 rfl ?_
  refine r_o2 (pc := 13) (bc' := 0) (bs' := 0) (ct_X5_isWet hm _) k_X5_129_5 dX5_goes_13 (MR_k hm) (Nat.le_of_ble_eq_true rfl) ⟨Nat.le_of_ble_eq_true rfl, Nat.le_of_ble_eq_true rfl⟩ ⟨Nat.le_of_ble_eq_true rfl, Nat.le_of_ble_eq_true rfl⟩ (r_ci fun r13 M13 p13 => ?_) nox
  obtain ⟨rfl, rfl⟩ := p13
  refine r_if_eq (pc := 16) 26 dX5_goes_16 rfl (fun h16 => ?_) (fun h16 => ?_)
  · rw [bI_eq0] at h16
    refine r_iload (pc := 26) dX5_goes_26 rfl ?_
    refine r_ireturn (pc := 28) rfl dX5_goes_28 ⟨_, rfl, ?_⟩
    refine ⟨?_, rfl⟩
    simp only [goesC]
    simp [*]
  · rw [bI_ne0] at h16
    refine r_aload_n (pc := 19) dX5_goes_19 rfl ?_
    refine rm_getI (pc := 20) dX5_goes_20 fl_X5_123_5 (MR_k hm) (fun _ _ => rfl) ?_
    refine r_goto (pc := 23) 28 dX5_goes_23 rfl ?_
    refine r_ireturn (pc := 28) rfl dX5_goes_28 ⟨_, rfl, ?_⟩
    refine ⟨?_, rfl⟩
    simp only [goesC]
    simp [*]
theorem ct_X5_farBy {M0 : PM} {mo : Nat} {I : Nat → Nat → Int32} {L : Nat → Nat → Int64} (hm : MR M0 mo) (x1 : Int32) (x2 : Int32) (hx : vp_in x2 8) (h1 : ¬ I (mo + 3) x2.toNatClampNeg = 0) (h2 : I (mo + 2) x2.toNatClampNeg = 5 → ¬ I (mo + 4) x2.toNatClampNeg = 0 ∧ ¬ (I (mo + 3) x2.toNatClampNeg + I (mo + 4) x2.toNatClampNeg - 1) / I (mo + 4) x2.toNatClampNeg = 0) : Ct (YX5_farBy, (1, 22, 0, 0), qi (fun r M' => r = farC (I (mo + 2) x2.toNatClampNeg) (I (mo + 3) x2.toNatClampNeg) (I (mo + 4) x2.toNatClampNeg) (I mo 6) x1 ∧ M' = wIL M0 I L), noX) [.ref mo, .int x1, .int x2] (wIL M0 I L) := by
  refine ct_of [some (.ref mo), some (.int x1), some (.int x2), none, none, none] rfl rfl rfl (Nat.le_of_ble_eq_true rfl) rfl rfl ?_
  have h3 : ¬ cntC (I (mo + 2) x2.toNatClampNeg) (I (mo + 3) x2.toNatClampNeg) (I (mo + 4) x2.toNatClampNeg) = 0 := by
    unfold cntC; split
    · next h => exact (h2 h).2
    · exact h1
  refine r_aload_n (pc := 0) dX5_farBy_0 rfl ?_
  refine r_getR (pc := 1) dX5_farBy_1 fl_X5_23_5 (MR_k hm) (fun _ _ => rfl) (MR_r11 hm) ?_
  refine r_iload_n (pc := 4) dX5_farBy_4 rfl ?_
  refine rm_iald (pc := 5) dX5_farBy_5 (MR_k11 hm) (MR_z11 hm) (by first | assumption | exact vp_in_lit rfl) ?_
  refine r_istore3 (pc := 6) dX5_farBy_6 rfl ?_
  refine r_iload_n (pc := 7) dX5_farBy_7 rfl ?_
  refine r_iconst (pc := 8) (v := 5) dX5_farBy_8 (by decide) ?_
  refine r_icmp_ne (pc := 9) 37 dX5_farBy_9 rfl (fun h9 => ?_) (fun h9 => ?_)
  · refine r_aload_n (pc := 37) dX5_farBy_37 rfl ?_
    refine r_getR (pc := 38) dX5_farBy_38 fl_X5_26_5 (MR_k hm) (fun _ _ => rfl) (MR_r12 hm) ?_
    refine r_iload_n (pc := 41) dX5_farBy_41 rfl ?_
    refine rm_iald (pc := 42) dX5_farBy_42 (MR_k12 hm) (MR_z12 hm) (by first | assumption | exact vp_in_lit rfl) ?_
    refine r_eqi (cntC (I (mo + 2) x2.toNatClampNeg) (I (mo + 3) x2.toNatClampNeg) (I (mo + 4) x2.toNatClampNeg)) (by simp only [cntC, h9, if_true, if_false]) ?_
    refine r_istore4 (pc := 43) dX5_farBy_43 rfl ?_
    refine r_iload_n (pc := 45) dX5_farBy_45 rfl ?_
    refine r_if_ge (pc := 46) 53 dX5_farBy_46 rfl (fun h46 => ?_) (fun h46 => ?_)
    · refine r_iload_n (pc := 53) dX5_farBy_53 rfl ?_
      refine r_bipush (pc := 54) (v := 10) dX5_farBy_54 (by decide) ?_
      refine r_imul (pc := 56) dX5_farBy_56 ?_
      refine r_iload (pc := 57) dX5_farBy_57 rfl ?_
      refine r_idiv (pc := 59) dX5_farBy_59 h3 ?_
      refine r_eqi (canC (I (mo + 2) x2.toNatClampNeg) (I (mo + 3) x2.toNatClampNeg) (I (mo + 4) x2.toNatClampNeg) x1) (by unfold canC; first | rw [if_pos h46] | rw [if_neg h46]) ?_
      refine r_istore5 (pc := 60) dX5_farBy_60 rfl ?_
      refine r_iload_n (pc := 62) dX5_farBy_62 rfl ?_
      refine r_sp_1_6 (fun h63 => ?_) (fun h63 => ?_) (fun h63 => ?_) (fun h63 => ?_) (fun h63 => ?_) (fun h63 => ?_) (fun h63 => ?_)
      · refine r_swIn (pc := 63) 100 dX5_farBy_63 (by decide) (by decide) rfl rfl ?_
        refine r_aload_n (pc := 100) dX5_farBy_100 rfl ?_
        refine r_iload (pc := 101) dX5_farBy_101 rfl ?_
        refine r_iconst (pc := 103) (v := 2) dX5_farBy_103 (by decide) ?_
        refine r_idiv (pc := 104) dX5_farBy_104 (by decide) ?_
        refine r_bipush (pc := 105) (v := 40) dX5_farBy_105 (by decide) ?_
        refine r_o3 (pc := 107) (bc' := 0) (bs' := 0) (ct_X5_low hm _ _) k_X5_233_5 dX5_farBy_107 (MR_k hm) (Nat.le_of_ble_eq_true rfl) ⟨Nat.le_of_ble_eq_true rfl, Nat.le_of_ble_eq_true rfl⟩ ⟨Nat.le_of_ble_eq_true rfl, Nat.le_of_ble_eq_true rfl⟩ (r_ci fun r107 M107 p107 => ?_) nox
        obtain ⟨rfl, rfl⟩ := p107
        refine r_ireturn (pc := 110) rfl dX5_farBy_110 ⟨_, rfl, ?_⟩
        refine ⟨?_, rfl⟩
        first
          | (simp [farC, h63]; done)
          | (obtain ⟨g1, g2, g3, g4, g5, g6⟩ := sn_1_6 h63
             simp [farC, g1, g2, g3, g4, g5, g6])
      · refine r_swIn (pc := 63) 129 dX5_farBy_63 (by decide) (by decide) rfl rfl ?_
        refine r_aload_n (pc := 129) dX5_farBy_129 rfl ?_
        refine r_iload (pc := 130) dX5_farBy_130 rfl ?_
        refine r_bipush (pc := 132) (v := 40) dX5_farBy_132 (by decide) ?_
        refine r_o3 (pc := 134) (bc' := 0) (bs' := 0) (ct_X5_low hm _ _) k_X5_233_5 dX5_farBy_134 (MR_k hm) (Nat.le_of_ble_eq_true rfl) ⟨Nat.le_of_ble_eq_true rfl, Nat.le_of_ble_eq_true rfl⟩ ⟨Nat.le_of_ble_eq_true rfl, Nat.le_of_ble_eq_true rfl⟩ (r_ci fun r134 M134 p134 => ?_) nox
        obtain ⟨rfl, rfl⟩ := p134
        refine r_aload_n (pc := 137) dX5_farBy_137 rfl ?_
        refine rm_getI (pc := 138) dX5_farBy_138 fl_X5_171_5 (MR_k hm) (fun _ _ => rfl) ?_
        refine r_iadd (pc := 141) dX5_farBy_141 ?_
        refine r_ireturn (pc := 142) rfl dX5_farBy_142 ⟨_, rfl, ?_⟩
        refine ⟨?_, rfl⟩
        first
          | (simp [farC, h63]; done)
          | (obtain ⟨g1, g2, g3, g4, g5, g6⟩ := sn_1_6 h63
             simp [farC, g1, g2, g3, g4, g5, g6])
      · refine r_swIn (pc := 63) 143 dX5_farBy_63 (by decide) (by decide) rfl rfl ?_
        refine r_aload_n (pc := 143) dX5_farBy_143 rfl ?_
        refine r_iload (pc := 144) dX5_farBy_144 rfl ?_
        refine r_bipush (pc := 146) (v := 40) dX5_farBy_146 (by decide) ?_
        refine r_o3 (pc := 148) (bc' := 0) (bs' := 0) (ct_X5_low hm _ _) k_X5_233_5 dX5_farBy_148 (MR_k hm) (Nat.le_of_ble_eq_true rfl) ⟨Nat.le_of_ble_eq_true rfl, Nat.le_of_ble_eq_true rfl⟩ ⟨Nat.le_of_ble_eq_true rfl, Nat.le_of_ble_eq_true rfl⟩ (r_ci fun r148 M148 p148 => ?_) nox
        obtain ⟨rfl, rfl⟩ := p148
        refine r_aload_n (pc := 151) dX5_farBy_151 rfl ?_
        refine rm_getI (pc := 152) dX5_farBy_152 fl_X5_171_5 (MR_k hm) (fun _ _ => rfl) ?_
        refine r_iadd (pc := 155) dX5_farBy_155 ?_
        refine r_iconst (pc := 156) (v := 2) dX5_farBy_156 (by decide) ?_
        refine r_idiv (pc := 157) dX5_farBy_157 (by decide) ?_
        refine r_ireturn (pc := 158) rfl dX5_farBy_158 ⟨_, rfl, ?_⟩
        refine ⟨?_, rfl⟩
        first
          | (simp [farC, h63]; done)
          | (obtain ⟨g1, g2, g3, g4, g5, g6⟩ := sn_1_6 h63
             simp [farC, g1, g2, g3, g4, g5, g6])
      · refine r_swIn (pc := 63) 159 dX5_farBy_63 (by decide) (by decide) rfl rfl ?_
        refine r_aload_n (pc := 159) dX5_farBy_159 rfl ?_
        refine r_iload (pc := 160) dX5_farBy_160 rfl ?_
        refine r_iconst (pc := 162) (v := 5) dX5_farBy_162 (by decide) ?_
        refine r_o3 (pc := 163) (bc' := 0) (bs' := 0) (ct_X5_low hm _ _) k_X5_233_5 dX5_farBy_163 (MR_k hm) (Nat.le_of_ble_eq_true rfl) ⟨Nat.le_of_ble_eq_true rfl, Nat.le_of_ble_eq_true rfl⟩ ⟨Nat.le_of_ble_eq_true rfl, Nat.le_of_ble_eq_true rfl⟩ (r_ci fun r163 M163 p163 => ?_) nox
        obtain ⟨rfl, rfl⟩ := p163
        refine r_ireturn (pc := 166) rfl dX5_farBy_166 ⟨_, rfl, ?_⟩
        refine ⟨?_, rfl⟩
        first
          | (simp [farC, h63]; done)
          | (obtain ⟨g1, g2, g3, g4, g5, g6⟩ := sn_1_6 h63
             simp [farC, g1, g2, g3, g4, g5, g6])
      · refine r_swIn (pc := 63) 100 dX5_farBy_63 (by decide) (by decide) rfl rfl ?_
        refine r_aload_n (pc := 100) dX5_farBy_100 rfl ?_
        refine r_iload (pc := 101) dX5_farBy_101 rfl ?_
        refine r_iconst (pc := 103) (v := 2) dX5_farBy_103 (by decide) ?_
        refine r_idiv (pc := 104) dX5_farBy_104 (by decide) ?_
        refine r_bipush (pc := 105) (v := 40) dX5_farBy_105 (by decide) ?_
        refine r_o3 (pc := 107) (bc' := 0) (bs' := 0) (ct_X5_low hm _ _) k_X5_233_5 dX5_farBy_107 (MR_k hm) (Nat.le_of_ble_eq_true rfl) ⟨Nat.le_of_ble_eq_true rfl, Nat.le_of_ble_eq_true rfl⟩ ⟨Nat.le_of_ble_eq_true rfl, Nat.le_of_ble_eq_true rfl⟩ (r_ci fun r107 M107 p107 => ?_) nox
        obtain ⟨rfl, rfl⟩ := p107
        refine r_ireturn (pc := 110) rfl dX5_farBy_110 ⟨_, rfl, ?_⟩
        refine ⟨?_, rfl⟩
        first
          | (simp [farC, h63]; done)
          | (obtain ⟨g1, g2, g3, g4, g5, g6⟩ := sn_1_6 h63
             simp [farC, g1, g2, g3, g4, g5, g6])
      · refine r_swIn (pc := 63) 111 dX5_farBy_63 (by decide) (by decide) rfl rfl ?_
        refine r_aload_n (pc := 111) dX5_farBy_111 rfl ?_
        refine r_iload (pc := 112) dX5_farBy_112 rfl ?_
        refine r_iconst (pc := 114) (v := 2) dX5_farBy_114 (by decide) ?_
        refine r_idiv (pc := 115) dX5_farBy_115 (by decide) ?_
        refine r_bipush (pc := 116) (v := 40) dX5_farBy_116 (by decide) ?_
        refine r_o3 (pc := 118) (bc' := 0) (bs' := 0) (ct_X5_low hm _ _) k_X5_233_5 dX5_farBy_118 (MR_k hm) (Nat.le_of_ble_eq_true rfl) ⟨Nat.le_of_ble_eq_true rfl, Nat.le_of_ble_eq_true rfl⟩ ⟨Nat.le_of_ble_eq_true rfl, Nat.le_of_ble_eq_true rfl⟩ (r_ci fun r118 M118 p118 => ?_) nox
        obtain ⟨rfl, rfl⟩ := p118
        refine r_aload_n (pc := 121) dX5_farBy_121 rfl ?_
        refine r_getR (pc := 122) dX5_farBy_122 fl_X5_29_5 (MR_k hm) (fun _ _ => rfl) (MR_r13 hm) ?_
        refine r_iload_n (pc := 125) dX5_farBy_125 rfl ?_
        refine rm_iald (pc := 126) dX5_farBy_126 (MR_k13 hm) (MR_z13 hm) (by first | assumption | exact vp_in_lit rfl) ?_
        refine r_iadd (pc := 127) dX5_farBy_127 ?_
        refine r_ireturn (pc := 128) rfl dX5_farBy_128 ⟨_, rfl, ?_⟩
        refine ⟨?_, rfl⟩
        first
          | (simp [farC, h63]; done)
          | (obtain ⟨g1, g2, g3, g4, g5, g6⟩ := sn_1_6 h63
             simp [farC, g1, g2, g3, g4, g5, g6])
      · refine r_swOut (pc := 63) 167 dX5_farBy_63 h63 rfl ?_
        refine r_aload_n (pc := 167) dX5_farBy_167 rfl ?_
        refine r_iload (pc := 168) dX5_farBy_168 rfl ?_
        refine r_bipush (pc := 170) (v := 40) dX5_farBy_170 (by decide) ?_
        refine r_o3 (pc := 172) (bc' := 0) (bs' := 0) (ct_X5_low hm _ _) k_X5_233_5 dX5_farBy_172 (MR_k hm) (Nat.le_of_ble_eq_true rfl) ⟨Nat.le_of_ble_eq_true rfl, Nat.le_of_ble_eq_true rfl⟩ ⟨Nat.le_of_ble_eq_true rfl, Nat.le_of_ble_eq_true rfl⟩ (r_ci fun r172 M172 p172 => ?_) nox
        obtain ⟨rfl, rfl⟩ := p172
        refine r_ireturn (pc := 175) rfl dX5_farBy_175 ⟨_, rfl, ?_⟩
        refine ⟨?_, rfl⟩
        first
          | (simp [farC, h63]; done)
          | (obtain ⟨g1, g2, g3, g4, g5, g6⟩ := sn_1_6 h63
             simp [farC, g1, g2, g3, g4, g5, g6])
    · refine r_iconst (pc := 49) (v := 0) dX5_farBy_49 (by decide) ?_
      refine r_goto (pc := 50) 60 dX5_farBy_50 rfl ?_
      refine r_eqi (canC (I (mo + 2) x2.toNatClampNeg) (I (mo + 3) x2.toNatClampNeg) (I (mo + 4) x2.toNatClampNeg) x1) (by unfold canC; first | rw [if_pos h46] | rw [if_neg h46]) ?_
      refine r_istore5 (pc := 60) dX5_farBy_60 rfl ?_
      refine r_iload_n (pc := 62) dX5_farBy_62 rfl ?_
      refine r_sp_1_6 (fun h63 => ?_) (fun h63 => ?_) (fun h63 => ?_) (fun h63 => ?_) (fun h63 => ?_) (fun h63 => ?_) (fun h63 => ?_)
      · refine r_swIn (pc := 63) 100 dX5_farBy_63 (by decide) (by decide) rfl rfl ?_
        refine r_aload_n (pc := 100) dX5_farBy_100 rfl ?_
        refine r_iload (pc := 101) dX5_farBy_101 rfl ?_
        refine r_iconst (pc := 103) (v := 2) dX5_farBy_103 (by decide) ?_
        refine r_idiv (pc := 104) dX5_farBy_104 (by decide) ?_
        refine r_bipush (pc := 105) (v := 40) dX5_farBy_105 (by decide) ?_
        refine r_o3 (pc := 107) (bc' := 0) (bs' := 0) (ct_X5_low hm _ _) k_X5_233_5 dX5_farBy_107 (MR_k hm) (Nat.le_of_ble_eq_true rfl) ⟨Nat.le_of_ble_eq_true rfl, Nat.le_of_ble_eq_true rfl⟩ ⟨Nat.le_of_ble_eq_true rfl, Nat.le_of_ble_eq_true rfl⟩ (r_ci fun r107 M107 p107 => ?_) nox
        obtain ⟨rfl, rfl⟩ := p107
        refine r_ireturn (pc := 110) rfl dX5_farBy_110 ⟨_, rfl, ?_⟩
        refine ⟨?_, rfl⟩
        first
          | (simp [farC, h63]; done)
          | (obtain ⟨g1, g2, g3, g4, g5, g6⟩ := sn_1_6 h63
             simp [farC, g1, g2, g3, g4, g5, g6])
      · refine r_swIn (pc := 63) 129 dX5_farBy_63 (by decide) (by decide) rfl rfl ?_
        refine r_aload_n (pc := 129) dX5_farBy_129 rfl ?_
        refine r_iload (pc := 130) dX5_farBy_130 rfl ?_
        refine r_bipush (pc := 132) (v := 40) dX5_farBy_132 (by decide) ?_
        refine r_o3 (pc := 134) (bc' := 0) (bs' := 0) (ct_X5_low hm _ _) k_X5_233_5 dX5_farBy_134 (MR_k hm) (Nat.le_of_ble_eq_true rfl) ⟨Nat.le_of_ble_eq_true rfl, Nat.le_of_ble_eq_true rfl⟩ ⟨Nat.le_of_ble_eq_true rfl, Nat.le_of_ble_eq_true rfl⟩ (r_ci fun r134 M134 p134 => ?_) nox
        obtain ⟨rfl, rfl⟩ := p134
        refine r_aload_n (pc := 137) dX5_farBy_137 rfl ?_
        refine rm_getI (pc := 138) dX5_farBy_138 fl_X5_171_5 (MR_k hm) (fun _ _ => rfl) ?_
        refine r_iadd (pc := 141) dX5_farBy_141 ?_
        refine r_ireturn (pc := 142) rfl dX5_farBy_142 ⟨_, rfl, ?_⟩
        refine ⟨?_, rfl⟩
        first
          | (simp [farC, h63]; done)
          | (obtain ⟨g1, g2, g3, g4, g5, g6⟩ := sn_1_6 h63
             simp [farC, g1, g2, g3, g4, g5, g6])
      · refine r_swIn (pc := 63) 143 dX5_farBy_63 (by decide) (by decide) rfl rfl ?_
        refine r_aload_n (pc := 143) dX5_farBy_143 rfl ?_
        refine r_iload (pc := 144) dX5_farBy_144 rfl ?_
        refine r_bipush (pc := 146) (v := 40) dX5_farBy_146 (by decide) ?_
        refine r_o3 (pc := 148) (bc' := 0) (bs' := 0) (ct_X5_low hm _ _) k_X5_233_5 dX5_farBy_148 (MR_k hm) (Nat.le_of_ble_eq_true rfl) ⟨Nat.le_of_ble_eq_true rfl, Nat.le_of_ble_eq_true rfl⟩ ⟨Nat.le_of_ble_eq_true rfl, Nat.le_of_ble_eq_true rfl⟩ (r_ci fun r148 M148 p148 => ?_) nox
        obtain ⟨rfl, rfl⟩ := p148
        refine r_aload_n (pc := 151) dX5_farBy_151 rfl ?_
        refine rm_getI (pc := 152) dX5_farBy_152 fl_X5_171_5 (MR_k hm) (fun _ _ => rfl) ?_
        refine r_iadd (pc := 155) dX5_farBy_155 ?_
        refine r_iconst (pc := 156) (v := 2) dX5_farBy_156 (by decide) ?_
        refine r_idiv (pc := 157) dX5_farBy_157 (by decide) ?_
        refine r_ireturn (pc := 158) rfl dX5_farBy_158 ⟨_, rfl, ?_⟩
        refine ⟨?_, rfl⟩
        first
          | (simp [farC, h63]; done)
          | (obtain ⟨g1, g2, g3, g4, g5, g6⟩ := sn_1_6 h63
             simp [farC, g1, g2, g3, g4, g5, g6])
      · refine r_swIn (pc := 63) 159 dX5_farBy_63 (by decide) (by decide) rfl rfl ?_
        refine r_aload_n (pc := 159) dX5_farBy_159 rfl ?_
        refine r_iload (pc := 160) dX5_farBy_160 rfl ?_
        refine r_iconst (pc := 162) (v := 5) dX5_farBy_162 (by decide) ?_
        refine r_o3 (pc := 163) (bc' := 0) (bs' := 0) (ct_X5_low hm _ _) k_X5_233_5 dX5_farBy_163 (MR_k hm) (Nat.le_of_ble_eq_true rfl) ⟨Nat.le_of_ble_eq_true rfl, Nat.le_of_ble_eq_true rfl⟩ ⟨Nat.le_of_ble_eq_true rfl, Nat.le_of_ble_eq_true rfl⟩ (r_ci fun r163 M163 p163 => ?_) nox
        obtain ⟨rfl, rfl⟩ := p163
        refine r_ireturn (pc := 166) rfl dX5_farBy_166 ⟨_, rfl, ?_⟩
        refine ⟨?_, rfl⟩
        first
          | (simp [farC, h63]; done)
          | (obtain ⟨g1, g2, g3, g4, g5, g6⟩ := sn_1_6 h63
             simp [farC, g1, g2, g3, g4, g5, g6])
      · refine r_swIn (pc := 63) 100 dX5_farBy_63 (by decide) (by decide) rfl rfl ?_
        refine r_aload_n (pc := 100) dX5_farBy_100 rfl ?_
        refine r_iload (pc := 101) dX5_farBy_101 rfl ?_
        refine r_iconst (pc := 103) (v := 2) dX5_farBy_103 (by decide) ?_
        refine r_idiv (pc := 104) dX5_farBy_104 (by decide) ?_
        refine r_bipush (pc := 105) (v := 40) dX5_farBy_105 (by decide) ?_
        refine r_o3 (pc := 107) (bc' := 0) (bs' := 0) (ct_X5_low hm _ _) k_X5_233_5 dX5_farBy_107 (MR_k hm) (Nat.le_of_ble_eq_true rfl) ⟨Nat.le_of_ble_eq_true rfl, Nat.le_of_ble_eq_true rfl⟩ ⟨Nat.le_of_ble_eq_true rfl, Nat.le_of_ble_eq_true rfl⟩ (r_ci fun r107 M107 p107 => ?_) nox
        obtain ⟨rfl, rfl⟩ := p107
        refine r_ireturn (pc := 110) rfl dX5_farBy_110 ⟨_, rfl, ?_⟩
        refine ⟨?_, rfl⟩
        first
          | (simp [farC, h63]; done)
          | (obtain ⟨g1, g2, g3, g4, g5, g6⟩ := sn_1_6 h63
             simp [farC, g1, g2, g3, g4, g5, g6])
      · refine r_swIn (pc := 63) 111 dX5_farBy_63 (by decide) (by decide) rfl rfl ?_
        refine r_aload_n (pc := 111) dX5_farBy_111 rfl ?_
        refine r_iload (pc := 112) dX5_farBy_112 rfl ?_
        refine r_iconst (pc := 114) (v := 2) dX5_farBy_114 (by decide) ?_
        refine r_idiv (pc := 115) dX5_farBy_115 (by decide) ?_
        refine r_bipush (pc := 116) (v := 40) dX5_farBy_116 (by decide) ?_
        refine r_o3 (pc := 118) (bc' := 0) (bs' := 0) (ct_X5_low hm _ _) k_X5_233_5 dX5_farBy_118 (MR_k hm) (Nat.le_of_ble_eq_true rfl) ⟨Nat.le_of_ble_eq_true rfl, Nat.le_of_ble_eq_true rfl⟩ ⟨Nat.le_of_ble_eq_true rfl, Nat.le_of_ble_eq_true rfl⟩ (r_ci fun r118 M118 p118 => ?_) nox
        obtain ⟨rfl, rfl⟩ := p118
        refine r_aload_n (pc := 121) dX5_farBy_121 rfl ?_
        refine r_getR (pc := 122) dX5_farBy_122 fl_X5_29_5 (MR_k hm) (fun _ _ => rfl) (MR_r13 hm) ?_
        refine r_iload_n (pc := 125) dX5_farBy_125 rfl ?_
        refine rm_iald (pc := 126) dX5_farBy_126 (MR_k13 hm) (MR_z13 hm) (by first | assumption | exact vp_in_lit rfl) ?_
        refine r_iadd (pc := 127) dX5_farBy_127 ?_
        refine r_ireturn (pc := 128) rfl dX5_farBy_128 ⟨_, rfl, ?_⟩
        refine ⟨?_, rfl⟩
        first
          | (simp [farC, h63]; done)
          | (obtain ⟨g1, g2, g3, g4, g5, g6⟩ := sn_1_6 h63
             simp [farC, g1, g2, g3, g4, g5, g6])
      · refine r_swOut (pc := 63) 167 dX5_farBy_63 h63 rfl ?_
        refine r_aload_n (pc := 167) dX5_farBy_167 rfl ?_
        refine r_iload (pc := 168) dX5_farBy_168 rfl ?_
        refine r_bipush (pc := 170) (v := 40) dX5_farBy_170 (by decide) ?_
        refine r_o3 (pc := 172) (bc' := 0) (bs' := 0) (ct_X5_low hm _ _) k_X5_233_5 dX5_farBy_172 (MR_k hm) (Nat.le_of_ble_eq_true rfl) ⟨Nat.le_of_ble_eq_true rfl, Nat.le_of_ble_eq_true rfl⟩ ⟨Nat.le_of_ble_eq_true rfl, Nat.le_of_ble_eq_true rfl⟩ (r_ci fun r172 M172 p172 => ?_) nox
        obtain ⟨rfl, rfl⟩ := p172
        refine r_ireturn (pc := 175) rfl dX5_farBy_175 ⟨_, rfl, ?_⟩
        refine ⟨?_, rfl⟩
        first
          | (simp [farC, h63]; done)
          | (obtain ⟨g1, g2, g3, g4, g5, g6⟩ := sn_1_6 h63
             simp [farC, g1, g2, g3, g4, g5, g6])
  · refine r_aload_n (pc := 12) dX5_farBy_12 rfl ?_
    refine r_getR (pc := 13) dX5_farBy_13 fl_X5_26_5 (MR_k hm) (fun _ _ => rfl) (MR_r12 hm) ?_
    refine r_iload_n (pc := 16) dX5_farBy_16 rfl ?_
    refine rm_iald (pc := 17) dX5_farBy_17 (MR_k12 hm) (MR_z12 hm) (by first | assumption | exact vp_in_lit rfl) ?_
    refine r_aload_n (pc := 18) dX5_farBy_18 rfl ?_
    refine r_getR (pc := 19) dX5_farBy_19 fl_X5_29_5 (MR_k hm) (fun _ _ => rfl) (MR_r13 hm) ?_
    refine r_iload_n (pc := 22) dX5_farBy_22 rfl ?_
    refine rm_iald (pc := 23) dX5_farBy_23 (MR_k13 hm) (MR_z13 hm) (by first | assumption | exact vp_in_lit rfl) ?_
    refine r_iadd (pc := 24) dX5_farBy_24 ?_
    refine r_iconst (pc := 25) (v := 1) dX5_farBy_25 (by decide) ?_
    refine r_isub (pc := 26) dX5_farBy_26 ?_
    refine r_aload_n (pc := 27) dX5_farBy_27 rfl ?_
    refine r_getR (pc := 28) dX5_farBy_28 fl_X5_29_5 (MR_k hm) (fun _ _ => rfl) (MR_r13 hm) ?_
    refine r_iload_n (pc := 31) dX5_farBy_31 rfl ?_
    refine rm_iald (pc := 32) dX5_farBy_32 (MR_k13 hm) (MR_z13 hm) (by first | assumption | exact vp_in_lit rfl) ?_
    refine r_idiv (pc := 33) dX5_farBy_33 (h2 h9).1 ?_
    refine r_goto (pc := 34) 43 dX5_farBy_34 rfl ?_
    refine r_eqi (cntC (I (mo + 2) x2.toNatClampNeg) (I (mo + 3) x2.toNatClampNeg) (I (mo + 4) x2.toNatClampNeg)) (by simp only [cntC, h9, if_true, if_false]) ?_
    refine r_istore4 (pc := 43) dX5_farBy_43 rfl ?_
    refine r_iload_n (pc := 45) dX5_farBy_45 rfl ?_
    refine r_if_ge (pc := 46) 53 dX5_farBy_46 rfl (fun h46 => ?_) (fun h46 => ?_)
    · refine r_iload_n (pc := 53) dX5_farBy_53 rfl ?_
      refine r_bipush (pc := 54) (v := 10) dX5_farBy_54 (by decide) ?_
      refine r_imul (pc := 56) dX5_farBy_56 ?_
      refine r_iload (pc := 57) dX5_farBy_57 rfl ?_
      refine r_idiv (pc := 59) dX5_farBy_59 h3 ?_
      refine r_eqi (canC (I (mo + 2) x2.toNatClampNeg) (I (mo + 3) x2.toNatClampNeg) (I (mo + 4) x2.toNatClampNeg) x1) (by unfold canC; first | rw [if_pos h46] | rw [if_neg h46]) ?_
      refine r_istore5 (pc := 60) dX5_farBy_60 rfl ?_
      refine r_iload_n (pc := 62) dX5_farBy_62 rfl ?_
      refine r_sp_1_6 (fun h63 => ?_) (fun h63 => ?_) (fun h63 => ?_) (fun h63 => ?_) (fun h63 => ?_) (fun h63 => ?_) (fun h63 => ?_)
      · refine r_swIn (pc := 63) 100 dX5_farBy_63 (by decide) (by decide) rfl rfl ?_
        refine r_aload_n (pc := 100) dX5_farBy_100 rfl ?_
        refine r_iload (pc := 101) dX5_farBy_101 rfl ?_
        refine r_iconst (pc := 103) (v := 2) dX5_farBy_103 (by decide) ?_
        refine r_idiv (pc := 104) dX5_farBy_104 (by decide) ?_
        refine r_bipush (pc := 105) (v := 40) dX5_farBy_105 (by decide) ?_
        refine r_o3 (pc := 107) (bc' := 0) (bs' := 0) (ct_X5_low hm _ _) k_X5_233_5 dX5_farBy_107 (MR_k hm) (Nat.le_of_ble_eq_true rfl) ⟨Nat.le_of_ble_eq_true rfl, Nat.le_of_ble_eq_true rfl⟩ ⟨Nat.le_of_ble_eq_true rfl, Nat.le_of_ble_eq_true rfl⟩ (r_ci fun r107 M107 p107 => ?_) nox
        obtain ⟨rfl, rfl⟩ := p107
        refine r_ireturn (pc := 110) rfl dX5_farBy_110 ⟨_, rfl, ?_⟩
        refine ⟨?_, rfl⟩
        first
          | (simp [farC, h63]; done)
          | (obtain ⟨g1, g2, g3, g4, g5, g6⟩ := sn_1_6 h63
             simp [farC, g1, g2, g3, g4, g5, g6])
      · refine r_swIn (pc := 63) 129 dX5_farBy_63 (by decide) (by decide) rfl rfl ?_
        refine r_aload_n (pc := 129) dX5_farBy_129 rfl ?_
        refine r_iload (pc := 130) dX5_farBy_130 rfl ?_
        refine r_bipush (pc := 132) (v := 40) dX5_farBy_132 (by decide) ?_
        refine r_o3 (pc := 134) (bc' := 0) (bs' := 0) (ct_X5_low hm _ _) k_X5_233_5 dX5_farBy_134 (MR_k hm) (Nat.le_of_ble_eq_true rfl) ⟨Nat.le_of_ble_eq_true rfl, Nat.le_of_ble_eq_true rfl⟩ ⟨Nat.le_of_ble_eq_true rfl, Nat.le_of_ble_eq_true rfl⟩ (r_ci fun r134 M134 p134 => ?_) nox
        obtain ⟨rfl, rfl⟩ := p134
        refine r_aload_n (pc := 137) dX5_farBy_137 rfl ?_
        refine rm_getI (pc := 138) dX5_farBy_138 fl_X5_171_5 (MR_k hm) (fun _ _ => rfl) ?_
        refine r_iadd (pc := 141) dX5_farBy_141 ?_
        refine r_ireturn (pc := 142) rfl dX5_farBy_142 ⟨_, rfl, ?_⟩
        refine ⟨?_, rfl⟩
        first
          | (simp [farC, h63]; done)
          | (obtain ⟨g1, g2, g3, g4, g5, g6⟩ := sn_1_6 h63
             simp [farC, g1, g2, g3, g4, g5, g6])
      · refine r_swIn (pc := 63) 143 dX5_farBy_63 (by decide) (by decide) rfl rfl ?_
        refine r_aload_n (pc := 143) dX5_farBy_143 rfl ?_
        refine r_iload (pc := 144) dX5_farBy_144 rfl ?_
        refine r_bipush (pc := 146) (v := 40) dX5_farBy_146 (by decide) ?_
        refine r_o3 (pc := 148) (bc' := 0) (bs' := 0) (ct_X5_low hm _ _) k_X5_233_5 dX5_farBy_148 (MR_k hm) (Nat.le_of_ble_eq_true rfl) ⟨Nat.le_of_ble_eq_true rfl, Nat.le_of_ble_eq_true rfl⟩ ⟨Nat.le_of_ble_eq_true rfl, Nat.le_of_ble_eq_true rfl⟩ (r_ci fun r148 M148 p148 => ?_) nox
        obtain ⟨rfl, rfl⟩ := p148
        refine r_aload_n (pc := 151) dX5_farBy_151 rfl ?_
        refine rm_getI (pc := 152) dX5_farBy_152 fl_X5_171_5 (MR_k hm) (fun _ _ => rfl) ?_
        refine r_iadd (pc := 155) dX5_farBy_155 ?_
        refine r_iconst (pc := 156) (v := 2) dX5_farBy_156 (by decide) ?_
        refine r_idiv (pc := 157) dX5_farBy_157 (by decide) ?_
        refine r_ireturn (pc := 158) rfl dX5_farBy_158 ⟨_, rfl, ?_⟩
        refine ⟨?_, rfl⟩
        first
          | (simp [farC, h63]; done)
          | (obtain ⟨g1, g2, g3, g4, g5, g6⟩ := sn_1_6 h63
             simp [farC, g1, g2, g3, g4, g5, g6])
      · refine r_swIn (pc := 63) 159 dX5_farBy_63 (by decide) (by decide) rfl rfl ?_
        refine r_aload_n (pc := 159) dX5_farBy_159 rfl ?_
        refine r_iload (pc := 160) dX5_farBy_160 rfl ?_
        refine r_iconst (pc := 162) (v := 5) dX5_farBy_162 (by decide) ?_
        refine r_o3 (pc := 163) (bc' := 0) (bs' := 0) (ct_X5_low hm _ _) k_X5_233_5 dX5_farBy_163 (MR_k hm) (Nat.le_of_ble_eq_true rfl) ⟨Nat.le_of_ble_eq_true rfl, Nat.le_of_ble_eq_true rfl⟩ ⟨Nat.le_of_ble_eq_true rfl, Nat.le_of_ble_eq_true rfl⟩ (r_ci fun r163 M163 p163 => ?_) nox
        obtain ⟨rfl, rfl⟩ := p163
        refine r_ireturn (pc := 166) rfl dX5_farBy_166 ⟨_, rfl, ?_⟩
        refine ⟨?_, rfl⟩
        first
          | (simp [farC, h63]; done)
          | (obtain ⟨g1, g2, g3, g4, g5, g6⟩ := sn_1_6 h63
             simp [farC, g1, g2, g3, g4, g5, g6])
      · refine r_swIn (pc := 63) 100 dX5_farBy_63 (by decide) (by decide) rfl rfl ?_
        refine r_aload_n (pc := 100) dX5_farBy_100 rfl ?_
        refine r_iload (pc := 101) dX5_farBy_101 rfl ?_
        refine r_iconst (pc := 103) (v := 2) dX5_farBy_103 (by decide) ?_
        refine r_idiv (pc := 104) dX5_farBy_104 (by decide) ?_
        refine r_bipush (pc := 105) (v := 40) dX5_farBy_105 (by decide) ?_
        refine r_o3 (pc := 107) (bc' := 0) (bs' := 0) (ct_X5_low hm _ _) k_X5_233_5 dX5_farBy_107 (MR_k hm) (Nat.le_of_ble_eq_true rfl) ⟨Nat.le_of_ble_eq_true rfl, Nat.le_of_ble_eq_true rfl⟩ ⟨Nat.le_of_ble_eq_true rfl, Nat.le_of_ble_eq_true rfl⟩ (r_ci fun r107 M107 p107 => ?_) nox
        obtain ⟨rfl, rfl⟩ := p107
        refine r_ireturn (pc := 110) rfl dX5_farBy_110 ⟨_, rfl, ?_⟩
        refine ⟨?_, rfl⟩
        first
          | (simp [farC, h63]; done)
          | (obtain ⟨g1, g2, g3, g4, g5, g6⟩ := sn_1_6 h63
             simp [farC, g1, g2, g3, g4, g5, g6])
      · refine r_swIn (pc := 63) 111 dX5_farBy_63 (by decide) (by decide) rfl rfl ?_
        refine r_aload_n (pc := 111) dX5_farBy_111 rfl ?_
        refine r_iload (pc := 112) dX5_farBy_112 rfl ?_
        refine r_iconst (pc := 114) (v := 2) dX5_farBy_114 (by decide) ?_
        refine r_idiv (pc := 115) dX5_farBy_115 (by decide) ?_
        refine r_bipush (pc := 116) (v := 40) dX5_farBy_116 (by decide) ?_
        refine r_o3 (pc := 118) (bc' := 0) (bs' := 0) (ct_X5_low hm _ _) k_X5_233_5 dX5_farBy_118 (MR_k hm) (Nat.le_of_ble_eq_true rfl) ⟨Nat.le_of_ble_eq_true rfl, Nat.le_of_ble_eq_true rfl⟩ ⟨Nat.le_of_ble_eq_true rfl, Nat.le_of_ble_eq_true rfl⟩ (r_ci fun r118 M118 p118 => ?_) nox
        obtain ⟨rfl, rfl⟩ := p118
        refine r_aload_n (pc := 121) dX5_farBy_121 rfl ?_
        refine r_getR (pc := 122) dX5_farBy_122 fl_X5_29_5 (MR_k hm) (fun _ _ => rfl) (MR_r13 hm) ?_
        refine r_iload_n (pc := 125) dX5_farBy_125 rfl ?_
        refine rm_iald (pc := 126) dX5_farBy_126 (MR_k13 hm) (MR_z13 hm) (by first | assumption | exact vp_in_lit rfl) ?_
        refine r_iadd (pc := 127) dX5_farBy_127 ?_
        refine r_ireturn (pc := 128) rfl dX5_farBy_128 ⟨_, rfl, ?_⟩
        refine ⟨?_, rfl⟩
        first
          | (simp [farC, h63]; done)
          | (obtain ⟨g1, g2, g3, g4, g5, g6⟩ := sn_1_6 h63
             simp [farC, g1, g2, g3, g4, g5, g6])
      · refine r_swOut (pc := 63) 167 dX5_farBy_63 h63 rfl ?_
        refine r_aload_n (pc := 167) dX5_farBy_167 rfl ?_
        refine r_iload (pc := 168) dX5_farBy_168 rfl ?_
        refine r_bipush (pc := 170) (v := 40) dX5_farBy_170 (by decide) ?_
        refine r_o3 (pc := 172) (bc' := 0) (bs' := 0) (ct_X5_low hm _ _) k_X5_233_5 dX5_farBy_172 (MR_k hm) (Nat.le_of_ble_eq_true rfl) ⟨Nat.le_of_ble_eq_true rfl, Nat.le_of_ble_eq_true rfl⟩ ⟨Nat.le_of_ble_eq_true rfl, Nat.le_of_ble_eq_true rfl⟩ (r_ci fun r172 M172 p172 => ?_) nox
        obtain ⟨rfl, rfl⟩ := p172
        refine r_ireturn (pc := 175) rfl dX5_farBy_175 ⟨_, rfl, ?_⟩
        refine ⟨?_, rfl⟩
        first
          | (simp [farC, h63]; done)
          | (obtain ⟨g1, g2, g3, g4, g5, g6⟩ := sn_1_6 h63
             simp [farC, g1, g2, g3, g4, g5, g6])
    · refine r_iconst (pc := 49) (v := 0) dX5_farBy_49 (by decide) ?_
      refine r_goto (pc := 50) 60 dX5_farBy_50 rfl ?_
      refine r_eqi (canC (I (mo + 2) x2.toNatClampNeg) (I (mo + 3) x2.toNatClampNeg) (I (mo + 4) x2.toNatClampNeg) x1) (by unfold canC; first | rw [if_pos h46] | rw [if_neg h46]) ?_
      refine r_istore5 (pc := 60) dX5_farBy_60 rfl ?_
      refine r_iload_n (pc := 62) dX5_farBy_62 rfl ?_
      refine r_sp_1_6 (fun h63 => ?_) (fun h63 => ?_) (fun h63 => ?_) (fun h63 => ?_) (fun h63 => ?_) (fun h63 => ?_) (fun h63 => ?_)
      · refine r_swIn (pc := 63) 100 dX5_farBy_63 (by decide) (by decide) rfl rfl ?_
        refine r_aload_n (pc := 100) dX5_farBy_100 rfl ?_
        refine r_iload (pc := 101) dX5_farBy_101 rfl ?_
        refine r_iconst (pc := 103) (v := 2) dX5_farBy_103 (by decide) ?_
        refine r_idiv (pc := 104) dX5_farBy_104 (by decide) ?_
        refine r_bipush (pc := 105) (v := 40) dX5_farBy_105 (by decide) ?_
        refine r_o3 (pc := 107) (bc' := 0) (bs' := 0) (ct_X5_low hm _ _) k_X5_233_5 dX5_farBy_107 (MR_k hm) (Nat.le_of_ble_eq_true rfl) ⟨Nat.le_of_ble_eq_true rfl, Nat.le_of_ble_eq_true rfl⟩ ⟨Nat.le_of_ble_eq_true rfl, Nat.le_of_ble_eq_true rfl⟩ (r_ci fun r107 M107 p107 => ?_) nox
        obtain ⟨rfl, rfl⟩ := p107
        refine r_ireturn (pc := 110) rfl dX5_farBy_110 ⟨_, rfl, ?_⟩
        refine ⟨?_, rfl⟩
        first
          | (simp [farC, h63]; done)
          | (obtain ⟨g1, g2, g3, g4, g5, g6⟩ := sn_1_6 h63
             simp [farC, g1, g2, g3, g4, g5, g6])
      · refine r_swIn (pc := 63) 129 dX5_farBy_63 (by decide) (by decide) rfl rfl ?_
        refine r_aload_n (pc := 129) dX5_farBy_129 rfl ?_
        refine r_iload (pc := 130) dX5_farBy_130 rfl ?_
        refine r_bipush (pc := 132) (v := 40) dX5_farBy_132 (by decide) ?_
        refine r_o3 (pc := 134) (bc' := 0) (bs' := 0) (ct_X5_low hm _ _) k_X5_233_5 dX5_farBy_134 (MR_k hm) (Nat.le_of_ble_eq_true rfl) ⟨Nat.le_of_ble_eq_true rfl, Nat.le_of_ble_eq_true rfl⟩ ⟨Nat.le_of_ble_eq_true rfl, Nat.le_of_ble_eq_true rfl⟩ (r_ci fun r134 M134 p134 => ?_) nox
        obtain ⟨rfl, rfl⟩ := p134
        refine r_aload_n (pc := 137) dX5_farBy_137 rfl ?_
        refine rm_getI (pc := 138) dX5_farBy_138 fl_X5_171_5 (MR_k hm) (fun _ _ => rfl) ?_
        refine r_iadd (pc := 141) dX5_farBy_141 ?_
        refine r_ireturn (pc := 142) rfl dX5_farBy_142 ⟨_, rfl, ?_⟩
        refine ⟨?_, rfl⟩
        first
          | (simp [farC, h63]; done)
          | (obtain ⟨g1, g2, g3, g4, g5, g6⟩ := sn_1_6 h63
             simp [farC, g1, g2, g3, g4, g5, g6])
      · refine r_swIn (pc := 63) 143 dX5_farBy_63 (by decide) (by decide) rfl rfl ?_
        refine r_aload_n (pc := 143) dX5_farBy_143 rfl ?_
        refine r_iload (pc := 144) dX5_farBy_144 rfl ?_
        refine r_bipush (pc := 146) (v := 40) dX5_farBy_146 (by decide) ?_
        refine r_o3 (pc := 148) (bc' := 0) (bs' := 0) (ct_X5_low hm _ _) k_X5_233_5 dX5_farBy_148 (MR_k hm) (Nat.le_of_ble_eq_true rfl) ⟨Nat.le_of_ble_eq_true rfl, Nat.le_of_ble_eq_true rfl⟩ ⟨Nat.le_of_ble_eq_true rfl, Nat.le_of_ble_eq_true rfl⟩ (r_ci fun r148 M148 p148 => ?_) nox
        obtain ⟨rfl, rfl⟩ := p148
        refine r_aload_n (pc := 151) dX5_farBy_151 rfl ?_
        refine rm_getI (pc := 152) dX5_farBy_152 fl_X5_171_5 (MR_k hm) (fun _ _ => rfl) ?_
        refine r_iadd (pc := 155) dX5_farBy_155 ?_
        refine r_iconst (pc := 156) (v := 2) dX5_farBy_156 (by decide) ?_
        refine r_idiv (pc := 157) dX5_farBy_157 (by decide) ?_
        refine r_ireturn (pc := 158) rfl dX5_farBy_158 ⟨_, rfl, ?_⟩
        refine ⟨?_, rfl⟩
        first
          | (simp [farC, h63]; done)
          | (obtain ⟨g1, g2, g3, g4, g5, g6⟩ := sn_1_6 h63
             simp [farC, g1, g2, g3, g4, g5, g6])
      · refine r_swIn (pc := 63) 159 dX5_farBy_63 (by decide) (by decide) rfl rfl ?_
        refine r_aload_n (pc := 159) dX5_farBy_159 rfl ?_
        refine r_iload (pc := 160) dX5_farBy_160 rfl ?_
        refine r_iconst (pc := 162) (v := 5) dX5_farBy_162 (by decide) ?_
        refine r_o3 (pc := 163) (bc' := 0) (bs' := 0) (ct_X5_low hm _ _) k_X5_233_5 dX5_farBy_163 (MR_k hm) (Nat.le_of_ble_eq_true rfl) ⟨Nat.le_of_ble_eq_true rfl, Nat.le_of_ble_eq_true rfl⟩ ⟨Nat.le_of_ble_eq_true rfl, Nat.le_of_ble_eq_true rfl⟩ (r_ci fun r163 M163 p163 => ?_) nox
        obtain ⟨rfl, rfl⟩ := p163
        refine r_ireturn (pc := 166) rfl dX5_farBy_166 ⟨_, rfl, ?_⟩
        refine ⟨?_, rfl⟩
        first
          | (simp [farC, h63]; done)
          | (obtain ⟨g1, g2, g3, g4, g5, g6⟩ := sn_1_6 h63
             simp [farC, g1, g2, g3, g4, g5, g6])
      · refine r_swIn (pc := 63) 100 dX5_farBy_63 (by decide) (by decide) rfl rfl ?_
        refine r_aload_n (pc := 100) dX5_farBy_100 rfl ?_
        refine r_iload (pc := 101) dX5_farBy_101 rfl ?_
        refine r_iconst (pc := 103) (v := 2) dX5_farBy_103 (by decide) ?_
        refine r_idiv (pc := 104) dX5_farBy_104 (by decide) ?_
        refine r_bipush (pc := 105) (v := 40) dX5_farBy_105 (by decide) ?_
        refine r_o3 (pc := 107) (bc' := 0) (bs' := 0) (ct_X5_low hm _ _) k_X5_233_5 dX5_farBy_107 (MR_k hm) (Nat.le_of_ble_eq_true rfl) ⟨Nat.le_of_ble_eq_true rfl, Nat.le_of_ble_eq_true rfl⟩ ⟨Nat.le_of_ble_eq_true rfl, Nat.le_of_ble_eq_true rfl⟩ (r_ci fun r107 M107 p107 => ?_) nox
        obtain ⟨rfl, rfl⟩ := p107
        refine r_ireturn (pc := 110) rfl dX5_farBy_110 ⟨_, rfl, ?_⟩
        refine ⟨?_, rfl⟩
        first
          | (simp [farC, h63]; done)
          | (obtain ⟨g1, g2, g3, g4, g5, g6⟩ := sn_1_6 h63
             simp [farC, g1, g2, g3, g4, g5, g6])
      · refine r_swIn (pc := 63) 111 dX5_farBy_63 (by decide) (by decide) rfl rfl ?_
        refine r_aload_n (pc := 111) dX5_farBy_111 rfl ?_
        refine r_iload (pc := 112) dX5_farBy_112 rfl ?_
        refine r_iconst (pc := 114) (v := 2) dX5_farBy_114 (by decide) ?_
        refine r_idiv (pc := 115) dX5_farBy_115 (by decide) ?_
        refine r_bipush (pc := 116) (v := 40) dX5_farBy_116 (by decide) ?_
        refine r_o3 (pc := 118) (bc' := 0) (bs' := 0) (ct_X5_low hm _ _) k_X5_233_5 dX5_farBy_118 (MR_k hm) (Nat.le_of_ble_eq_true rfl) ⟨Nat.le_of_ble_eq_true rfl, Nat.le_of_ble_eq_true rfl⟩ ⟨Nat.le_of_ble_eq_true rfl, Nat.le_of_ble_eq_true rfl⟩ (r_ci fun r118 M118 p118 => ?_) nox
        obtain ⟨rfl, rfl⟩ := p118
        refine r_aload_n (pc := 121) dX5_farBy_121 rfl ?_
        refine r_getR (pc := 122) dX5_farBy_122 fl_X5_29_5 (MR_k hm) (fun _ _ => rfl) (MR_r13 hm) ?_
        refine r_iload_n (pc := 125) dX5_farBy_125 rfl ?_
        refine rm_iald (pc := 126) dX5_farBy_126 (MR_k13 hm) (MR_z13 hm) (by first | assumption | exact vp_in_lit rfl) ?_
        refine r_iadd (pc := 127) dX5_farBy_127 ?_
        refine r_ireturn (pc := 128) rfl dX5_farBy_128 ⟨_, rfl, ?_⟩
        refine ⟨?_, rfl⟩
        first
          | (simp [farC, h63]; done)
          | (obtain ⟨g1, g2, g3, g4, g5, g6⟩ := sn_1_6 h63
             simp [farC, g1, g2, g3, g4, g5, g6])
      · refine r_swOut (pc := 63) 167 dX5_farBy_63 h63 rfl ?_
        refine r_aload_n (pc := 167) dX5_farBy_167 rfl ?_
        refine r_iload (pc := 168) dX5_farBy_168 rfl ?_
        refine r_bipush (pc := 170) (v := 40) dX5_farBy_170 (by decide) ?_
        refine r_o3 (pc := 172) (bc' := 0) (bs' := 0) (ct_X5_low hm _ _) k_X5_233_5 dX5_farBy_172 (MR_k hm) (Nat.le_of_ble_eq_true rfl) ⟨Nat.le_of_ble_eq_true rfl, Nat.le_of_ble_eq_true rfl⟩ ⟨Nat.le_of_ble_eq_true rfl, Nat.le_of_ble_eq_true rfl⟩ (r_ci fun r172 M172 p172 => ?_) nox
        obtain ⟨rfl, rfl⟩ := p172
        refine r_ireturn (pc := 175) rfl dX5_farBy_175 ⟨_, rfl, ?_⟩
        refine ⟨?_, rfl⟩
        first
          | (simp [farC, h63]; done)
          | (obtain ⟨g1, g2, g3, g4, g5, g6⟩ := sn_1_6 h63
             simp [farC, g1, g2, g3, g4, g5, g6])
theorem ct_X5_farOf {M0 : PM} {mo : Nat} {I : Nat → Nat → Int32} {L : Nat → Nat → Int64} (hm : MR M0 mo) (x1 : Int32) (x2 : Int32) (hx1 : vp_in x1 8) (hx : vp_in x2 8) (h1 : ¬ I (mo + 3) x2.toNatClampNeg = 0) (h2 : I (mo + 2) x2.toNatClampNeg = 5 → ¬ I (mo + 4) x2.toNatClampNeg = 0 ∧ ¬ (I (mo + 3) x2.toNatClampNeg + I (mo + 4) x2.toNatClampNeg - 1) / I (mo + 4) x2.toNatClampNeg = 0) : Ct (YX5_farOf, (2, 47, 0, 0), qi (fun r M' => r = farC (I (mo + 2) x2.toNatClampNeg) (I (mo + 3) x2.toNatClampNeg) (I (mo + 4) x2.toNatClampNeg) (I mo 6) (I (mo + 8) x1.toNatClampNeg - I (mo + 9) x1.toNatClampNeg) ∧ M' = wIL M0 I L), noX) [.ref mo, .int x1, .int x2] (wIL M0 I L) := by
  refine ct_of [some (.ref mo), some (.int x1), some (.int x2)] rfl rfl rfl (Nat.le_of_ble_eq_true rfl) rfl rfl ?_
  refine r_aload_n (pc := 0) dX5_farOf_0 rfl ?_
  refine r_aload_n (pc := 1) dX5_farOf_1 rfl ?_
  refine r_getR (pc := 2) dX5_farOf_2 fl_X5_41_5 (MR_k hm) (fun _ _ => rfl) (MR_r17 hm) ?_
  refine r_iload_n (pc := 5) dX5_farOf_5 rfl ?_
  refine rm_iald (pc := 6) dX5_farOf_6 (MR_k17 hm) (MR_z17 hm) (by first | assumption | exact vp_in_lit rfl) ?_
  refine r_aload_n (pc := 7) dX5_farOf_7 rfl ?_
  refine r_getR (pc := 8) dX5_farOf_8 fl_X5_44_5 (MR_k hm) (fun _ _ => rfl) (MR_r18 hm) ?_
  refine r_iload_n (pc := 11) dX5_farOf_11 rfl ?_
  refine rm_iald (pc := 12) dX5_farOf_12 (MR_k18 hm) (MR_z18 hm) (by first | assumption | exact vp_in_lit rfl) ?_
  refine r_isub (pc := 13) dX5_farOf_13 ?_
  refine r_iload_n (pc := 14) dX5_farOf_14 rfl ?_
  refine r_o3 (pc := 15) (bc' := 0) (bs' := 0) (ct_X5_farBy hm _ _ hx h1 h2) k_X5_143_5 dX5_farOf_15 (MR_k hm) (Nat.le_of_ble_eq_true rfl) ⟨Nat.le_of_ble_eq_true rfl, Nat.le_of_ble_eq_true rfl⟩ ⟨Nat.le_of_ble_eq_true rfl, Nat.le_of_ble_eq_true rfl⟩ (r_ci fun r15 M15 p15 => ?_) nox
  obtain ⟨rfl, rfl⟩ := p15
  refine r_ireturn (pc := 18) rfl dX5_farOf_18 ⟨_, rfl, ?_⟩
  exact ⟨rfl, rfl⟩
theorem ct_X5_wrongBy {M0 : PM} {mo : Nat} {I : Nat → Nat → Int32} {L : Nat → Nat → Int64} (hm : MR M0 mo) (x1 : Int32) (x2 : Int32) (x3 : Int32) (hx1 : vp_in x1 8) (hx : vp_in x2 8) (h1 : ¬ I (mo + 3) x2.toNatClampNeg = 0) (h2 : I (mo + 2) x2.toNatClampNeg = 5 → ¬ I (mo + 4) x2.toNatClampNeg = 0 ∧ ¬ (I (mo + 3) x2.toNatClampNeg + I (mo + 4) x2.toNatClampNeg - 1) / I (mo + 4) x2.toNatClampNeg = 0) : Ct (YX5_wrongBy, (3, 69, 0, 0), qi (fun r M' => r = wrongC (I (mo + 6) x2.toNatClampNeg) x1 (I (mo + 5) x2.toNatClampNeg) (I mo 3) (I mo 4) (I mo 5) x3 (farC (I (mo + 2) x2.toNatClampNeg) (I (mo + 3) x2.toNatClampNeg) (I (mo + 4) x2.toNatClampNeg) (I mo 6) (I (mo + 8) x1.toNatClampNeg - I (mo + 9) x1.toNatClampNeg)) (I (mo + 7) x2.toNatClampNeg) ∧ M' = wIL M0 I L), noX) [.ref mo, .int x1, .int x2, .int x3] (wIL M0 I L) := by
  refine ct_of [some (.ref mo), some (.int x1), some (.int x2), some (.int x3), none] rfl rfl rfl (Nat.le_of_ble_eq_true rfl) rfl rfl ?_
  refine r_aload_n (pc := 0) dX5_wrongBy_0 rfl ?_
  refine r_getR (pc := 1) dX5_wrongBy_1 fl_X5_32_5 (MR_k hm) (fun _ _ => rfl) (MR_r14 hm) ?_
  refine r_iload_n (pc := 4) dX5_wrongBy_4 rfl ?_
  refine rm_iald (pc := 5) dX5_wrongBy_5 (MR_k14 hm) (MR_z14 hm) (by first | assumption | exact vp_in_lit rfl) ?_
  refine r_iload_n (pc := 6) dX5_wrongBy_6 rfl ?_
  refine r_iadd (pc := 7) dX5_wrongBy_7 ?_
  refine r_istore4 (pc := 8) dX5_wrongBy_8 rfl ?_
  refine r_aload_n (pc := 10) dX5_wrongBy_10 rfl ?_
  refine r_getR (pc := 11) dX5_wrongBy_11 fl_X5_35_5 (MR_k hm) (fun _ _ => rfl) (MR_r15 hm) ?_
  refine r_iload_n (pc := 14) dX5_wrongBy_14 rfl ?_
  refine rm_iald (pc := 15) dX5_wrongBy_15 (MR_k15 hm) (MR_z15 hm) (by first | assumption | exact vp_in_lit rfl) ?_
  refine r_iload_n (pc := 16) dX5_wrongBy_16 rfl ?_
  refine r_icmp_ne (pc := 17) 22 dX5_wrongBy_17 rfl (fun h17 => ?_) (fun h17 => ?_)
  · refine r_iload (pc := 22) dX5_wrongBy_22 rfl ?_
    refine r_if_lt (pc := 24) 36 dX5_wrongBy_24 rfl (fun h24 => ?_) (fun h24 => ?_)
    · refine r_iconst (pc := 36) (v := 2) dX5_wrongBy_36 (by decide) ?_
      refine r_ireturn (pc := 37) rfl dX5_wrongBy_37 ⟨_, rfl, ?_⟩
      refine ⟨?_, rfl⟩
      clear hm
      simp only [wrongC]
      grind
    · refine r_iload (pc := 27) dX5_wrongBy_27 rfl ?_
      refine r_aload_n (pc := 29) dX5_wrongBy_29 rfl ?_
      refine rm_getI (pc := 30) dX5_wrongBy_30 fl_X5_7_5 (MR_k hm) (fun _ _ => rfl) ?_
      refine r_icmp_le (pc := 33) 38 dX5_wrongBy_33 rfl (fun h33 => ?_) (fun h33 => ?_)
      · refine r_aload_n (pc := 38) dX5_wrongBy_38 rfl ?_
        refine r_iload (pc := 39) dX5_wrongBy_39 rfl ?_
        refine r_o2 (pc := 41) (bc' := 0) (bs' := 0) (ct_X5_isWet hm _) k_X5_129_5 dX5_wrongBy_41 (MR_k hm) (Nat.le_of_ble_eq_true rfl) ⟨Nat.le_of_ble_eq_true rfl, Nat.le_of_ble_eq_true rfl⟩ ⟨Nat.le_of_ble_eq_true rfl, Nat.le_of_ble_eq_true rfl⟩ (r_ci fun r41 M41 p41 => ?_) nox
        obtain ⟨rfl, rfl⟩ := p41
        refine r_if_eq (pc := 44) 49 dX5_wrongBy_44 rfl (fun h44 => ?_) (fun h44 => ?_)
        · rw [bI_eq0] at h44
          refine r_iload_n (pc := 49) dX5_wrongBy_49 rfl ?_
          refine r_if_eq (pc := 50) 74 dX5_wrongBy_50 rfl (fun h50 => ?_) (fun h50 => ?_)
          · subst h50
            refine r_iconst (pc := 74) (v := 4) dX5_wrongBy_74 (by decide) ?_
            refine r_ireturn (pc := 75) rfl dX5_wrongBy_75 ⟨_, rfl, ?_⟩
            refine ⟨?_, rfl⟩
            clear hm
            simp only [wrongC]
            grind
          · refine r_iload_n (pc := 53) dX5_wrongBy_53 rfl ?_
            refine r_aload_n (pc := 54) dX5_wrongBy_54 rfl ?_
            refine r_iload_n (pc := 55) dX5_wrongBy_55 rfl ?_
            refine r_iload_n (pc := 56) dX5_wrongBy_56 rfl ?_
            refine r_o3 (pc := 57) (bc' := 0) (bs' := 0) (ct_X5_farOf hm _ _ hx1 hx h1 h2) k_X5_236_5 dX5_wrongBy_57 (MR_k hm) (Nat.le_of_ble_eq_true rfl) ⟨Nat.le_of_ble_eq_true rfl, Nat.le_of_ble_eq_true rfl⟩ ⟨Nat.le_of_ble_eq_true rfl, Nat.le_of_ble_eq_true rfl⟩ (r_ci fun r57 M57 p57 => ?_) nox
            obtain ⟨rfl, rfl⟩ := p57
            refine r_icmp_gt (pc := 60) 74 dX5_wrongBy_60 rfl (fun h60 => ?_) (fun h60 => ?_)
            · refine r_iconst (pc := 74) (v := 4) dX5_wrongBy_74 (by decide) ?_
              refine r_ireturn (pc := 75) rfl dX5_wrongBy_75 ⟨_, rfl, ?_⟩
              refine ⟨?_, rfl⟩
              clear hm
              simp only [wrongC]
              grind
            · refine r_iload_n (pc := 63) dX5_wrongBy_63 rfl ?_
              refine r_ineg (pc := 64) dX5_wrongBy_64 ?_
              refine r_aload_n (pc := 65) dX5_wrongBy_65 rfl ?_
              refine r_iload_n (pc := 66) dX5_wrongBy_66 rfl ?_
              refine r_iload_n (pc := 67) dX5_wrongBy_67 rfl ?_
              refine r_o3 (pc := 68) (bc' := 0) (bs' := 0) (ct_X5_farOf hm _ _ hx1 hx h1 h2) k_X5_236_5 dX5_wrongBy_68 (MR_k hm) (Nat.le_of_ble_eq_true rfl) ⟨Nat.le_of_ble_eq_true rfl, Nat.le_of_ble_eq_true rfl⟩ ⟨Nat.le_of_ble_eq_true rfl, Nat.le_of_ble_eq_true rfl⟩ (r_ci fun r68 M68 p68 => ?_) nox
              obtain ⟨rfl, rfl⟩ := p68
              refine r_icmp_le (pc := 71) 76 dX5_wrongBy_71 rfl (fun h71 => ?_) (fun h71 => ?_)
              · refine r_aload_n (pc := 76) dX5_wrongBy_76 rfl ?_
                refine r_getR (pc := 77) dX5_wrongBy_77 fl_X5_38_5 (MR_k hm) (fun _ _ => rfl) (MR_r16 hm) ?_
                refine r_iload_n (pc := 80) dX5_wrongBy_80 rfl ?_
                refine rm_iald (pc := 81) dX5_wrongBy_81 (MR_k16 hm) (MR_z16 hm) (by first | assumption | exact vp_in_lit rfl) ?_
                refine r_iconst (pc := 82) (v := 1) dX5_wrongBy_82 (by decide) ?_
                refine r_icmp_ne (pc := 83) 90 dX5_wrongBy_83 rfl (fun h83 => ?_) (fun h83 => ?_)
                · refine r_iconst (pc := 90) (v := 0) dX5_wrongBy_90 (by decide) ?_
                  refine r_ireturn (pc := 91) rfl dX5_wrongBy_91 ⟨_, rfl, ?_⟩
                  refine ⟨?_, rfl⟩
                  clear hm
                  simp only [wrongC]
                  grind
                · refine r_iconst (pc := 86) (v := 5) dX5_wrongBy_86 (by decide) ?_
                  refine r_goto (pc := 87) 91 dX5_wrongBy_87 rfl ?_
                  refine r_ireturn (pc := 91) rfl dX5_wrongBy_91 ⟨_, rfl, ?_⟩
                  refine ⟨?_, rfl⟩
                  clear hm
                  simp only [wrongC]
                  grind
              · refine r_iconst (pc := 74) (v := 4) dX5_wrongBy_74 (by decide) ?_
                refine r_ireturn (pc := 75) rfl dX5_wrongBy_75 ⟨_, rfl, ?_⟩
                refine ⟨?_, rfl⟩
                clear hm
                simp only [wrongC]
                grind
        · rw [bI_ne0] at h44
          refine r_iconst (pc := 47) (v := 3) dX5_wrongBy_47 (by decide) ?_
          refine r_ireturn (pc := 48) rfl dX5_wrongBy_48 ⟨_, rfl, ?_⟩
          refine ⟨?_, rfl⟩
          clear hm
          simp only [wrongC]
          grind
      · refine r_iconst (pc := 36) (v := 2) dX5_wrongBy_36 (by decide) ?_
        refine r_ireturn (pc := 37) rfl dX5_wrongBy_37 ⟨_, rfl, ?_⟩
        refine ⟨?_, rfl⟩
        clear hm
        simp only [wrongC]
        grind
  · refine r_iconst (pc := 20) (v := 1) dX5_wrongBy_20 (by decide) ?_
    refine r_ireturn (pc := 21) rfl dX5_wrongBy_21 ⟨_, rfl, ?_⟩
    refine ⟨?_, rfl⟩
    clear hm
    simp only [wrongC]
    grind
theorem ct_X5_tires {M0 : PM} {mo : Nat} {I : Nat → Nat → Int32} {L : Nat → Nat → Int64} (hm : MR M0 mo) (x1 : Int32) (x2 : Int32) (hx1 : vp_in x1 8) (hx : vp_in x2 8) : Ct (YX5_tires, (1, 22, 0, 0), qv (fun M' => M' = wIL M0 (up2 I (mo + 9) x1.toNatClampNeg (tireC (I (mo + 9) x1.toNatClampNeg) (I (mo + 3) x2.toNatClampNeg))) L), noX) [.ref mo, .int x1, .int x2] (wIL M0 I L) := by
  refine ct_of [some (.ref mo), some (.int x1), some (.int x2)] rfl rfl rfl (Nat.le_of_ble_eq_true rfl) rfl rfl ?_
  refine r_aload_n (pc := 0) dX5_tires_0 rfl ?_
  refine r_getR (pc := 1) dX5_tires_1 fl_X5_44_5 (MR_k hm) (fun _ _ => rfl) (MR_r18 hm) ?_
  refine r_iload_n (pc := 4) dX5_tires_4 rfl ?_
  refine r_aload_n (pc := 5) dX5_tires_5 rfl ?_
  refine r_bipush (pc := 6) (v := 99) dX5_tires_6 (by decide) ?_
  refine r_aload_n (pc := 8) dX5_tires_8 rfl ?_
  refine r_getR (pc := 9) dX5_tires_9 fl_X5_44_5 (MR_k hm) (fun _ _ => rfl) (MR_r18 hm) ?_
  refine r_iload_n (pc := 12) dX5_tires_12 rfl ?_
  refine rm_iald (pc := 13) dX5_tires_13 (MR_k18 hm) (MR_z18 hm) (by first | assumption | exact vp_in_lit rfl) ?_
  refine r_aload_n (pc := 14) dX5_tires_14 rfl ?_
  refine r_getR (pc := 15) dX5_tires_15 fl_X5_26_5 (MR_k hm) (fun _ _ => rfl) (MR_r12 hm) ?_
  refine r_iload_n (pc := 18) dX5_tires_18 rfl ?_
  refine rm_iald (pc := 19) dX5_tires_19 (MR_k12 hm) (MR_z12 hm) (by first | assumption | exact vp_in_lit rfl) ?_
  refine r_bipush (pc := 20) (v := 10) dX5_tires_20 (by decide) ?_
  refine r_idiv (pc := 22) dX5_tires_22 (by decide) ?_
  refine r_iadd (pc := 23) dX5_tires_23 ?_
  refine r_iconst (pc := 24) (v := 1) dX5_tires_24 (by decide) ?_
  refine r_iadd (pc := 25) dX5_tires_25 ?_
  refine r_o3 (pc := 26) (bc' := 0) (bs' := 0) (ct_X5_low hm _ _) k_X5_233_5 dX5_tires_26 (MR_k hm) (Nat.le_of_ble_eq_true rfl) ⟨Nat.le_of_ble_eq_true rfl, Nat.le_of_ble_eq_true rfl⟩ ⟨Nat.le_of_ble_eq_true rfl, Nat.le_of_ble_eq_true rfl⟩ (r_ci fun r26 M26 p26 => ?_) nox
  obtain ⟨rfl, rfl⟩ := p26
  refine rm_iast (pc := 29) dX5_tires_29 (MR_k18 hm) (MR_z18 hm) (by first | assumption | exact vp_in_lit rfl) ?_
  refine r_return (pc := 30) rfl dX5_tires_30 ⟨rfl, ?_⟩
  rfl
theorem ct_X5_carries {M0 : PM} {mo : Nat} {I : Nat → Nat → Int32} {L : Nat → Nat → Int64} (hm : MR M0 mo) (x1 : Int32) (x2 : Int32) (x3 : Int32) (hx1 : vp_in x1 8) (hx : vp_in x2 8) : Ct (YX5_carries, (2, 44, 0, 0), qv (fun M' => M' = wIL M0 (up2 (up2 (up2 I (mo + 5) x2.toNatClampNeg (I (mo + 5) x2.toNatClampNeg + x3)) (mo + 6) x2.toNatClampNeg x1) (mo + 9) x1.toNatClampNeg (tireC (I (mo + 9) x1.toNatClampNeg) (I (mo + 3) x2.toNatClampNeg))) L), noX) [.ref mo, .int x1, .int x2, .int x3] (wIL M0 I L) := by
  refine ct_of [some (.ref mo), some (.int x1), some (.int x2), some (.int x3)] rfl rfl rfl (Nat.le_of_ble_eq_true rfl) rfl rfl ?_
  refine r_aload_n (pc := 0) dX5_carries_0 rfl ?_
  refine r_getR (pc := 1) dX5_carries_1 fl_X5_32_5 (MR_k hm) (fun _ _ => rfl) (MR_r14 hm) ?_
  refine r_iload_n (pc := 4) dX5_carries_4 rfl ?_
  refine r_dup2 (pc := 5) dX5_carries_5 rfl rfl ?_
  refine rm_iald (pc := 6) dX5_carries_6 (MR_k14 hm) (MR_z14 hm) (by first | assumption | exact vp_in_lit rfl) ?_
  refine r_iload_n (pc := 7) dX5_carries_7 rfl ?_
  refine r_iadd (pc := 8) dX5_carries_8 ?_
  refine rm_iast (pc := 9) dX5_carries_9 (MR_k14 hm) (MR_z14 hm) (by first | assumption | exact vp_in_lit rfl) ?_
  refine r_aload_n (pc := 10) dX5_carries_10 rfl ?_
  refine r_getR (pc := 11) dX5_carries_11 fl_X5_35_5 (MR_k hm) (fun _ _ => rfl) (MR_r15 hm) ?_
  refine r_iload_n (pc := 14) dX5_carries_14 rfl ?_
  refine r_iload_n (pc := 15) dX5_carries_15 rfl ?_
  refine rm_iast (pc := 16) dX5_carries_16 (MR_k15 hm) (MR_z15 hm) (by first | assumption | exact vp_in_lit rfl) ?_
  refine r_aload_n (pc := 17) dX5_carries_17 rfl ?_
  refine r_iload_n (pc := 18) dX5_carries_18 rfl ?_
  refine r_iload_n (pc := 19) dX5_carries_19 rfl ?_
  refine r_o3 (pc := 20) (bc' := 0) (bs' := 0) (ct_X5_tires hm _ _ hx1 hx) k_X5_245_5 dX5_carries_20 (MR_k hm) (Nat.le_of_ble_eq_true rfl) ⟨Nat.le_of_ble_eq_true rfl, Nat.le_of_ble_eq_true rfl⟩ ⟨Nat.le_of_ble_eq_true rfl, Nat.le_of_ble_eq_true rfl⟩ (r_cv fun M20 p20 => ?_) nox
  have p20 : _ = _ := p20
  subst p20
  refine r_return (pc := 23) rfl dX5_carries_23 ⟨rfl, ?_⟩
  simp [up2_ne]
theorem ct_X5_caughtBy {M0 : PM} {mo : Nat} {I : Nat → Nat → Int32} {L : Nat → Nat → Int64} (hm : MR M0 mo) (x1 : Int32) (x2 : Int32) (x3 : Int32) (hx1 : vp_in x1 8) (hx : vp_in x2 8) (h1 : ¬ I (mo + 3) x2.toNatClampNeg = 0) (h2 : I (mo + 2) x2.toNatClampNeg = 5 → ¬ I (mo + 4) x2.toNatClampNeg = 0 ∧ ¬ (I (mo + 3) x2.toNatClampNeg + I (mo + 4) x2.toNatClampNeg - 1) / I (mo + 4) x2.toNatClampNeg = 0) : Ct (YX5_caughtBy, (3, 69, 0, 0), qi (fun r M' => r = caughtC x3 (farC (I (mo + 2) x2.toNatClampNeg) (I (mo + 3) x2.toNatClampNeg) (I (mo + 4) x2.toNatClampNeg) (I mo 6) (I (mo + 8) x1.toNatClampNeg - I (mo + 9) x1.toNatClampNeg)) ∧ M' = wIL M0 I L), noX) [.ref mo, .int x1, .int x2, .int x3] (wIL M0 I L) := by
  refine ct_of [some (.ref mo), some (.int x1), some (.int x2), some (.int x3), none] rfl rfl rfl (Nat.le_of_ble_eq_true rfl) rfl rfl ?_
  refine r_iload_n (pc := 0) dX5_caughtBy_0 rfl ?_
  refine r_iconst (pc := 1) (v := 2) dX5_caughtBy_1 (by decide) ?_
  refine r_aload_n (pc := 2) dX5_caughtBy_2 rfl ?_
  refine r_iload_n (pc := 3) dX5_caughtBy_3 rfl ?_
  refine r_iload_n (pc := 4) dX5_caughtBy_4 rfl ?_
  refine r_o3 (pc := 5) (bc' := 0) (bs' := 0) (ct_X5_farOf hm _ _ hx1 hx h1 h2) k_X5_236_5 dX5_caughtBy_5 (MR_k hm) (Nat.le_of_ble_eq_true rfl) ⟨Nat.le_of_ble_eq_true rfl, Nat.le_of_ble_eq_true rfl⟩ ⟨Nat.le_of_ble_eq_true rfl, Nat.le_of_ble_eq_true rfl⟩ (r_ci fun r5 M5 p5 => ?_) nox
  obtain ⟨rfl, rfl⟩ := p5
  refine r_imul (pc := 8) dX5_caughtBy_8 ?_
  refine r_icmp_le (pc := 9) 14 dX5_caughtBy_9 rfl (fun h9 => ?_) (fun h9 => ?_)
  · refine r_bipush (pc := 14) (v := 10) dX5_caughtBy_14 (by decide) ?_
    refine r_iload_n (pc := 16) dX5_caughtBy_16 rfl ?_
    refine r_iconst (pc := 17) (v := 4) dX5_caughtBy_17 (by decide) ?_
    refine r_idiv (pc := 18) dX5_caughtBy_18 (by decide) ?_
    refine r_isub (pc := 19) dX5_caughtBy_19 ?_
    refine r_istore4 (pc := 20) dX5_caughtBy_20 rfl ?_
    refine r_iload (pc := 22) dX5_caughtBy_22 rfl ?_
    refine r_if_ge (pc := 24) 31 dX5_caughtBy_24 rfl (fun h24 => ?_) (fun h24 => ?_)
    · refine r_iload (pc := 31) dX5_caughtBy_31 rfl ?_
      refine r_ireturn (pc := 33) rfl dX5_caughtBy_33 ⟨_, rfl, ?_⟩
      refine ⟨?_, rfl⟩
      clear hm
      simp only [caughtC]
      grind
    · refine r_iconst (pc := 27) (v := 0) dX5_caughtBy_27 (by decide) ?_
      refine r_goto (pc := 28) 33 dX5_caughtBy_28 rfl ?_
      refine r_ireturn (pc := 33) rfl dX5_caughtBy_33 ⟨_, rfl, ?_⟩
      refine ⟨?_, rfl⟩
      clear hm
      simp only [caughtC]
      grind
  · refine r_iconst (pc := 12) (v := 0) dX5_caughtBy_12 (by decide) ?_
    refine r_ireturn (pc := 13) rfl dX5_caughtBy_13 ⟨_, rfl, ?_⟩
    refine ⟨?_, rfl⟩
    clear hm
    simp only [caughtC]
    grind
theorem ct_X5_isFar {M0 : PM} {mo : Nat} {I : Nat → Nat → Int32} {L : Nat → Nat → Int64} (hm : MR M0 mo) (x1 : Int32) : Ct (YX5_isFar, (0, 0, 0, 0), qi (fun r M' => r = bI (¬ x1 < 1 ∧ ¬ 40 < x1) ∧ M' = wIL M0 I L), noX) [.ref mo, .int x1] (wIL M0 I L) := by
  refine ct_of [some (.ref mo), some (.int x1)] rfl rfl rfl (Nat.le_of_ble_eq_true rfl) rfl rfl ?_
  refine r_iload_n (pc := 0) dX5_isFar_0 rfl ?_
  refine r_iconst (pc := 1) (v := 1) dX5_isFar_1 (by decide) ?_
  refine r_icmp_lt (pc := 2) 15 dX5_isFar_2 rfl (fun h2 => ?_) (fun h2 => ?_)
  · refine r_iconst (pc := 15) (v := 0) dX5_isFar_15 (by decide) ?_
    refine r_zreturn (pc := 16) rfl rfl dX5_isFar_16 ⟨_, rfl, ?_⟩
    refine ⟨bI_f' ?_, rfl⟩
    clear hm
    grind
  · refine r_iload_n (pc := 5) dX5_isFar_5 rfl ?_
    refine r_bipush (pc := 6) (v := 40) dX5_isFar_6 (by decide) ?_
    refine r_icmp_gt (pc := 8) 15 dX5_isFar_8 rfl (fun h8 => ?_) (fun h8 => ?_)
    · refine r_iconst (pc := 15) (v := 0) dX5_isFar_15 (by decide) ?_
      refine r_zreturn (pc := 16) rfl rfl dX5_isFar_16 ⟨_, rfl, ?_⟩
      refine ⟨bI_f' ?_, rfl⟩
      clear hm
      grind
    · refine r_iconst (pc := 11) (v := 1) dX5_isFar_11 (by decide) ?_
      refine r_goto (pc := 12) 16 dX5_isFar_12 rfl ?_
      refine r_zreturn (pc := 16) rfl rfl dX5_isFar_16 ⟨_, rfl, ?_⟩
      refine ⟨bI_t' ?_, rfl⟩
      clear hm
      grind
theorem ct_X5_isThrow {M0 : PM} {mo : Nat} {I : Nat → Nat → Int32} {L : Nat → Nat → Int64} (hm : MR M0 mo) (x1 : Int32) (x2 : Int32) (x3 : Int32) (hx1 : vp_in x1 8) (hx : vp_in x2 8) (h1 : ¬ I (mo + 3) x2.toNatClampNeg = 0) (h2 : I (mo + 2) x2.toNatClampNeg = 5 → ¬ I (mo + 4) x2.toNatClampNeg = 0 ∧ ¬ (I (mo + 3) x2.toNatClampNeg + I (mo + 4) x2.toNatClampNeg - 1) / I (mo + 4) x2.toNatClampNeg = 0) : Ct (YX5_isThrow, (3, 69, 0, 0), qi (fun r M' => r = bI (¬ 2 * farC (I (mo + 2) x2.toNatClampNeg) (I (mo + 3) x2.toNatClampNeg) (I (mo + 4) x2.toNatClampNeg) (I mo 6) (I (mo + 8) x1.toNatClampNeg - I (mo + 9) x1.toNatClampNeg) < x3 ∧ stepP (I mo 3) (I mo 4) (I mo 5) (I (mo + 5) x2.toNatClampNeg + x3)) ∧ M' = wIL M0 I L), noX) [.ref mo, .int x1, .int x2, .int x3] (wIL M0 I L) := by
  refine ct_of [some (.ref mo), some (.int x1), some (.int x2), some (.int x3)] rfl rfl rfl (Nat.le_of_ble_eq_true rfl) rfl rfl ?_
  refine r_iload_n (pc := 0) dX5_isThrow_0 rfl ?_
  refine r_iconst (pc := 1) (v := 2) dX5_isThrow_1 (by decide) ?_
  refine r_aload_n (pc := 2) dX5_isThrow_2 rfl ?_
  refine r_iload_n (pc := 3) dX5_isThrow_3 rfl ?_
  refine r_iload_n (pc := 4) dX5_isThrow_4 rfl ?_
  refine r_o3 (pc := 5) (bc' := 0) (bs' := 0) (ct_X5_farOf hm _ _ hx1 hx h1 h2) k_X5_236_5 dX5_isThrow_5 (MR_k hm) (Nat.le_of_ble_eq_true rfl) ⟨Nat.le_of_ble_eq_true rfl, Nat.le_of_ble_eq_true rfl⟩ ⟨Nat.le_of_ble_eq_true rfl, Nat.le_of_ble_eq_true rfl⟩ (r_ci fun r5 M5 p5 => ?_) nox
  obtain ⟨rfl, rfl⟩ := p5
  refine r_imul (pc := 8) dX5_isThrow_8 ?_
  refine r_icmp_gt (pc := 9) 31 dX5_isThrow_9 rfl (fun h9 => ?_) (fun h9 => ?_)
  · refine r_iconst (pc := 31) (v := 0) dX5_isThrow_31 (by decide) ?_
    refine r_zreturn (pc := 32) rfl rfl dX5_isThrow_32 ⟨_, rfl, ?_⟩
    refine ⟨bI_f' ?_, rfl⟩
    clear hm
    grind
  · refine r_aload_n (pc := 12) dX5_isThrow_12 rfl ?_
    refine r_aload_n (pc := 13) dX5_isThrow_13 rfl ?_
    refine r_getR (pc := 14) dX5_isThrow_14 fl_X5_32_5 (MR_k hm) (fun _ _ => rfl) (MR_r14 hm) ?_
    refine r_iload_n (pc := 17) dX5_isThrow_17 rfl ?_
    refine rm_iald (pc := 18) dX5_isThrow_18 (MR_k14 hm) (MR_z14 hm) (by first | assumption | exact vp_in_lit rfl) ?_
    refine r_iload_n (pc := 19) dX5_isThrow_19 rfl ?_
    refine r_iadd (pc := 20) dX5_isThrow_20 ?_
    refine r_o2 (pc := 21) (bc' := 0) (bs' := 0) (ct_X5_isStep hm _) k_X5_147_5 dX5_isThrow_21 (MR_k hm) (Nat.le_of_ble_eq_true rfl) ⟨Nat.le_of_ble_eq_true rfl, Nat.le_of_ble_eq_true rfl⟩ ⟨Nat.le_of_ble_eq_true rfl, Nat.le_of_ble_eq_true rfl⟩ (r_ci fun r21 M21 p21 => ?_) nox
    obtain ⟨rfl, rfl⟩ := p21
    refine r_if_eq (pc := 24) 31 dX5_isThrow_24 rfl (fun h24 => ?_) (fun h24 => ?_)
    · rw [bI_eq0] at h24
      refine r_iconst (pc := 31) (v := 0) dX5_isThrow_31 (by decide) ?_
      refine r_zreturn (pc := 32) rfl rfl dX5_isThrow_32 ⟨_, rfl, ?_⟩
      refine ⟨bI_f' ?_, rfl⟩
      clear hm
      grind
    · rw [bI_ne0] at h24
      refine r_iconst (pc := 27) (v := 1) dX5_isThrow_27 (by decide) ?_
      refine r_goto (pc := 28) 32 dX5_isThrow_28 rfl ?_
      refine r_zreturn (pc := 32) rfl rfl dX5_isThrow_32 ⟨_, rfl, ?_⟩
      refine ⟨bI_t' ?_, rfl⟩
      clear hm
      grind
theorem ct_X5_isOnward {M0 : PM} {mo : Nat} {I : Nat → Nat → Int32} {L : Nat → Nat → Int64} (hm : MR M0 mo) (x1 : Int32) (x2 : Int32) (hx : vp_in x1 8) : Ct (YX5_isOnward, (2, 42, 0, 0), qi (fun r M' => r = bI (stepP (I mo 3) (I mo 4) (I mo 5) x2 ∧ I (mo + 5) x1.toNatClampNeg < x2) ∧ M' = wIL M0 I L), noX) [.ref mo, .int x1, .int x2] (wIL M0 I L) := by
  refine ct_of [some (.ref mo), some (.int x1), some (.int x2)] rfl rfl rfl (Nat.le_of_ble_eq_true rfl) rfl rfl ?_
  refine r_aload_n (pc := 0) dX5_isOnward_0 rfl ?_
  refine r_iload_n (pc := 1) dX5_isOnward_1 rfl ?_
  refine r_o2 (pc := 2) (bc' := 0) (bs' := 0) (ct_X5_isStep hm _) k_X5_147_5 dX5_isOnward_2 (MR_k hm) (Nat.le_of_ble_eq_true rfl) ⟨Nat.le_of_ble_eq_true rfl, Nat.le_of_ble_eq_true rfl⟩ ⟨Nat.le_of_ble_eq_true rfl, Nat.le_of_ble_eq_true rfl⟩ (r_ci fun r2 M2 p2 => ?_) nox
  obtain ⟨rfl, rfl⟩ := p2
  refine r_if_eq (pc := 5) 22 dX5_isOnward_5 rfl (fun h5 => ?_) (fun h5 => ?_)
  · rw [bI_eq0] at h5
    refine r_iconst (pc := 22) (v := 0) dX5_isOnward_22 (by decide) ?_
    refine r_zreturn (pc := 23) rfl rfl dX5_isOnward_23 ⟨_, rfl, ?_⟩
    refine ⟨bI_f' ?_, rfl⟩
    clear hm
    grind
  · rw [bI_ne0] at h5
    refine r_iload_n (pc := 8) dX5_isOnward_8 rfl ?_
    refine r_aload_n (pc := 9) dX5_isOnward_9 rfl ?_
    refine r_getR (pc := 10) dX5_isOnward_10 fl_X5_32_5 (MR_k hm) (fun _ _ => rfl) (MR_r14 hm) ?_
    refine r_iload_n (pc := 13) dX5_isOnward_13 rfl ?_
    refine rm_iald (pc := 14) dX5_isOnward_14 (MR_k14 hm) (MR_z14 hm) (by first | assumption | exact vp_in_lit rfl) ?_
    refine r_icmp_le (pc := 15) 22 dX5_isOnward_15 rfl (fun h15 => ?_) (fun h15 => ?_)
    · refine r_iconst (pc := 22) (v := 0) dX5_isOnward_22 (by decide) ?_
      refine r_zreturn (pc := 23) rfl rfl dX5_isOnward_23 ⟨_, rfl, ?_⟩
      refine ⟨bI_f' ?_, rfl⟩
      clear hm
      grind
    · refine r_iconst (pc := 18) (v := 1) dX5_isOnward_18 (by decide) ?_
      refine r_goto (pc := 19) 23 dX5_isOnward_19 rfl ?_
      refine r_zreturn (pc := 23) rfl rfl dX5_isOnward_23 ⟨_, rfl, ?_⟩
      refine ⟨bI_t' ?_, rfl⟩
      clear hm
      grind
theorem ct_X5_intAt {M0 : PM} {mo : Nat} {I : Nat → Nat → Int32} {L : Nat → Nat → Int64} (hm : MR M0 mo) (x1 : Int32) (x2 : Int32) (hx : vp_in (160 * x1 + x2) 1280) : Ct (YX5_intAt, (0, 0, 0, 0), qi (fun r M' => r = (L (mo + 17) (Int32.toNatClampNeg (160 * x1 + x2))).toInt32 ∧ M' = wIL M0 I L), noX) [.ref mo, .int x1, .int x2] (wIL M0 I L) := by
  refine ct_of [some (.ref mo), some (.int x1), some (.int x2)] rfl rfl rfl (Nat.le_of_ble_eq_true rfl) rfl rfl ?_
  refine r_aload_n (pc := 0) dX5_intAt_0 rfl ?_
  refine r_getR (pc := 1) dX5_intAt_1 fl_X5_68_5 (MR_k hm) (fun _ _ => rfl) (MR_r26 hm) ?_
  refine r_sipush (pc := 4) (v := 160) dX5_intAt_4 (by decide) ?_
  refine r_iload_n (pc := 7) dX5_intAt_7 rfl ?_
  refine r_imul (pc := 8) dX5_intAt_8 ?_
  refine r_iload_n (pc := 9) dX5_intAt_9 rfl ?_
  refine r_iadd (pc := 10) dX5_intAt_10 ?_
  refine rm_lald (pc := 11) dX5_intAt_11 (MR_k26 hm) (MR_z26 hm) (by first | assumption | exact vp_in_lit rfl) ?_
  refine r_l2i (pc := 12) dX5_intAt_12 ?_
  refine r_ireturn (pc := 13) rfl dX5_intAt_13 ⟨_, rfl, ?_⟩
  exact ⟨rfl, rfl⟩
theorem ct_X5_wants {M0 : PM} {mo : Nat} {I : Nat → Nat → Int32} {L : Nat → Nat → Int64} (hm : MR M0 mo) (x1 : Int32) : Ct (YX5_wants, (1, 21, 0, 0), qi (fun r M' => r = (if ¬ shelfP x1 then -1 else if I (mo + 13) (Int32.toNatClampNeg x1) = 2 then -2 else if I (mo + 13) (Int32.toNatClampNeg x1) = 0 then -3 else 0) ∧ M' = wIL M0 I L), noX) [.ref mo, .int x1] (wIL M0 I L) := by
  refine ct_of [some (.ref mo), some (.int x1)] rfl rfl rfl (Nat.le_of_ble_eq_true rfl) rfl rfl ?_
  refine r_aload_n (pc := 0) dX5_wants_0 rfl ?_
  refine r_iload_n (pc := 1) dX5_wants_1 rfl ?_
  refine r_o2 (pc := 2) (bc' := 0) (bs' := 0) (ct_X5_isShelf hm _) k_X5_133_5 dX5_wants_2 (MR_k hm) (Nat.le_of_ble_eq_true rfl) ⟨Nat.le_of_ble_eq_true rfl, Nat.le_of_ble_eq_true rfl⟩ ⟨Nat.le_of_ble_eq_true rfl, Nat.le_of_ble_eq_true rfl⟩ (r_ci fun r2 M2 p2 => ?_) nox
  obtain ⟨rfl, rfl⟩ := p2
  refine r_if_ne (pc := 5) 12 dX5_wants_5 rfl (fun h5 => ?_) (fun h5 => ?_)
  · rw [bI_ne0] at h5
    have hx : vp_in x1 8 := by rw [vp_in_iff]; have a := Int32.le_iff_toInt_le.mp (Int32.not_lt.mp h5.1); have b := Int32.lt_iff_toInt_lt.mp h5.2; exact ⟨a, b⟩
    refine r_aload_n (pc := 12) dX5_wants_12 rfl ?_
    refine r_getR (pc := 13) dX5_wants_13 fl_X5_56_5 (MR_k hm) (fun _ _ => rfl) (MR_r22 hm) ?_
    refine r_iload_n (pc := 16) dX5_wants_16 rfl ?_
    refine rm_iald (pc := 17) dX5_wants_17 (MR_k22 hm) (MR_z22 hm) (by first | assumption | exact vp_in_lit rfl) ?_
    refine r_iconst (pc := 18) (v := 2) dX5_wants_18 (by decide) ?_
    refine r_icmp_ne (pc := 19) 27 dX5_wants_19 rfl (fun h19 => ?_) (fun h19 => ?_)
    · refine r_aload_n (pc := 27) dX5_wants_27 rfl ?_
      refine r_getR (pc := 28) dX5_wants_28 fl_X5_56_5 (MR_k hm) (fun _ _ => rfl) (MR_r22 hm) ?_
      refine r_iload_n (pc := 31) dX5_wants_31 rfl ?_
      refine rm_iald (pc := 32) dX5_wants_32 (MR_k22 hm) (MR_z22 hm) (by first | assumption | exact vp_in_lit rfl) ?_
      refine r_if_ne (pc := 33) 41 dX5_wants_33 rfl (fun h33 => ?_) (fun h33 => ?_)
      · refine r_iconst (pc := 41) (v := 0) dX5_wants_41 (by decide) ?_
        refine r_ireturn (pc := 42) rfl dX5_wants_42 ⟨_, rfl, ?_⟩
        refine ⟨?_, rfl⟩
        clear hm
        grind
      · refine r_bipush (pc := 36) (v := (-3)) dX5_wants_36 (by decide) ?_
        refine r_goto (pc := 38) 42 dX5_wants_38 rfl ?_
        refine r_ireturn (pc := 42) rfl dX5_wants_42 ⟨_, rfl, ?_⟩
        refine ⟨?_, rfl⟩
        clear hm
        grind
    · refine r_bipush (pc := 22) (v := (-2)) dX5_wants_22 (by decide) ?_
      refine r_goto (pc := 24) 42 dX5_wants_24 rfl ?_
      refine r_ireturn (pc := 42) rfl dX5_wants_42 ⟨_, rfl, ?_⟩
      refine ⟨?_, rfl⟩
      clear hm
      grind
  · rw [bI_eq0] at h5
    refine r_iconst (pc := 8) (v := (-1)) dX5_wants_8 (by decide) ?_
    refine r_goto (pc := 9) 42 dX5_wants_9 rfl ?_
    refine r_ireturn (pc := 42) rfl dX5_wants_42 ⟨_, rfl, ?_⟩
    refine ⟨?_, rfl⟩
    clear hm
    grind
theorem ct_X5_isFull {M0 : PM} {mo : Nat} {I : Nat → Nat → Int32} {L : Nat → Nat → Int64} (hm : MR M0 mo) (x1 : Int32) : Ct (YX5_isFull, (0, 0, 0, 0), qi (fun r M' => r = bI (x1 = 0 ∧ I mo 0 = 8 ∨ x1 = 1 ∧ I mo 1 = 8 ∨ x1 = 2 ∧ I mo 2 = 4) ∧ M' = wIL M0 I L), noX) [.ref mo, .int x1] (wIL M0 I L) := by
  refine ct_of [some (.ref mo), some (.int x1)] rfl rfl rfl (Nat.le_of_ble_eq_true rfl) rfl rfl ?_
  refine r_iload_n (pc := 0) dX5_isFull_0 rfl ?_
  refine r_if_ne (pc := 1) 13 dX5_isFull_1 rfl (fun h1 => ?_) (fun h1 => ?_)
  · refine r_iload_n (pc := 13) dX5_isFull_13 rfl ?_
    refine r_iconst (pc := 14) (v := 1) dX5_isFull_14 (by decide) ?_
    refine r_icmp_ne (pc := 15) 27 dX5_isFull_15 rfl (fun h15 => ?_) (fun h15 => ?_)
    · refine r_iload_n (pc := 27) dX5_isFull_27 rfl ?_
      refine r_iconst (pc := 28) (v := 2) dX5_isFull_28 (by decide) ?_
      refine r_icmp_ne (pc := 29) 44 dX5_isFull_29 rfl (fun h29 => ?_) (fun h29 => ?_)
      · refine r_iconst (pc := 44) (v := 0) dX5_isFull_44 (by decide) ?_
        refine r_zreturn (pc := 45) rfl rfl dX5_isFull_45 ⟨_, rfl, ?_⟩
        refine ⟨bI_f' ?_, rfl⟩
        clear hm
        grind
      · subst h29
        refine r_aload_n (pc := 32) dX5_isFull_32 rfl ?_
        refine rm_getI (pc := 33) dX5_isFull_33 fl_X5_162_5 (MR_k hm) (fun _ _ => rfl) ?_
        refine r_iconst (pc := 36) (v := 4) dX5_isFull_36 (by decide) ?_
        refine r_icmp_ne (pc := 37) 44 dX5_isFull_37 rfl (fun h37 => ?_) (fun h37 => ?_)
        · refine r_iconst (pc := 44) (v := 0) dX5_isFull_44 (by decide) ?_
          refine r_zreturn (pc := 45) rfl rfl dX5_isFull_45 ⟨_, rfl, ?_⟩
          refine ⟨bI_f' ?_, rfl⟩
          clear hm
          grind
        · refine r_iconst (pc := 40) (v := 1) dX5_isFull_40 (by decide) ?_
          refine r_goto (pc := 41) 45 dX5_isFull_41 rfl ?_
          refine r_zreturn (pc := 45) rfl rfl dX5_isFull_45 ⟨_, rfl, ?_⟩
          refine ⟨bI_t' ?_, rfl⟩
          clear hm
          grind
    · subst h15
      refine r_aload_n (pc := 18) dX5_isFull_18 rfl ?_
      refine rm_getI (pc := 19) dX5_isFull_19 fl_X5_120_5 (MR_k hm) (fun _ _ => rfl) ?_
      refine r_bipush (pc := 22) (v := 8) dX5_isFull_22 (by decide) ?_
      refine r_icmp_eq (pc := 24) 40 dX5_isFull_24 rfl (fun h24 => ?_) (fun h24 => ?_)
      · refine r_iconst (pc := 40) (v := 1) dX5_isFull_40 (by decide) ?_
        refine r_goto (pc := 41) 45 dX5_isFull_41 rfl ?_
        refine r_zreturn (pc := 45) rfl rfl dX5_isFull_45 ⟨_, rfl, ?_⟩
        refine ⟨bI_t' ?_, rfl⟩
        clear hm
        grind
      · refine r_iload_n (pc := 27) dX5_isFull_27 rfl ?_
        refine r_iconst (pc := 28) (v := 2) dX5_isFull_28 (by decide) ?_
        refine r_icmp_ne (pc := 29) 44 dX5_isFull_29 rfl (fun _ => ?_) (fun hno => absurd hno (by decide))
        refine r_iconst (pc := 44) (v := 0) dX5_isFull_44 (by decide) ?_
        refine r_zreturn (pc := 45) rfl rfl dX5_isFull_45 ⟨_, rfl, ?_⟩
        refine ⟨bI_f' ?_, rfl⟩
        clear hm
        grind
  · subst h1
    refine r_aload_n (pc := 4) dX5_isFull_4 rfl ?_
    refine rm_getI (pc := 5) dX5_isFull_5 fl_X5_117_5 (MR_k hm) (fun _ _ => rfl) ?_
    refine r_bipush (pc := 8) (v := 8) dX5_isFull_8 (by decide) ?_
    refine r_icmp_eq (pc := 10) 40 dX5_isFull_10 rfl (fun h10 => ?_) (fun h10 => ?_)
    · refine r_iconst (pc := 40) (v := 1) dX5_isFull_40 (by decide) ?_
      refine r_goto (pc := 41) 45 dX5_isFull_41 rfl ?_
      refine r_zreturn (pc := 45) rfl rfl dX5_isFull_45 ⟨_, rfl, ?_⟩
      refine ⟨bI_t' ?_, rfl⟩
      clear hm
      grind
    · refine r_iload_n (pc := 13) dX5_isFull_13 rfl ?_
      refine r_iconst (pc := 14) (v := 1) dX5_isFull_14 (by decide) ?_
      refine r_icmp_ne (pc := 15) 27 dX5_isFull_15 rfl (fun _ => ?_) (fun hno => absurd hno (by decide))
      refine r_iload_n (pc := 27) dX5_isFull_27 rfl ?_
      refine r_iconst (pc := 28) (v := 2) dX5_isFull_28 (by decide) ?_
      refine r_icmp_ne (pc := 29) 44 dX5_isFull_29 rfl (fun _ => ?_) (fun hno => absurd hno (by decide))
      refine r_iconst (pc := 44) (v := 0) dX5_isFull_44 (by decide) ?_
      refine r_zreturn (pc := 45) rfl rfl dX5_isFull_45 ⟨_, rfl, ?_⟩
      refine ⟨bI_f' ?_, rfl⟩
      clear hm
      grind
theorem ct_X5_wrong {M0 : PM} {mo : Nat} {I : Nat → Nat → Int32} {L : Nat → Nat → Int64} (hm : MR M0 mo) (x1 : Int32) : Ct (YX5_wrong, (0, 0, 0, 0), qi (fun r M' => r = 0 ∧ M' = wIL M0 (up2 I mo 34 x1) L), noX) [.ref mo, .int x1] (wIL M0 I L) := by
  refine ct_of [some (.ref mo), some (.int x1)] rfl rfl rfl (Nat.le_of_ble_eq_true rfl) rfl rfl ?_
  refine r_aload_n (pc := 0) dX5_wrong_0 rfl ?_
  refine r_iload_n (pc := 1) dX5_wrong_1 rfl ?_
  refine rm_putI (pc := 2) dX5_wrong_2 fl_X5_181_5 (MR_k hm) rfl rfl ?_
  refine r_iconst (pc := 5) (v := 0) dX5_wrong_5 (by decide) ?_
  refine r_zreturn (pc := 6) rfl rfl dX5_wrong_6 ⟨_, rfl, ?_⟩
  exact ⟨rfl, rfl⟩
theorem ct_X5_draw {M0 : PM} {mo : Nat} {I : Nat → Nat → Int32} {L : Nat → Nat → Int64} (hm : MR M0 mo) (x1 : Int32) (hx : ¬ x1 = 0) : Ct (YX5_draw, (0, 0, 0, 0), qi (fun r M' => r = ((I mo 7 * 1103515245 + 12345).toUInt32 >>> ((16 : Int32).toUInt32 &&& Int32.toUInt32 31)).toInt32 - ((I mo 7 * 1103515245 + 12345).toUInt32 >>> ((16 : Int32).toUInt32 &&& Int32.toUInt32 31)).toInt32 / x1 * x1 ∧ M' = wIL M0 (up2 I mo 7 (I mo 7 * 1103515245 + 12345)) L), noX) [.ref mo, .int x1] (wIL M0 I L) := by
  refine ct_of [some (.ref mo), some (.int x1)] rfl rfl rfl (Nat.le_of_ble_eq_true rfl) rfl rfl ?_
  refine r_aload_n (pc := 0) dX5_draw_0 rfl ?_
  refine r_aload_n (pc := 1) dX5_draw_1 rfl ?_
  refine rm_getI (pc := 2) dX5_draw_2 fl_X5_13_5 (MR_k hm) (fun _ _ => rfl) ?_
  refine r_ldcw (pc := 5) dX5_draw_5 q1881 ?_
  refine r_imul (pc := 8) dX5_draw_8 ?_
  refine r_sipush (pc := 9) (v := 12345) dX5_draw_9 (by decide) ?_
  refine r_iadd (pc := 12) dX5_draw_12 ?_
  refine rm_putI (pc := 13) dX5_draw_13 fl_X5_13_5 (MR_k hm) rfl rfl ?_
  refine r_aload_n (pc := 16) dX5_draw_16 rfl ?_
  refine rm_getI (pc := 17) dX5_draw_17 fl_X5_13_5 (MR_k hm) (fun _ _ => rfl) ?_
  refine r_eqi (I mo 7 * 1103515245 + 12345) (by rw [up2_self, va_up_self]) ?_
  refine r_bipush (pc := 20) (v := 16) dX5_draw_20 (by decide) ?_
  refine r_iushr (pc := 22) dX5_draw_22 ?_
  refine r_iload_n (pc := 23) dX5_draw_23 rfl ?_
  refine r_irem (pc := 24) dX5_draw_24 hx ?_
  refine r_ireturn (pc := 25) rfl dX5_draw_25 ⟨_, rfl, ?_⟩
  exact ⟨rfl, rfl⟩
theorem ct_X5_fault {M0 : PM} {mo : Nat} {I : Nat → Nat → Int32} {L : Nat → Nat → Int64} (hm : MR M0 mo)  : Ct (YX5_fault, (0, 0, 0, 0), qi (fun r M' => r = I mo 9 ∧ M' = wIL M0 I L), noX) [.ref mo] (wIL M0 I L) := by
  refine ct_of [some (.ref mo)] rfl rfl rfl (Nat.le_of_ble_eq_true rfl) rfl rfl ?_
  refine r_aload_n (pc := 0) dX5_fault_0 rfl ?_
  refine rm_getI (pc := 1) dX5_fault_1 fl_X5_16_5 (MR_k hm) (fun _ _ => rfl) ?_
  refine r_ireturn (pc := 4) rfl dX5_fault_4 ⟨_, rfl, ?_⟩
  exact ⟨rfl, rfl⟩
