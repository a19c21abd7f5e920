/-! THE MODEL's calls with loops, first group (printed by gen/model4.py) -/
set_option maxRecDepth 100000
theorem ct_X5_isLong {M0 : PM} {mo : Nat} {I : Nat → Nat → Int32} {L : Nat → Nat → Int64} (hm : MR M0 mo) (x1 : Int32) (hk : OkW (sM I mo)) : Ct (YX5_isLong, (0, 0, 0, 0), qi (fun r M' => r = bI (longP (sM I mo) x1) ∧ M' = wIL M0 I L), noX) [.ref mo, .int x1] (wIL M0 I L) := by
  refine ct_of [some (.ref mo), some (.int x1), none] rfl rfl rfl (Nat.le_of_ble_eq_true rfl) rfl rfl ?_
  obtain ⟨N, hN, eN⟩ := bd_nI (n := 8) hk.1.1
  obtain ⟨W, hW, eW⟩ := bd_nI (n := 4) hk.1.2.2
  have eN : I mo 0 = nI N := eN
  have eW : I mo 2 = nI W := eW
  have iN : Int32.toNatClampNeg (sM I mo 0 0) = N := by show Int32.toNatClampNeg (I mo 0) = N; rw [eN, ix_nI (by omega)]
  have iW : Int32.toNatClampNeg (sM I mo 2 0) = W := by show Int32.toNatClampNeg (I mo 2) = W; rw [eW, ix_nI (by omega)]
  have base : ¬ x1 < 1 → ¬ 99 < x1 → ¬ x1 < I mo 5 → Wx (YX5_isLong, (0, 0, 0, 0), qi (fun r M' => r = bI (longP (sM I mo) x1) ∧ M' = wIL M0 I L), noX) 0 0 (wIL M0 I L) 21 [some (.ref mo), some (.int x1), none] [] := by
    intro b1 b2 b3
    have L2 : ∀ (n j : Nat), j ≤ W → W < j + n → (∀ t, t < N → ¬ x1 < I (mo + 5) t) → (∀ t, t < j → ¬ x1 < I (mo + 11) t) → Wx (YX5_isLong, (0, 0, 0, 0), qi (fun r M' => r = bI (longP (sM I mo) x1) ∧ M' = wIL M0 I L), noX) 0 0 (wIL M0 I L) 51 [some (.ref mo), some (.int x1), some (.int (nI j))] [] := by
      intro n
      induction n with
      | zero => intro j g1 g2; omega
      | succ n ih =>
        intro j g1 g2
        intro a1 a2
        refine r_iload_n (pc := 51) dX5_isLong_51 rfl ?_
        refine r_aload_n (pc := 52) dX5_isLong_52 rfl ?_
        refine rm_getI (pc := 53) dX5_isLong_53 fl_X5_162_5 (MR_k hm) (fun _ _ => rfl) ?_
        refine r_icmp_ge (pc := 56) 77 dX5_isLong_56 rfl (fun h56 => ?_) (fun h56 => ?_)
        · rw [eW, nI_ltI (by omega) (by omega)] at h56
          refine r_iconst (pc := 77) (v := 1) dX5_isLong_77 (by decide) ?_
          refine r_zreturn (pc := 78) rfl rfl dX5_isLong_78 ⟨_, rfl, ?_⟩
          refine ⟨bI_t' ⟨b1, b2, b3, fun t ht => a1 t (by rw [iN] at ht; exact ht), fun t ht => a2 t (by rw [iW] at ht; omega)⟩, rfl⟩
        · rw [eW, nI_ltI (by omega) (by omega)] at h56
          have hj : vp_in (nI j) 4 := vp_in_nI (by omega) (by decide)
          refine r_aload_n (pc := 59) dX5_isLong_59 rfl ?_
          refine r_getR (pc := 60) dX5_isLong_60 fl_X5_50_5 (MR_k hm) (fun _ _ => rfl) (MR_r20 hm) ?_
          refine r_iload_n (pc := 63) dX5_isLong_63 rfl ?_
          refine rm_iald (pc := 64) dX5_isLong_64 (MR_k20 hm) (MR_z20 hm) (by first | assumption | exact vp_in_lit rfl) ?_
          refine r_iload_n (pc := 65) dX5_isLong_65 rfl ?_
          refine r_icmp_le (pc := 66) 71 dX5_isLong_66 rfl (fun h66 => ?_) (fun h66 => ?_)
          · rw [nI_clamp (n := j) (by omega)] at h66
            refine r_iinc2 (pc := 71) dX5_isLong_71 (nI_1 _) rfl ?_
            refine r_goto (pc := 74) 51 dX5_isLong_74 rfl ?_
            exact ih (j + 1) (by omega) (by omega) a1 (lt_s a2 h66)
          · rw [nI_clamp (n := j) (by omega)] at h66
            refine r_iconst (pc := 69) (v := 0) dX5_isLong_69 (by decide) ?_
            refine r_zreturn (pc := 70) rfl rfl dX5_isLong_70 ⟨_, rfl, ?_⟩
            refine ⟨bI_f' (fun h => h.2.2.2.2 j (by rw [iW]; omega) h66), rfl⟩
    have L1 : ∀ (n j : Nat), j ≤ N → N < j + n → (∀ t, t < j → ¬ x1 < I (mo + 5) t) → Wx (YX5_isLong, (0, 0, 0, 0), qi (fun r M' => r = bI (longP (sM I mo) x1) ∧ M' = wIL M0 I L), noX) 0 0 (wIL M0 I L) 23 [some (.ref mo), some (.int x1), some (.int (nI j))] [] := by
      intro n
      induction n with
      | zero => intro j g1 g2; omega
      | succ n ih =>
        intro j g1 g2
        intro a1
        refine r_iload_n (pc := 23) dX5_isLong_23 rfl ?_
        refine r_aload_n (pc := 24) dX5_isLong_24 rfl ?_
        refine rm_getI (pc := 25) dX5_isLong_25 fl_X5_117_5 (MR_k hm) (fun _ _ => rfl) ?_
        refine r_icmp_ge (pc := 28) 49 dX5_isLong_28 rfl (fun h28 => ?_) (fun h28 => ?_)
        · rw [eN, nI_ltI (by omega) (by omega)] at h28
          refine r_iconst (pc := 49) (v := 0) dX5_isLong_49 (by decide) ?_
          refine r_istore2 (pc := 50) dX5_isLong_50 rfl ?_
          exact L2 (W + 1) 0 (by omega) (by omega) (fun t ht => a1 t (by omega)) lt_0
        · rw [eN, nI_ltI (by omega) (by omega)] at h28
          have hj : vp_in (nI j) 8 := vp_in_nI (by omega) (by decide)
          refine r_aload_n (pc := 31) dX5_isLong_31 rfl ?_
          refine r_getR (pc := 32) dX5_isLong_32 fl_X5_32_5 (MR_k hm) (fun _ _ => rfl) (MR_r14 hm) ?_
          refine r_iload_n (pc := 35) dX5_isLong_35 rfl ?_
          refine rm_iald (pc := 36) dX5_isLong_36 (MR_k14 hm) (MR_z14 hm) (by first | assumption | exact vp_in_lit rfl) ?_
          refine r_iload_n (pc := 37) dX5_isLong_37 rfl ?_
          refine r_icmp_le (pc := 38) 43 dX5_isLong_38 rfl (fun h38 => ?_) (fun h38 => ?_)
          · rw [nI_clamp (n := j) (by omega)] at h38
            refine r_iinc2 (pc := 43) dX5_isLong_43 (nI_1 _) rfl ?_
            refine r_goto (pc := 46) 23 dX5_isLong_46 rfl ?_
            exact ih (j + 1) (by omega) (by omega) (lt_s a1 h38)
          · rw [nI_clamp (n := j) (by omega)] at h38
            refine r_iconst (pc := 41) (v := 0) dX5_isLong_41 (by decide) ?_
            refine r_zreturn (pc := 42) rfl rfl dX5_isLong_42 ⟨_, rfl, ?_⟩
            refine ⟨bI_f' (fun h => h.2.2.2.1 j (by rw [iN]; omega) h38), rfl⟩
    refine r_iconst (pc := 21) (v := 0) dX5_isLong_21 (by decide) ?_
    refine r_istore2 (pc := 22) dX5_isLong_22 rfl ?_
    exact L1 (N + 1) 0 (by omega) (by omega) lt_0
  refine r_iload_n (pc := 0) dX5_isLong_0 rfl ?_
  refine r_iconst (pc := 1) (v := 1) dX5_isLong_1 (by decide) ?_
  refine r_icmp_lt (pc := 2) 19 dX5_isLong_2 rfl (fun h2 => ?_) (fun h2 => ?_)
  · refine r_iconst (pc := 19) (v := 0) dX5_isLong_19 (by decide) ?_
    refine r_zreturn (pc := 20) rfl rfl dX5_isLong_20 ⟨_, rfl, ?_⟩
    refine ⟨bI_f' (fun h => ?_), rfl⟩
    obtain ⟨g1, g2, g3, -⟩ := h
    have g3 : ¬ x1 < I mo 5 := g3
    first | exact g1 ‹_› | exact g2 ‹_› | exact g3 ‹_›
  · refine r_iload_n (pc := 5) dX5_isLong_5 rfl ?_
    refine r_bipush (pc := 6) (v := 99) dX5_isLong_6 (by decide) ?_
    refine r_icmp_gt (pc := 8) 19 dX5_isLong_8 rfl (fun h8 => ?_) (fun h8 => ?_)
    · refine r_iconst (pc := 19) (v := 0) dX5_isLong_19 (by decide) ?_
      refine r_zreturn (pc := 20) rfl rfl dX5_isLong_20 ⟨_, rfl, ?_⟩
      refine ⟨bI_f' (fun h => ?_), rfl⟩
      obtain ⟨g1, g2, g3, -⟩ := h
      have g3 : ¬ x1 < I mo 5 := g3
      first | exact g1 ‹_› | exact g2 ‹_› | exact g3 ‹_›
    · refine r_iload_n (pc := 11) dX5_isLong_11 rfl ?_
      refine r_aload_n (pc := 12) dX5_isLong_12 rfl ?_
      refine rm_getI (pc := 13) dX5_isLong_13 fl_X5_126_5 (MR_k hm) (fun _ _ => rfl) ?_
      refine r_icmp_ge (pc := 16) 21 dX5_isLong_16 rfl (fun h16 => ?_) (fun h16 => ?_)
      · exact base h2 h8 h16
      · refine r_iconst (pc := 19) (v := 0) dX5_isLong_19 (by decide) ?_
        refine r_zreturn (pc := 20) rfl rfl dX5_isLong_20 ⟨_, rfl, ?_⟩
        refine ⟨bI_f' (fun h => ?_), rfl⟩
        obtain ⟨g1, g2, g3, -⟩ := h
        have g3 : ¬ x1 < I mo 5 := g3
        first | exact g1 ‹_› | exact g2 ‹_› | exact g3 ‹_›
theorem ct_X5_isRiver {M0 : PM} {mo : Nat} {I : Nat → Nat → Int32} {L : Nat → Nat → Int64} (hm : MR M0 mo) (x1 : Int32) (x2 : Int32) (hk : OkW (sM I mo)) : Ct (YX5_isRiver, (0, 0, 0, 0), qi (fun r M' => r = bI (riverP (sM I mo) x1 x2) ∧ M' = wIL M0 I L), noX) [.ref mo, .int x1, .int x2] (wIL M0 I L) := by
  refine ct_of [some (.ref mo), some (.int x1), some (.int x2), none] rfl rfl rfl (Nat.le_of_ble_eq_true rfl) rfl rfl ?_
  obtain ⟨N, hN, eN⟩ := bd_nI (n := 8) hk.1.1
  obtain ⟨W, hW, eW⟩ := bd_nI (n := 4) hk.1.2.2
  have eN : I mo 0 = nI N := eN
  have eW : I mo 2 = nI W := eW
  have iN : Int32.toNatClampNeg (sM I mo 0 0) = N := by show Int32.toNatClampNeg (I mo 0) = N; rw [eN, ix_nI (by omega)]
  have iW : Int32.toNatClampNeg (sM I mo 2 0) = W := by show Int32.toNatClampNeg (I mo 2) = W; rw [eW, ix_nI (by omega)]
  have base : ¬ x1 < 0 → ¬ x2 < x1 → ¬ I mo 3 < x2 → Wx (YX5_isRiver, (0, 0, 0, 0), qi (fun r M' => r = bI (riverP (sM I mo) x1 x2) ∧ M' = wIL M0 I L), noX) 0 0 (wIL M0 I L) 19 [some (.ref mo), some (.int x1), some (.int x2), none] [] := by
    intro b1 b2 b3
    have L2 : ∀ (n j : Nat), j ≤ W → W < j + n → (∀ t, t < N → ¬ (x1 < I (mo + 5) t ∧ I (mo + 5) t < x2)) → (∀ t, t < j → ¬ (x1 < I (mo + 11) t ∧ I (mo + 11) t < x2)) → Wx (YX5_isRiver, (0, 0, 0, 0), qi (fun r M' => r = bI (riverP (sM I mo) x1 x2) ∧ M' = wIL M0 I L), noX) 0 0 (wIL M0 I L) 59 [some (.ref mo), some (.int x1), some (.int x2), some (.int (nI j))] [] := by
      intro n
      induction n with
      | zero => intro j g1 g2; omega
      | succ n ih =>
        intro j g1 g2
        intro a1 a2
        refine r_iload_n (pc := 59) dX5_isRiver_59 rfl ?_
        refine r_aload_n (pc := 60) dX5_isRiver_60 rfl ?_
        refine rm_getI (pc := 61) dX5_isRiver_61 fl_X5_162_5 (MR_k hm) (fun _ _ => rfl) ?_
        refine r_icmp_ge (pc := 64) 95 dX5_isRiver_64 rfl (fun h64 => ?_) (fun h64 => ?_)
        · rw [eW, nI_ltI (by omega) (by omega)] at h64
          refine r_iconst (pc := 95) (v := 1) dX5_isRiver_95 (by decide) ?_
          refine r_zreturn (pc := 96) rfl rfl dX5_isRiver_96 ⟨_, rfl, ?_⟩
          refine ⟨bI_t' ⟨b1, b2, b3, fun t ht => a1 t (by rw [iN] at ht; exact ht), fun t ht => a2 t (by rw [iW] at ht; omega)⟩, rfl⟩
        · rw [eW, nI_ltI (by omega) (by omega)] at h64
          have hj : vp_in (nI j) 4 := vp_in_nI (by omega) (by decide)
          refine r_aload_n (pc := 67) dX5_isRiver_67 rfl ?_
          refine r_getR (pc := 68) dX5_isRiver_68 fl_X5_50_5 (MR_k hm) (fun _ _ => rfl) (MR_r20 hm) ?_
          refine r_iload_n (pc := 71) dX5_isRiver_71 rfl ?_
          refine rm_iald (pc := 72) dX5_isRiver_72 (MR_k20 hm) (MR_z20 hm) (by first | assumption | exact vp_in_lit rfl) ?_
          refine r_iload_n (pc := 73) dX5_isRiver_73 rfl ?_
          refine r_icmp_le (pc := 74) 89 dX5_isRiver_74 rfl (fun h74 => ?_) (fun h74 => ?_)
          · rw [nI_clamp (n := j) (by omega)] at h74
            refine r_iinc3 (pc := 89) dX5_isRiver_89 (nI_1 _) rfl ?_
            refine r_goto (pc := 92) 59 dX5_isRiver_92 rfl ?_
            exact ih (j + 1) (by omega) (by omega) a1 (lt_s a2 (by first | exact fun q => h74 q.1 | exact fun q => h84 q.2))
          · rw [nI_clamp (n := j) (by omega)] at h74
            refine r_aload_n (pc := 77) dX5_isRiver_77 rfl ?_
            refine r_getR (pc := 78) dX5_isRiver_78 fl_X5_50_5 (MR_k hm) (fun _ _ => rfl) (MR_r20 hm) ?_
            refine r_iload_n (pc := 81) dX5_isRiver_81 rfl ?_
            refine rm_iald (pc := 82) dX5_isRiver_82 (MR_k20 hm) (MR_z20 hm) (by first | assumption | exact vp_in_lit rfl) ?_
            refine r_iload_n (pc := 83) dX5_isRiver_83 rfl ?_
            refine r_icmp_ge (pc := 84) 89 dX5_isRiver_84 rfl (fun h84 => ?_) (fun h84 => ?_)
            · rw [nI_clamp (n := j) (by omega)] at h84
              refine r_iinc3 (pc := 89) dX5_isRiver_89 (nI_1 _) rfl ?_
              refine r_goto (pc := 92) 59 dX5_isRiver_92 rfl ?_
              exact ih (j + 1) (by omega) (by omega) a1 (lt_s a2 (by first | exact fun q => h74 q.1 | exact fun q => h84 q.2))
            · rw [nI_clamp (n := j) (by omega)] at h84
              refine r_iconst (pc := 87) (v := 0) dX5_isRiver_87 (by decide) ?_
              refine r_zreturn (pc := 88) rfl rfl dX5_isRiver_88 ⟨_, rfl, ?_⟩
              refine ⟨bI_f' (fun h => h.2.2.2.2 j (by rw [iW]; omega) ⟨h74, h84⟩), rfl⟩
    have L1 : ∀ (n j : Nat), j ≤ N → N < j + n → (∀ t, t < j → ¬ (x1 < I (mo + 5) t ∧ I (mo + 5) t < x2)) → Wx (YX5_isRiver, (0, 0, 0, 0), qi (fun r M' => r = bI (riverP (sM I mo) x1 x2) ∧ M' = wIL M0 I L), noX) 0 0 (wIL M0 I L) 21 [some (.ref mo), some (.int x1), some (.int x2), some (.int (nI j))] [] := by
      intro n
      induction n with
      | zero => intro j g1 g2; omega
      | succ n ih =>
        intro j g1 g2
        intro a1
        refine r_iload_n (pc := 21) dX5_isRiver_21 rfl ?_
        refine r_aload_n (pc := 22) dX5_isRiver_22 rfl ?_
        refine rm_getI (pc := 23) dX5_isRiver_23 fl_X5_117_5 (MR_k hm) (fun _ _ => rfl) ?_
        refine r_icmp_ge (pc := 26) 57 dX5_isRiver_26 rfl (fun h26 => ?_) (fun h26 => ?_)
        · rw [eN, nI_ltI (by omega) (by omega)] at h26
          refine r_iconst (pc := 57) (v := 0) dX5_isRiver_57 (by decide) ?_
          refine r_istore3 (pc := 58) dX5_isRiver_58 rfl ?_
          exact L2 (W + 1) 0 (by omega) (by omega) (fun t ht => a1 t (by omega)) lt_0
        · rw [eN, nI_ltI (by omega) (by omega)] at h26
          have hj : vp_in (nI j) 8 := vp_in_nI (by omega) (by decide)
          refine r_aload_n (pc := 29) dX5_isRiver_29 rfl ?_
          refine r_getR (pc := 30) dX5_isRiver_30 fl_X5_32_5 (MR_k hm) (fun _ _ => rfl) (MR_r14 hm) ?_
          refine r_iload_n (pc := 33) dX5_isRiver_33 rfl ?_
          refine rm_iald (pc := 34) dX5_isRiver_34 (MR_k14 hm) (MR_z14 hm) (by first | assumption | exact vp_in_lit rfl) ?_
          refine r_iload_n (pc := 35) dX5_isRiver_35 rfl ?_
          refine r_icmp_le (pc := 36) 51 dX5_isRiver_36 rfl (fun h36 => ?_) (fun h36 => ?_)
          · rw [nI_clamp (n := j) (by omega)] at h36
            refine r_iinc3 (pc := 51) dX5_isRiver_51 (nI_1 _) rfl ?_
            refine r_goto (pc := 54) 21 dX5_isRiver_54 rfl ?_
            exact ih (j + 1) (by omega) (by omega) (lt_s a1 (by first | exact fun q => h36 q.1 | exact fun q => h46 q.2))
          · rw [nI_clamp (n := j) (by omega)] at h36
            refine r_aload_n (pc := 39) dX5_isRiver_39 rfl ?_
            refine r_getR (pc := 40) dX5_isRiver_40 fl_X5_32_5 (MR_k hm) (fun _ _ => rfl) (MR_r14 hm) ?_
            refine r_iload_n (pc := 43) dX5_isRiver_43 rfl ?_
            refine rm_iald (pc := 44) dX5_isRiver_44 (MR_k14 hm) (MR_z14 hm) (by first | assumption | exact vp_in_lit rfl) ?_
            refine r_iload_n (pc := 45) dX5_isRiver_45 rfl ?_
            refine r_icmp_ge (pc := 46) 51 dX5_isRiver_46 rfl (fun h46 => ?_) (fun h46 => ?_)
            · rw [nI_clamp (n := j) (by omega)] at h46
              refine r_iinc3 (pc := 51) dX5_isRiver_51 (nI_1 _) rfl ?_
              refine r_goto (pc := 54) 21 dX5_isRiver_54 rfl ?_
              exact ih (j + 1) (by omega) (by omega) (lt_s a1 (by first | exact fun q => h36 q.1 | exact fun q => h46 q.2))
            · rw [nI_clamp (n := j) (by omega)] at h46
              refine r_iconst (pc := 49) (v := 0) dX5_isRiver_49 (by decide) ?_
              refine r_zreturn (pc := 50) rfl rfl dX5_isRiver_50 ⟨_, rfl, ?_⟩
              refine ⟨bI_f' (fun h => h.2.2.2.1 j (by rw [iN]; omega) ⟨h36, h46⟩), rfl⟩
    refine r_iconst (pc := 19) (v := 0) dX5_isRiver_19 (by decide) ?_
    refine r_istore3 (pc := 20) dX5_isRiver_20 rfl ?_
    exact L1 (N + 1) 0 (by omega) (by omega) lt_0
  refine r_iload_n (pc := 0) dX5_isRiver_0 rfl ?_
  refine r_if_lt (pc := 1) 17 dX5_isRiver_1 rfl (fun h1 => ?_) (fun h1 => ?_)
  · refine r_iconst (pc := 17) (v := 0) dX5_isRiver_17 (by decide) ?_
    refine r_zreturn (pc := 18) rfl rfl dX5_isRiver_18 ⟨_, rfl, ?_⟩
    refine ⟨bI_f' (fun h => ?_), rfl⟩
    obtain ⟨g1, g2, g3, -⟩ := h
    have g3 : ¬ I mo 3 < x2 := g3
    first | exact g1 ‹_› | exact g2 ‹_› | exact g3 ‹_›
  · refine r_iload_n (pc := 4) dX5_isRiver_4 rfl ?_
    refine r_iload_n (pc := 5) dX5_isRiver_5 rfl ?_
    refine r_icmp_gt (pc := 6) 17 dX5_isRiver_6 rfl (fun h6 => ?_) (fun h6 => ?_)
    · refine r_iconst (pc := 17) (v := 0) dX5_isRiver_17 (by decide) ?_
      refine r_zreturn (pc := 18) rfl rfl dX5_isRiver_18 ⟨_, rfl, ?_⟩
      refine ⟨bI_f' (fun h => ?_), rfl⟩
      obtain ⟨g1, g2, g3, -⟩ := h
      have g3 : ¬ I mo 3 < x2 := g3
      first | exact g1 ‹_› | exact g2 ‹_› | exact g3 ‹_›
    · refine r_iload_n (pc := 9) dX5_isRiver_9 rfl ?_
      refine r_aload_n (pc := 10) dX5_isRiver_10 rfl ?_
      refine rm_getI (pc := 11) dX5_isRiver_11 fl_X5_7_5 (MR_k hm) (fun _ _ => rfl) ?_
      refine r_icmp_le (pc := 14) 19 dX5_isRiver_14 rfl (fun h14 => ?_) (fun h14 => ?_)
      · exact base h1 h6 h14
      · refine r_iconst (pc := 17) (v := 0) dX5_isRiver_17 (by decide) ?_
        refine r_zreturn (pc := 18) rfl rfl dX5_isRiver_18 ⟨_, rfl, ?_⟩
        refine ⟨bI_f' (fun h => ?_), rfl⟩
        obtain ⟨g1, g2, g3, -⟩ := h
        have g3 : ¬ I mo 3 < x2 := g3
        first | exact g1 ‹_› | exact g2 ‹_› | exact g3 ‹_›
theorem ct_X5_ask {M0 : PM} {mo : Nat} {I : Nat → Nat → Int32} {L : Nat → Nat → Int64} (hm : MR M0 mo) (x1 : Int32) (x2 : Int32) (hk : OkS (sM I mo)) : Ct (YX5_ask, (1, 22, 0, 0), qi (fun r M' => oM M0 mo I L (askS (sS I L mo) x1 x2) r M'), noX) [.ref mo, .int x1, .int x2] (wIL M0 I L) := by
  refine ct_of [some (.ref mo), some (.int x1), some (.int x2), none] rfl rfl rfl (Nat.le_of_ble_eq_true rfl) rfl rfl ?_
  refine r_iload_n (pc := 0) dX5_ask_0 rfl ?_
  refine r_if_ne (pc := 1) 25 dX5_ask_1 rfl (fun h1 => ?_) (fun h1 => ?_)
  · refine r_iload_n (pc := 25) dX5_ask_25 rfl ?_
    refine r_iconst (pc := 26) (v := 1) dX5_ask_26 (by decide) ?_
    refine r_icmp_ne (pc := 27) 53 dX5_ask_27 rfl (fun h27 => ?_) (fun h27 => ?_)
    · refine r_aload_n (pc := 53) dX5_ask_53 rfl ?_
      refine r_bipush (pc := 54) (v := (-6)) dX5_ask_54 (by decide) ?_
      refine r_o2 (pc := 56) (bc' := 0) (bs' := 0) (ct_X5_no hm _ (vp_in_lit rfl)) k_X5_136_5 dX5_ask_56 (MR_k hm) (Nat.le_of_ble_eq_true rfl) ⟨Nat.le_of_ble_eq_true rfl, Nat.le_of_ble_eq_true rfl⟩ ⟨Nat.le_of_ble_eq_true rfl, Nat.le_of_ble_eq_true rfl⟩ (r_ci fun r56 M56 p56 => ?_) nox
      obtain ⟨rfl, rfl⟩ := p56
      refine r_ireturn (pc := 59) rfl dX5_ask_59 ⟨_, rfl, ?_⟩
      first
        | contradiction
        | (refine oM.of ?_ (by repeat' (first | exact frM.rf | assumption | refine frM.up0 ?_ | refine frM.up ?_ (by decide) | refine frM.upL ?_ (by decide)))
           simp (decide := true) only [askS, noS, noTenS, thP, mnP, shelfP, stepS, h1, h27, not_true_eq_false, not_false_eq_true, true_and, and_true, false_and, and_false, true_or, or_true, false_or, or_false, cI_True, cI_False, if_true, if_false, sm0, sm1, sm2, sm3, sm4, sm5, sm6, sm7, sm8, sm9, sm10, sm11, sm12, sm13, sm14, sm15, sm16, sm17, sm18, sm19, sm20, sm21, sm22, sm23, sm24, sm25, su0, su1, su2, su3, su4, su5, su6, su7, su8, su9, su10, su11, su12, su13, su14, su15, su16, su17, su18, su19, su20, su21, su22, su23, su24, su25])
    · subst h27
      refine r_iload_n (pc := 30) dX5_ask_30 rfl ?_
      refine r_if_lt (pc := 31) 53 dX5_ask_31 rfl (fun h31 => ?_) (fun h31 => ?_)
      · refine r_aload_n (pc := 53) dX5_ask_53 rfl ?_
        refine r_bipush (pc := 54) (v := (-6)) dX5_ask_54 (by decide) ?_
        refine r_o2 (pc := 56) (bc' := 0) (bs' := 0) (ct_X5_no hm _ (vp_in_lit rfl)) k_X5_136_5 dX5_ask_56 (MR_k hm) (Nat.le_of_ble_eq_true rfl) ⟨Nat.le_of_ble_eq_true rfl, Nat.le_of_ble_eq_true rfl⟩ ⟨Nat.le_of_ble_eq_true rfl, Nat.le_of_ble_eq_true rfl⟩ (r_ci fun r56 M56 p56 => ?_) nox
        obtain ⟨rfl, rfl⟩ := p56
        refine r_ireturn (pc := 59) rfl dX5_ask_59 ⟨_, rfl, ?_⟩
        first
          | contradiction
          | (refine oM.of ?_ (by repeat' (first | exact frM.rf | assumption | refine frM.up0 ?_ | refine frM.up ?_ (by decide) | refine frM.upL ?_ (by decide)))
             simp (decide := true) only [askS, noS, noTenS, thP, mnP, shelfP, stepS, h1, h31, not_true_eq_false, not_false_eq_true, true_and, and_true, false_and, and_false, true_or, or_true, false_or, or_false, cI_True, cI_False, if_true, if_false, sm0, sm1, sm2, sm3, sm4, sm5, sm6, sm7, sm8, sm9, sm10, sm11, sm12, sm13, sm14, sm15, sm16, sm17, sm18, sm19, sm20, sm21, sm22, sm23, sm24, sm25, su0, su1, su2, su3, su4, su5, su6, su7, su8, su9, su10, su11, su12, su13, su14, su15, su16, su17, su18, su19, su20, su21, su22, su23, su24, su25])
      · refine r_iload_n (pc := 34) dX5_ask_34 rfl ?_
        refine r_bipush (pc := 35) (v := 9) dX5_ask_35 (by decide) ?_
        refine r_icmp_gt (pc := 37) 53 dX5_ask_37 rfl (fun h37 => ?_) (fun h37 => ?_)
        · refine r_aload_n (pc := 53) dX5_ask_53 rfl ?_
          refine r_bipush (pc := 54) (v := (-6)) dX5_ask_54 (by decide) ?_
          refine r_o2 (pc := 56) (bc' := 0) (bs' := 0) (ct_X5_no hm _ (vp_in_lit rfl)) k_X5_136_5 dX5_ask_56 (MR_k hm) (Nat.le_of_ble_eq_true rfl) ⟨Nat.le_of_ble_eq_true rfl, Nat.le_of_ble_eq_true rfl⟩ ⟨Nat.le_of_ble_eq_true rfl, Nat.le_of_ble_eq_true rfl⟩ (r_ci fun r56 M56 p56 => ?_) nox
          obtain ⟨rfl, rfl⟩ := p56
          refine r_ireturn (pc := 59) rfl dX5_ask_59 ⟨_, rfl, ?_⟩
          first
            | contradiction
            | (refine oM.of ?_ (by repeat' (first | exact frM.rf | assumption | refine frM.up0 ?_ | refine frM.up ?_ (by decide) | refine frM.upL ?_ (by decide)))
               simp (decide := true) only [askS, noS, noTenS, thP, mnP, shelfP, stepS, h1, h31, h37, not_true_eq_false, not_false_eq_true, true_and, and_true, false_and, and_false, true_or, or_true, false_or, or_false, cI_True, cI_False, if_true, if_false, sm0, sm1, sm2, sm3, sm4, sm5, sm6, sm7, sm8, sm9, sm10, sm11, sm12, sm13, sm14, sm15, sm16, sm17, sm18, sm19, sm20, sm21, sm22, sm23, sm24, sm25, su0, su1, su2, su3, su4, su5, su6, su7, su8, su9, su10, su11, su12, su13, su14, su15, su16, su17, su18, su19, su20, su21, su22, su23, su24, su25])
        · refine r_aload_n (pc := 40) dX5_ask_40 rfl ?_
          refine rm_getI (pc := 41) dX5_ask_41 fl_X5_171_5 (MR_k hm) (fun _ _ => rfl) ?_
          refine r_istore3 (pc := 44) dX5_ask_44 rfl ?_
          refine r_aload_n (pc := 45) dX5_ask_45 rfl ?_
          refine r_iload_n (pc := 46) dX5_ask_46 rfl ?_
          refine rm_putI (pc := 47) dX5_ask_47 fl_X5_171_5 (MR_k hm) rfl rfl ?_
          refine r_goto (pc := 50) 60 dX5_ask_50 rfl ?_
          refine r_iload_n (pc := 60) dX5_ask_60 rfl ?_
          refine r_ireturn (pc := 61) rfl dX5_ask_61 ⟨_, rfl, ?_⟩
          first
            | contradiction
            | (refine oM.of ?_ (by repeat' (first | exact frM.rf | assumption | refine frM.up0 ?_ | refine frM.up ?_ (by decide) | refine frM.upL ?_ (by decide)))
               simp (decide := true) only [askS, noS, noTenS, thP, mnP, shelfP, stepS, h1, h31, h37, not_true_eq_false, not_false_eq_true, true_and, and_true, false_and, and_false, true_or, or_true, false_or, or_false, cI_True, cI_False, if_true, if_false, sm0, sm1, sm2, sm3, sm4, sm5, sm6, sm7, sm8, sm9, sm10, sm11, sm12, sm13, sm14, sm15, sm16, sm17, sm18, sm19, sm20, sm21, sm22, sm23, sm24, sm25, su0, su1, su2, su3, su4, su5, su6, su7, su8, su9, su10, su11, su12, su13, su14, su15, su16, su17, su18, su19, su20, su21, su22, su23, su24, su25])
  · subst h1
    refine r_aload_n (pc := 4) dX5_ask_4 rfl ?_
    refine r_iload_n (pc := 5) dX5_ask_5 rfl ?_
    refine r_o2 (pc := 6) (bc' := 0) (bs' := 0) (ct_X5_isLong hm _ hk.1) k_X5_168_5 dX5_ask_6 (MR_k hm) (Nat.le_of_ble_eq_true rfl) ⟨Nat.le_of_ble_eq_true rfl, Nat.le_of_ble_eq_true rfl⟩ ⟨Nat.le_of_ble_eq_true rfl, Nat.le_of_ble_eq_true rfl⟩ (r_ci fun r6 M6 p6 => ?_) nox
    obtain ⟨rfl, rfl⟩ := p6
    refine r_if_eq (pc := 9) 25 dX5_ask_9 rfl (fun h9 => ?_) (fun h9 => ?_)
    · rw [bI_eq0] at h9
      refine r_iload_n (pc := 25) dX5_ask_25 rfl ?_
      refine r_iconst (pc := 26) (v := 1) dX5_ask_26 (by decide) ?_
      refine r_icmp_ne (pc := 27) 53 dX5_ask_27 rfl (fun _ => ?_) (fun hno => absurd hno (by decide))
      refine r_aload_n (pc := 53) dX5_ask_53 rfl ?_
      refine r_bipush (pc := 54) (v := (-6)) dX5_ask_54 (by decide) ?_
      refine r_o2 (pc := 56) (bc' := 0) (bs' := 0) (ct_X5_no hm _ (vp_in_lit rfl)) k_X5_136_5 dX5_ask_56 (MR_k hm) (Nat.le_of_ble_eq_true rfl) ⟨Nat.le_of_ble_eq_true rfl, Nat.le_of_ble_eq_true rfl⟩ ⟨Nat.le_of_ble_eq_true rfl, Nat.le_of_ble_eq_true rfl⟩ (r_ci fun r56 M56 p56 => ?_) nox
      obtain ⟨rfl, rfl⟩ := p56
      refine r_ireturn (pc := 59) rfl dX5_ask_59 ⟨_, rfl, ?_⟩
      first
        | contradiction
        | (refine oM.of ?_ (by repeat' (first | exact frM.rf | assumption | refine frM.up0 ?_ | refine frM.up ?_ (by decide) | refine frM.upL ?_ (by decide)))
           simp (decide := true) only [askS, noS, noTenS, thP, mnP, shelfP, stepS, eq_false h9, not_true_eq_false, not_false_eq_true, true_and, and_true, false_and, and_false, true_or, or_true, false_or, or_false, cI_True, cI_False, if_true, if_false, sm0, sm1, sm2, sm3, sm4, sm5, sm6, sm7, sm8, sm9, sm10, sm11, sm12, sm13, sm14, sm15, sm16, sm17, sm18, sm19, sm20, sm21, sm22, sm23, sm24, sm25, su0, su1, su2, su3, su4, su5, su6, su7, su8, su9, su10, su11, su12, su13, su14, su15, su16, su17, su18, su19, su20, su21, su22, su23, su24, su25])
    · rw [bI_ne0] at h9
      refine r_aload_n (pc := 12) dX5_ask_12 rfl ?_
      refine rm_getI (pc := 13) dX5_ask_13 fl_X5_7_5 (MR_k hm) (fun _ _ => rfl) ?_
      refine r_istore3 (pc := 16) dX5_ask_16 rfl ?_
      refine r_aload_n (pc := 17) dX5_ask_17 rfl ?_
      refine r_iload_n (pc := 18) dX5_ask_18 rfl ?_
      refine rm_putI (pc := 19) dX5_ask_19 fl_X5_7_5 (MR_k hm) rfl rfl ?_
      refine r_goto (pc := 22) 60 dX5_ask_22 rfl ?_
      refine r_iload_n (pc := 60) dX5_ask_60 rfl ?_
      refine r_ireturn (pc := 61) rfl dX5_ask_61 ⟨_, rfl, ?_⟩
      first
        | contradiction
        | (refine oM.of ?_ (by repeat' (first | exact frM.rf | assumption | refine frM.up0 ?_ | refine frM.up ?_ (by decide) | refine frM.upL ?_ (by decide)))
           simp (decide := true) only [askS, noS, noTenS, thP, mnP, shelfP, stepS, eq_true h9, not_true_eq_false, not_false_eq_true, true_and, and_true, false_and, and_false, true_or, or_true, false_or, or_false, cI_True, cI_False, if_true, if_false, sm0, sm1, sm2, sm3, sm4, sm5, sm6, sm7, sm8, sm9, sm10, sm11, sm12, sm13, sm14, sm15, sm16, sm17, sm18, sm19, sm20, sm21, sm22, sm23, sm24, sm25, su0, su1, su2, su3, su4, su5, su6, su7, su8, su9, su10, su11, su12, su13, su14, su15, su16, su17, su18, su19, su20, su21, su22, su23, su24, su25])
theorem ct_X5_river {M0 : PM} {mo : Nat} {I : Nat → Nat → Int32} {L : Nat → Nat → Int64} (hm : MR M0 mo) (x1 : Int32) (x2 : Int32) (hk : OkS (sM I mo)) : Ct (YX5_river, (1, 23, 0, 0), qi (fun r M' => oM M0 mo I L (riverS (sS I L mo) x1 x2) r M'), noX) [.ref mo, .int x1, .int x2] (wIL M0 I L) := by
  refine ct_of [some (.ref mo), some (.int x1), some (.int x2)] rfl rfl rfl (Nat.le_of_ble_eq_true rfl) rfl rfl ?_
  refine r_aload_n (pc := 0) dX5_river_0 rfl ?_
  refine r_iload_n (pc := 1) dX5_river_1 rfl ?_
  refine r_iload_n (pc := 2) dX5_river_2 rfl ?_
  refine r_o3 (pc := 3) (bc' := 0) (bs' := 0) (ct_X5_isRiver hm _ _ hk.1) k_X5_174_5 dX5_river_3 (MR_k hm) (Nat.le_of_ble_eq_true rfl) ⟨Nat.le_of_ble_eq_true rfl, Nat.le_of_ble_eq_true rfl⟩ ⟨Nat.le_of_ble_eq_true rfl, Nat.le_of_ble_eq_true rfl⟩ (r_ci fun r3 M3 p3 => ?_) nox
  obtain ⟨rfl, rfl⟩ := p3
  refine r_if_ne (pc := 6) 16 dX5_river_6 rfl (fun h6 => ?_) (fun h6 => ?_)
  · rw [bI_ne0] at h6
    refine r_aload_n (pc := 16) dX5_river_16 rfl ?_
    refine r_iload_n (pc := 17) dX5_river_17 rfl ?_
    refine rm_putI (pc := 18) dX5_river_18 fl_X5_123_5 (MR_k hm) rfl rfl ?_
    refine r_aload_n (pc := 21) dX5_river_21 rfl ?_
    refine r_iload_n (pc := 22) dX5_river_22 rfl ?_
    refine rm_putI (pc := 23) dX5_river_23 fl_X5_126_5 (MR_k hm) rfl rfl ?_
    refine r_iconst (pc := 26) (v := 1) dX5_river_26 (by decide) ?_
    refine r_ireturn (pc := 27) rfl dX5_river_27 ⟨_, rfl, ?_⟩
    first
      | contradiction
      | (refine oM.of ?_ (by repeat' (first | exact frM.rf | assumption | refine frM.up0 ?_ | refine frM.up ?_ (by decide) | refine frM.upL ?_ (by decide)))
         simp (decide := true) only [riverS, noS, noTenS, thP, mnP, shelfP, stepS, eq_true h6, not_true_eq_false, not_false_eq_true, true_and, and_true, false_and, and_false, true_or, or_true, false_or, or_false, cI_True, cI_False, if_true, if_false, sm0, sm1, sm2, sm3, sm4, sm5, sm6, sm7, sm8, sm9, sm10, sm11, sm12, sm13, sm14, sm15, sm16, sm17, sm18, sm19, sm20, sm21, sm22, sm23, sm24, sm25, su0, su1, su2, su3, su4, su5, su6, su7, su8, su9, su10, su11, su12, su13, su14, su15, su16, su17, su18, su19, su20, su21, su22, su23, su24, su25])
  · rw [bI_eq0] at h6
    refine r_aload_n (pc := 9) dX5_river_9 rfl ?_
    refine r_bipush (pc := 10) (v := (-6)) dX5_river_10 (by decide) ?_
    refine r_o2 (pc := 12) (bc' := 0) (bs' := 0) (ct_X5_no hm _ (vp_in_lit rfl)) k_X5_136_5 dX5_river_12 (MR_k hm) (Nat.le_of_ble_eq_true rfl) ⟨Nat.le_of_ble_eq_true rfl, Nat.le_of_ble_eq_true rfl⟩ ⟨Nat.le_of_ble_eq_true rfl, Nat.le_of_ble_eq_true rfl⟩ (r_ci fun r12 M12 p12 => ?_) nox
    obtain ⟨rfl, rfl⟩ := p12
    refine r_ireturn (pc := 15) rfl dX5_river_15 ⟨_, rfl, ?_⟩
    first
      | contradiction
      | (refine oM.of ?_ (by repeat' (first | exact frM.rf | assumption | refine frM.up0 ?_ | refine frM.up ?_ (by decide) | refine frM.upL ?_ (by decide)))
         simp (decide := true) only [riverS, noS, noTenS, thP, mnP, shelfP, stepS, eq_false h6, not_true_eq_false, not_false_eq_true, true_and, and_true, false_and, and_false, true_or, or_true, false_or, or_false, cI_True, cI_False, if_true, if_false, sm0, sm1, sm2, sm3, sm4, sm5, sm6, sm7, sm8, sm9, sm10, sm11, sm12, sm13, sm14, sm15, sm16, sm17, sm18, sm19, sm20, sm21, sm22, sm23, sm24, sm25, su0, su1, su2, su3, su4, su5, su6, su7, su8, su9, su10, su11, su12, su13, su14, su15, su16, su17, su18, su19, su20, su21, su22, su23, su24, su25])
theorem va_up_comm0 {α : Type} (f : Nat → α) (k : Nat) (v : α) : va_up f k v = fun j => if j = k then v else f j := rfl
theorem ct_X5_row {M0 : PM} {mo : Nat} {I : Nat → Nat → Int32} {L : Nat → Nat → Int64} (hm : MR M0 mo) (x1 : Int32) (x2 : Int32) (x3 : Int32) (hk : OkS (sM I mo)) : Ct (YX5_row, (1, 21, 0, 0), qi (fun r M' => oM M0 mo I L (rowS (sS I L mo) x1 x2 x3) r M'), noX) [.ref mo, .int x1, .int x2, .int x3] (wIL M0 I L) := by
  refine ct_of [some (.ref mo), some (.int x1), some (.int x2), some (.int x3), none] rfl rfl rfl (Nat.le_of_ble_eq_true rfl) rfl rfl ?_
  have base : ∀ I1, frM mo I I1 L L → shelfP x1 → rowS (sS I L mo) x1 x2 x3 = (1, (sM I1 mo, fun j => if 160 * Int32.toNatClampNeg x1 ≤ j ∧ j < 160 * Int32.toNatClampNeg x1 + 160 then 0 else L (mo + 17) j)) → Wx (YX5_row, (1, 21, 0, 0), qi (fun r M' => oM M0 mo I L (rowS (sS I L mo) x1 x2 x3) r M'), noX) 0 0 (wIL M0 I1 L) 76 [some (.ref mo), some (.int x1), some (.int x2), some (.int x3), none] [] := by
    intro I1 f1 hs hw
    have hx := vp_sh hs
    have L1 : ∀ (n j : Nat), j ≤ 160 → 160 < j + n → ∀ L1, (∀ a, (a < mo ∨ mo + 33 ≤ a) → L1 a = L a) → L1 (mo + 17) = (fun k => if 160 * Int32.toNatClampNeg x1 ≤ k ∧ k < 160 * Int32.toNatClampNeg x1 + j then 0 else L (mo + 17) k) → Wx (YX5_row, (1, 21, 0, 0), qi (fun r M' => oM M0 mo I L (rowS (sS I L mo) x1 x2 x3) r M'), noX) 0 0 (wIL M0 I1 L1) 79 [some (.ref mo), some (.int x1), some (.int x2), some (.int x3), some (.int (nI j))] [] := by
      intro n
      induction n with
      | zero => intro j g1 g2; omega
      | succ n ih =>
        intro j g1 g2
        intro L1 f2 eL
        refine r_iload (pc := 79) dX5_row_79 rfl ?_
        refine r_sipush (pc := 81) (v := 160) dX5_row_81 (by decide) ?_
        refine r_icmp_ge (pc := 84) 107 dX5_row_84 rfl (fun h84 => ?_) (fun h84 => ?_)
        · rw [show (160 : Int32) = nI 160 from rfl, nI_ltI (by omega) (by omega)] at h84
          refine r_iconst (pc := 107) (v := 1) dX5_row_107 (by decide) ?_
          refine r_ireturn (pc := 108) rfl dX5_row_108 ⟨_, rfl, ?_⟩
          refine oM.of ?_ (fun a ha => ⟨(f1 a ha).1, f2 a ha⟩)
          rw [hw, eL, show j = 160 by omega]
        · rw [show (160 : Int32) = nI 160 from rfl, nI_ltI (by omega) (by omega)] at h84
          have hc := cix hx (vp_in_nI (n := j) (N := 160) (by omega) (by decide))
          refine r_aload_n (pc := 87) dX5_row_87 rfl ?_
          refine r_getR (pc := 88) dX5_row_88 fl_X5_68_5 (MR_k hm) (fun _ _ => rfl) (MR_r26 hm) ?_
          refine r_sipush (pc := 91) (v := 160) dX5_row_91 (by decide) ?_
          refine r_iload_n (pc := 94) dX5_row_94 rfl ?_
          refine r_imul (pc := 95) dX5_row_95 ?_
          refine r_iload (pc := 96) dX5_row_96 rfl ?_
          refine r_iadd (pc := 98) dX5_row_98 ?_
          refine r_lconst (pc := 99) (v := 0) dX5_row_99 (by decide) ?_
          refine rm_last (pc := 100) dX5_row_100 (MR_k26 hm) (MR_z26 hm) hc.1 ?_
          refine r_iinc4 (pc := 101) dX5_row_101 (nI_1 _) rfl ?_
          refine r_goto (pc := 104) 79 dX5_row_104 rfl ?_
          refine ih (j + 1) (by omega) (by omega) _ (fun a ha => (up2_ne (by omega)).trans (f2 a ha)) ?_
          rw [up2_self, eL]
          funext k
          rw [hc.2, ix_nI (by omega)]
          simp only [va_up]
          by_cases e : k = 160 * Int32.toNatClampNeg x1 + j
          · rw [if_pos e, if_pos (by omega)]
          · rw [if_neg e]
            by_cases g : 160 * Int32.toNatClampNeg x1 ≤ k ∧ k < 160 * Int32.toNatClampNeg x1 + j
            · rw [if_pos g, if_pos (by omega)]
            · rw [if_neg g, if_neg (by omega)]
    refine r_iconst (pc := 76) (v := 0) dX5_row_76 (by decide) ?_
    refine r_istore4 (pc := 77) dX5_row_77 rfl ?_
    refine L1 161 0 (by omega) (by omega) L (fun _ _ => rfl) ?_
    funext k
    rw [if_neg (by omega)]
  refine r_aload_n (pc := 0) dX5_row_0 rfl ?_
  refine r_iload_n (pc := 1) dX5_row_1 rfl ?_
  refine r_o2 (pc := 2) (bc' := 0) (bs' := 0) (ct_X5_isShelf hm _) k_X5_133_5 dX5_row_2 (MR_k hm) (Nat.le_of_ble_eq_true rfl) ⟨Nat.le_of_ble_eq_true rfl, Nat.le_of_ble_eq_true rfl⟩ ⟨Nat.le_of_ble_eq_true rfl, Nat.le_of_ble_eq_true rfl⟩ (r_ci fun r2 M2 p2 => ?_) nox
  obtain ⟨rfl, rfl⟩ := p2
  refine r_if_ne (pc := 5) 14 dX5_row_5 rfl (fun h5 => ?_) (fun h5 => ?_)
  · rw [bI_ne0] at h5
    have hx := vp_sh h5
    refine r_iload_n (pc := 14) dX5_row_14 rfl ?_
    refine r_if_ge (pc := 15) 25 dX5_row_15 rfl (fun h15 => ?_) (fun h15 => ?_)
    · refine r_iload_n (pc := 25) dX5_row_25 rfl ?_
      refine r_if_lt (pc := 26) 34 dX5_row_26 rfl (fun h26 => ?_) (fun h26 => ?_)
      · refine r_aload_n (pc := 34) dX5_row_34 rfl ?_
        refine r_bipush (pc := 35) (v := (-6)) dX5_row_35 (by decide) ?_
        refine r_o2 (pc := 37) (bc' := 0) (bs' := 0) (ct_X5_no hm _ (vp_in_lit rfl)) k_X5_136_5 dX5_row_37 (MR_k hm) (Nat.le_of_ble_eq_true rfl) ⟨Nat.le_of_ble_eq_true rfl, Nat.le_of_ble_eq_true rfl⟩ ⟨Nat.le_of_ble_eq_true rfl, Nat.le_of_ble_eq_true rfl⟩ (r_ci fun r37 M37 p37 => ?_) nox
        obtain ⟨rfl, rfl⟩ := p37
        refine r_ireturn (pc := 40) rfl dX5_row_40 ⟨_, rfl, ?_⟩
        first
          | contradiction
          | (refine oM.of ?_ (by repeat' (first | exact frM.rf | assumption | refine frM.up0 ?_ | refine frM.up ?_ (by decide) | refine frM.upL ?_ (by decide)))
             simp (decide := true) only [rowS, noS, noTenS, thP, mnP, shelfP, stepS, eq_true h5, h15, h26, not_true_eq_false, not_false_eq_true, true_and, and_true, false_and, and_false, true_or, or_true, false_or, or_false, cI_True, cI_False, if_true, if_false, sm0, sm1, sm2, sm3, sm4, sm5, sm6, sm7, sm8, sm9, sm10, sm11, sm12, sm13, sm14, sm15, sm16, sm17, sm18, sm19, sm20, sm21, sm22, sm23, sm24, sm25, su0, su1, su2, su3, su4, su5, su6, su7, su8, su9, su10, su11, su12, su13, su14, su15, su16, su17, su18, su19, su20, su21, su22, su23, su24, su25])
      · refine r_iload_n (pc := 29) dX5_row_29 rfl ?_
        refine r_iconst (pc := 30) (v := 3) dX5_row_30 (by decide) ?_
        refine r_icmp_le (pc := 31) 41 dX5_row_31 rfl (fun h31 => ?_) (fun h31 => ?_)
        · refine r_iload_n (pc := 41) dX5_row_41 rfl ?_
          refine r_sipush (pc := 42) (v := 160) dX5_row_42 (by decide) ?_
          refine r_icmp_le (pc := 45) 55 dX5_row_45 rfl (fun h45 => ?_) (fun h45 => ?_)
          · refine r_aload_n (pc := 55) dX5_row_55 rfl ?_
            refine r_getR (pc := 56) dX5_row_56 fl_X5_56_5 (MR_k hm) (fun _ _ => rfl) (MR_r22 hm) ?_
            refine r_iload_n (pc := 59) dX5_row_59 rfl ?_
            refine r_iconst (pc := 60) (v := 1) dX5_row_60 (by decide) ?_
            refine rm_iast (pc := 61) dX5_row_61 (MR_k22 hm) (MR_z22 hm) (by first | assumption | exact vp_in_lit rfl) ?_
            refine r_aload_n (pc := 62) dX5_row_62 rfl ?_
            refine r_getR (pc := 63) dX5_row_63 fl_X5_59_5 (MR_k hm) (fun _ _ => rfl) (MR_r23 hm) ?_
            refine r_iload_n (pc := 66) dX5_row_66 rfl ?_
            refine r_iload_n (pc := 67) dX5_row_67 rfl ?_
            refine rm_iast (pc := 68) dX5_row_68 (MR_k23 hm) (MR_z23 hm) (by first | assumption | exact vp_in_lit rfl) ?_
            refine r_aload_n (pc := 69) dX5_row_69 rfl ?_
            refine r_getR (pc := 70) dX5_row_70 fl_X5_62_5 (MR_k hm) (fun _ _ => rfl) (MR_r24 hm) ?_
            refine r_iload_n (pc := 73) dX5_row_73 rfl ?_
            refine r_iload_n (pc := 74) dX5_row_74 rfl ?_
            refine rm_iast (pc := 75) dX5_row_75 (MR_k24 hm) (MR_z24 hm) (by first | assumption | exact vp_in_lit rfl) ?_
            refine base _ (by repeat' (first | exact frM.rf | assumption | refine frM.up0 ?_ | refine frM.up ?_ (by decide) | refine frM.upL ?_ (by decide))) h5 ?_
            simp (decide := true) only [rowS, noS, noTenS, thP, mnP, shelfP, stepS, eq_true h5, h15, h26, h31, h45, not_true_eq_false, not_false_eq_true, true_and, and_true, false_and, and_false, true_or, or_true, false_or, or_false, cI_True, cI_False, if_true, if_false, sm0, sm1, sm2, sm3, sm4, sm5, sm6, sm7, sm8, sm9, sm10, sm11, sm12, sm13, sm14, sm15, sm16, sm17, sm18, sm19, sm20, sm21, sm22, sm23, sm24, sm25, su0, su1, su2, su3, su4, su5, su6, su7, su8, su9, su10, su11, su12, su13, su14, su15, su16, su17, su18, su19, su20, su21, su22, su23, su24, su25]
          · refine r_aload_n (pc := 48) dX5_row_48 rfl ?_
            refine r_bipush (pc := 49) (v := (-7)) dX5_row_49 (by decide) ?_
            refine r_o2 (pc := 51) (bc' := 0) (bs' := 0) (ct_X5_no hm _ (vp_in_lit rfl)) k_X5_136_5 dX5_row_51 (MR_k hm) (Nat.le_of_ble_eq_true rfl) ⟨Nat.le_of_ble_eq_true rfl, Nat.le_of_ble_eq_true rfl⟩ ⟨Nat.le_of_ble_eq_true rfl, Nat.le_of_ble_eq_true rfl⟩ (r_ci fun r51 M51 p51 => ?_) nox
            obtain ⟨rfl, rfl⟩ := p51
            refine r_ireturn (pc := 54) rfl dX5_row_54 ⟨_, rfl, ?_⟩
            first
              | contradiction
              | (refine oM.of ?_ (by repeat' (first | exact frM.rf | assumption | refine frM.up0 ?_ | refine frM.up ?_ (by decide) | refine frM.upL ?_ (by decide)))
                 simp (decide := true) only [rowS, noS, noTenS, thP, mnP, shelfP, stepS, eq_true h5, h15, h26, h31, h45, not_true_eq_false, not_false_eq_true, true_and, and_true, false_and, and_false, true_or, or_true, false_or, or_false, cI_True, cI_False, if_true, if_false, sm0, sm1, sm2, sm3, sm4, sm5, sm6, sm7, sm8, sm9, sm10, sm11, sm12, sm13, sm14, sm15, sm16, sm17, sm18, sm19, sm20, sm21, sm22, sm23, sm24, sm25, su0, su1, su2, su3, su4, su5, su6, su7, su8, su9, su10, su11, su12, su13, su14, su15, su16, su17, su18, su19, su20, su21, su22, su23, su24, su25])
        · refine r_aload_n (pc := 34) dX5_row_34 rfl ?_
          refine r_bipush (pc := 35) (v := (-6)) dX5_row_35 (by decide) ?_
          refine r_o2 (pc := 37) (bc' := 0) (bs' := 0) (ct_X5_no hm _ (vp_in_lit rfl)) k_X5_136_5 dX5_row_37 (MR_k hm) (Nat.le_of_ble_eq_true rfl) ⟨Nat.le_of_ble_eq_true rfl, Nat.le_of_ble_eq_true rfl⟩ ⟨Nat.le_of_ble_eq_true rfl, Nat.le_of_ble_eq_true rfl⟩ (r_ci fun r37 M37 p37 => ?_) nox
          obtain ⟨rfl, rfl⟩ := p37
          refine r_ireturn (pc := 40) rfl dX5_row_40 ⟨_, rfl, ?_⟩
          first
            | contradiction
            | (refine oM.of ?_ (by repeat' (first | exact frM.rf | assumption | refine frM.up0 ?_ | refine frM.up ?_ (by decide) | refine frM.upL ?_ (by decide)))
               simp (decide := true) only [rowS, noS, noTenS, thP, mnP, shelfP, stepS, eq_true h5, h15, h26, h31, not_true_eq_false, not_false_eq_true, true_and, and_true, false_and, and_false, true_or, or_true, false_or, or_false, cI_True, cI_False, if_true, if_false, sm0, sm1, sm2, sm3, sm4, sm5, sm6, sm7, sm8, sm9, sm10, sm11, sm12, sm13, sm14, sm15, sm16, sm17, sm18, sm19, sm20, sm21, sm22, sm23, sm24, sm25, su0, su1, su2, su3, su4, su5, su6, su7, su8, su9, su10, su11, su12, su13, su14, su15, su16, su17, su18, su19, su20, su21, su22, su23, su24, su25])
    · refine r_aload_n (pc := 18) dX5_row_18 rfl ?_
      refine r_bipush (pc := 19) (v := (-4)) dX5_row_19 (by decide) ?_
      refine r_o2 (pc := 21) (bc' := 0) (bs' := 0) (ct_X5_no hm _ (vp_in_lit rfl)) k_X5_136_5 dX5_row_21 (MR_k hm) (Nat.le_of_ble_eq_true rfl) ⟨Nat.le_of_ble_eq_true rfl, Nat.le_of_ble_eq_true rfl⟩ ⟨Nat.le_of_ble_eq_true rfl, Nat.le_of_ble_eq_true rfl⟩ (r_ci fun r21 M21 p21 => ?_) nox
      obtain ⟨rfl, rfl⟩ := p21
      refine r_ireturn (pc := 24) rfl dX5_row_24 ⟨_, rfl, ?_⟩
      first
        | contradiction
        | (refine oM.of ?_ (by repeat' (first | exact frM.rf | assumption | refine frM.up0 ?_ | refine frM.up ?_ (by decide) | refine frM.upL ?_ (by decide)))
           simp (decide := true) only [rowS, noS, noTenS, thP, mnP, shelfP, stepS, eq_true h5, h15, not_true_eq_false, not_false_eq_true, true_and, and_true, false_and, and_false, true_or, or_true, false_or, or_false, cI_True, cI_False, if_true, if_false, sm0, sm1, sm2, sm3, sm4, sm5, sm6, sm7, sm8, sm9, sm10, sm11, sm12, sm13, sm14, sm15, sm16, sm17, sm18, sm19, sm20, sm21, sm22, sm23, sm24, sm25, su0, su1, su2, su3, su4, su5, su6, su7, su8, su9, su10, su11, su12, su13, su14, su15, su16, su17, su18, su19, su20, su21, su22, su23, su24, su25])
  · rw [bI_eq0] at h5
    refine r_aload_n (pc := 8) dX5_row_8 rfl ?_
    refine r_iconst (pc := 9) (v := (-1)) dX5_row_9 (by decide) ?_
    refine r_o2 (pc := 10) (bc' := 0) (bs' := 0) (ct_X5_no hm _ (vp_in_lit rfl)) k_X5_136_5 dX5_row_10 (MR_k hm) (Nat.le_of_ble_eq_true rfl) ⟨Nat.le_of_ble_eq_true rfl, Nat.le_of_ble_eq_true rfl⟩ ⟨Nat.le_of_ble_eq_true rfl, Nat.le_of_ble_eq_true rfl⟩ (r_ci fun r10 M10 p10 => ?_) nox
    obtain ⟨rfl, rfl⟩ := p10
    refine r_ireturn (pc := 13) rfl dX5_row_13 ⟨_, rfl, ?_⟩
    first
      | contradiction
      | (refine oM.of ?_ (by repeat' (first | exact frM.rf | assumption | refine frM.up0 ?_ | refine frM.up ?_ (by decide) | refine frM.upL ?_ (by decide)))
         simp (decide := true) only [rowS, noS, noTenS, thP, mnP, shelfP, stepS, eq_false h5, not_true_eq_false, not_false_eq_true, true_and, and_true, false_and, and_false, true_or, or_true, false_or, or_false, cI_True, cI_False, if_true, if_false, sm0, sm1, sm2, sm3, sm4, sm5, sm6, sm7, sm8, sm9, sm10, sm11, sm12, sm13, sm14, sm15, sm16, sm17, sm18, sm19, sm20, sm21, sm22, sm23, sm24, sm25, su0, su1, su2, su3, su4, su5, su6, su7, su8, su9, su10, su11, su12, su13, su14, su15, su16, su17, su18, su19, su20, su21, su22, su23, su24, su25])
