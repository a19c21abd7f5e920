/-! THE MODEL's calls, throws and acts (printed by gen/model5.py) -/
set_option maxRecDepth 100000
theorem ct_X5_seed {M0 : PM} {mo : Nat} {I : Nat → Nat → Int32} {L : Nat → Nat → Int64} (hm : MR M0 mo) (x1 : Int32) (hk : OkS (sM I mo)) : Ct (YX5_seed, (0, 0, 0, 0), qi (fun r M' => oM M0 mo I L (seedS (sS I L mo) x1) r M'), noX) [.ref mo, .int x1] (wIL M0 I L) := by
  refine ct_of [some (.ref mo), some (.int x1), none] rfl rfl rfl (Nat.le_of_ble_eq_true rfl) rfl rfl ?_
  refine r_aload_n (pc := 0) dX5_seed_0 rfl ?_
  refine rm_getI (pc := 1) dX5_seed_1 fl_X5_13_5 (MR_k hm) (fun _ _ => rfl) ?_
  refine r_istore2 (pc := 4) dX5_seed_4 rfl ?_
  refine r_aload_n (pc := 5) dX5_seed_5 rfl ?_
  refine r_iload_n (pc := 6) dX5_seed_6 rfl ?_
  refine rm_putI (pc := 7) dX5_seed_7 fl_X5_13_5 (MR_k hm) rfl rfl ?_
  refine r_iload_n (pc := 10) dX5_seed_10 rfl ?_
  refine r_ireturn (pc := 11) rfl dX5_seed_11 ⟨_, rfl, ?_⟩
  first
    | contradiction
    | (refine oM.of ?_ (by repeat' (first | exact frM.rf | assumption | refine frM.up0 ?_ | refine frM.up ?_ (by decide) | refine frM.upL ?_ (by decide)))
       simp (decide := true) only [seedS, noS, noTenS, thP, mnP, shelfP, stepS, farP, not_true_eq_false, not_false_eq_true, true_and, and_true, false_and, and_false, true_or, or_true, false_or, or_false, cI_True, cI_False, if_true, if_false, sm0, sm1, sm2, sm3, sm4, sm5, sm6, sm7, sm8, sm9, sm10, sm11, sm12, sm13, sm14, sm15, sm16, sm17, sm18, sm19, sm20, sm21, sm22, sm23, sm24, sm25, sm26, sm27, sm28, sm29, sm30, sm31, sm32, sm33, sm34, sm35, sm36, sm37, sm38, sm39, sm40, sm41, sm42, sm43, sm44, sm45, sm46, sm47, sm48, sm49, su0, su1, su2, su3, su4, su5, su6, su7, su8, su9, su10, su11, su12, su13, su14, su15, su16, su17, su18, su19, su20, su21, su22, su23, su24, su25, su26, su27, su28, su29, su30, su31, su32, su33, su34, su35, su36, su37, su38, su39, su40, su41, su42, su43, su44, su45, su46, su47, su48, su49])
theorem ct_X5_trace {M0 : PM} {mo : Nat} {I : Nat → Nat → Int32} {L : Nat → Nat → Int64} (hm : MR M0 mo) (x1 : Int32) (hk : OkS (sM I mo)) : Ct (YX5_trace, (0, 0, 0, 0), qi (fun r M' => r = traceS (sS I L mo) x1 ∧ M' = wIL M0 I L), noX) [.ref mo, .int x1] (wIL M0 I L) := by
  refine ct_of [some (.ref mo), some (.int x1)] rfl rfl rfl (Nat.le_of_ble_eq_true rfl) rfl rfl ?_
  refine r_iload_n (pc := 0) dX5_trace_0 rfl ?_
  refine r_if_lt (pc := 1) 27 dX5_trace_1 rfl (fun h1 => ?_) (fun h1 => ?_)
  · refine r_iconst (pc := 27) (v := (-1)) dX5_trace_27 (by decide) ?_
    refine r_ireturn (pc := 28) rfl dX5_trace_28 ⟨_, rfl, ?_⟩
    first
      | contradiction
      | (refine ⟨?_, rfl⟩
         simp (decide := true) only [traceS, thP, mnP, shelfP, h1, not_true_eq_false, not_false_eq_true, true_and, and_true, false_and, and_false, true_or, or_true, false_or, or_false, cI_True, cI_False, if_true, if_false, sm0, sm1, sm2, sm3, sm4, sm5, sm6, sm7, sm8, sm9, sm10, sm11, sm12, sm13, sm14, sm15, sm16, sm17, sm18, sm19, sm20, sm21, sm22, sm23, sm24, sm25, sm26, sm27, sm28, sm29, sm30, sm31, sm32, sm33, sm34, sm35, sm36, sm37, sm38, sm39, sm40, sm41, sm42, sm43, sm44, sm45, sm46, sm47, sm48, sm49])
  · refine r_iload_n (pc := 4) dX5_trace_4 rfl ?_
    refine r_bipush (pc := 5) (v := 20) dX5_trace_5 (by decide) ?_
    refine r_icmp_ge (pc := 7) 27 dX5_trace_7 rfl (fun h7 => ?_) (fun h7 => ?_)
    · refine r_iconst (pc := 27) (v := (-1)) dX5_trace_27 (by decide) ?_
      refine r_ireturn (pc := 28) rfl dX5_trace_28 ⟨_, rfl, ?_⟩
      first
        | contradiction
        | (refine ⟨?_, rfl⟩
           simp (decide := true) only [traceS, thP, mnP, shelfP, h1, h7, not_true_eq_false, not_false_eq_true, true_and, and_true, false_and, and_false, true_or, or_true, false_or, or_false, cI_True, cI_False, if_true, if_false, sm0, sm1, sm2, sm3, sm4, sm5, sm6, sm7, sm8, sm9, sm10, sm11, sm12, sm13, sm14, sm15, sm16, sm17, sm18, sm19, sm20, sm21, sm22, sm23, sm24, sm25, sm26, sm27, sm28, sm29, sm30, sm31, sm32, sm33, sm34, sm35, sm36, sm37, sm38, sm39, sm40, sm41, sm42, sm43, sm44, sm45, sm46, sm47, sm48, sm49])
    · have hx : vp_in x1 20 := vp_b h1 h7 (by decide)
      refine r_iload_n (pc := 10) dX5_trace_10 rfl ?_
      refine r_aload_n (pc := 11) dX5_trace_11 rfl ?_
      refine rm_getI (pc := 12) dX5_trace_12 fl_X5_304_5 (MR_k hm) (fun _ _ => rfl) ?_
      refine r_icmp_ge (pc := 15) 27 dX5_trace_15 rfl (fun h15 => ?_) (fun h15 => ?_)
      · refine r_iconst (pc := 27) (v := (-1)) dX5_trace_27 (by decide) ?_
        refine r_ireturn (pc := 28) rfl dX5_trace_28 ⟨_, rfl, ?_⟩
        first
          | contradiction
          | (refine ⟨?_, rfl⟩
             simp (decide := true) only [traceS, thP, mnP, shelfP, h1, h7, h15, not_true_eq_false, not_false_eq_true, true_and, and_true, false_and, and_false, true_or, or_true, false_or, or_false, cI_True, cI_False, if_true, if_false, sm0, sm1, sm2, sm3, sm4, sm5, sm6, sm7, sm8, sm9, sm10, sm11, sm12, sm13, sm14, sm15, sm16, sm17, sm18, sm19, sm20, sm21, sm22, sm23, sm24, sm25, sm26, sm27, sm28, sm29, sm30, sm31, sm32, sm33, sm34, sm35, sm36, sm37, sm38, sm39, sm40, sm41, sm42, sm43, sm44, sm45, sm46, sm47, sm48, sm49])
      · refine r_aload_n (pc := 18) dX5_trace_18 rfl ?_
        refine r_getR (pc := 19) dX5_trace_19 fl_X5_114_5 (MR_k hm) (fun _ _ => rfl) (MR_r47 hm) ?_
        refine r_iload_n (pc := 22) dX5_trace_22 rfl ?_
        refine rm_iald (pc := 23) dX5_trace_23 (MR_k47 hm) (MR_z47 hm) (by first | assumption | exact vp_in_lit rfl) ?_
        refine r_goto (pc := 24) 28 dX5_trace_24 rfl ?_
        refine r_ireturn (pc := 28) rfl dX5_trace_28 ⟨_, rfl, ?_⟩
        first
          | contradiction
          | (refine ⟨?_, rfl⟩
             simp (decide := true) only [traceS, thP, mnP, shelfP, h1, h7, h15, not_true_eq_false, not_false_eq_true, true_and, and_true, false_and, and_false, true_or, or_true, false_or, or_false, cI_True, cI_False, if_true, if_false, sm0, sm1, sm2, sm3, sm4, sm5, sm6, sm7, sm8, sm9, sm10, sm11, sm12, sm13, sm14, sm15, sm16, sm17, sm18, sm19, sm20, sm21, sm22, sm23, sm24, sm25, sm26, sm27, sm28, sm29, sm30, sm31, sm32, sm33, sm34, sm35, sm36, sm37, sm38, sm39, sm40, sm41, sm42, sm43, sm44, sm45, sm46, sm47, sm48, sm49])
theorem ct_X5_caught {M0 : PM} {mo : Nat} {I : Nat → Nat → Int32} {L : Nat → Nat → Int64} (hm : MR M0 mo) (x1 : Int32) (x2 : Int32) (x3 : Int32) (hk : OkS (sM I mo)) : Ct (YX5_caught, (4, 93, 0, 0), qi (fun r M' => oM M0 mo I L (caughtS (sS I L mo) x1 x2 x3) r M'), noX) [.ref mo, .int x1, .int x2, .int x3] (wIL M0 I L) := by
  refine ct_of [some (.ref mo), some (.int x1), some (.int x2), some (.int x3)] rfl rfl rfl (Nat.le_of_ble_eq_true rfl) rfl rfl ?_
  refine r_aload_n (pc := 0) dX5_caught_0 rfl ?_
  refine r_iload_n (pc := 1) dX5_caught_1 rfl ?_
  refine r_o2 (pc := 2) (bc' := 0) (bs' := 0) (ct_X5_isMan hm _) k_X5_178_5 dX5_caught_2 (MR_k hm) (Nat.le_of_ble_eq_true rfl) ⟨Nat.le_of_ble_eq_true rfl, Nat.le_of_ble_eq_true rfl⟩ ⟨Nat.le_of_ble_eq_true rfl, Nat.le_of_ble_eq_true rfl⟩ (r_ci fun r2 M2 p2 => ?_) nox
  obtain ⟨rfl, rfl⟩ := p2
  refine r_if_eq (pc := 5) 16 dX5_caught_5 rfl (fun h5 => ?_) (fun h5 => ?_)
  · rw [bI_eq0] at h5
    refine r_aload_n (pc := 16) dX5_caught_16 rfl ?_
    refine r_iconst (pc := 17) (v := (-1)) dX5_caught_17 (by decide) ?_
    refine r_o2 (pc := 18) (bc' := 0) (bs' := 0) (ct_X5_no hm _ (vp_in_lit rfl)) k_X5_136_5 dX5_caught_18 (MR_k hm) (Nat.le_of_ble_eq_true rfl) ⟨Nat.le_of_ble_eq_true rfl, Nat.le_of_ble_eq_true rfl⟩ ⟨Nat.le_of_ble_eq_true rfl, Nat.le_of_ble_eq_true rfl⟩ (r_ci fun r18 M18 p18 => ?_) nox
    obtain ⟨rfl, rfl⟩ := p18
    refine r_ireturn (pc := 21) rfl dX5_caught_21 ⟨_, rfl, ?_⟩
    first
      | contradiction
      | (refine oM.of ?_ (by repeat' (first | exact frM.rf | assumption | refine frM.up0 ?_ | refine frM.up ?_ (by decide) | refine frM.upL ?_ (by decide)))
         simp (decide := true) only [caughtS, noS, noTenS, thP, mnP, shelfP, stepS, farP, farS, farBS, eq_false h5, not_true_eq_false, not_false_eq_true, true_and, and_true, false_and, and_false, true_or, or_true, false_or, or_false, cI_True, cI_False, if_true, if_false, sm0, sm1, sm2, sm3, sm4, sm5, sm6, sm7, sm8, sm9, sm10, sm11, sm12, sm13, sm14, sm15, sm16, sm17, sm18, sm19, sm20, sm21, sm22, sm23, sm24, sm25, sm26, sm27, sm28, sm29, sm30, sm31, sm32, sm33, sm34, sm35, sm36, sm37, sm38, sm39, sm40, sm41, sm42, sm43, sm44, sm45, sm46, sm47, sm48, sm49, su0, su1, su2, su3, su4, su5, su6, su7, su8, su9, su10, su11, su12, su13, su14, su15, su16, su17, su18, su19, su20, su21, su22, su23, su24, su25, su26, su27, su28, su29, su30, su31, su32, su33, su34, su35, su36, su37, su38, su39, su40, su41, su42, su43, su44, su45, su46, su47, su48, su49])
  · rw [bI_ne0] at h5
    have hn := vp_b (n := 8) h5.1 h5.2 hk.1.1.2.1.2
    refine r_aload_n (pc := 8) dX5_caught_8 rfl ?_
    refine r_iload_n (pc := 9) dX5_caught_9 rfl ?_
    refine r_o2 (pc := 10) (bc' := 0) (bs' := 0) (ct_X5_isThing hm _) k_X5_140_5 dX5_caught_10 (MR_k hm) (Nat.le_of_ble_eq_true rfl) ⟨Nat.le_of_ble_eq_true rfl, Nat.le_of_ble_eq_true rfl⟩ ⟨Nat.le_of_ble_eq_true rfl, Nat.le_of_ble_eq_true rfl⟩ (r_ci fun r10 M10 p10 => ?_) nox
    obtain ⟨rfl, rfl⟩ := p10
    refine r_if_ne (pc := 13) 22 dX5_caught_13 rfl (fun h13 => ?_) (fun h13 => ?_)
    · rw [bI_ne0] at h13
      have ht := vp_b (n := 8) h13.1 h13.2 hk.1.1.1.2
      have hd := hk.1.far (ix_lt h13.1 h13.2)
      refine r_aload_n (pc := 22) dX5_caught_22 rfl ?_
      refine r_iload_n (pc := 23) dX5_caught_23 rfl ?_
      refine r_o2 (pc := 24) (bc' := 0) (bs' := 0) (ct_X5_isFar hm _) k_X5_287_5 dX5_caught_24 (MR_k hm) (Nat.le_of_ble_eq_true rfl) ⟨Nat.le_of_ble_eq_true rfl, Nat.le_of_ble_eq_true rfl⟩ ⟨Nat.le_of_ble_eq_true rfl, Nat.le_of_ble_eq_true rfl⟩ (r_ci fun r24 M24 p24 => ?_) nox
      obtain ⟨rfl, rfl⟩ := p24
      refine r_if_eq (pc := 27) 40 dX5_caught_27 rfl (fun h27 => ?_) (fun h27 => ?_)
      · rw [bI_eq0] at h27
        refine r_aload_n (pc := 40) dX5_caught_40 rfl ?_
        refine r_bipush (pc := 41) (v := (-6)) dX5_caught_41 (by decide) ?_
        refine r_o2 (pc := 43) (bc' := 0) (bs' := 0) (ct_X5_no hm _ (vp_in_lit rfl)) k_X5_136_5 dX5_caught_43 (MR_k hm) (Nat.le_of_ble_eq_true rfl) ⟨Nat.le_of_ble_eq_true rfl, Nat.le_of_ble_eq_true rfl⟩ ⟨Nat.le_of_ble_eq_true rfl, Nat.le_of_ble_eq_true rfl⟩ (r_ci fun r43 M43 p43 => ?_) nox
        obtain ⟨rfl, rfl⟩ := p43
        refine r_ireturn (pc := 46) rfl dX5_caught_46 ⟨_, rfl, ?_⟩
        first
          | contradiction
          | (refine oM.of ?_ (by repeat' (first | exact frM.rf | assumption | refine frM.up0 ?_ | refine frM.up ?_ (by decide) | refine frM.upL ?_ (by decide)))
             simp (decide := true) only [caughtS, noS, noTenS, thP, mnP, shelfP, stepS, farP, farS, farBS, eq_true h5, eq_true h13, eq_false h27, not_true_eq_false, not_false_eq_true, true_and, and_true, false_and, and_false, true_or, or_true, false_or, or_false, cI_True, cI_False, if_true, if_false, sm0, sm1, sm2, sm3, sm4, sm5, sm6, sm7, sm8, sm9, sm10, sm11, sm12, sm13, sm14, sm15, sm16, sm17, sm18, sm19, sm20, sm21, sm22, sm23, sm24, sm25, sm26, sm27, sm28, sm29, sm30, sm31, sm32, sm33, sm34, sm35, sm36, sm37, sm38, sm39, sm40, sm41, sm42, sm43, sm44, sm45, sm46, sm47, sm48, sm49, su0, su1, su2, su3, su4, su5, su6, su7, su8, su9, su10, su11, su12, su13, su14, su15, su16, su17, su18, su19, su20, su21, su22, su23, su24, su25, su26, su27, su28, su29, su30, su31, su32, su33, su34, su35, su36, su37, su38, su39, su40, su41, su42, su43, su44, su45, su46, su47, su48, su49])
      · rw [bI_ne0] at h27
        refine r_aload_n (pc := 30) dX5_caught_30 rfl ?_
        refine r_iload_n (pc := 31) dX5_caught_31 rfl ?_
        refine r_iload_n (pc := 32) dX5_caught_32 rfl ?_
        refine r_iload_n (pc := 33) dX5_caught_33 rfl ?_
        refine r_o4 (pc := 34) (bc' := 0) (bs' := 0) (ct_X5_caughtBy hm _ _ _ hn ht hd.1 hd.2) k_X5_290_5 dX5_caught_34 (MR_k hm) (Nat.le_of_ble_eq_true rfl) ⟨Nat.le_of_ble_eq_true rfl, Nat.le_of_ble_eq_true rfl⟩ ⟨Nat.le_of_ble_eq_true rfl, Nat.le_of_ble_eq_true rfl⟩ (r_ci fun r34 M34 p34 => ?_) nox
        obtain ⟨rfl, rfl⟩ := p34
        refine r_goto (pc := 37) 46 dX5_caught_37 rfl ?_
        refine r_ireturn (pc := 46) rfl dX5_caught_46 ⟨_, rfl, ?_⟩
        first
          | contradiction
          | (refine oM.of ?_ (by repeat' (first | exact frM.rf | assumption | refine frM.up0 ?_ | refine frM.up ?_ (by decide) | refine frM.upL ?_ (by decide)))
             simp (decide := true) only [caughtS, noS, noTenS, thP, mnP, shelfP, stepS, farP, farS, farBS, eq_true h5, eq_true h13, eq_true h27, not_true_eq_false, not_false_eq_true, true_and, and_true, false_and, and_false, true_or, or_true, false_or, or_false, cI_True, cI_False, if_true, if_false, sm0, sm1, sm2, sm3, sm4, sm5, sm6, sm7, sm8, sm9, sm10, sm11, sm12, sm13, sm14, sm15, sm16, sm17, sm18, sm19, sm20, sm21, sm22, sm23, sm24, sm25, sm26, sm27, sm28, sm29, sm30, sm31, sm32, sm33, sm34, sm35, sm36, sm37, sm38, sm39, sm40, sm41, sm42, sm43, sm44, sm45, sm46, sm47, sm48, sm49, su0, su1, su2, su3, su4, su5, su6, su7, su8, su9, su10, su11, su12, su13, su14, su15, su16, su17, su18, su19, su20, su21, su22, su23, su24, su25, su26, su27, su28, su29, su30, su31, su32, su33, su34, su35, su36, su37, su38, su39, su40, su41, su42, su43, su44, su45, su46, su47, su48, su49])
    · rw [bI_eq0] at h13
      refine r_aload_n (pc := 16) dX5_caught_16 rfl ?_
      refine r_iconst (pc := 17) (v := (-1)) dX5_caught_17 (by decide) ?_
      refine r_o2 (pc := 18) (bc' := 0) (bs' := 0) (ct_X5_no hm _ (vp_in_lit rfl)) k_X5_136_5 dX5_caught_18 (MR_k hm) (Nat.le_of_ble_eq_true rfl) ⟨Nat.le_of_ble_eq_true rfl, Nat.le_of_ble_eq_true rfl⟩ ⟨Nat.le_of_ble_eq_true rfl, Nat.le_of_ble_eq_true rfl⟩ (r_ci fun r18 M18 p18 => ?_) nox
      obtain ⟨rfl, rfl⟩ := p18
      refine r_ireturn (pc := 21) rfl dX5_caught_21 ⟨_, rfl, ?_⟩
      first
        | contradiction
        | (refine oM.of ?_ (by repeat' (first | exact frM.rf | assumption | refine frM.up0 ?_ | refine frM.up ?_ (by decide) | refine frM.upL ?_ (by decide)))
           simp (decide := true) only [caughtS, noS, noTenS, thP, mnP, shelfP, stepS, farP, farS, farBS, eq_true h5, eq_false h13, not_true_eq_false, not_false_eq_true, true_and, and_true, false_and, and_false, true_or, or_true, false_or, or_false, cI_True, cI_False, if_true, if_false, sm0, sm1, sm2, sm3, sm4, sm5, sm6, sm7, sm8, sm9, sm10, sm11, sm12, sm13, sm14, sm15, sm16, sm17, sm18, sm19, sm20, sm21, sm22, sm23, sm24, sm25, sm26, sm27, sm28, sm29, sm30, sm31, sm32, sm33, sm34, sm35, sm36, sm37, sm38, sm39, sm40, sm41, sm42, sm43, sm44, sm45, sm46, sm47, sm48, sm49, su0, su1, su2, su3, su4, su5, su6, su7, su8, su9, su10, su11, su12, su13, su14, su15, su16, su17, su18, su19, su20, su21, su22, su23, su24, su25, su26, su27, su28, su29, su30, su31, su32, su33, su34, su35, su36, su37, su38, su39, su40, su41, su42, su43, su44, su45, su46, su47, su48, su49])
theorem ct_X5_status {M0 : PM} {mo : Nat} {I : Nat → Nat → Int32} {L : Nat → Nat → Int64} (hm : MR M0 mo) (x1 : Int32) (hk : OkS (sM I mo)) : Ct (YX5_status, (0, 0, 0, 0), qi (fun r M' => r = statusS (sS I L mo) x1 ∧ M' = wIL M0 I L), noX) [.ref mo, .int x1] (wIL M0 I L) := by
  refine ct_of [some (.ref mo), some (.int x1)] rfl rfl rfl (Nat.le_of_ble_eq_true rfl) rfl rfl ?_
  refine r_iload_n (pc := 0) dX5_status_0 rfl ?_
  refine r_bipush (pc := 1) (v := 11) dX5_status_1 (by decide) ?_
  refine r_icmp_lt (pc := 3) 22 dX5_status_3 rfl (fun h3 => ?_) (fun h3 => ?_)
  · refine r_iload_n (pc := 22) dX5_status_22 rfl ?_
    refine r_sp_0_9 (fun h23 => ?_) (fun h23 => ?_) (fun h23 => ?_) (fun h23 => ?_) (fun h23 => ?_) (fun h23 => ?_) (fun h23 => ?_) (fun h23 => ?_) (fun h23 => ?_) (fun h23 => ?_) (fun h23 => ?_)
    · refine r_swIn (pc := 23) 76 dX5_status_23 (by decide) (by decide) rfl rfl ?_
      refine r_aload_n (pc := 76) dX5_status_76 rfl ?_
      refine rm_getI (pc := 77) dX5_status_77 fl_X5_117_5 (MR_k hm) (fun _ _ => rfl) ?_
      refine r_ireturn (pc := 80) rfl dX5_status_80 ⟨_, rfl, ?_⟩
      refine ⟨?_, rfl⟩
      first
        | (simp (decide := true) only [statusS, h3, h23, not_true_eq_false, not_false_eq_true, true_and, and_true, false_and, and_false, true_or, or_true, false_or, or_false, cI_True, cI_False, if_true, if_false, sm0, sm1, sm2, sm3, sm4, sm5, sm6, sm7, sm8, sm9, sm10, sm11, sm12, sm13, sm14, sm15, sm16, sm17, sm18, sm19, sm20, sm21, sm22, sm23, sm24, sm25, sm26, sm27, sm28, sm29, sm30, sm31, sm32, sm33, sm34, sm35, sm36, sm37, sm38, sm39, sm40, sm41, sm42, sm43, sm44, sm45, sm46, sm47, sm48, sm49]; done)
        | (obtain ⟨e0, e1, e2, e3, e4, e5, e6, e7, e8, e9⟩ := sn_0_9 h23
           simp (decide := true) only [statusS, e0, e1, e2, e3, e4, e5, e6, e7, e8, e9, h3, h23, not_true_eq_false, not_false_eq_true, true_and, and_true, false_and, and_false, true_or, or_true, false_or, or_false, cI_True, cI_False, if_true, if_false, sm0, sm1, sm2, sm3, sm4, sm5, sm6, sm7, sm8, sm9, sm10, sm11, sm12, sm13, sm14, sm15, sm16, sm17, sm18, sm19, sm20, sm21, sm22, sm23, sm24, sm25, sm26, sm27, sm28, sm29, sm30, sm31, sm32, sm33, sm34, sm35, sm36, sm37, sm38, sm39, sm40, sm41, sm42, sm43, sm44, sm45, sm46, sm47, sm48, sm49])
    · refine r_swIn (pc := 23) 81 dX5_status_23 (by decide) (by decide) rfl rfl ?_
      refine r_aload_n (pc := 81) dX5_status_81 rfl ?_
      refine rm_getI (pc := 82) dX5_status_82 fl_X5_120_5 (MR_k hm) (fun _ _ => rfl) ?_
      refine r_ireturn (pc := 85) rfl dX5_status_85 ⟨_, rfl, ?_⟩
      refine ⟨?_, rfl⟩
      first
        | (simp (decide := true) only [statusS, h3, h23, not_true_eq_false, not_false_eq_true, true_and, and_true, false_and, and_false, true_or, or_true, false_or, or_false, cI_True, cI_False, if_true, if_false, sm0, sm1, sm2, sm3, sm4, sm5, sm6, sm7, sm8, sm9, sm10, sm11, sm12, sm13, sm14, sm15, sm16, sm17, sm18, sm19, sm20, sm21, sm22, sm23, sm24, sm25, sm26, sm27, sm28, sm29, sm30, sm31, sm32, sm33, sm34, sm35, sm36, sm37, sm38, sm39, sm40, sm41, sm42, sm43, sm44, sm45, sm46, sm47, sm48, sm49]; done)
        | (obtain ⟨e0, e1, e2, e3, e4, e5, e6, e7, e8, e9⟩ := sn_0_9 h23
           simp (decide := true) only [statusS, e0, e1, e2, e3, e4, e5, e6, e7, e8, e9, h3, h23, not_true_eq_false, not_false_eq_true, true_and, and_true, false_and, and_false, true_or, or_true, false_or, or_false, cI_True, cI_False, if_true, if_false, sm0, sm1, sm2, sm3, sm4, sm5, sm6, sm7, sm8, sm9, sm10, sm11, sm12, sm13, sm14, sm15, sm16, sm17, sm18, sm19, sm20, sm21, sm22, sm23, sm24, sm25, sm26, sm27, sm28, sm29, sm30, sm31, sm32, sm33, sm34, sm35, sm36, sm37, sm38, sm39, sm40, sm41, sm42, sm43, sm44, sm45, sm46, sm47, sm48, sm49])
    · refine r_swIn (pc := 23) 86 dX5_status_23 (by decide) (by decide) rfl rfl ?_
      refine r_aload_n (pc := 86) dX5_status_86 rfl ?_
      refine rm_getI (pc := 87) dX5_status_87 fl_X5_162_5 (MR_k hm) (fun _ _ => rfl) ?_
      refine r_ireturn (pc := 90) rfl dX5_status_90 ⟨_, rfl, ?_⟩
      refine ⟨?_, rfl⟩
      first
        | (simp (decide := true) only [statusS, h3, h23, not_true_eq_false, not_false_eq_true, true_and, and_true, false_and, and_false, true_or, or_true, false_or, or_false, cI_True, cI_False, if_true, if_false, sm0, sm1, sm2, sm3, sm4, sm5, sm6, sm7, sm8, sm9, sm10, sm11, sm12, sm13, sm14, sm15, sm16, sm17, sm18, sm19, sm20, sm21, sm22, sm23, sm24, sm25, sm26, sm27, sm28, sm29, sm30, sm31, sm32, sm33, sm34, sm35, sm36, sm37, sm38, sm39, sm40, sm41, sm42, sm43, sm44, sm45, sm46, sm47, sm48, sm49]; done)
        | (obtain ⟨e0, e1, e2, e3, e4, e5, e6, e7, e8, e9⟩ := sn_0_9 h23
           simp (decide := true) only [statusS, e0, e1, e2, e3, e4, e5, e6, e7, e8, e9, h3, h23, not_true_eq_false, not_false_eq_true, true_and, and_true, false_and, and_false, true_or, or_true, false_or, or_false, cI_True, cI_False, if_true, if_false, sm0, sm1, sm2, sm3, sm4, sm5, sm6, sm7, sm8, sm9, sm10, sm11, sm12, sm13, sm14, sm15, sm16, sm17, sm18, sm19, sm20, sm21, sm22, sm23, sm24, sm25, sm26, sm27, sm28, sm29, sm30, sm31, sm32, sm33, sm34, sm35, sm36, sm37, sm38, sm39, sm40, sm41, sm42, sm43, sm44, sm45, sm46, sm47, sm48, sm49])
    · refine r_swIn (pc := 23) 91 dX5_status_23 (by decide) (by decide) rfl rfl ?_
      refine r_aload_n (pc := 91) dX5_status_91 rfl ?_
      refine rm_getI (pc := 92) dX5_status_92 fl_X5_7_5 (MR_k hm) (fun _ _ => rfl) ?_
      refine r_ireturn (pc := 95) rfl dX5_status_95 ⟨_, rfl, ?_⟩
      refine ⟨?_, rfl⟩
      first
        | (simp (decide := true) only [statusS, h3, h23, not_true_eq_false, not_false_eq_true, true_and, and_true, false_and, and_false, true_or, or_true, false_or, or_false, cI_True, cI_False, if_true, if_false, sm0, sm1, sm2, sm3, sm4, sm5, sm6, sm7, sm8, sm9, sm10, sm11, sm12, sm13, sm14, sm15, sm16, sm17, sm18, sm19, sm20, sm21, sm22, sm23, sm24, sm25, sm26, sm27, sm28, sm29, sm30, sm31, sm32, sm33, sm34, sm35, sm36, sm37, sm38, sm39, sm40, sm41, sm42, sm43, sm44, sm45, sm46, sm47, sm48, sm49]; done)
        | (obtain ⟨e0, e1, e2, e3, e4, e5, e6, e7, e8, e9⟩ := sn_0_9 h23
           simp (decide := true) only [statusS, e0, e1, e2, e3, e4, e5, e6, e7, e8, e9, h3, h23, not_true_eq_false, not_false_eq_true, true_and, and_true, false_and, and_false, true_or, or_true, false_or, or_false, cI_True, cI_False, if_true, if_false, sm0, sm1, sm2, sm3, sm4, sm5, sm6, sm7, sm8, sm9, sm10, sm11, sm12, sm13, sm14, sm15, sm16, sm17, sm18, sm19, sm20, sm21, sm22, sm23, sm24, sm25, sm26, sm27, sm28, sm29, sm30, sm31, sm32, sm33, sm34, sm35, sm36, sm37, sm38, sm39, sm40, sm41, sm42, sm43, sm44, sm45, sm46, sm47, sm48, sm49])
    · refine r_swIn (pc := 23) 96 dX5_status_23 (by decide) (by decide) rfl rfl ?_
      refine r_aload_n (pc := 96) dX5_status_96 rfl ?_
      refine rm_getI (pc := 97) dX5_status_97 fl_X5_123_5 (MR_k hm) (fun _ _ => rfl) ?_
      refine r_ireturn (pc := 100) rfl dX5_status_100 ⟨_, rfl, ?_⟩
      refine ⟨?_, rfl⟩
      first
        | (simp (decide := true) only [statusS, h3, h23, not_true_eq_false, not_false_eq_true, true_and, and_true, false_and, and_false, true_or, or_true, false_or, or_false, cI_True, cI_False, if_true, if_false, sm0, sm1, sm2, sm3, sm4, sm5, sm6, sm7, sm8, sm9, sm10, sm11, sm12, sm13, sm14, sm15, sm16, sm17, sm18, sm19, sm20, sm21, sm22, sm23, sm24, sm25, sm26, sm27, sm28, sm29, sm30, sm31, sm32, sm33, sm34, sm35, sm36, sm37, sm38, sm39, sm40, sm41, sm42, sm43, sm44, sm45, sm46, sm47, sm48, sm49]; done)
        | (obtain ⟨e0, e1, e2, e3, e4, e5, e6, e7, e8, e9⟩ := sn_0_9 h23
           simp (decide := true) only [statusS, e0, e1, e2, e3, e4, e5, e6, e7, e8, e9, h3, h23, not_true_eq_false, not_false_eq_true, true_and, and_true, false_and, and_false, true_or, or_true, false_or, or_false, cI_True, cI_False, if_true, if_false, sm0, sm1, sm2, sm3, sm4, sm5, sm6, sm7, sm8, sm9, sm10, sm11, sm12, sm13, sm14, sm15, sm16, sm17, sm18, sm19, sm20, sm21, sm22, sm23, sm24, sm25, sm26, sm27, sm28, sm29, sm30, sm31, sm32, sm33, sm34, sm35, sm36, sm37, sm38, sm39, sm40, sm41, sm42, sm43, sm44, sm45, sm46, sm47, sm48, sm49])
    · refine r_swIn (pc := 23) 101 dX5_status_23 (by decide) (by decide) rfl rfl ?_
      refine r_aload_n (pc := 101) dX5_status_101 rfl ?_
      refine rm_getI (pc := 102) dX5_status_102 fl_X5_126_5 (MR_k hm) (fun _ _ => rfl) ?_
      refine r_ireturn (pc := 105) rfl dX5_status_105 ⟨_, rfl, ?_⟩
      refine ⟨?_, rfl⟩
      first
        | (simp (decide := true) only [statusS, h3, h23, not_true_eq_false, not_false_eq_true, true_and, and_true, false_and, and_false, true_or, or_true, false_or, or_false, cI_True, cI_False, if_true, if_false, sm0, sm1, sm2, sm3, sm4, sm5, sm6, sm7, sm8, sm9, sm10, sm11, sm12, sm13, sm14, sm15, sm16, sm17, sm18, sm19, sm20, sm21, sm22, sm23, sm24, sm25, sm26, sm27, sm28, sm29, sm30, sm31, sm32, sm33, sm34, sm35, sm36, sm37, sm38, sm39, sm40, sm41, sm42, sm43, sm44, sm45, sm46, sm47, sm48, sm49]; done)
        | (obtain ⟨e0, e1, e2, e3, e4, e5, e6, e7, e8, e9⟩ := sn_0_9 h23
           simp (decide := true) only [statusS, e0, e1, e2, e3, e4, e5, e6, e7, e8, e9, h3, h23, not_true_eq_false, not_false_eq_true, true_and, and_true, false_and, and_false, true_or, or_true, false_or, or_false, cI_True, cI_False, if_true, if_false, sm0, sm1, sm2, sm3, sm4, sm5, sm6, sm7, sm8, sm9, sm10, sm11, sm12, sm13, sm14, sm15, sm16, sm17, sm18, sm19, sm20, sm21, sm22, sm23, sm24, sm25, sm26, sm27, sm28, sm29, sm30, sm31, sm32, sm33, sm34, sm35, sm36, sm37, sm38, sm39, sm40, sm41, sm42, sm43, sm44, sm45, sm46, sm47, sm48, sm49])
    · refine r_swIn (pc := 23) 106 dX5_status_23 (by decide) (by decide) rfl rfl ?_
      refine r_aload_n (pc := 106) dX5_status_106 rfl ?_
      refine rm_getI (pc := 107) dX5_status_107 fl_X5_171_5 (MR_k hm) (fun _ _ => rfl) ?_
      refine r_ireturn (pc := 110) rfl dX5_status_110 ⟨_, rfl, ?_⟩
      refine ⟨?_, rfl⟩
      first
        | (simp (decide := true) only [statusS, h3, h23, not_true_eq_false, not_false_eq_true, true_and, and_true, false_and, and_false, true_or, or_true, false_or, or_false, cI_True, cI_False, if_true, if_false, sm0, sm1, sm2, sm3, sm4, sm5, sm6, sm7, sm8, sm9, sm10, sm11, sm12, sm13, sm14, sm15, sm16, sm17, sm18, sm19, sm20, sm21, sm22, sm23, sm24, sm25, sm26, sm27, sm28, sm29, sm30, sm31, sm32, sm33, sm34, sm35, sm36, sm37, sm38, sm39, sm40, sm41, sm42, sm43, sm44, sm45, sm46, sm47, sm48, sm49]; done)
        | (obtain ⟨e0, e1, e2, e3, e4, e5, e6, e7, e8, e9⟩ := sn_0_9 h23
           simp (decide := true) only [statusS, e0, e1, e2, e3, e4, e5, e6, e7, e8, e9, h3, h23, not_true_eq_false, not_false_eq_true, true_and, and_true, false_and, and_false, true_or, or_true, false_or, or_false, cI_True, cI_False, if_true, if_false, sm0, sm1, sm2, sm3, sm4, sm5, sm6, sm7, sm8, sm9, sm10, sm11, sm12, sm13, sm14, sm15, sm16, sm17, sm18, sm19, sm20, sm21, sm22, sm23, sm24, sm25, sm26, sm27, sm28, sm29, sm30, sm31, sm32, sm33, sm34, sm35, sm36, sm37, sm38, sm39, sm40, sm41, sm42, sm43, sm44, sm45, sm46, sm47, sm48, sm49])
    · refine r_swIn (pc := 23) 111 dX5_status_23 (by decide) (by decide) rfl rfl ?_
      refine r_aload_n (pc := 111) dX5_status_111 rfl ?_
      refine rm_getI (pc := 112) dX5_status_112 fl_X5_13_5 (MR_k hm) (fun _ _ => rfl) ?_
      refine r_ireturn (pc := 115) rfl dX5_status_115 ⟨_, rfl, ?_⟩
      refine ⟨?_, rfl⟩
      first
        | (simp (decide := true) only [statusS, h3, h23, not_true_eq_false, not_false_eq_true, true_and, and_true, false_and, and_false, true_or, or_true, false_or, or_false, cI_True, cI_False, if_true, if_false, sm0, sm1, sm2, sm3, sm4, sm5, sm6, sm7, sm8, sm9, sm10, sm11, sm12, sm13, sm14, sm15, sm16, sm17, sm18, sm19, sm20, sm21, sm22, sm23, sm24, sm25, sm26, sm27, sm28, sm29, sm30, sm31, sm32, sm33, sm34, sm35, sm36, sm37, sm38, sm39, sm40, sm41, sm42, sm43, sm44, sm45, sm46, sm47, sm48, sm49]; done)
        | (obtain ⟨e0, e1, e2, e3, e4, e5, e6, e7, e8, e9⟩ := sn_0_9 h23
           simp (decide := true) only [statusS, e0, e1, e2, e3, e4, e5, e6, e7, e8, e9, h3, h23, not_true_eq_false, not_false_eq_true, true_and, and_true, false_and, and_false, true_or, or_true, false_or, or_false, cI_True, cI_False, if_true, if_false, sm0, sm1, sm2, sm3, sm4, sm5, sm6, sm7, sm8, sm9, sm10, sm11, sm12, sm13, sm14, sm15, sm16, sm17, sm18, sm19, sm20, sm21, sm22, sm23, sm24, sm25, sm26, sm27, sm28, sm29, sm30, sm31, sm32, sm33, sm34, sm35, sm36, sm37, sm38, sm39, sm40, sm41, sm42, sm43, sm44, sm45, sm46, sm47, sm48, sm49])
    · refine r_swIn (pc := 23) 116 dX5_status_23 (by decide) (by decide) rfl rfl ?_
      refine r_aload_n (pc := 116) dX5_status_116 rfl ?_
      refine rm_getI (pc := 117) dX5_status_117 fl_X5_304_5 (MR_k hm) (fun _ _ => rfl) ?_
      refine r_ireturn (pc := 120) rfl dX5_status_120 ⟨_, rfl, ?_⟩
      refine ⟨?_, rfl⟩
      first
        | (simp (decide := true) only [statusS, h3, h23, not_true_eq_false, not_false_eq_true, true_and, and_true, false_and, and_false, true_or, or_true, false_or, or_false, cI_True, cI_False, if_true, if_false, sm0, sm1, sm2, sm3, sm4, sm5, sm6, sm7, sm8, sm9, sm10, sm11, sm12, sm13, sm14, sm15, sm16, sm17, sm18, sm19, sm20, sm21, sm22, sm23, sm24, sm25, sm26, sm27, sm28, sm29, sm30, sm31, sm32, sm33, sm34, sm35, sm36, sm37, sm38, sm39, sm40, sm41, sm42, sm43, sm44, sm45, sm46, sm47, sm48, sm49]; done)
        | (obtain ⟨e0, e1, e2, e3, e4, e5, e6, e7, e8, e9⟩ := sn_0_9 h23
           simp (decide := true) only [statusS, e0, e1, e2, e3, e4, e5, e6, e7, e8, e9, h3, h23, not_true_eq_false, not_false_eq_true, true_and, and_true, false_and, and_false, true_or, or_true, false_or, or_false, cI_True, cI_False, if_true, if_false, sm0, sm1, sm2, sm3, sm4, sm5, sm6, sm7, sm8, sm9, sm10, sm11, sm12, sm13, sm14, sm15, sm16, sm17, sm18, sm19, sm20, sm21, sm22, sm23, sm24, sm25, sm26, sm27, sm28, sm29, sm30, sm31, sm32, sm33, sm34, sm35, sm36, sm37, sm38, sm39, sm40, sm41, sm42, sm43, sm44, sm45, sm46, sm47, sm48, sm49])
    · refine r_swIn (pc := 23) 121 dX5_status_23 (by decide) (by decide) rfl rfl ?_
      refine r_aload_n (pc := 121) dX5_status_121 rfl ?_
      refine rm_getI (pc := 122) dX5_status_122 fl_X5_223_5 (MR_k hm) (fun _ _ => rfl) ?_
      refine r_ireturn (pc := 125) rfl dX5_status_125 ⟨_, rfl, ?_⟩
      refine ⟨?_, rfl⟩
      first
        | (simp (decide := true) only [statusS, h3, h23, not_true_eq_false, not_false_eq_true, true_and, and_true, false_and, and_false, true_or, or_true, false_or, or_false, cI_True, cI_False, if_true, if_false, sm0, sm1, sm2, sm3, sm4, sm5, sm6, sm7, sm8, sm9, sm10, sm11, sm12, sm13, sm14, sm15, sm16, sm17, sm18, sm19, sm20, sm21, sm22, sm23, sm24, sm25, sm26, sm27, sm28, sm29, sm30, sm31, sm32, sm33, sm34, sm35, sm36, sm37, sm38, sm39, sm40, sm41, sm42, sm43, sm44, sm45, sm46, sm47, sm48, sm49]; done)
        | (obtain ⟨e0, e1, e2, e3, e4, e5, e6, e7, e8, e9⟩ := sn_0_9 h23
           simp (decide := true) only [statusS, e0, e1, e2, e3, e4, e5, e6, e7, e8, e9, h3, h23, not_true_eq_false, not_false_eq_true, true_and, and_true, false_and, and_false, true_or, or_true, false_or, or_false, cI_True, cI_False, if_true, if_false, sm0, sm1, sm2, sm3, sm4, sm5, sm6, sm7, sm8, sm9, sm10, sm11, sm12, sm13, sm14, sm15, sm16, sm17, sm18, sm19, sm20, sm21, sm22, sm23, sm24, sm25, sm26, sm27, sm28, sm29, sm30, sm31, sm32, sm33, sm34, sm35, sm36, sm37, sm38, sm39, sm40, sm41, sm42, sm43, sm44, sm45, sm46, sm47, sm48, sm49])
    · refine r_swOut (pc := 23) 126 dX5_status_23 h23 rfl ?_
      refine r_iconst (pc := 126) (v := (-1)) dX5_status_126 (by decide) ?_
      refine r_ireturn (pc := 127) rfl dX5_status_127 ⟨_, rfl, ?_⟩
      refine ⟨?_, rfl⟩
      first
        | (simp (decide := true) only [statusS, h3, h23, not_true_eq_false, not_false_eq_true, true_and, and_true, false_and, and_false, true_or, or_true, false_or, or_false, cI_True, cI_False, if_true, if_false, sm0, sm1, sm2, sm3, sm4, sm5, sm6, sm7, sm8, sm9, sm10, sm11, sm12, sm13, sm14, sm15, sm16, sm17, sm18, sm19, sm20, sm21, sm22, sm23, sm24, sm25, sm26, sm27, sm28, sm29, sm30, sm31, sm32, sm33, sm34, sm35, sm36, sm37, sm38, sm39, sm40, sm41, sm42, sm43, sm44, sm45, sm46, sm47, sm48, sm49]; done)
        | (obtain ⟨e0, e1, e2, e3, e4, e5, e6, e7, e8, e9⟩ := sn_0_9 h23
           simp (decide := true) only [statusS, e0, e1, e2, e3, e4, e5, e6, e7, e8, e9, h3, h23, not_true_eq_false, not_false_eq_true, true_and, and_true, false_and, and_false, true_or, or_true, false_or, or_false, cI_True, cI_False, if_true, if_false, sm0, sm1, sm2, sm3, sm4, sm5, sm6, sm7, sm8, sm9, sm10, sm11, sm12, sm13, sm14, sm15, sm16, sm17, sm18, sm19, sm20, sm21, sm22, sm23, sm24, sm25, sm26, sm27, sm28, sm29, sm30, sm31, sm32, sm33, sm34, sm35, sm36, sm37, sm38, sm39, sm40, sm41, sm42, sm43, sm44, sm45, sm46, sm47, sm48, sm49])
  · refine r_iload_n (pc := 6) dX5_status_6 rfl ?_
    refine r_bipush (pc := 7) (v := 17) dX5_status_7 (by decide) ?_
    refine r_icmp_gt (pc := 9) 22 dX5_status_9 rfl (fun h9 => ?_) (fun h9 => ?_)
    · refine r_iload_n (pc := 22) dX5_status_22 rfl ?_
      refine r_sp_0_9 (fun h23 => ?_) (fun h23 => ?_) (fun h23 => ?_) (fun h23 => ?_) (fun h23 => ?_) (fun h23 => ?_) (fun h23 => ?_) (fun h23 => ?_) (fun h23 => ?_) (fun h23 => ?_) (fun h23 => ?_)
      · refine r_swIn (pc := 23) 76 dX5_status_23 (by decide) (by decide) rfl rfl ?_
        refine r_aload_n (pc := 76) dX5_status_76 rfl ?_
        refine rm_getI (pc := 77) dX5_status_77 fl_X5_117_5 (MR_k hm) (fun _ _ => rfl) ?_
        refine r_ireturn (pc := 80) rfl dX5_status_80 ⟨_, rfl, ?_⟩
        refine ⟨?_, rfl⟩
        first
          | (simp (decide := true) only [statusS, h3, h9, h23, not_true_eq_false, not_false_eq_true, true_and, and_true, false_and, and_false, true_or, or_true, false_or, or_false, cI_True, cI_False, if_true, if_false, sm0, sm1, sm2, sm3, sm4, sm5, sm6, sm7, sm8, sm9, sm10, sm11, sm12, sm13, sm14, sm15, sm16, sm17, sm18, sm19, sm20, sm21, sm22, sm23, sm24, sm25, sm26, sm27, sm28, sm29, sm30, sm31, sm32, sm33, sm34, sm35, sm36, sm37, sm38, sm39, sm40, sm41, sm42, sm43, sm44, sm45, sm46, sm47, sm48, sm49]; done)
          | (obtain ⟨e0, e1, e2, e3, e4, e5, e6, e7, e8, e9⟩ := sn_0_9 h23
             simp (decide := true) only [statusS, e0, e1, e2, e3, e4, e5, e6, e7, e8, e9, h3, h9, h23, not_true_eq_false, not_false_eq_true, true_and, and_true, false_and, and_false, true_or, or_true, false_or, or_false, cI_True, cI_False, if_true, if_false, sm0, sm1, sm2, sm3, sm4, sm5, sm6, sm7, sm8, sm9, sm10, sm11, sm12, sm13, sm14, sm15, sm16, sm17, sm18, sm19, sm20, sm21, sm22, sm23, sm24, sm25, sm26, sm27, sm28, sm29, sm30, sm31, sm32, sm33, sm34, sm35, sm36, sm37, sm38, sm39, sm40, sm41, sm42, sm43, sm44, sm45, sm46, sm47, sm48, sm49])
      · refine r_swIn (pc := 23) 81 dX5_status_23 (by decide) (by decide) rfl rfl ?_
        refine r_aload_n (pc := 81) dX5_status_81 rfl ?_
        refine rm_getI (pc := 82) dX5_status_82 fl_X5_120_5 (MR_k hm) (fun _ _ => rfl) ?_
        refine r_ireturn (pc := 85) rfl dX5_status_85 ⟨_, rfl, ?_⟩
        refine ⟨?_, rfl⟩
        first
          | (simp (decide := true) only [statusS, h3, h9, h23, not_true_eq_false, not_false_eq_true, true_and, and_true, false_and, and_false, true_or, or_true, false_or, or_false, cI_True, cI_False, if_true, if_false, sm0, sm1, sm2, sm3, sm4, sm5, sm6, sm7, sm8, sm9, sm10, sm11, sm12, sm13, sm14, sm15, sm16, sm17, sm18, sm19, sm20, sm21, sm22, sm23, sm24, sm25, sm26, sm27, sm28, sm29, sm30, sm31, sm32, sm33, sm34, sm35, sm36, sm37, sm38, sm39, sm40, sm41, sm42, sm43, sm44, sm45, sm46, sm47, sm48, sm49]; done)
          | (obtain ⟨e0, e1, e2, e3, e4, e5, e6, e7, e8, e9⟩ := sn_0_9 h23
             simp (decide := true) only [statusS, e0, e1, e2, e3, e4, e5, e6, e7, e8, e9, h3, h9, h23, not_true_eq_false, not_false_eq_true, true_and, and_true, false_and, and_false, true_or, or_true, false_or, or_false, cI_True, cI_False, if_true, if_false, sm0, sm1, sm2, sm3, sm4, sm5, sm6, sm7, sm8, sm9, sm10, sm11, sm12, sm13, sm14, sm15, sm16, sm17, sm18, sm19, sm20, sm21, sm22, sm23, sm24, sm25, sm26, sm27, sm28, sm29, sm30, sm31, sm32, sm33, sm34, sm35, sm36, sm37, sm38, sm39, sm40, sm41, sm42, sm43, sm44, sm45, sm46, sm47, sm48, sm49])
      · refine r_swIn (pc := 23) 86 dX5_status_23 (by decide) (by decide) rfl rfl ?_
        refine r_aload_n (pc := 86) dX5_status_86 rfl ?_
        refine rm_getI (pc := 87) dX5_status_87 fl_X5_162_5 (MR_k hm) (fun _ _ => rfl) ?_
        refine r_ireturn (pc := 90) rfl dX5_status_90 ⟨_, rfl, ?_⟩
        refine ⟨?_, rfl⟩
        first
          | (simp (decide := true) only [statusS, h3, h9, h23, not_true_eq_false, not_false_eq_true, true_and, and_true, false_and, and_false, true_or, or_true, false_or, or_false, cI_True, cI_False, if_true, if_false, sm0, sm1, sm2, sm3, sm4, sm5, sm6, sm7, sm8, sm9, sm10, sm11, sm12, sm13, sm14, sm15, sm16, sm17, sm18, sm19, sm20, sm21, sm22, sm23, sm24, sm25, sm26, sm27, sm28, sm29, sm30, sm31, sm32, sm33, sm34, sm35, sm36, sm37, sm38, sm39, sm40, sm41, sm42, sm43, sm44, sm45, sm46, sm47, sm48, sm49]; done)
          | (obtain ⟨e0, e1, e2, e3, e4, e5, e6, e7, e8, e9⟩ := sn_0_9 h23
             simp (decide := true) only [statusS, e0, e1, e2, e3, e4, e5, e6, e7, e8, e9, h3, h9, h23, not_true_eq_false, not_false_eq_true, true_and, and_true, false_and, and_false, true_or, or_true, false_or, or_false, cI_True, cI_False, if_true, if_false, sm0, sm1, sm2, sm3, sm4, sm5, sm6, sm7, sm8, sm9, sm10, sm11, sm12, sm13, sm14, sm15, sm16, sm17, sm18, sm19, sm20, sm21, sm22, sm23, sm24, sm25, sm26, sm27, sm28, sm29, sm30, sm31, sm32, sm33, sm34, sm35, sm36, sm37, sm38, sm39, sm40, sm41, sm42, sm43, sm44, sm45, sm46, sm47, sm48, sm49])
      · refine r_swIn (pc := 23) 91 dX5_status_23 (by decide) (by decide) rfl rfl ?_
        refine r_aload_n (pc := 91) dX5_status_91 rfl ?_
        refine rm_getI (pc := 92) dX5_status_92 fl_X5_7_5 (MR_k hm) (fun _ _ => rfl) ?_
        refine r_ireturn (pc := 95) rfl dX5_status_95 ⟨_, rfl, ?_⟩
        refine ⟨?_, rfl⟩
        first
          | (simp (decide := true) only [statusS, h3, h9, h23, not_true_eq_false, not_false_eq_true, true_and, and_true, false_and, and_false, true_or, or_true, false_or, or_false, cI_True, cI_False, if_true, if_false, sm0, sm1, sm2, sm3, sm4, sm5, sm6, sm7, sm8, sm9, sm10, sm11, sm12, sm13, sm14, sm15, sm16, sm17, sm18, sm19, sm20, sm21, sm22, sm23, sm24, sm25, sm26, sm27, sm28, sm29, sm30, sm31, sm32, sm33, sm34, sm35, sm36, sm37, sm38, sm39, sm40, sm41, sm42, sm43, sm44, sm45, sm46, sm47, sm48, sm49]; done)
          | (obtain ⟨e0, e1, e2, e3, e4, e5, e6, e7, e8, e9⟩ := sn_0_9 h23
             simp (decide := true) only [statusS, e0, e1, e2, e3, e4, e5, e6, e7, e8, e9, h3, h9, h23, not_true_eq_false, not_false_eq_true, true_and, and_true, false_and, and_false, true_or, or_true, false_or, or_false, cI_True, cI_False, if_true, if_false, sm0, sm1, sm2, sm3, sm4, sm5, sm6, sm7, sm8, sm9, sm10, sm11, sm12, sm13, sm14, sm15, sm16, sm17, sm18, sm19, sm20, sm21, sm22, sm23, sm24, sm25, sm26, sm27, sm28, sm29, sm30, sm31, sm32, sm33, sm34, sm35, sm36, sm37, sm38, sm39, sm40, sm41, sm42, sm43, sm44, sm45, sm46, sm47, sm48, sm49])
      · refine r_swIn (pc := 23) 96 dX5_status_23 (by decide) (by decide) rfl rfl ?_
        refine r_aload_n (pc := 96) dX5_status_96 rfl ?_
        refine rm_getI (pc := 97) dX5_status_97 fl_X5_123_5 (MR_k hm) (fun _ _ => rfl) ?_
        refine r_ireturn (pc := 100) rfl dX5_status_100 ⟨_, rfl, ?_⟩
        refine ⟨?_, rfl⟩
        first
          | (simp (decide := true) only [statusS, h3, h9, h23, not_true_eq_false, not_false_eq_true, true_and, and_true, false_and, and_false, true_or, or_true, false_or, or_false, cI_True, cI_False, if_true, if_false, sm0, sm1, sm2, sm3, sm4, sm5, sm6, sm7, sm8, sm9, sm10, sm11, sm12, sm13, sm14, sm15, sm16, sm17, sm18, sm19, sm20, sm21, sm22, sm23, sm24, sm25, sm26, sm27, sm28, sm29, sm30, sm31, sm32, sm33, sm34, sm35, sm36, sm37, sm38, sm39, sm40, sm41, sm42, sm43, sm44, sm45, sm46, sm47, sm48, sm49]; done)
          | (obtain ⟨e0, e1, e2, e3, e4, e5, e6, e7, e8, e9⟩ := sn_0_9 h23
             simp (decide := true) only [statusS, e0, e1, e2, e3, e4, e5, e6, e7, e8, e9, h3, h9, h23, not_true_eq_false, not_false_eq_true, true_and, and_true, false_and, and_false, true_or, or_true, false_or, or_false, cI_True, cI_False, if_true, if_false, sm0, sm1, sm2, sm3, sm4, sm5, sm6, sm7, sm8, sm9, sm10, sm11, sm12, sm13, sm14, sm15, sm16, sm17, sm18, sm19, sm20, sm21, sm22, sm23, sm24, sm25, sm26, sm27, sm28, sm29, sm30, sm31, sm32, sm33, sm34, sm35, sm36, sm37, sm38, sm39, sm40, sm41, sm42, sm43, sm44, sm45, sm46, sm47, sm48, sm49])
      · refine r_swIn (pc := 23) 101 dX5_status_23 (by decide) (by decide) rfl rfl ?_
        refine r_aload_n (pc := 101) dX5_status_101 rfl ?_
        refine rm_getI (pc := 102) dX5_status_102 fl_X5_126_5 (MR_k hm) (fun _ _ => rfl) ?_
        refine r_ireturn (pc := 105) rfl dX5_status_105 ⟨_, rfl, ?_⟩
        refine ⟨?_, rfl⟩
        first
          | (simp (decide := true) only [statusS, h3, h9, h23, not_true_eq_false, not_false_eq_true, true_and, and_true, false_and, and_false, true_or, or_true, false_or, or_false, cI_True, cI_False, if_true, if_false, sm0, sm1, sm2, sm3, sm4, sm5, sm6, sm7, sm8, sm9, sm10, sm11, sm12, sm13, sm14, sm15, sm16, sm17, sm18, sm19, sm20, sm21, sm22, sm23, sm24, sm25, sm26, sm27, sm28, sm29, sm30, sm31, sm32, sm33, sm34, sm35, sm36, sm37, sm38, sm39, sm40, sm41, sm42, sm43, sm44, sm45, sm46, sm47, sm48, sm49]; done)
          | (obtain ⟨e0, e1, e2, e3, e4, e5, e6, e7, e8, e9⟩ := sn_0_9 h23
             simp (decide := true) only [statusS, e0, e1, e2, e3, e4, e5, e6, e7, e8, e9, h3, h9, h23, not_true_eq_false, not_false_eq_true, true_and, and_true, false_and, and_false, true_or, or_true, false_or, or_false, cI_True, cI_False, if_true, if_false, sm0, sm1, sm2, sm3, sm4, sm5, sm6, sm7, sm8, sm9, sm10, sm11, sm12, sm13, sm14, sm15, sm16, sm17, sm18, sm19, sm20, sm21, sm22, sm23, sm24, sm25, sm26, sm27, sm28, sm29, sm30, sm31, sm32, sm33, sm34, sm35, sm36, sm37, sm38, sm39, sm40, sm41, sm42, sm43, sm44, sm45, sm46, sm47, sm48, sm49])
      · refine r_swIn (pc := 23) 106 dX5_status_23 (by decide) (by decide) rfl rfl ?_
        refine r_aload_n (pc := 106) dX5_status_106 rfl ?_
        refine rm_getI (pc := 107) dX5_status_107 fl_X5_171_5 (MR_k hm) (fun _ _ => rfl) ?_
        refine r_ireturn (pc := 110) rfl dX5_status_110 ⟨_, rfl, ?_⟩
        refine ⟨?_, rfl⟩
        first
          | (simp (decide := true) only [statusS, h3, h9, h23, not_true_eq_false, not_false_eq_true, true_and, and_true, false_and, and_false, true_or, or_true, false_or, or_false, cI_True, cI_False, if_true, if_false, sm0, sm1, sm2, sm3, sm4, sm5, sm6, sm7, sm8, sm9, sm10, sm11, sm12, sm13, sm14, sm15, sm16, sm17, sm18, sm19, sm20, sm21, sm22, sm23, sm24, sm25, sm26, sm27, sm28, sm29, sm30, sm31, sm32, sm33, sm34, sm35, sm36, sm37, sm38, sm39, sm40, sm41, sm42, sm43, sm44, sm45, sm46, sm47, sm48, sm49]; done)
          | (obtain ⟨e0, e1, e2, e3, e4, e5, e6, e7, e8, e9⟩ := sn_0_9 h23
             simp (decide := true) only [statusS, e0, e1, e2, e3, e4, e5, e6, e7, e8, e9, h3, h9, h23, not_true_eq_false, not_false_eq_true, true_and, and_true, false_and, and_false, true_or, or_true, false_or, or_false, cI_True, cI_False, if_true, if_false, sm0, sm1, sm2, sm3, sm4, sm5, sm6, sm7, sm8, sm9, sm10, sm11, sm12, sm13, sm14, sm15, sm16, sm17, sm18, sm19, sm20, sm21, sm22, sm23, sm24, sm25, sm26, sm27, sm28, sm29, sm30, sm31, sm32, sm33, sm34, sm35, sm36, sm37, sm38, sm39, sm40, sm41, sm42, sm43, sm44, sm45, sm46, sm47, sm48, sm49])
      · refine r_swIn (pc := 23) 111 dX5_status_23 (by decide) (by decide) rfl rfl ?_
        refine r_aload_n (pc := 111) dX5_status_111 rfl ?_
        refine rm_getI (pc := 112) dX5_status_112 fl_X5_13_5 (MR_k hm) (fun _ _ => rfl) ?_
        refine r_ireturn (pc := 115) rfl dX5_status_115 ⟨_, rfl, ?_⟩
        refine ⟨?_, rfl⟩
        first
          | (simp (decide := true) only [statusS, h3, h9, h23, not_true_eq_false, not_false_eq_true, true_and, and_true, false_and, and_false, true_or, or_true, false_or, or_false, cI_True, cI_False, if_true, if_false, sm0, sm1, sm2, sm3, sm4, sm5, sm6, sm7, sm8, sm9, sm10, sm11, sm12, sm13, sm14, sm15, sm16, sm17, sm18, sm19, sm20, sm21, sm22, sm23, sm24, sm25, sm26, sm27, sm28, sm29, sm30, sm31, sm32, sm33, sm34, sm35, sm36, sm37, sm38, sm39, sm40, sm41, sm42, sm43, sm44, sm45, sm46, sm47, sm48, sm49]; done)
          | (obtain ⟨e0, e1, e2, e3, e4, e5, e6, e7, e8, e9⟩ := sn_0_9 h23
             simp (decide := true) only [statusS, e0, e1, e2, e3, e4, e5, e6, e7, e8, e9, h3, h9, h23, not_true_eq_false, not_false_eq_true, true_and, and_true, false_and, and_false, true_or, or_true, false_or, or_false, cI_True, cI_False, if_true, if_false, sm0, sm1, sm2, sm3, sm4, sm5, sm6, sm7, sm8, sm9, sm10, sm11, sm12, sm13, sm14, sm15, sm16, sm17, sm18, sm19, sm20, sm21, sm22, sm23, sm24, sm25, sm26, sm27, sm28, sm29, sm30, sm31, sm32, sm33, sm34, sm35, sm36, sm37, sm38, sm39, sm40, sm41, sm42, sm43, sm44, sm45, sm46, sm47, sm48, sm49])
      · refine r_swIn (pc := 23) 116 dX5_status_23 (by decide) (by decide) rfl rfl ?_
        refine r_aload_n (pc := 116) dX5_status_116 rfl ?_
        refine rm_getI (pc := 117) dX5_status_117 fl_X5_304_5 (MR_k hm) (fun _ _ => rfl) ?_
        refine r_ireturn (pc := 120) rfl dX5_status_120 ⟨_, rfl, ?_⟩
        refine ⟨?_, rfl⟩
        first
          | (simp (decide := true) only [statusS, h3, h9, h23, not_true_eq_false, not_false_eq_true, true_and, and_true, false_and, and_false, true_or, or_true, false_or, or_false, cI_True, cI_False, if_true, if_false, sm0, sm1, sm2, sm3, sm4, sm5, sm6, sm7, sm8, sm9, sm10, sm11, sm12, sm13, sm14, sm15, sm16, sm17, sm18, sm19, sm20, sm21, sm22, sm23, sm24, sm25, sm26, sm27, sm28, sm29, sm30, sm31, sm32, sm33, sm34, sm35, sm36, sm37, sm38, sm39, sm40, sm41, sm42, sm43, sm44, sm45, sm46, sm47, sm48, sm49]; done)
          | (obtain ⟨e0, e1, e2, e3, e4, e5, e6, e7, e8, e9⟩ := sn_0_9 h23
             simp (decide := true) only [statusS, e0, e1, e2, e3, e4, e5, e6, e7, e8, e9, h3, h9, h23, not_true_eq_false, not_false_eq_true, true_and, and_true, false_and, and_false, true_or, or_true, false_or, or_false, cI_True, cI_False, if_true, if_false, sm0, sm1, sm2, sm3, sm4, sm5, sm6, sm7, sm8, sm9, sm10, sm11, sm12, sm13, sm14, sm15, sm16, sm17, sm18, sm19, sm20, sm21, sm22, sm23, sm24, sm25, sm26, sm27, sm28, sm29, sm30, sm31, sm32, sm33, sm34, sm35, sm36, sm37, sm38, sm39, sm40, sm41, sm42, sm43, sm44, sm45, sm46, sm47, sm48, sm49])
      · refine r_swIn (pc := 23) 121 dX5_status_23 (by decide) (by decide) rfl rfl ?_
        refine r_aload_n (pc := 121) dX5_status_121 rfl ?_
        refine rm_getI (pc := 122) dX5_status_122 fl_X5_223_5 (MR_k hm) (fun _ _ => rfl) ?_
        refine r_ireturn (pc := 125) rfl dX5_status_125 ⟨_, rfl, ?_⟩
        refine ⟨?_, rfl⟩
        first
          | (simp (decide := true) only [statusS, h3, h9, h23, not_true_eq_false, not_false_eq_true, true_and, and_true, false_and, and_false, true_or, or_true, false_or, or_false, cI_True, cI_False, if_true, if_false, sm0, sm1, sm2, sm3, sm4, sm5, sm6, sm7, sm8, sm9, sm10, sm11, sm12, sm13, sm14, sm15, sm16, sm17, sm18, sm19, sm20, sm21, sm22, sm23, sm24, sm25, sm26, sm27, sm28, sm29, sm30, sm31, sm32, sm33, sm34, sm35, sm36, sm37, sm38, sm39, sm40, sm41, sm42, sm43, sm44, sm45, sm46, sm47, sm48, sm49]; done)
          | (obtain ⟨e0, e1, e2, e3, e4, e5, e6, e7, e8, e9⟩ := sn_0_9 h23
             simp (decide := true) only [statusS, e0, e1, e2, e3, e4, e5, e6, e7, e8, e9, h3, h9, h23, not_true_eq_false, not_false_eq_true, true_and, and_true, false_and, and_false, true_or, or_true, false_or, or_false, cI_True, cI_False, if_true, if_false, sm0, sm1, sm2, sm3, sm4, sm5, sm6, sm7, sm8, sm9, sm10, sm11, sm12, sm13, sm14, sm15, sm16, sm17, sm18, sm19, sm20, sm21, sm22, sm23, sm24, sm25, sm26, sm27, sm28, sm29, sm30, sm31, sm32, sm33, sm34, sm35, sm36, sm37, sm38, sm39, sm40, sm41, sm42, sm43, sm44, sm45, sm46, sm47, sm48, sm49])
      · refine r_swOut (pc := 23) 126 dX5_status_23 h23 rfl ?_
        refine r_iconst (pc := 126) (v := (-1)) dX5_status_126 (by decide) ?_
        refine r_ireturn (pc := 127) rfl dX5_status_127 ⟨_, rfl, ?_⟩
        refine ⟨?_, rfl⟩
        first
          | (simp (decide := true) only [statusS, h3, h9, h23, not_true_eq_false, not_false_eq_true, true_and, and_true, false_and, and_false, true_or, or_true, false_or, or_false, cI_True, cI_False, if_true, if_false, sm0, sm1, sm2, sm3, sm4, sm5, sm6, sm7, sm8, sm9, sm10, sm11, sm12, sm13, sm14, sm15, sm16, sm17, sm18, sm19, sm20, sm21, sm22, sm23, sm24, sm25, sm26, sm27, sm28, sm29, sm30, sm31, sm32, sm33, sm34, sm35, sm36, sm37, sm38, sm39, sm40, sm41, sm42, sm43, sm44, sm45, sm46, sm47, sm48, sm49]; done)
          | (obtain ⟨e0, e1, e2, e3, e4, e5, e6, e7, e8, e9⟩ := sn_0_9 h23
             simp (decide := true) only [statusS, e0, e1, e2, e3, e4, e5, e6, e7, e8, e9, h3, h9, h23, not_true_eq_false, not_false_eq_true, true_and, and_true, false_and, and_false, true_or, or_true, false_or, or_false, cI_True, cI_False, if_true, if_false, sm0, sm1, sm2, sm3, sm4, sm5, sm6, sm7, sm8, sm9, sm10, sm11, sm12, sm13, sm14, sm15, sm16, sm17, sm18, sm19, sm20, sm21, sm22, sm23, sm24, sm25, sm26, sm27, sm28, sm29, sm30, sm31, sm32, sm33, sm34, sm35, sm36, sm37, sm38, sm39, sm40, sm41, sm42, sm43, sm44, sm45, sm46, sm47, sm48, sm49])
    · have hx : vp_in (x1 - 10) 8 := by
        rw [i_lt] at h3 h9
        have c1 : (11 : Int32).toInt = 11 := by decide
        have c2 : (17 : Int32).toInt = 17 := by decide
        have c3 : (10 : Int32).toInt = 10 := by decide
        rw [vp_in_iff, i_sub (by rw [c3]; omega) (by rw [c3]; omega), c3]
        omega
      refine r_aload_n (pc := 12) dX5_status_12 rfl ?_
      refine r_getR (pc := 13) dX5_status_13 fl_X5_19_5 (MR_k hm) (fun _ _ => rfl) (MR_r10 hm) ?_
      refine r_iload_n (pc := 16) dX5_status_16 rfl ?_
      refine r_bipush (pc := 17) (v := 10) dX5_status_17 (by decide) ?_
      refine r_isub (pc := 19) dX5_status_19 ?_
      refine rm_iald (pc := 20) dX5_status_20 (MR_k10 hm) (MR_z10 hm) (by first | assumption | exact vp_in_lit rfl) ?_
      refine r_ireturn (pc := 21) rfl dX5_status_21 ⟨_, rfl, ?_⟩
      refine ⟨?_, rfl⟩
      first
        | (simp (decide := true) only [statusS, h3, h9, not_true_eq_false, not_false_eq_true, true_and, and_true, false_and, and_false, true_or, or_true, false_or, or_false, cI_True, cI_False, if_true, if_false, sm0, sm1, sm2, sm3, sm4, sm5, sm6, sm7, sm8, sm9, sm10, sm11, sm12, sm13, sm14, sm15, sm16, sm17, sm18, sm19, sm20, sm21, sm22, sm23, sm24, sm25, sm26, sm27, sm28, sm29, sm30, sm31, sm32, sm33, sm34, sm35, sm36, sm37, sm38, sm39, sm40, sm41, sm42, sm43, sm44, sm45, sm46, sm47, sm48, sm49]; done)
        | (obtain ⟨e0, e1, e2, e3, e4, e5, e6, e7, e8, e9⟩ := sn_0_9 h23
           simp (decide := true) only [statusS, e0, e1, e2, e3, e4, e5, e6, e7, e8, e9, h3, h9, not_true_eq_false, not_false_eq_true, true_and, and_true, false_and, and_false, true_or, or_true, false_or, or_false, cI_True, cI_False, if_true, if_false, sm0, sm1, sm2, sm3, sm4, sm5, sm6, sm7, sm8, sm9, sm10, sm11, sm12, sm13, sm14, sm15, sm16, sm17, sm18, sm19, sm20, sm21, sm22, sm23, sm24, sm25, sm26, sm27, sm28, sm29, sm30, sm31, sm32, sm33, sm34, sm35, sm36, sm37, sm38, sm39, sm40, sm41, sm42, sm43, sm44, sm45, sm46, sm47, sm48, sm49])
theorem ct_X5_body {M0 : PM} {mo : Nat} {I : Nat → Nat → Int32} {L : Nat → Nat → Int64} (hm : MR M0 mo) (x1 : Int32) (hb : ∃ n : Nat, n ≤ 100 ∧ I mo 48 = nI n) : Ct (YX5_body, (0, 0, 0, 0), qv (fun M' => ∃ I', M' = wIL M0 I' L ∧ sM I' mo = bodyS (sM I mo) x1 ∧ frM mo I I' L L), noX) [.ref mo, .int x1] (wIL M0 I L) := by
  refine ct_of [some (.ref mo), some (.int x1)] rfl rfl rfl (Nat.le_of_ble_eq_true rfl) rfl rfl ?_
  refine r_aload_n (pc := 0) dX5_body_0 rfl ?_
  refine rm_getI (pc := 1) dX5_body_1 fl_X5_304_5 (MR_k hm) (fun _ _ => rfl) ?_
  refine r_bipush (pc := 4) (v := 20) dX5_body_4 (by decide) ?_
  refine r_icmp_ge (pc := 6) 19 dX5_body_6 rfl (fun h6 => ?_) (fun h6 => ?_)
  · refine r_aload_n (pc := 19) dX5_body_19 rfl ?_
    refine r_dup (pc := 20) dX5_body_20 rfl ?_
    refine rm_getI (pc := 21) dX5_body_21 fl_X5_304_5 (MR_k hm) (fun _ _ => rfl) ?_
    refine r_iconst (pc := 24) (v := 1) dX5_body_24 (by decide) ?_
    refine r_iadd (pc := 25) dX5_body_25 ?_
    refine rm_putI (pc := 26) dX5_body_26 fl_X5_304_5 (MR_k hm) rfl rfl ?_
    refine r_return (pc := 29) rfl dX5_body_29 ⟨rfl, ?_⟩
    refine ⟨_, rfl, ?_, (by repeat' (first | exact frM.rf | assumption | refine frM.up0 ?_ | refine frM.up ?_ (by decide) | refine frM.upL ?_ (by decide)))⟩
    simp (decide := true) only [bodyS, h6, not_true_eq_false, not_false_eq_true, true_and, and_true, false_and, and_false, true_or, or_true, false_or, or_false, cI_True, cI_False, if_true, if_false, sm0, sm1, sm2, sm3, sm4, sm5, sm6, sm7, sm8, sm9, sm10, sm11, sm12, sm13, sm14, sm15, sm16, sm17, sm18, sm19, sm20, sm21, sm22, sm23, sm24, sm25, sm26, sm27, sm28, sm29, sm30, sm31, sm32, sm33, sm34, sm35, sm36, sm37, sm38, sm39, sm40, sm41, sm42, sm43, sm44, sm45, sm46, sm47, sm48, sm49, su0, su1, su2, su3, su4, su5, su6, su7, su8, su9, su10, su11, su12, su13, su14, su15, su16, su17, su18, su19, su20, su21, su22, su23, su24, su25, su26, su27, su28, su29, su30, su31, su32, su33, su34, su35, su36, su37, su38, su39, su40, su41, su42, su43, su44, su45, su46, su47, su48, su49]
  · have hx : vp_in (I mo 48) 20 := by
      obtain ⟨n, h1, h2⟩ := hb
      exact vp_b (n := 20) (by rw [h2]; exact nI_pos (by omega)) h6 (by decide)
    refine r_aload_n (pc := 9) dX5_body_9 rfl ?_
    refine r_getR (pc := 10) dX5_body_10 fl_X5_114_5 (MR_k hm) (fun _ _ => rfl) (MR_r47 hm) ?_
    refine r_aload_n (pc := 13) dX5_body_13 rfl ?_
    refine rm_getI (pc := 14) dX5_body_14 fl_X5_304_5 (MR_k hm) (fun _ _ => rfl) ?_
    refine r_iload_n (pc := 17) dX5_body_17 rfl ?_
    refine rm_iast (pc := 18) dX5_body_18 (MR_k47 hm) (MR_z47 hm) (by first | assumption | exact vp_in_lit rfl) ?_
    refine r_aload_n (pc := 19) dX5_body_19 rfl ?_
    refine r_dup (pc := 20) dX5_body_20 rfl ?_
    refine rm_getIe (pc := 21) (v := I mo 48) dX5_body_21 fl_X5_304_5 (MR_k hm) (fun _ _ => rfl) (by simp [up2_ne, up2_self, va_up]) ?_
    refine r_iconst (pc := 24) (v := 1) dX5_body_24 (by decide) ?_
    refine r_iadd (pc := 25) dX5_body_25 ?_
    refine rm_putI (pc := 26) dX5_body_26 fl_X5_304_5 (MR_k hm) rfl rfl ?_
    refine r_return (pc := 29) rfl dX5_body_29 ⟨rfl, ?_⟩
    refine ⟨_, rfl, ?_, (by repeat' (first | exact frM.rf | assumption | refine frM.up0 ?_ | refine frM.up ?_ (by decide) | refine frM.upL ?_ (by decide)))⟩
    simp (decide := true) only [bodyS, h6, not_true_eq_false, not_false_eq_true, true_and, and_true, false_and, and_false, true_or, or_true, false_or, or_false, cI_True, cI_False, if_true, if_false, sm0, sm1, sm2, sm3, sm4, sm5, sm6, sm7, sm8, sm9, sm10, sm11, sm12, sm13, sm14, sm15, sm16, sm17, sm18, sm19, sm20, sm21, sm22, sm23, sm24, sm25, sm26, sm27, sm28, sm29, sm30, sm31, sm32, sm33, sm34, sm35, sm36, sm37, sm38, sm39, sm40, sm41, sm42, sm43, sm44, sm45, sm46, sm47, sm48, sm49, su0, su1, su2, su3, su4, su5, su6, su7, su8, su9, su10, su11, su12, su13, su14, su15, su16, su17, su18, su19, su20, su21, su22, su23, su24, su25, su26, su27, su28, su29, su30, su31, su32, su33, su34, su35, su36, su37, su38, su39, su40, su41, su42, su43, su44, su45, su46, su47, su48, su49]
theorem ct_X5_going {M0 : PM} {mo : Nat} {I : Nat → Nat → Int32} {L : Nat → Nat → Int64} (hm : MR M0 mo) (x1 : Int32) (x2 : Int32) (hx : vp_in x1 8) (hb : ∃ n : Nat, n ≤ 50 ∧ I mo 48 = nI n) (hk : bd (I (mo + 2) x1.toNatClampNeg) 0 6) : Ct (YX5_going, (1, 21, 0, 0), qi (fun r M' => r = goV (I (mo + 2) x1.toNatClampNeg) (I (mo + 3) x1.toNatClampNeg) x1 x2 ∧ ∃ I', M' = wIL M0 I' L ∧ sM I' mo = bodiesS (sM I mo) (goB (I (mo + 2) x1.toNatClampNeg)) ∧ frM mo I I' L L), noX) [.ref mo, .int x1, .int x2] (wIL M0 I L) := by
  refine ct_of [some (.ref mo), some (.int x1), some (.int x2), none, none, none, none] rfl rfl rfl (Nat.le_of_ble_eq_true rfl) rfl rfl ?_
  obtain ⟨n0, hn0, en0⟩ := hb
  obtain ⟨k, hk6, ek⟩ := bd_nI (n := 6) hk
  have hc : k = 0 ∨ k = 1 ∨ k = 2 ∨ k = 3 ∨ k = 4 ∨ k = 5 ∨ k = 6 := by omega
  rcases hc with rfl | rfl | rfl | rfl | rfl | rfl | rfl
  · refine r_aload_n (pc := 0) dX5_going_0 rfl ?_
    refine r_getR (pc := 1) dX5_going_1 fl_X5_23_5 (MR_k hm) (fun _ _ => rfl) (MR_r11 hm) ?_
    refine r_iload_n (pc := 4) dX5_going_4 rfl ?_
    refine rm_iald (pc := 5) dX5_going_5 (MR_k11 hm) (MR_z11 hm) (by first | assumption | exact vp_in_lit rfl) ?_
    refine r_eqi 0 ek ?_
    refine r_istore3 (pc := 6) dX5_going_6 rfl ?_
    refine r_iload_n (pc := 7) dX5_going_7 rfl ?_
    refine r_istore4 (pc := 8) dX5_going_8 rfl ?_
    refine r_iload_n (pc := 10) dX5_going_10 rfl ?_
    refine r_iconst (pc := 11) (v := 1) dX5_going_11 (by decide) ?_
    refine r_icmp_eq (pc := 12) 26 dX5_going_12 rfl (fun hno => absurd hno (by decide)) (fun _ => ?_)
    refine r_iload_n (pc := 15) dX5_going_15 rfl ?_
    refine r_iconst (pc := 16) (v := 5) dX5_going_16 (by decide) ?_
    refine r_icmp_eq (pc := 17) 26 dX5_going_17 rfl (fun hno => absurd hno (by decide)) (fun _ => ?_)
    refine r_iload_n (pc := 20) dX5_going_20 rfl ?_
    refine r_bipush (pc := 21) (v := 6) dX5_going_21 (by decide) ?_
    refine r_icmp_ne (pc := 23) 30 dX5_going_23 rfl (fun _ => ?_) (fun hno => absurd hno (by decide))
    refine r_iconst (pc := 30) (v := 0) dX5_going_30 (by decide) ?_
    refine r_istore5 (pc := 31) dX5_going_31 rfl ?_
    refine r_iload_n (pc := 33) dX5_going_33 rfl ?_
    refine r_bipush (pc := 34) (v := 6) dX5_going_34 (by decide) ?_
    refine r_icmp_ne (pc := 36) 50 dX5_going_36 rfl (fun _ => ?_) (fun hno => absurd hno (by decide))
    refine r_iload (pc := 50) dX5_going_50 rfl ?_
    refine r_if_eq (pc := 52) 61 dX5_going_52 rfl (fun _ => ?_) (fun hno => absurd hno (by decide))
    refine r_iload_n (pc := 61) dX5_going_61 rfl ?_
    refine r_iconst (pc := 62) (v := 4) dX5_going_62 (by decide) ?_
    refine r_icmp_ne (pc := 63) 72 dX5_going_63 rfl (fun _ => ?_) (fun hno => absurd hno (by decide))
    refine r_aload_n (pc := 72) dX5_going_72 rfl ?_
    refine r_bipush (pc := 73) (v := 10) dX5_going_73 (by decide) ?_
    refine r_o2 (pc := 75) (bc' := 0) (bs' := 0) (ct_X5_body (I := I) hm _ ⟨n0 + 0, by omega, en0⟩) k_X5_307_5 dX5_going_75 (MR_k hm) (Nat.le_of_ble_eq_true rfl) ⟨Nat.le_of_ble_eq_true rfl, Nat.le_of_ble_eq_true rfl⟩ ⟨Nat.le_of_ble_eq_true rfl, Nat.le_of_ble_eq_true rfl⟩ (r_cv fun M75 p75 => ?_) nox
    obtain ⟨I1, rfl, e1, f1⟩ := p75
    have en1 : I1 mo 48 = nI (n0 + 1) := by rw [show I1 mo 48 = sM I1 mo 48 0 from rfl, e1]; exact bodyS_0 en0
    refine r_iload (pc := 78) dX5_going_78 rfl ?_
    refine r_iload_n (pc := 80) dX5_going_80 rfl ?_
    refine r_iadd (pc := 81) dX5_going_81 ?_
    refine r_istore6 (pc := 82) dX5_going_82 rfl ?_
    refine r_iload (pc := 84) dX5_going_84 rfl ?_
    refine r_if_eq (pc := 86) 101 dX5_going_86 rfl (fun _ => ?_) (fun hno => absurd hno (by decide))
    refine r_iload_n (pc := 101) dX5_going_101 rfl ?_
    refine r_iconst (pc := 102) (v := 4) dX5_going_102 (by decide) ?_
    refine r_icmp_ne (pc := 103) 113 dX5_going_103 rfl (fun _ => ?_) (fun hno => absurd hno (by decide))
    refine r_iload (pc := 113) dX5_going_113 rfl ?_
    refine r_ireturn (pc := 115) rfl dX5_going_115 ⟨_, rfl, ?_⟩
    have hw : I1 (mo + 3) = I (mo + 3) := by
      rw [show I1 (mo + 3) = sM I1 mo 12 from rfl, e1, bodyS_k (by decide) (by decide)]
      rfl
    refine ⟨?_, _, rfl, ?_, f1⟩
    · rw [ek]; try rw [hw]
      first | rfl | (simp (decide := true) only [goV]; done) | skip
    · rw [ek, e1]; rfl
  · refine r_aload_n (pc := 0) dX5_going_0 rfl ?_
    refine r_getR (pc := 1) dX5_going_1 fl_X5_23_5 (MR_k hm) (fun _ _ => rfl) (MR_r11 hm) ?_
    refine r_iload_n (pc := 4) dX5_going_4 rfl ?_
    refine rm_iald (pc := 5) dX5_going_5 (MR_k11 hm) (MR_z11 hm) (by first | assumption | exact vp_in_lit rfl) ?_
    refine r_eqi 1 ek ?_
    refine r_istore3 (pc := 6) dX5_going_6 rfl ?_
    refine r_iload_n (pc := 7) dX5_going_7 rfl ?_
    refine r_istore4 (pc := 8) dX5_going_8 rfl ?_
    refine r_iload_n (pc := 10) dX5_going_10 rfl ?_
    refine r_iconst (pc := 11) (v := 1) dX5_going_11 (by decide) ?_
    refine r_icmp_eq (pc := 12) 26 dX5_going_12 rfl (fun _ => ?_) (fun hno => absurd hno (by decide))
    refine r_iconst (pc := 26) (v := 1) dX5_going_26 (by decide) ?_
    refine r_goto (pc := 27) 31 dX5_going_27 rfl ?_
    refine r_istore5 (pc := 31) dX5_going_31 rfl ?_
    refine r_iload_n (pc := 33) dX5_going_33 rfl ?_
    refine r_bipush (pc := 34) (v := 6) dX5_going_34 (by decide) ?_
    refine r_icmp_ne (pc := 36) 50 dX5_going_36 rfl (fun _ => ?_) (fun hno => absurd hno (by decide))
    refine r_iload (pc := 50) dX5_going_50 rfl ?_
    refine r_if_eq (pc := 52) 61 dX5_going_52 rfl (fun hno => absurd hno (by decide)) (fun _ => ?_)
    refine r_aload_n (pc := 55) dX5_going_55 rfl ?_
    refine r_bipush (pc := 56) (v := 20) dX5_going_56 (by decide) ?_
    refine r_o2 (pc := 58) (bc' := 0) (bs' := 0) (ct_X5_body (I := I) hm _ ⟨n0 + 0, by omega, en0⟩) k_X5_307_5 dX5_going_58 (MR_k hm) (Nat.le_of_ble_eq_true rfl) ⟨Nat.le_of_ble_eq_true rfl, Nat.le_of_ble_eq_true rfl⟩ ⟨Nat.le_of_ble_eq_true rfl, Nat.le_of_ble_eq_true rfl⟩ (r_cv fun M58 p58 => ?_) nox
    obtain ⟨I1, rfl, e1, f1⟩ := p58
    have en1 : I1 mo 48 = nI (n0 + 1) := by rw [show I1 mo 48 = sM I1 mo 48 0 from rfl, e1]; exact bodyS_0 en0
    refine r_iload_n (pc := 61) dX5_going_61 rfl ?_
    refine r_iconst (pc := 62) (v := 4) dX5_going_62 (by decide) ?_
    refine r_icmp_ne (pc := 63) 72 dX5_going_63 rfl (fun _ => ?_) (fun hno => absurd hno (by decide))
    refine r_aload_n (pc := 72) dX5_going_72 rfl ?_
    refine r_bipush (pc := 73) (v := 10) dX5_going_73 (by decide) ?_
    refine r_o2 (pc := 75) (bc' := 0) (bs' := 0) (ct_X5_body (I := I1) hm _ ⟨n0 + 1, by omega, en1⟩) k_X5_307_5 dX5_going_75 (MR_k hm) (Nat.le_of_ble_eq_true rfl) ⟨Nat.le_of_ble_eq_true rfl, Nat.le_of_ble_eq_true rfl⟩ ⟨Nat.le_of_ble_eq_true rfl, Nat.le_of_ble_eq_true rfl⟩ (r_cv fun M75 p75 => ?_) nox
    obtain ⟨I2, rfl, e2, f2⟩ := p75
    have en2 : I2 mo 48 = nI (n0 + 2) := by rw [show I2 mo 48 = sM I2 mo 48 0 from rfl, e2]; exact bodyS_0 en1
    refine r_iload (pc := 78) dX5_going_78 rfl ?_
    refine r_iload_n (pc := 80) dX5_going_80 rfl ?_
    refine r_iadd (pc := 81) dX5_going_81 ?_
    refine r_istore6 (pc := 82) dX5_going_82 rfl ?_
    refine r_iload (pc := 84) dX5_going_84 rfl ?_
    refine r_if_eq (pc := 86) 101 dX5_going_86 rfl (fun hno => absurd hno (by decide)) (fun _ => ?_)
    refine r_iload (pc := 89) dX5_going_89 rfl ?_
    refine r_aload_n (pc := 91) dX5_going_91 rfl ?_
    refine r_getR (pc := 92) dX5_going_92 fl_X5_26_5 (MR_k hm) (fun _ _ => rfl) (MR_r12 hm) ?_
    refine r_iload_n (pc := 95) dX5_going_95 rfl ?_
    refine rm_iald (pc := 96) dX5_going_96 (MR_k12 hm) (MR_z12 hm) (by first | assumption | exact vp_in_lit rfl) ?_
    refine r_iadd (pc := 97) dX5_going_97 ?_
    refine r_goto (pc := 98) 115 dX5_going_98 rfl ?_
    refine r_ireturn (pc := 115) rfl dX5_going_115 ⟨_, rfl, ?_⟩
    have hw : I2 (mo + 3) = I (mo + 3) := by
      rw [show I2 (mo + 3) = sM I2 mo 12 from rfl, e2, bodyS_k (by decide) (by decide), e1, bodyS_k (by decide) (by decide)]
      rfl
    refine ⟨?_, _, rfl, ?_, (f1).trans f2⟩
    · rw [ek]; try rw [hw]
      first | rfl | (simp (decide := true) only [goV]; done) | skip
    · rw [ek, e2, e1]; rfl
  · refine r_aload_n (pc := 0) dX5_going_0 rfl ?_
    refine r_getR (pc := 1) dX5_going_1 fl_X5_23_5 (MR_k hm) (fun _ _ => rfl) (MR_r11 hm) ?_
    refine r_iload_n (pc := 4) dX5_going_4 rfl ?_
    refine rm_iald (pc := 5) dX5_going_5 (MR_k11 hm) (MR_z11 hm) (by first | assumption | exact vp_in_lit rfl) ?_
    refine r_eqi 2 ek ?_
    refine r_istore3 (pc := 6) dX5_going_6 rfl ?_
    refine r_iload_n (pc := 7) dX5_going_7 rfl ?_
    refine r_istore4 (pc := 8) dX5_going_8 rfl ?_
    refine r_iload_n (pc := 10) dX5_going_10 rfl ?_
    refine r_iconst (pc := 11) (v := 1) dX5_going_11 (by decide) ?_
    refine r_icmp_eq (pc := 12) 26 dX5_going_12 rfl (fun hno => absurd hno (by decide)) (fun _ => ?_)
    refine r_iload_n (pc := 15) dX5_going_15 rfl ?_
    refine r_iconst (pc := 16) (v := 5) dX5_going_16 (by decide) ?_
    refine r_icmp_eq (pc := 17) 26 dX5_going_17 rfl (fun hno => absurd hno (by decide)) (fun _ => ?_)
    refine r_iload_n (pc := 20) dX5_going_20 rfl ?_
    refine r_bipush (pc := 21) (v := 6) dX5_going_21 (by decide) ?_
    refine r_icmp_ne (pc := 23) 30 dX5_going_23 rfl (fun _ => ?_) (fun hno => absurd hno (by decide))
    refine r_iconst (pc := 30) (v := 0) dX5_going_30 (by decide) ?_
    refine r_istore5 (pc := 31) dX5_going_31 rfl ?_
    refine r_iload_n (pc := 33) dX5_going_33 rfl ?_
    refine r_bipush (pc := 34) (v := 6) dX5_going_34 (by decide) ?_
    refine r_icmp_ne (pc := 36) 50 dX5_going_36 rfl (fun _ => ?_) (fun hno => absurd hno (by decide))
    refine r_iload (pc := 50) dX5_going_50 rfl ?_
    refine r_if_eq (pc := 52) 61 dX5_going_52 rfl (fun _ => ?_) (fun hno => absurd hno (by decide))
    refine r_iload_n (pc := 61) dX5_going_61 rfl ?_
    refine r_iconst (pc := 62) (v := 4) dX5_going_62 (by decide) ?_
    refine r_icmp_ne (pc := 63) 72 dX5_going_63 rfl (fun _ => ?_) (fun hno => absurd hno (by decide))
    refine r_aload_n (pc := 72) dX5_going_72 rfl ?_
    refine r_bipush (pc := 73) (v := 10) dX5_going_73 (by decide) ?_
    refine r_o2 (pc := 75) (bc' := 0) (bs' := 0) (ct_X5_body (I := I) hm _ ⟨n0 + 0, by omega, en0⟩) k_X5_307_5 dX5_going_75 (MR_k hm) (Nat.le_of_ble_eq_true rfl) ⟨Nat.le_of_ble_eq_true rfl, Nat.le_of_ble_eq_true rfl⟩ ⟨Nat.le_of_ble_eq_true rfl, Nat.le_of_ble_eq_true rfl⟩ (r_cv fun M75 p75 => ?_) nox
    obtain ⟨I1, rfl, e1, f1⟩ := p75
    have en1 : I1 mo 48 = nI (n0 + 1) := by rw [show I1 mo 48 = sM I1 mo 48 0 from rfl, e1]; exact bodyS_0 en0
    refine r_iload (pc := 78) dX5_going_78 rfl ?_
    refine r_iload_n (pc := 80) dX5_going_80 rfl ?_
    refine r_iadd (pc := 81) dX5_going_81 ?_
    refine r_istore6 (pc := 82) dX5_going_82 rfl ?_
    refine r_iload (pc := 84) dX5_going_84 rfl ?_
    refine r_if_eq (pc := 86) 101 dX5_going_86 rfl (fun _ => ?_) (fun hno => absurd hno (by decide))
    refine r_iload_n (pc := 101) dX5_going_101 rfl ?_
    refine r_iconst (pc := 102) (v := 4) dX5_going_102 (by decide) ?_
    refine r_icmp_ne (pc := 103) 113 dX5_going_103 rfl (fun _ => ?_) (fun hno => absurd hno (by decide))
    refine r_iload (pc := 113) dX5_going_113 rfl ?_
    refine r_ireturn (pc := 115) rfl dX5_going_115 ⟨_, rfl, ?_⟩
    have hw : I1 (mo + 3) = I (mo + 3) := by
      rw [show I1 (mo + 3) = sM I1 mo 12 from rfl, e1, bodyS_k (by decide) (by decide)]
      rfl
    refine ⟨?_, _, rfl, ?_, f1⟩
    · rw [ek]; try rw [hw]
      first | rfl | (simp (decide := true) only [goV]; done) | skip
    · rw [ek, e1]; rfl
  · refine r_aload_n (pc := 0) dX5_going_0 rfl ?_
    refine r_getR (pc := 1) dX5_going_1 fl_X5_23_5 (MR_k hm) (fun _ _ => rfl) (MR_r11 hm) ?_
    refine r_iload_n (pc := 4) dX5_going_4 rfl ?_
    refine rm_iald (pc := 5) dX5_going_5 (MR_k11 hm) (MR_z11 hm) (by first | assumption | exact vp_in_lit rfl) ?_
    refine r_eqi 3 ek ?_
    refine r_istore3 (pc := 6) dX5_going_6 rfl ?_
    refine r_iload_n (pc := 7) dX5_going_7 rfl ?_
    refine r_istore4 (pc := 8) dX5_going_8 rfl ?_
    refine r_iload_n (pc := 10) dX5_going_10 rfl ?_
    refine r_iconst (pc := 11) (v := 1) dX5_going_11 (by decide) ?_
    refine r_icmp_eq (pc := 12) 26 dX5_going_12 rfl (fun hno => absurd hno (by decide)) (fun _ => ?_)
    refine r_iload_n (pc := 15) dX5_going_15 rfl ?_
    refine r_iconst (pc := 16) (v := 5) dX5_going_16 (by decide) ?_
    refine r_icmp_eq (pc := 17) 26 dX5_going_17 rfl (fun hno => absurd hno (by decide)) (fun _ => ?_)
    refine r_iload_n (pc := 20) dX5_going_20 rfl ?_
    refine r_bipush (pc := 21) (v := 6) dX5_going_21 (by decide) ?_
    refine r_icmp_ne (pc := 23) 30 dX5_going_23 rfl (fun _ => ?_) (fun hno => absurd hno (by decide))
    refine r_iconst (pc := 30) (v := 0) dX5_going_30 (by decide) ?_
    refine r_istore5 (pc := 31) dX5_going_31 rfl ?_
    refine r_iload_n (pc := 33) dX5_going_33 rfl ?_
    refine r_bipush (pc := 34) (v := 6) dX5_going_34 (by decide) ?_
    refine r_icmp_ne (pc := 36) 50 dX5_going_36 rfl (fun _ => ?_) (fun hno => absurd hno (by decide))
    refine r_iload (pc := 50) dX5_going_50 rfl ?_
    refine r_if_eq (pc := 52) 61 dX5_going_52 rfl (fun _ => ?_) (fun hno => absurd hno (by decide))
    refine r_iload_n (pc := 61) dX5_going_61 rfl ?_
    refine r_iconst (pc := 62) (v := 4) dX5_going_62 (by decide) ?_
    refine r_icmp_ne (pc := 63) 72 dX5_going_63 rfl (fun _ => ?_) (fun hno => absurd hno (by decide))
    refine r_aload_n (pc := 72) dX5_going_72 rfl ?_
    refine r_bipush (pc := 73) (v := 10) dX5_going_73 (by decide) ?_
    refine r_o2 (pc := 75) (bc' := 0) (bs' := 0) (ct_X5_body (I := I) hm _ ⟨n0 + 0, by omega, en0⟩) k_X5_307_5 dX5_going_75 (MR_k hm) (Nat.le_of_ble_eq_true rfl) ⟨Nat.le_of_ble_eq_true rfl, Nat.le_of_ble_eq_true rfl⟩ ⟨Nat.le_of_ble_eq_true rfl, Nat.le_of_ble_eq_true rfl⟩ (r_cv fun M75 p75 => ?_) nox
    obtain ⟨I1, rfl, e1, f1⟩ := p75
    have en1 : I1 mo 48 = nI (n0 + 1) := by rw [show I1 mo 48 = sM I1 mo 48 0 from rfl, e1]; exact bodyS_0 en0
    refine r_iload (pc := 78) dX5_going_78 rfl ?_
    refine r_iload_n (pc := 80) dX5_going_80 rfl ?_
    refine r_iadd (pc := 81) dX5_going_81 ?_
    refine r_istore6 (pc := 82) dX5_going_82 rfl ?_
    refine r_iload (pc := 84) dX5_going_84 rfl ?_
    refine r_if_eq (pc := 86) 101 dX5_going_86 rfl (fun _ => ?_) (fun hno => absurd hno (by decide))
    refine r_iload_n (pc := 101) dX5_going_101 rfl ?_
    refine r_iconst (pc := 102) (v := 4) dX5_going_102 (by decide) ?_
    refine r_icmp_ne (pc := 103) 113 dX5_going_103 rfl (fun _ => ?_) (fun hno => absurd hno (by decide))
    refine r_iload (pc := 113) dX5_going_113 rfl ?_
    refine r_ireturn (pc := 115) rfl dX5_going_115 ⟨_, rfl, ?_⟩
    have hw : I1 (mo + 3) = I (mo + 3) := by
      rw [show I1 (mo + 3) = sM I1 mo 12 from rfl, e1, bodyS_k (by decide) (by decide)]
      rfl
    refine ⟨?_, _, rfl, ?_, f1⟩
    · rw [ek]; try rw [hw]
      first | rfl | (simp (decide := true) only [goV]; done) | skip
    · rw [ek, e1]; rfl
  · refine r_aload_n (pc := 0) dX5_going_0 rfl ?_
    refine r_getR (pc := 1) dX5_going_1 fl_X5_23_5 (MR_k hm) (fun _ _ => rfl) (MR_r11 hm) ?_
    refine r_iload_n (pc := 4) dX5_going_4 rfl ?_
    refine rm_iald (pc := 5) dX5_going_5 (MR_k11 hm) (MR_z11 hm) (by first | assumption | exact vp_in_lit rfl) ?_
    refine r_eqi 4 ek ?_
    refine r_istore3 (pc := 6) dX5_going_6 rfl ?_
    refine r_iload_n (pc := 7) dX5_going_7 rfl ?_
    refine r_istore4 (pc := 8) dX5_going_8 rfl ?_
    refine r_iload_n (pc := 10) dX5_going_10 rfl ?_
    refine r_iconst (pc := 11) (v := 1) dX5_going_11 (by decide) ?_
    refine r_icmp_eq (pc := 12) 26 dX5_going_12 rfl (fun hno => absurd hno (by decide)) (fun _ => ?_)
    refine r_iload_n (pc := 15) dX5_going_15 rfl ?_
    refine r_iconst (pc := 16) (v := 5) dX5_going_16 (by decide) ?_
    refine r_icmp_eq (pc := 17) 26 dX5_going_17 rfl (fun hno => absurd hno (by decide)) (fun _ => ?_)
    refine r_iload_n (pc := 20) dX5_going_20 rfl ?_
    refine r_bipush (pc := 21) (v := 6) dX5_going_21 (by decide) ?_
    refine r_icmp_ne (pc := 23) 30 dX5_going_23 rfl (fun _ => ?_) (fun hno => absurd hno (by decide))
    refine r_iconst (pc := 30) (v := 0) dX5_going_30 (by decide) ?_
    refine r_istore5 (pc := 31) dX5_going_31 rfl ?_
    refine r_iload_n (pc := 33) dX5_going_33 rfl ?_
    refine r_bipush (pc := 34) (v := 6) dX5_going_34 (by decide) ?_
    refine r_icmp_ne (pc := 36) 50 dX5_going_36 rfl (fun _ => ?_) (fun hno => absurd hno (by decide))
    refine r_iload (pc := 50) dX5_going_50 rfl ?_
    refine r_if_eq (pc := 52) 61 dX5_going_52 rfl (fun _ => ?_) (fun hno => absurd hno (by decide))
    refine r_iload_n (pc := 61) dX5_going_61 rfl ?_
    refine r_iconst (pc := 62) (v := 4) dX5_going_62 (by decide) ?_
    refine r_icmp_ne (pc := 63) 72 dX5_going_63 rfl (fun hno => absurd hno (by decide)) (fun _ => ?_)
    refine r_aload_n (pc := 66) dX5_going_66 rfl ?_
    refine r_bipush (pc := 67) (v := 70) dX5_going_67 (by decide) ?_
    refine r_o2 (pc := 69) (bc' := 0) (bs' := 0) (ct_X5_body (I := I) hm _ ⟨n0 + 0, by omega, en0⟩) k_X5_307_5 dX5_going_69 (MR_k hm) (Nat.le_of_ble_eq_true rfl) ⟨Nat.le_of_ble_eq_true rfl, Nat.le_of_ble_eq_true rfl⟩ ⟨Nat.le_of_ble_eq_true rfl, Nat.le_of_ble_eq_true rfl⟩ (r_cv fun M69 p69 => ?_) nox
    obtain ⟨I1, rfl, e1, f1⟩ := p69
    have en1 : I1 mo 48 = nI (n0 + 1) := by rw [show I1 mo 48 = sM I1 mo 48 0 from rfl, e1]; exact bodyS_0 en0
    refine r_aload_n (pc := 72) dX5_going_72 rfl ?_
    refine r_bipush (pc := 73) (v := 10) dX5_going_73 (by decide) ?_
    refine r_o2 (pc := 75) (bc' := 0) (bs' := 0) (ct_X5_body (I := I1) hm _ ⟨n0 + 1, by omega, en1⟩) k_X5_307_5 dX5_going_75 (MR_k hm) (Nat.le_of_ble_eq_true rfl) ⟨Nat.le_of_ble_eq_true rfl, Nat.le_of_ble_eq_true rfl⟩ ⟨Nat.le_of_ble_eq_true rfl, Nat.le_of_ble_eq_true rfl⟩ (r_cv fun M75 p75 => ?_) nox
    obtain ⟨I2, rfl, e2, f2⟩ := p75
    have en2 : I2 mo 48 = nI (n0 + 2) := by rw [show I2 mo 48 = sM I2 mo 48 0 from rfl, e2]; exact bodyS_0 en1
    refine r_iload (pc := 78) dX5_going_78 rfl ?_
    refine r_iload_n (pc := 80) dX5_going_80 rfl ?_
    refine r_iadd (pc := 81) dX5_going_81 ?_
    refine r_istore6 (pc := 82) dX5_going_82 rfl ?_
    refine r_iload (pc := 84) dX5_going_84 rfl ?_
    refine r_if_eq (pc := 86) 101 dX5_going_86 rfl (fun _ => ?_) (fun hno => absurd hno (by decide))
    refine r_iload_n (pc := 101) dX5_going_101 rfl ?_
    refine r_iconst (pc := 102) (v := 4) dX5_going_102 (by decide) ?_
    refine r_icmp_ne (pc := 103) 113 dX5_going_103 rfl (fun hno => absurd hno (by decide)) (fun _ => ?_)
    refine r_iload (pc := 106) dX5_going_106 rfl ?_
    refine r_iconst (pc := 108) (v := 2) dX5_going_108 (by decide) ?_
    refine r_imul (pc := 109) dX5_going_109 ?_
    refine r_goto (pc := 110) 115 dX5_going_110 rfl ?_
    refine r_ireturn (pc := 115) rfl dX5_going_115 ⟨_, rfl, ?_⟩
    have hw : I2 (mo + 3) = I (mo + 3) := by
      rw [show I2 (mo + 3) = sM I2 mo 12 from rfl, e2, bodyS_k (by decide) (by decide), e1, bodyS_k (by decide) (by decide)]
      rfl
    refine ⟨?_, _, rfl, ?_, (f1).trans f2⟩
    · rw [ek]; try rw [hw]
      first | rfl | (simp (decide := true) only [goV]; done) | skip
    · rw [ek, e2, e1]; rfl
  · refine r_aload_n (pc := 0) dX5_going_0 rfl ?_
    refine r_getR (pc := 1) dX5_going_1 fl_X5_23_5 (MR_k hm) (fun _ _ => rfl) (MR_r11 hm) ?_
    refine r_iload_n (pc := 4) dX5_going_4 rfl ?_
    refine rm_iald (pc := 5) dX5_going_5 (MR_k11 hm) (MR_z11 hm) (by first | assumption | exact vp_in_lit rfl) ?_
    refine r_eqi 5 ek ?_
    refine r_istore3 (pc := 6) dX5_going_6 rfl ?_
    refine r_iload_n (pc := 7) dX5_going_7 rfl ?_
    refine r_istore4 (pc := 8) dX5_going_8 rfl ?_
    refine r_iload_n (pc := 10) dX5_going_10 rfl ?_
    refine r_iconst (pc := 11) (v := 1) dX5_going_11 (by decide) ?_
    refine r_icmp_eq (pc := 12) 26 dX5_going_12 rfl (fun hno => absurd hno (by decide)) (fun _ => ?_)
    refine r_iload_n (pc := 15) dX5_going_15 rfl ?_
    refine r_iconst (pc := 16) (v := 5) dX5_going_16 (by decide) ?_
    refine r_icmp_eq (pc := 17) 26 dX5_going_17 rfl (fun _ => ?_) (fun hno => absurd hno (by decide))
    refine r_iconst (pc := 26) (v := 1) dX5_going_26 (by decide) ?_
    refine r_goto (pc := 27) 31 dX5_going_27 rfl ?_
    refine r_istore5 (pc := 31) dX5_going_31 rfl ?_
    refine r_iload_n (pc := 33) dX5_going_33 rfl ?_
    refine r_bipush (pc := 34) (v := 6) dX5_going_34 (by decide) ?_
    refine r_icmp_ne (pc := 36) 50 dX5_going_36 rfl (fun _ => ?_) (fun hno => absurd hno (by decide))
    refine r_iload (pc := 50) dX5_going_50 rfl ?_
    refine r_if_eq (pc := 52) 61 dX5_going_52 rfl (fun hno => absurd hno (by decide)) (fun _ => ?_)
    refine r_aload_n (pc := 55) dX5_going_55 rfl ?_
    refine r_bipush (pc := 56) (v := 20) dX5_going_56 (by decide) ?_
    refine r_o2 (pc := 58) (bc' := 0) (bs' := 0) (ct_X5_body (I := I) hm _ ⟨n0 + 0, by omega, en0⟩) k_X5_307_5 dX5_going_58 (MR_k hm) (Nat.le_of_ble_eq_true rfl) ⟨Nat.le_of_ble_eq_true rfl, Nat.le_of_ble_eq_true rfl⟩ ⟨Nat.le_of_ble_eq_true rfl, Nat.le_of_ble_eq_true rfl⟩ (r_cv fun M58 p58 => ?_) nox
    obtain ⟨I1, rfl, e1, f1⟩ := p58
    have en1 : I1 mo 48 = nI (n0 + 1) := by rw [show I1 mo 48 = sM I1 mo 48 0 from rfl, e1]; exact bodyS_0 en0
    refine r_iload_n (pc := 61) dX5_going_61 rfl ?_
    refine r_iconst (pc := 62) (v := 4) dX5_going_62 (by decide) ?_
    refine r_icmp_ne (pc := 63) 72 dX5_going_63 rfl (fun _ => ?_) (fun hno => absurd hno (by decide))
    refine r_aload_n (pc := 72) dX5_going_72 rfl ?_
    refine r_bipush (pc := 73) (v := 10) dX5_going_73 (by decide) ?_
    refine r_o2 (pc := 75) (bc' := 0) (bs' := 0) (ct_X5_body (I := I1) hm _ ⟨n0 + 1, by omega, en1⟩) k_X5_307_5 dX5_going_75 (MR_k hm) (Nat.le_of_ble_eq_true rfl) ⟨Nat.le_of_ble_eq_true rfl, Nat.le_of_ble_eq_true rfl⟩ ⟨Nat.le_of_ble_eq_true rfl, Nat.le_of_ble_eq_true rfl⟩ (r_cv fun M75 p75 => ?_) nox
    obtain ⟨I2, rfl, e2, f2⟩ := p75
    have en2 : I2 mo 48 = nI (n0 + 2) := by rw [show I2 mo 48 = sM I2 mo 48 0 from rfl, e2]; exact bodyS_0 en1
    refine r_iload (pc := 78) dX5_going_78 rfl ?_
    refine r_iload_n (pc := 80) dX5_going_80 rfl ?_
    refine r_iadd (pc := 81) dX5_going_81 ?_
    refine r_istore6 (pc := 82) dX5_going_82 rfl ?_
    refine r_iload (pc := 84) dX5_going_84 rfl ?_
    refine r_if_eq (pc := 86) 101 dX5_going_86 rfl (fun hno => absurd hno (by decide)) (fun _ => ?_)
    refine r_iload (pc := 89) dX5_going_89 rfl ?_
    refine r_aload_n (pc := 91) dX5_going_91 rfl ?_
    refine r_getR (pc := 92) dX5_going_92 fl_X5_26_5 (MR_k hm) (fun _ _ => rfl) (MR_r12 hm) ?_
    refine r_iload_n (pc := 95) dX5_going_95 rfl ?_
    refine rm_iald (pc := 96) dX5_going_96 (MR_k12 hm) (MR_z12 hm) (by first | assumption | exact vp_in_lit rfl) ?_
    refine r_iadd (pc := 97) dX5_going_97 ?_
    refine r_goto (pc := 98) 115 dX5_going_98 rfl ?_
    refine r_ireturn (pc := 115) rfl dX5_going_115 ⟨_, rfl, ?_⟩
    have hw : I2 (mo + 3) = I (mo + 3) := by
      rw [show I2 (mo + 3) = sM I2 mo 12 from rfl, e2, bodyS_k (by decide) (by decide), e1, bodyS_k (by decide) (by decide)]
      rfl
    refine ⟨?_, _, rfl, ?_, (f1).trans f2⟩
    · rw [ek]; try rw [hw]
      first | rfl | (simp (decide := true) only [goV]; done) | skip
    · rw [ek, e2, e1]; rfl
  · refine r_aload_n (pc := 0) dX5_going_0 rfl ?_
    refine r_getR (pc := 1) dX5_going_1 fl_X5_23_5 (MR_k hm) (fun _ _ => rfl) (MR_r11 hm) ?_
    refine r_iload_n (pc := 4) dX5_going_4 rfl ?_
    refine rm_iald (pc := 5) dX5_going_5 (MR_k11 hm) (MR_z11 hm) (by first | assumption | exact vp_in_lit rfl) ?_
    refine r_eqi 6 ek ?_
    refine r_istore3 (pc := 6) dX5_going_6 rfl ?_
    refine r_iload_n (pc := 7) dX5_going_7 rfl ?_
    refine r_istore4 (pc := 8) dX5_going_8 rfl ?_
    refine r_iload_n (pc := 10) dX5_going_10 rfl ?_
    refine r_iconst (pc := 11) (v := 1) dX5_going_11 (by decide) ?_
    refine r_icmp_eq (pc := 12) 26 dX5_going_12 rfl (fun hno => absurd hno (by decide)) (fun _ => ?_)
    refine r_iload_n (pc := 15) dX5_going_15 rfl ?_
    refine r_iconst (pc := 16) (v := 5) dX5_going_16 (by decide) ?_
    refine r_icmp_eq (pc := 17) 26 dX5_going_17 rfl (fun hno => absurd hno (by decide)) (fun _ => ?_)
    refine r_iload_n (pc := 20) dX5_going_20 rfl ?_
    refine r_bipush (pc := 21) (v := 6) dX5_going_21 (by decide) ?_
    refine r_icmp_ne (pc := 23) 30 dX5_going_23 rfl (fun hno => absurd hno (by decide)) (fun _ => ?_)
    refine r_iconst (pc := 26) (v := 1) dX5_going_26 (by decide) ?_
    refine r_goto (pc := 27) 31 dX5_going_27 rfl ?_
    refine r_istore5 (pc := 31) dX5_going_31 rfl ?_
    refine r_iload_n (pc := 33) dX5_going_33 rfl ?_
    refine r_bipush (pc := 34) (v := 6) dX5_going_34 (by decide) ?_
    refine r_icmp_ne (pc := 36) 50 dX5_going_36 rfl (fun hno => absurd hno (by decide)) (fun _ => ?_)
    refine r_aload_n (pc := 39) dX5_going_39 rfl ?_
    refine r_bipush (pc := 40) (v := 40) dX5_going_40 (by decide) ?_
    refine r_o2 (pc := 42) (bc' := 0) (bs' := 0) (ct_X5_body (I := I) hm _ ⟨n0 + 0, by omega, en0⟩) k_X5_307_5 dX5_going_42 (MR_k hm) (Nat.le_of_ble_eq_true rfl) ⟨Nat.le_of_ble_eq_true rfl, Nat.le_of_ble_eq_true rfl⟩ ⟨Nat.le_of_ble_eq_true rfl, Nat.le_of_ble_eq_true rfl⟩ (r_cv fun M42 p42 => ?_) nox
    obtain ⟨I1, rfl, e1, f1⟩ := p42
    have en1 : I1 mo 48 = nI (n0 + 1) := by rw [show I1 mo 48 = sM I1 mo 48 0 from rfl, e1]; exact bodyS_0 en0
    refine r_iload_n (pc := 45) dX5_going_45 rfl ?_
    refine r_iconst (pc := 46) (v := 1) dX5_going_46 (by decide) ?_
    refine r_iadd (pc := 47) dX5_going_47 ?_
    refine r_istore4 (pc := 48) dX5_going_48 rfl ?_
    refine r_iload (pc := 50) dX5_going_50 rfl ?_
    refine r_if_eq (pc := 52) 61 dX5_going_52 rfl (fun hno => absurd hno (by decide)) (fun _ => ?_)
    refine r_aload_n (pc := 55) dX5_going_55 rfl ?_
    refine r_bipush (pc := 56) (v := 20) dX5_going_56 (by decide) ?_
    refine r_o2 (pc := 58) (bc' := 0) (bs' := 0) (ct_X5_body (I := I1) hm _ ⟨n0 + 1, by omega, en1⟩) k_X5_307_5 dX5_going_58 (MR_k hm) (Nat.le_of_ble_eq_true rfl) ⟨Nat.le_of_ble_eq_true rfl, Nat.le_of_ble_eq_true rfl⟩ ⟨Nat.le_of_ble_eq_true rfl, Nat.le_of_ble_eq_true rfl⟩ (r_cv fun M58 p58 => ?_) nox
    obtain ⟨I2, rfl, e2, f2⟩ := p58
    have en2 : I2 mo 48 = nI (n0 + 2) := by rw [show I2 mo 48 = sM I2 mo 48 0 from rfl, e2]; exact bodyS_0 en1
    refine r_iload_n (pc := 61) dX5_going_61 rfl ?_
    refine r_iconst (pc := 62) (v := 4) dX5_going_62 (by decide) ?_
    refine r_icmp_ne (pc := 63) 72 dX5_going_63 rfl (fun _ => ?_) (fun hno => absurd hno (by decide))
    refine r_aload_n (pc := 72) dX5_going_72 rfl ?_
    refine r_bipush (pc := 73) (v := 10) dX5_going_73 (by decide) ?_
    refine r_o2 (pc := 75) (bc' := 0) (bs' := 0) (ct_X5_body (I := I2) hm _ ⟨n0 + 2, by omega, en2⟩) k_X5_307_5 dX5_going_75 (MR_k hm) (Nat.le_of_ble_eq_true rfl) ⟨Nat.le_of_ble_eq_true rfl, Nat.le_of_ble_eq_true rfl⟩ ⟨Nat.le_of_ble_eq_true rfl, Nat.le_of_ble_eq_true rfl⟩ (r_cv fun M75 p75 => ?_) nox
    obtain ⟨I3, rfl, e3, f3⟩ := p75
    have en3 : I3 mo 48 = nI (n0 + 3) := by rw [show I3 mo 48 = sM I3 mo 48 0 from rfl, e3]; exact bodyS_0 en2
    refine r_iload (pc := 78) dX5_going_78 rfl ?_
    refine r_iload_n (pc := 80) dX5_going_80 rfl ?_
    refine r_iadd (pc := 81) dX5_going_81 ?_
    refine r_istore6 (pc := 82) dX5_going_82 rfl ?_
    refine r_iload (pc := 84) dX5_going_84 rfl ?_
    refine r_if_eq (pc := 86) 101 dX5_going_86 rfl (fun hno => absurd hno (by decide)) (fun _ => ?_)
    refine r_iload (pc := 89) dX5_going_89 rfl ?_
    refine r_aload_n (pc := 91) dX5_going_91 rfl ?_
    refine r_getR (pc := 92) dX5_going_92 fl_X5_26_5 (MR_k hm) (fun _ _ => rfl) (MR_r12 hm) ?_
    refine r_iload_n (pc := 95) dX5_going_95 rfl ?_
    refine rm_iald (pc := 96) dX5_going_96 (MR_k12 hm) (MR_z12 hm) (by first | assumption | exact vp_in_lit rfl) ?_
    refine r_iadd (pc := 97) dX5_going_97 ?_
    refine r_goto (pc := 98) 115 dX5_going_98 rfl ?_
    refine r_ireturn (pc := 115) rfl dX5_going_115 ⟨_, rfl, ?_⟩
    have hw : I3 (mo + 3) = I (mo + 3) := by
      rw [show I3 (mo + 3) = sM I3 mo 12 from rfl, e3, bodyS_k (by decide) (by decide), e2, bodyS_k (by decide) (by decide), e1, bodyS_k (by decide) (by decide)]
      rfl
    refine ⟨?_, _, rfl, ?_, ((f1).trans f2).trans f3⟩
    · rw [ek]; try rw [hw]
      first | rfl | (simp (decide := true) only [goV]; done) | skip
    · rw [ek, e3, e2, e1]; rfl
theorem ct_X5_resting {M0 : PM} {mo : Nat} {I : Nat → Nat → Int32} {L : Nat → Nat → Int64} (hm : MR M0 mo) (x1 : Int32) (x2 : Int32) (hx : vp_in x1 8) (hb : ∃ n : Nat, n ≤ 30 ∧ I mo 48 = nI n) (hk : bd (I (mo + 2) x1.toNatClampNeg) 0 6) : Ct (YX5_resting, (2, 47, 0, 0), qi (fun r M' => r = reV (I (mo + 2) x1.toNatClampNeg) (I (mo + 3) x1.toNatClampNeg) x1 x2 ∧ ∃ I', M' = wIL M0 I' L ∧ sM I' mo = bodiesS (sM I mo) (reB (I (mo + 2) x1.toNatClampNeg)) ∧ frM mo I I' L L), noX) [.ref mo, .int x1, .int x2] (wIL M0 I L) := by
  refine ct_of [some (.ref mo), some (.int x1), some (.int x2), none, none] rfl rfl rfl (Nat.le_of_ble_eq_true rfl) rfl rfl ?_
  obtain ⟨n0, hn0, en0⟩ := hb
  obtain ⟨k, hk6, ek⟩ := bd_nI (n := 6) hk
  have hc : k = 0 ∨ k = 1 ∨ k = 2 ∨ k = 3 ∨ k = 4 ∨ k = 5 ∨ k = 6 := by omega
  rcases hc with rfl | rfl | rfl | rfl | rfl | rfl | rfl
  · refine r_aload_n (pc := 0) dX5_resting_0 rfl ?_
    refine r_getR (pc := 1) dX5_resting_1 fl_X5_23_5 (MR_k hm) (fun _ _ => rfl) (MR_r11 hm) ?_
    refine r_iload_n (pc := 4) dX5_resting_4 rfl ?_
    refine rm_iald (pc := 5) dX5_resting_5 (MR_k11 hm) (MR_z11 hm) (by first | assumption | exact vp_in_lit rfl) ?_
    refine r_eqi 0 ek ?_
    refine r_istore3 (pc := 6) dX5_resting_6 rfl ?_
    refine r_iload_n (pc := 7) dX5_resting_7 rfl ?_
    refine r_iconst (pc := 8) (v := 5) dX5_resting_8 (by decide) ?_
    refine r_icmp_ne (pc := 9) 18 dX5_resting_9 rfl (fun _ => ?_) (fun hno => absurd hno (by decide))
    refine r_iload_n (pc := 18) dX5_resting_18 rfl ?_
    refine r_iconst (pc := 19) (v := 3) dX5_resting_19 (by decide) ?_
    refine r_icmp_ne (pc := 20) 29 dX5_resting_20 rfl (fun _ => ?_) (fun hno => absurd hno (by decide))
    refine r_iload_n (pc := 29) dX5_resting_29 rfl ?_
    refine r_iconst (pc := 30) (v := 2) dX5_resting_30 (by decide) ?_
    refine r_icmp_eq (pc := 31) 39 dX5_resting_31 rfl (fun hno => absurd hno (by decide)) (fun _ => ?_)
    refine r_iload_n (pc := 34) dX5_resting_34 rfl ?_
    refine r_iconst (pc := 35) (v := 3) dX5_resting_35 (by decide) ?_
    refine r_icmp_ne (pc := 36) 45 dX5_resting_36 rfl (fun _ => ?_) (fun hno => absurd hno (by decide))
    refine r_aload_n (pc := 45) dX5_resting_45 rfl ?_
    refine r_bipush (pc := 46) (v := 11) dX5_resting_46 (by decide) ?_
    refine r_o2 (pc := 48) (bc' := 0) (bs' := 0) (ct_X5_body (I := I) hm _ ⟨n0 + 0, by omega, en0⟩) k_X5_307_5 dX5_resting_48 (MR_k hm) (Nat.le_of_ble_eq_true rfl) ⟨Nat.le_of_ble_eq_true rfl, Nat.le_of_ble_eq_true rfl⟩ ⟨Nat.le_of_ble_eq_true rfl, Nat.le_of_ble_eq_true rfl⟩ (r_cv fun M48 p48 => ?_) nox
    obtain ⟨I1, rfl, e1, f1⟩ := p48
    have en1 : I1 mo 48 = nI (n0 + 1) := by rw [show I1 mo 48 = sM I1 mo 48 0 from rfl, e1]; exact bodyS_0 en0
    have k11_1 : I1 (mo + 2) = I (mo + 2) := by rw [show I1 (mo + 2) = sM I1 mo 11 from rfl, e1, bodyS_k (by decide) (by decide)]; exact rfl
    have k12_1 : I1 (mo + 3) = I (mo + 3) := by rw [show I1 (mo + 3) = sM I1 mo 12 from rfl, e1, bodyS_k (by decide) (by decide)]; exact rfl
    refine r_aload_n (pc := 51) dX5_resting_51 rfl ?_
    refine r_iload_n (pc := 52) dX5_resting_52 rfl ?_
    refine r_iload_n (pc := 53) dX5_resting_53 rfl ?_
    refine r_o3 (pc := 54) (bc' := 0) (bs' := 0) (ct_X5_going (I := I1) hm _ _ hx ⟨n0 + 1, by omega, en1⟩ (by rw [k11_1]; exact hk)) k_X5_310_5 dX5_resting_54 (MR_k hm) (Nat.le_of_ble_eq_true rfl) ⟨Nat.le_of_ble_eq_true rfl, Nat.le_of_ble_eq_true rfl⟩ ⟨Nat.le_of_ble_eq_true rfl, Nat.le_of_ble_eq_true rfl⟩ (r_ci fun r54 M54 p54 => ?_) nox
    obtain ⟨er2, I2, rfl, e2, f2⟩ := p54
    rw [k11_1, ek] at er2 e2
    rw [k12_1] at er2
    have en2 : I2 mo 48 = nI (n0 + 2) := by rw [show I2 mo 48 = sM I2 mo 48 0 from rfl, e2, bodiesS_0 en1]; rfl
    have k11_2 : I2 (mo + 2) = I (mo + 2) := by rw [show I2 (mo + 2) = sM I2 mo 11 from rfl, e2, bodiesS_k (by decide) (by decide)]; exact k11_1
    have k12_2 : I2 (mo + 3) = I (mo + 3) := by rw [show I2 (mo + 3) = sM I2 mo 12 from rfl, e2, bodiesS_k (by decide) (by decide)]; exact k12_1
    subst er2
    refine r_iconst (pc := 57) (v := 2) dX5_resting_57 (by decide) ?_
    refine r_imul (pc := 58) dX5_resting_58 ?_
    refine r_istore4 (pc := 59) dX5_resting_59 rfl ?_
    refine r_iload_n (pc := 61) dX5_resting_61 rfl ?_
    refine r_iconst (pc := 62) (v := 5) dX5_resting_62 (by decide) ?_
    refine r_icmp_ne (pc := 63) 73 dX5_resting_63 rfl (fun _ => ?_) (fun hno => absurd hno (by decide))
    refine r_iload_n (pc := 73) dX5_resting_73 rfl ?_
    refine r_iconst (pc := 74) (v := 2) dX5_resting_74 (by decide) ?_
    refine r_icmp_ne (pc := 75) 84 dX5_resting_75 rfl (fun _ => ?_) (fun hno => absurd hno (by decide))
    refine r_iload_n (pc := 84) dX5_resting_84 rfl ?_
    refine r_iconst (pc := 85) (v := 3) dX5_resting_85 (by decide) ?_
    refine r_icmp_ne (pc := 86) 97 dX5_resting_86 rfl (fun _ => ?_) (fun hno => absurd hno (by decide))
    refine r_iload (pc := 97) dX5_resting_97 rfl ?_
    refine r_ireturn (pc := 99) rfl dX5_resting_99 ⟨_, rfl, ?_⟩
    refine ⟨?_, _, rfl, ?_, (f1).trans f2⟩
    · rw [ek]; first | rfl | (simp (decide := true) only [reV]; done) | skip
    · rw [ek, e2, e1]; rfl
  · refine r_aload_n (pc := 0) dX5_resting_0 rfl ?_
    refine r_getR (pc := 1) dX5_resting_1 fl_X5_23_5 (MR_k hm) (fun _ _ => rfl) (MR_r11 hm) ?_
    refine r_iload_n (pc := 4) dX5_resting_4 rfl ?_
    refine rm_iald (pc := 5) dX5_resting_5 (MR_k11 hm) (MR_z11 hm) (by first | assumption | exact vp_in_lit rfl) ?_
    refine r_eqi 1 ek ?_
    refine r_istore3 (pc := 6) dX5_resting_6 rfl ?_
    refine r_iload_n (pc := 7) dX5_resting_7 rfl ?_
    refine r_iconst (pc := 8) (v := 5) dX5_resting_8 (by decide) ?_
    refine r_icmp_ne (pc := 9) 18 dX5_resting_9 rfl (fun _ => ?_) (fun hno => absurd hno (by decide))
    refine r_iload_n (pc := 18) dX5_resting_18 rfl ?_
    refine r_iconst (pc := 19) (v := 3) dX5_resting_19 (by decide) ?_
    refine r_icmp_ne (pc := 20) 29 dX5_resting_20 rfl (fun _ => ?_) (fun hno => absurd hno (by decide))
    refine r_iload_n (pc := 29) dX5_resting_29 rfl ?_
    refine r_iconst (pc := 30) (v := 2) dX5_resting_30 (by decide) ?_
    refine r_icmp_eq (pc := 31) 39 dX5_resting_31 rfl (fun hno => absurd hno (by decide)) (fun _ => ?_)
    refine r_iload_n (pc := 34) dX5_resting_34 rfl ?_
    refine r_iconst (pc := 35) (v := 3) dX5_resting_35 (by decide) ?_
    refine r_icmp_ne (pc := 36) 45 dX5_resting_36 rfl (fun _ => ?_) (fun hno => absurd hno (by decide))
    refine r_aload_n (pc := 45) dX5_resting_45 rfl ?_
    refine r_bipush (pc := 46) (v := 11) dX5_resting_46 (by decide) ?_
    refine r_o2 (pc := 48) (bc' := 0) (bs' := 0) (ct_X5_body (I := I) hm _ ⟨n0 + 0, by omega, en0⟩) k_X5_307_5 dX5_resting_48 (MR_k hm) (Nat.le_of_ble_eq_true rfl) ⟨Nat.le_of_ble_eq_true rfl, Nat.le_of_ble_eq_true rfl⟩ ⟨Nat.le_of_ble_eq_true rfl, Nat.le_of_ble_eq_true rfl⟩ (r_cv fun M48 p48 => ?_) nox
    obtain ⟨I1, rfl, e1, f1⟩ := p48
    have en1 : I1 mo 48 = nI (n0 + 1) := by rw [show I1 mo 48 = sM I1 mo 48 0 from rfl, e1]; exact bodyS_0 en0
    have k11_1 : I1 (mo + 2) = I (mo + 2) := by rw [show I1 (mo + 2) = sM I1 mo 11 from rfl, e1, bodyS_k (by decide) (by decide)]; exact rfl
    have k12_1 : I1 (mo + 3) = I (mo + 3) := by rw [show I1 (mo + 3) = sM I1 mo 12 from rfl, e1, bodyS_k (by decide) (by decide)]; exact rfl
    refine r_aload_n (pc := 51) dX5_resting_51 rfl ?_
    refine r_iload_n (pc := 52) dX5_resting_52 rfl ?_
    refine r_iload_n (pc := 53) dX5_resting_53 rfl ?_
    refine r_o3 (pc := 54) (bc' := 0) (bs' := 0) (ct_X5_going (I := I1) hm _ _ hx ⟨n0 + 1, by omega, en1⟩ (by rw [k11_1]; exact hk)) k_X5_310_5 dX5_resting_54 (MR_k hm) (Nat.le_of_ble_eq_true rfl) ⟨Nat.le_of_ble_eq_true rfl, Nat.le_of_ble_eq_true rfl⟩ ⟨Nat.le_of_ble_eq_true rfl, Nat.le_of_ble_eq_true rfl⟩ (r_ci fun r54 M54 p54 => ?_) nox
    obtain ⟨er2, I2, rfl, e2, f2⟩ := p54
    rw [k11_1, ek] at er2 e2
    rw [k12_1] at er2
    have en2 : I2 mo 48 = nI (n0 + 3) := by rw [show I2 mo 48 = sM I2 mo 48 0 from rfl, e2, bodiesS_0 en1]; rfl
    have k11_2 : I2 (mo + 2) = I (mo + 2) := by rw [show I2 (mo + 2) = sM I2 mo 11 from rfl, e2, bodiesS_k (by decide) (by decide)]; exact k11_1
    have k12_2 : I2 (mo + 3) = I (mo + 3) := by rw [show I2 (mo + 3) = sM I2 mo 12 from rfl, e2, bodiesS_k (by decide) (by decide)]; exact k12_1
    subst er2
    refine r_iconst (pc := 57) (v := 2) dX5_resting_57 (by decide) ?_
    refine r_imul (pc := 58) dX5_resting_58 ?_
    refine r_istore4 (pc := 59) dX5_resting_59 rfl ?_
    refine r_iload_n (pc := 61) dX5_resting_61 rfl ?_
    refine r_iconst (pc := 62) (v := 5) dX5_resting_62 (by decide) ?_
    refine r_icmp_ne (pc := 63) 73 dX5_resting_63 rfl (fun _ => ?_) (fun hno => absurd hno (by decide))
    refine r_iload_n (pc := 73) dX5_resting_73 rfl ?_
    refine r_iconst (pc := 74) (v := 2) dX5_resting_74 (by decide) ?_
    refine r_icmp_ne (pc := 75) 84 dX5_resting_75 rfl (fun _ => ?_) (fun hno => absurd hno (by decide))
    refine r_iload_n (pc := 84) dX5_resting_84 rfl ?_
    refine r_iconst (pc := 85) (v := 3) dX5_resting_85 (by decide) ?_
    refine r_icmp_ne (pc := 86) 97 dX5_resting_86 rfl (fun _ => ?_) (fun hno => absurd hno (by decide))
    refine r_iload (pc := 97) dX5_resting_97 rfl ?_
    refine r_ireturn (pc := 99) rfl dX5_resting_99 ⟨_, rfl, ?_⟩
    refine ⟨?_, _, rfl, ?_, (f1).trans f2⟩
    · rw [ek]; first | rfl | (simp (decide := true) only [reV]; done) | skip
    · rw [ek, e2, e1]; rfl
  · refine r_aload_n (pc := 0) dX5_resting_0 rfl ?_
    refine r_getR (pc := 1) dX5_resting_1 fl_X5_23_5 (MR_k hm) (fun _ _ => rfl) (MR_r11 hm) ?_
    refine r_iload_n (pc := 4) dX5_resting_4 rfl ?_
    refine rm_iald (pc := 5) dX5_resting_5 (MR_k11 hm) (MR_z11 hm) (by first | assumption | exact vp_in_lit rfl) ?_
    refine r_eqi 2 ek ?_
    refine r_istore3 (pc := 6) dX5_resting_6 rfl ?_
    refine r_iload_n (pc := 7) dX5_resting_7 rfl ?_
    refine r_iconst (pc := 8) (v := 5) dX5_resting_8 (by decide) ?_
    refine r_icmp_ne (pc := 9) 18 dX5_resting_9 rfl (fun _ => ?_) (fun hno => absurd hno (by decide))
    refine r_iload_n (pc := 18) dX5_resting_18 rfl ?_
    refine r_iconst (pc := 19) (v := 3) dX5_resting_19 (by decide) ?_
    refine r_icmp_ne (pc := 20) 29 dX5_resting_20 rfl (fun _ => ?_) (fun hno => absurd hno (by decide))
    refine r_iload_n (pc := 29) dX5_resting_29 rfl ?_
    refine r_iconst (pc := 30) (v := 2) dX5_resting_30 (by decide) ?_
    refine r_icmp_eq (pc := 31) 39 dX5_resting_31 rfl (fun _ => ?_) (fun hno => absurd hno (by decide))
    refine r_aload_n (pc := 39) dX5_resting_39 rfl ?_
    refine r_bipush (pc := 40) (v := 50) dX5_resting_40 (by decide) ?_
    refine r_o2 (pc := 42) (bc' := 0) (bs' := 0) (ct_X5_body (I := I) hm _ ⟨n0 + 0, by omega, en0⟩) k_X5_307_5 dX5_resting_42 (MR_k hm) (Nat.le_of_ble_eq_true rfl) ⟨Nat.le_of_ble_eq_true rfl, Nat.le_of_ble_eq_true rfl⟩ ⟨Nat.le_of_ble_eq_true rfl, Nat.le_of_ble_eq_true rfl⟩ (r_cv fun M42 p42 => ?_) nox
    obtain ⟨I1, rfl, e1, f1⟩ := p42
    have en1 : I1 mo 48 = nI (n0 + 1) := by rw [show I1 mo 48 = sM I1 mo 48 0 from rfl, e1]; exact bodyS_0 en0
    have k11_1 : I1 (mo + 2) = I (mo + 2) := by rw [show I1 (mo + 2) = sM I1 mo 11 from rfl, e1, bodyS_k (by decide) (by decide)]; exact rfl
    have k12_1 : I1 (mo + 3) = I (mo + 3) := by rw [show I1 (mo + 3) = sM I1 mo 12 from rfl, e1, bodyS_k (by decide) (by decide)]; exact rfl
    refine r_aload_n (pc := 45) dX5_resting_45 rfl ?_
    refine r_bipush (pc := 46) (v := 11) dX5_resting_46 (by decide) ?_
    refine r_o2 (pc := 48) (bc' := 0) (bs' := 0) (ct_X5_body (I := I1) hm _ ⟨n0 + 1, by omega, en1⟩) k_X5_307_5 dX5_resting_48 (MR_k hm) (Nat.le_of_ble_eq_true rfl) ⟨Nat.le_of_ble_eq_true rfl, Nat.le_of_ble_eq_true rfl⟩ ⟨Nat.le_of_ble_eq_true rfl, Nat.le_of_ble_eq_true rfl⟩ (r_cv fun M48 p48 => ?_) nox
    obtain ⟨I2, rfl, e2, f2⟩ := p48
    have en2 : I2 mo 48 = nI (n0 + 2) := by rw [show I2 mo 48 = sM I2 mo 48 0 from rfl, e2]; exact bodyS_0 en1
    have k11_2 : I2 (mo + 2) = I (mo + 2) := by rw [show I2 (mo + 2) = sM I2 mo 11 from rfl, e2, bodyS_k (by decide) (by decide)]; exact k11_1
    have k12_2 : I2 (mo + 3) = I (mo + 3) := by rw [show I2 (mo + 3) = sM I2 mo 12 from rfl, e2, bodyS_k (by decide) (by decide)]; exact k12_1
    refine r_aload_n (pc := 51) dX5_resting_51 rfl ?_
    refine r_iload_n (pc := 52) dX5_resting_52 rfl ?_
    refine r_iload_n (pc := 53) dX5_resting_53 rfl ?_
    refine r_o3 (pc := 54) (bc' := 0) (bs' := 0) (ct_X5_going (I := I2) hm _ _ hx ⟨n0 + 2, by omega, en2⟩ (by rw [k11_2]; exact hk)) k_X5_310_5 dX5_resting_54 (MR_k hm) (Nat.le_of_ble_eq_true rfl) ⟨Nat.le_of_ble_eq_true rfl, Nat.le_of_ble_eq_true rfl⟩ ⟨Nat.le_of_ble_eq_true rfl, Nat.le_of_ble_eq_true rfl⟩ (r_ci fun r54 M54 p54 => ?_) nox
    obtain ⟨er3, I3, rfl, e3, f3⟩ := p54
    rw [k11_2, ek] at er3 e3
    rw [k12_2] at er3
    have en3 : I3 mo 48 = nI (n0 + 3) := by rw [show I3 mo 48 = sM I3 mo 48 0 from rfl, e3, bodiesS_0 en2]; rfl
    have k11_3 : I3 (mo + 2) = I (mo + 2) := by rw [show I3 (mo + 2) = sM I3 mo 11 from rfl, e3, bodiesS_k (by decide) (by decide)]; exact k11_2
    have k12_3 : I3 (mo + 3) = I (mo + 3) := by rw [show I3 (mo + 3) = sM I3 mo 12 from rfl, e3, bodiesS_k (by decide) (by decide)]; exact k12_2
    subst er3
    refine r_iconst (pc := 57) (v := 2) dX5_resting_57 (by decide) ?_
    refine r_imul (pc := 58) dX5_resting_58 ?_
    refine r_istore4 (pc := 59) dX5_resting_59 rfl ?_
    refine r_iload_n (pc := 61) dX5_resting_61 rfl ?_
    refine r_iconst (pc := 62) (v := 5) dX5_resting_62 (by decide) ?_
    refine r_icmp_ne (pc := 63) 73 dX5_resting_63 rfl (fun _ => ?_) (fun hno => absurd hno (by decide))
    refine r_iload_n (pc := 73) dX5_resting_73 rfl ?_
    refine r_iconst (pc := 74) (v := 2) dX5_resting_74 (by decide) ?_
    refine r_icmp_ne (pc := 75) 84 dX5_resting_75 rfl (fun hno => absurd hno (by decide)) (fun _ => ?_)
    refine r_iload (pc := 78) dX5_resting_78 rfl ?_
    refine r_ineg (pc := 80) dX5_resting_80 ?_
    refine r_goto (pc := 81) 99 dX5_resting_81 rfl ?_
    refine r_ireturn (pc := 99) rfl dX5_resting_99 ⟨_, rfl, ?_⟩
    refine ⟨?_, _, rfl, ?_, ((f1).trans f2).trans f3⟩
    · rw [ek]; first | rfl | (simp (decide := true) only [reV]; done) | skip
    · rw [ek, e3, e2, e1]; rfl
  · refine r_aload_n (pc := 0) dX5_resting_0 rfl ?_
    refine r_getR (pc := 1) dX5_resting_1 fl_X5_23_5 (MR_k hm) (fun _ _ => rfl) (MR_r11 hm) ?_
    refine r_iload_n (pc := 4) dX5_resting_4 rfl ?_
    refine rm_iald (pc := 5) dX5_resting_5 (MR_k11 hm) (MR_z11 hm) (by first | assumption | exact vp_in_lit rfl) ?_
    refine r_eqi 3 ek ?_
    refine r_istore3 (pc := 6) dX5_resting_6 rfl ?_
    refine r_iload_n (pc := 7) dX5_resting_7 rfl ?_
    refine r_iconst (pc := 8) (v := 5) dX5_resting_8 (by decide) ?_
    refine r_icmp_ne (pc := 9) 18 dX5_resting_9 rfl (fun _ => ?_) (fun hno => absurd hno (by decide))
    refine r_iload_n (pc := 18) dX5_resting_18 rfl ?_
    refine r_iconst (pc := 19) (v := 3) dX5_resting_19 (by decide) ?_
    refine r_icmp_ne (pc := 20) 29 dX5_resting_20 rfl (fun hno => absurd hno (by decide)) (fun _ => ?_)
    refine r_aload_n (pc := 23) dX5_resting_23 rfl ?_
    refine r_bipush (pc := 24) (v := 60) dX5_resting_24 (by decide) ?_
    refine r_o2 (pc := 26) (bc' := 0) (bs' := 0) (ct_X5_body (I := I) hm _ ⟨n0 + 0, by omega, en0⟩) k_X5_307_5 dX5_resting_26 (MR_k hm) (Nat.le_of_ble_eq_true rfl) ⟨Nat.le_of_ble_eq_true rfl, Nat.le_of_ble_eq_true rfl⟩ ⟨Nat.le_of_ble_eq_true rfl, Nat.le_of_ble_eq_true rfl⟩ (r_cv fun M26 p26 => ?_) nox
    obtain ⟨I1, rfl, e1, f1⟩ := p26
    have en1 : I1 mo 48 = nI (n0 + 1) := by rw [show I1 mo 48 = sM I1 mo 48 0 from rfl, e1]; exact bodyS_0 en0
    have k11_1 : I1 (mo + 2) = I (mo + 2) := by rw [show I1 (mo + 2) = sM I1 mo 11 from rfl, e1, bodyS_k (by decide) (by decide)]; exact rfl
    have k12_1 : I1 (mo + 3) = I (mo + 3) := by rw [show I1 (mo + 3) = sM I1 mo 12 from rfl, e1, bodyS_k (by decide) (by decide)]; exact rfl
    refine r_iload_n (pc := 29) dX5_resting_29 rfl ?_
    refine r_iconst (pc := 30) (v := 2) dX5_resting_30 (by decide) ?_
    refine r_icmp_eq (pc := 31) 39 dX5_resting_31 rfl (fun hno => absurd hno (by decide)) (fun _ => ?_)
    refine r_iload_n (pc := 34) dX5_resting_34 rfl ?_
    refine r_iconst (pc := 35) (v := 3) dX5_resting_35 (by decide) ?_
    refine r_icmp_ne (pc := 36) 45 dX5_resting_36 rfl (fun hno => absurd hno (by decide)) (fun _ => ?_)
    refine r_aload_n (pc := 39) dX5_resting_39 rfl ?_
    refine r_bipush (pc := 40) (v := 50) dX5_resting_40 (by decide) ?_
    refine r_o2 (pc := 42) (bc' := 0) (bs' := 0) (ct_X5_body (I := I1) hm _ ⟨n0 + 1, by omega, en1⟩) k_X5_307_5 dX5_resting_42 (MR_k hm) (Nat.le_of_ble_eq_true rfl) ⟨Nat.le_of_ble_eq_true rfl, Nat.le_of_ble_eq_true rfl⟩ ⟨Nat.le_of_ble_eq_true rfl, Nat.le_of_ble_eq_true rfl⟩ (r_cv fun M42 p42 => ?_) nox
    obtain ⟨I2, rfl, e2, f2⟩ := p42
    have en2 : I2 mo 48 = nI (n0 + 2) := by rw [show I2 mo 48 = sM I2 mo 48 0 from rfl, e2]; exact bodyS_0 en1
    have k11_2 : I2 (mo + 2) = I (mo + 2) := by rw [show I2 (mo + 2) = sM I2 mo 11 from rfl, e2, bodyS_k (by decide) (by decide)]; exact k11_1
    have k12_2 : I2 (mo + 3) = I (mo + 3) := by rw [show I2 (mo + 3) = sM I2 mo 12 from rfl, e2, bodyS_k (by decide) (by decide)]; exact k12_1
    refine r_aload_n (pc := 45) dX5_resting_45 rfl ?_
    refine r_bipush (pc := 46) (v := 11) dX5_resting_46 (by decide) ?_
    refine r_o2 (pc := 48) (bc' := 0) (bs' := 0) (ct_X5_body (I := I2) hm _ ⟨n0 + 2, by omega, en2⟩) k_X5_307_5 dX5_resting_48 (MR_k hm) (Nat.le_of_ble_eq_true rfl) ⟨Nat.le_of_ble_eq_true rfl, Nat.le_of_ble_eq_true rfl⟩ ⟨Nat.le_of_ble_eq_true rfl, Nat.le_of_ble_eq_true rfl⟩ (r_cv fun M48 p48 => ?_) nox
    obtain ⟨I3, rfl, e3, f3⟩ := p48
    have en3 : I3 mo 48 = nI (n0 + 3) := by rw [show I3 mo 48 = sM I3 mo 48 0 from rfl, e3]; exact bodyS_0 en2
    have k11_3 : I3 (mo + 2) = I (mo + 2) := by rw [show I3 (mo + 2) = sM I3 mo 11 from rfl, e3, bodyS_k (by decide) (by decide)]; exact k11_2
    have k12_3 : I3 (mo + 3) = I (mo + 3) := by rw [show I3 (mo + 3) = sM I3 mo 12 from rfl, e3, bodyS_k (by decide) (by decide)]; exact k12_2
    refine r_aload_n (pc := 51) dX5_resting_51 rfl ?_
    refine r_iload_n (pc := 52) dX5_resting_52 rfl ?_
    refine r_iload_n (pc := 53) dX5_resting_53 rfl ?_
    refine r_o3 (pc := 54) (bc' := 0) (bs' := 0) (ct_X5_going (I := I3) hm _ _ hx ⟨n0 + 3, by omega, en3⟩ (by rw [k11_3]; exact hk)) k_X5_310_5 dX5_resting_54 (MR_k hm) (Nat.le_of_ble_eq_true rfl) ⟨Nat.le_of_ble_eq_true rfl, Nat.le_of_ble_eq_true rfl⟩ ⟨Nat.le_of_ble_eq_true rfl, Nat.le_of_ble_eq_true rfl⟩ (r_ci fun r54 M54 p54 => ?_) nox
    obtain ⟨er4, I4, rfl, e4, f4⟩ := p54
    rw [k11_3, ek] at er4 e4
    rw [k12_3] at er4
    have en4 : I4 mo 48 = nI (n0 + 4) := by rw [show I4 mo 48 = sM I4 mo 48 0 from rfl, e4, bodiesS_0 en3]; rfl
    have k11_4 : I4 (mo + 2) = I (mo + 2) := by rw [show I4 (mo + 2) = sM I4 mo 11 from rfl, e4, bodiesS_k (by decide) (by decide)]; exact k11_3
    have k12_4 : I4 (mo + 3) = I (mo + 3) := by rw [show I4 (mo + 3) = sM I4 mo 12 from rfl, e4, bodiesS_k (by decide) (by decide)]; exact k12_3
    subst er4
    refine r_iconst (pc := 57) (v := 2) dX5_resting_57 (by decide) ?_
    refine r_imul (pc := 58) dX5_resting_58 ?_
    refine r_istore4 (pc := 59) dX5_resting_59 rfl ?_
    refine r_iload_n (pc := 61) dX5_resting_61 rfl ?_
    refine r_iconst (pc := 62) (v := 5) dX5_resting_62 (by decide) ?_
    refine r_icmp_ne (pc := 63) 73 dX5_resting_63 rfl (fun _ => ?_) (fun hno => absurd hno (by decide))
    refine r_iload_n (pc := 73) dX5_resting_73 rfl ?_
    refine r_iconst (pc := 74) (v := 2) dX5_resting_74 (by decide) ?_
    refine r_icmp_ne (pc := 75) 84 dX5_resting_75 rfl (fun _ => ?_) (fun hno => absurd hno (by decide))
    refine r_iload_n (pc := 84) dX5_resting_84 rfl ?_
    refine r_iconst (pc := 85) (v := 3) dX5_resting_85 (by decide) ?_
    refine r_icmp_ne (pc := 86) 97 dX5_resting_86 rfl (fun hno => absurd hno (by decide)) (fun _ => ?_)
    refine r_iload (pc := 89) dX5_resting_89 rfl ?_
    refine r_ineg (pc := 91) dX5_resting_91 ?_
    refine r_iconst (pc := 92) (v := 5) dX5_resting_92 (by decide) ?_
    refine r_ixor (pc := 93) dX5_resting_93 ?_
    refine r_goto (pc := 94) 99 dX5_resting_94 rfl ?_
    refine r_ireturn (pc := 99) rfl dX5_resting_99 ⟨_, rfl, ?_⟩
    refine ⟨?_, _, rfl, ?_, (((f1).trans f2).trans f3).trans f4⟩
    · rw [ek]; first | rfl | (simp (decide := true) only [reV]; done) | skip
    · rw [ek, e4, e3, e2, e1]; rfl
  · refine r_aload_n (pc := 0) dX5_resting_0 rfl ?_
    refine r_getR (pc := 1) dX5_resting_1 fl_X5_23_5 (MR_k hm) (fun _ _ => rfl) (MR_r11 hm) ?_
    refine r_iload_n (pc := 4) dX5_resting_4 rfl ?_
    refine rm_iald (pc := 5) dX5_resting_5 (MR_k11 hm) (MR_z11 hm) (by first | assumption | exact vp_in_lit rfl) ?_
    refine r_eqi 4 ek ?_
    refine r_istore3 (pc := 6) dX5_resting_6 rfl ?_
    refine r_iload_n (pc := 7) dX5_resting_7 rfl ?_
    refine r_iconst (pc := 8) (v := 5) dX5_resting_8 (by decide) ?_
    refine r_icmp_ne (pc := 9) 18 dX5_resting_9 rfl (fun _ => ?_) (fun hno => absurd hno (by decide))
    refine r_iload_n (pc := 18) dX5_resting_18 rfl ?_
    refine r_iconst (pc := 19) (v := 3) dX5_resting_19 (by decide) ?_
    refine r_icmp_ne (pc := 20) 29 dX5_resting_20 rfl (fun _ => ?_) (fun hno => absurd hno (by decide))
    refine r_iload_n (pc := 29) dX5_resting_29 rfl ?_
    refine r_iconst (pc := 30) (v := 2) dX5_resting_30 (by decide) ?_
    refine r_icmp_eq (pc := 31) 39 dX5_resting_31 rfl (fun hno => absurd hno (by decide)) (fun _ => ?_)
    refine r_iload_n (pc := 34) dX5_resting_34 rfl ?_
    refine r_iconst (pc := 35) (v := 3) dX5_resting_35 (by decide) ?_
    refine r_icmp_ne (pc := 36) 45 dX5_resting_36 rfl (fun _ => ?_) (fun hno => absurd hno (by decide))
    refine r_aload_n (pc := 45) dX5_resting_45 rfl ?_
    refine r_bipush (pc := 46) (v := 11) dX5_resting_46 (by decide) ?_
    refine r_o2 (pc := 48) (bc' := 0) (bs' := 0) (ct_X5_body (I := I) hm _ ⟨n0 + 0, by omega, en0⟩) k_X5_307_5 dX5_resting_48 (MR_k hm) (Nat.le_of_ble_eq_true rfl) ⟨Nat.le_of_ble_eq_true rfl, Nat.le_of_ble_eq_true rfl⟩ ⟨Nat.le_of_ble_eq_true rfl, Nat.le_of_ble_eq_true rfl⟩ (r_cv fun M48 p48 => ?_) nox
    obtain ⟨I1, rfl, e1, f1⟩ := p48
    have en1 : I1 mo 48 = nI (n0 + 1) := by rw [show I1 mo 48 = sM I1 mo 48 0 from rfl, e1]; exact bodyS_0 en0
    have k11_1 : I1 (mo + 2) = I (mo + 2) := by rw [show I1 (mo + 2) = sM I1 mo 11 from rfl, e1, bodyS_k (by decide) (by decide)]; exact rfl
    have k12_1 : I1 (mo + 3) = I (mo + 3) := by rw [show I1 (mo + 3) = sM I1 mo 12 from rfl, e1, bodyS_k (by decide) (by decide)]; exact rfl
    refine r_aload_n (pc := 51) dX5_resting_51 rfl ?_
    refine r_iload_n (pc := 52) dX5_resting_52 rfl ?_
    refine r_iload_n (pc := 53) dX5_resting_53 rfl ?_
    refine r_o3 (pc := 54) (bc' := 0) (bs' := 0) (ct_X5_going (I := I1) hm _ _ hx ⟨n0 + 1, by omega, en1⟩ (by rw [k11_1]; exact hk)) k_X5_310_5 dX5_resting_54 (MR_k hm) (Nat.le_of_ble_eq_true rfl) ⟨Nat.le_of_ble_eq_true rfl, Nat.le_of_ble_eq_true rfl⟩ ⟨Nat.le_of_ble_eq_true rfl, Nat.le_of_ble_eq_true rfl⟩ (r_ci fun r54 M54 p54 => ?_) nox
    obtain ⟨er2, I2, rfl, e2, f2⟩ := p54
    rw [k11_1, ek] at er2 e2
    rw [k12_1] at er2
    have en2 : I2 mo 48 = nI (n0 + 3) := by rw [show I2 mo 48 = sM I2 mo 48 0 from rfl, e2, bodiesS_0 en1]; rfl
    have k11_2 : I2 (mo + 2) = I (mo + 2) := by rw [show I2 (mo + 2) = sM I2 mo 11 from rfl, e2, bodiesS_k (by decide) (by decide)]; exact k11_1
    have k12_2 : I2 (mo + 3) = I (mo + 3) := by rw [show I2 (mo + 3) = sM I2 mo 12 from rfl, e2, bodiesS_k (by decide) (by decide)]; exact k12_1
    subst er2
    refine r_iconst (pc := 57) (v := 2) dX5_resting_57 (by decide) ?_
    refine r_imul (pc := 58) dX5_resting_58 ?_
    refine r_istore4 (pc := 59) dX5_resting_59 rfl ?_
    refine r_iload_n (pc := 61) dX5_resting_61 rfl ?_
    refine r_iconst (pc := 62) (v := 5) dX5_resting_62 (by decide) ?_
    refine r_icmp_ne (pc := 63) 73 dX5_resting_63 rfl (fun _ => ?_) (fun hno => absurd hno (by decide))
    refine r_iload_n (pc := 73) dX5_resting_73 rfl ?_
    refine r_iconst (pc := 74) (v := 2) dX5_resting_74 (by decide) ?_
    refine r_icmp_ne (pc := 75) 84 dX5_resting_75 rfl (fun _ => ?_) (fun hno => absurd hno (by decide))
    refine r_iload_n (pc := 84) dX5_resting_84 rfl ?_
    refine r_iconst (pc := 85) (v := 3) dX5_resting_85 (by decide) ?_
    refine r_icmp_ne (pc := 86) 97 dX5_resting_86 rfl (fun _ => ?_) (fun hno => absurd hno (by decide))
    refine r_iload (pc := 97) dX5_resting_97 rfl ?_
    refine r_ireturn (pc := 99) rfl dX5_resting_99 ⟨_, rfl, ?_⟩
    refine ⟨?_, _, rfl, ?_, (f1).trans f2⟩
    · rw [ek]; first | rfl | (simp (decide := true) only [reV]; done) | skip
    · rw [ek, e2, e1]; rfl
  · refine r_aload_n (pc := 0) dX5_resting_0 rfl ?_
    refine r_getR (pc := 1) dX5_resting_1 fl_X5_23_5 (MR_k hm) (fun _ _ => rfl) (MR_r11 hm) ?_
    refine r_iload_n (pc := 4) dX5_resting_4 rfl ?_
    refine rm_iald (pc := 5) dX5_resting_5 (MR_k11 hm) (MR_z11 hm) (by first | assumption | exact vp_in_lit rfl) ?_
    refine r_eqi 5 ek ?_
    refine r_istore3 (pc := 6) dX5_resting_6 rfl ?_
    refine r_iload_n (pc := 7) dX5_resting_7 rfl ?_
    refine r_iconst (pc := 8) (v := 5) dX5_resting_8 (by decide) ?_
    refine r_icmp_ne (pc := 9) 18 dX5_resting_9 rfl (fun hno => absurd hno (by decide)) (fun _ => ?_)
    refine r_aload_n (pc := 12) dX5_resting_12 rfl ?_
    refine r_bipush (pc := 13) (v := 30) dX5_resting_13 (by decide) ?_
    refine r_o2 (pc := 15) (bc' := 0) (bs' := 0) (ct_X5_body (I := I) hm _ ⟨n0 + 0, by omega, en0⟩) k_X5_307_5 dX5_resting_15 (MR_k hm) (Nat.le_of_ble_eq_true rfl) ⟨Nat.le_of_ble_eq_true rfl, Nat.le_of_ble_eq_true rfl⟩ ⟨Nat.le_of_ble_eq_true rfl, Nat.le_of_ble_eq_true rfl⟩ (r_cv fun M15 p15 => ?_) nox
    obtain ⟨I1, rfl, e1, f1⟩ := p15
    have en1 : I1 mo 48 = nI (n0 + 1) := by rw [show I1 mo 48 = sM I1 mo 48 0 from rfl, e1]; exact bodyS_0 en0
    have k11_1 : I1 (mo + 2) = I (mo + 2) := by rw [show I1 (mo + 2) = sM I1 mo 11 from rfl, e1, bodyS_k (by decide) (by decide)]; exact rfl
    have k12_1 : I1 (mo + 3) = I (mo + 3) := by rw [show I1 (mo + 3) = sM I1 mo 12 from rfl, e1, bodyS_k (by decide) (by decide)]; exact rfl
    refine r_iload_n (pc := 18) dX5_resting_18 rfl ?_
    refine r_iconst (pc := 19) (v := 3) dX5_resting_19 (by decide) ?_
    refine r_icmp_ne (pc := 20) 29 dX5_resting_20 rfl (fun _ => ?_) (fun hno => absurd hno (by decide))
    refine r_iload_n (pc := 29) dX5_resting_29 rfl ?_
    refine r_iconst (pc := 30) (v := 2) dX5_resting_30 (by decide) ?_
    refine r_icmp_eq (pc := 31) 39 dX5_resting_31 rfl (fun hno => absurd hno (by decide)) (fun _ => ?_)
    refine r_iload_n (pc := 34) dX5_resting_34 rfl ?_
    refine r_iconst (pc := 35) (v := 3) dX5_resting_35 (by decide) ?_
    refine r_icmp_ne (pc := 36) 45 dX5_resting_36 rfl (fun _ => ?_) (fun hno => absurd hno (by decide))
    refine r_aload_n (pc := 45) dX5_resting_45 rfl ?_
    refine r_bipush (pc := 46) (v := 11) dX5_resting_46 (by decide) ?_
    refine r_o2 (pc := 48) (bc' := 0) (bs' := 0) (ct_X5_body (I := I1) hm _ ⟨n0 + 1, by omega, en1⟩) k_X5_307_5 dX5_resting_48 (MR_k hm) (Nat.le_of_ble_eq_true rfl) ⟨Nat.le_of_ble_eq_true rfl, Nat.le_of_ble_eq_true rfl⟩ ⟨Nat.le_of_ble_eq_true rfl, Nat.le_of_ble_eq_true rfl⟩ (r_cv fun M48 p48 => ?_) nox
    obtain ⟨I2, rfl, e2, f2⟩ := p48
    have en2 : I2 mo 48 = nI (n0 + 2) := by rw [show I2 mo 48 = sM I2 mo 48 0 from rfl, e2]; exact bodyS_0 en1
    have k11_2 : I2 (mo + 2) = I (mo + 2) := by rw [show I2 (mo + 2) = sM I2 mo 11 from rfl, e2, bodyS_k (by decide) (by decide)]; exact k11_1
    have k12_2 : I2 (mo + 3) = I (mo + 3) := by rw [show I2 (mo + 3) = sM I2 mo 12 from rfl, e2, bodyS_k (by decide) (by decide)]; exact k12_1
    refine r_aload_n (pc := 51) dX5_resting_51 rfl ?_
    refine r_iload_n (pc := 52) dX5_resting_52 rfl ?_
    refine r_iload_n (pc := 53) dX5_resting_53 rfl ?_
    refine r_o3 (pc := 54) (bc' := 0) (bs' := 0) (ct_X5_going (I := I2) hm _ _ hx ⟨n0 + 2, by omega, en2⟩ (by rw [k11_2]; exact hk)) k_X5_310_5 dX5_resting_54 (MR_k hm) (Nat.le_of_ble_eq_true rfl) ⟨Nat.le_of_ble_eq_true rfl, Nat.le_of_ble_eq_true rfl⟩ ⟨Nat.le_of_ble_eq_true rfl, Nat.le_of_ble_eq_true rfl⟩ (r_ci fun r54 M54 p54 => ?_) nox
    obtain ⟨er3, I3, rfl, e3, f3⟩ := p54
    rw [k11_2, ek] at er3 e3
    rw [k12_2] at er3
    have en3 : I3 mo 48 = nI (n0 + 4) := by rw [show I3 mo 48 = sM I3 mo 48 0 from rfl, e3, bodiesS_0 en2]; rfl
    have k11_3 : I3 (mo + 2) = I (mo + 2) := by rw [show I3 (mo + 2) = sM I3 mo 11 from rfl, e3, bodiesS_k (by decide) (by decide)]; exact k11_2
    have k12_3 : I3 (mo + 3) = I (mo + 3) := by rw [show I3 (mo + 3) = sM I3 mo 12 from rfl, e3, bodiesS_k (by decide) (by decide)]; exact k12_2
    subst er3
    refine r_iconst (pc := 57) (v := 2) dX5_resting_57 (by decide) ?_
    refine r_imul (pc := 58) dX5_resting_58 ?_
    refine r_istore4 (pc := 59) dX5_resting_59 rfl ?_
    refine r_iload_n (pc := 61) dX5_resting_61 rfl ?_
    refine r_iconst (pc := 62) (v := 5) dX5_resting_62 (by decide) ?_
    refine r_icmp_ne (pc := 63) 73 dX5_resting_63 rfl (fun hno => absurd hno (by decide)) (fun _ => ?_)
    refine r_iload (pc := 66) dX5_resting_66 rfl ?_
    refine r_iconst (pc := 68) (v := 3) dX5_resting_68 (by decide) ?_
    refine r_imul (pc := 69) dX5_resting_69 ?_
    refine r_goto (pc := 70) 99 dX5_resting_70 rfl ?_
    refine r_ireturn (pc := 99) rfl dX5_resting_99 ⟨_, rfl, ?_⟩
    refine ⟨?_, _, rfl, ?_, ((f1).trans f2).trans f3⟩
    · rw [ek]; first | rfl | (simp (decide := true) only [reV]; done) | skip
    · rw [ek, e3, e2, e1]; rfl
  · refine r_aload_n (pc := 0) dX5_resting_0 rfl ?_
    refine r_getR (pc := 1) dX5_resting_1 fl_X5_23_5 (MR_k hm) (fun _ _ => rfl) (MR_r11 hm) ?_
    refine r_iload_n (pc := 4) dX5_resting_4 rfl ?_
    refine rm_iald (pc := 5) dX5_resting_5 (MR_k11 hm) (MR_z11 hm) (by first | assumption | exact vp_in_lit rfl) ?_
    refine r_eqi 6 ek ?_
    refine r_istore3 (pc := 6) dX5_resting_6 rfl ?_
    refine r_iload_n (pc := 7) dX5_resting_7 rfl ?_
    refine r_iconst (pc := 8) (v := 5) dX5_resting_8 (by decide) ?_
    refine r_icmp_ne (pc := 9) 18 dX5_resting_9 rfl (fun _ => ?_) (fun hno => absurd hno (by decide))
    refine r_iload_n (pc := 18) dX5_resting_18 rfl ?_
    refine r_iconst (pc := 19) (v := 3) dX5_resting_19 (by decide) ?_
    refine r_icmp_ne (pc := 20) 29 dX5_resting_20 rfl (fun _ => ?_) (fun hno => absurd hno (by decide))
    refine r_iload_n (pc := 29) dX5_resting_29 rfl ?_
    refine r_iconst (pc := 30) (v := 2) dX5_resting_30 (by decide) ?_
    refine r_icmp_eq (pc := 31) 39 dX5_resting_31 rfl (fun hno => absurd hno (by decide)) (fun _ => ?_)
    refine r_iload_n (pc := 34) dX5_resting_34 rfl ?_
    refine r_iconst (pc := 35) (v := 3) dX5_resting_35 (by decide) ?_
    refine r_icmp_ne (pc := 36) 45 dX5_resting_36 rfl (fun _ => ?_) (fun hno => absurd hno (by decide))
    refine r_aload_n (pc := 45) dX5_resting_45 rfl ?_
    refine r_bipush (pc := 46) (v := 11) dX5_resting_46 (by decide) ?_
    refine r_o2 (pc := 48) (bc' := 0) (bs' := 0) (ct_X5_body (I := I) hm _ ⟨n0 + 0, by omega, en0⟩) k_X5_307_5 dX5_resting_48 (MR_k hm) (Nat.le_of_ble_eq_true rfl) ⟨Nat.le_of_ble_eq_true rfl, Nat.le_of_ble_eq_true rfl⟩ ⟨Nat.le_of_ble_eq_true rfl, Nat.le_of_ble_eq_true rfl⟩ (r_cv fun M48 p48 => ?_) nox
    obtain ⟨I1, rfl, e1, f1⟩ := p48
    have en1 : I1 mo 48 = nI (n0 + 1) := by rw [show I1 mo 48 = sM I1 mo 48 0 from rfl, e1]; exact bodyS_0 en0
    have k11_1 : I1 (mo + 2) = I (mo + 2) := by rw [show I1 (mo + 2) = sM I1 mo 11 from rfl, e1, bodyS_k (by decide) (by decide)]; exact rfl
    have k12_1 : I1 (mo + 3) = I (mo + 3) := by rw [show I1 (mo + 3) = sM I1 mo 12 from rfl, e1, bodyS_k (by decide) (by decide)]; exact rfl
    refine r_aload_n (pc := 51) dX5_resting_51 rfl ?_
    refine r_iload_n (pc := 52) dX5_resting_52 rfl ?_
    refine r_iload_n (pc := 53) dX5_resting_53 rfl ?_
    refine r_o3 (pc := 54) (bc' := 0) (bs' := 0) (ct_X5_going (I := I1) hm _ _ hx ⟨n0 + 1, by omega, en1⟩ (by rw [k11_1]; exact hk)) k_X5_310_5 dX5_resting_54 (MR_k hm) (Nat.le_of_ble_eq_true rfl) ⟨Nat.le_of_ble_eq_true rfl, Nat.le_of_ble_eq_true rfl⟩ ⟨Nat.le_of_ble_eq_true rfl, Nat.le_of_ble_eq_true rfl⟩ (r_ci fun r54 M54 p54 => ?_) nox
    obtain ⟨er2, I2, rfl, e2, f2⟩ := p54
    rw [k11_1, ek] at er2 e2
    rw [k12_1] at er2
    have en2 : I2 mo 48 = nI (n0 + 4) := by rw [show I2 mo 48 = sM I2 mo 48 0 from rfl, e2, bodiesS_0 en1]; rfl
    have k11_2 : I2 (mo + 2) = I (mo + 2) := by rw [show I2 (mo + 2) = sM I2 mo 11 from rfl, e2, bodiesS_k (by decide) (by decide)]; exact k11_1
    have k12_2 : I2 (mo + 3) = I (mo + 3) := by rw [show I2 (mo + 3) = sM I2 mo 12 from rfl, e2, bodiesS_k (by decide) (by decide)]; exact k12_1
    subst er2
    refine r_iconst (pc := 57) (v := 2) dX5_resting_57 (by decide) ?_
    refine r_imul (pc := 58) dX5_resting_58 ?_
    refine r_istore4 (pc := 59) dX5_resting_59 rfl ?_
    refine r_iload_n (pc := 61) dX5_resting_61 rfl ?_
    refine r_iconst (pc := 62) (v := 5) dX5_resting_62 (by decide) ?_
    refine r_icmp_ne (pc := 63) 73 dX5_resting_63 rfl (fun _ => ?_) (fun hno => absurd hno (by decide))
    refine r_iload_n (pc := 73) dX5_resting_73 rfl ?_
    refine r_iconst (pc := 74) (v := 2) dX5_resting_74 (by decide) ?_
    refine r_icmp_ne (pc := 75) 84 dX5_resting_75 rfl (fun _ => ?_) (fun hno => absurd hno (by decide))
    refine r_iload_n (pc := 84) dX5_resting_84 rfl ?_
    refine r_iconst (pc := 85) (v := 3) dX5_resting_85 (by decide) ?_
    refine r_icmp_ne (pc := 86) 97 dX5_resting_86 rfl (fun _ => ?_) (fun hno => absurd hno (by decide))
    refine r_iload (pc := 97) dX5_resting_97 rfl ?_
    refine r_ireturn (pc := 99) rfl dX5_resting_99 ⟨_, rfl, ?_⟩
    refine ⟨?_, _, rfl, ?_, (f1).trans f2⟩
    · rw [ek]; first | rfl | (simp (decide := true) only [reV]; done) | skip
    · rw [ek, e2, e1]; rfl
theorem ct_X5_falling {M0 : PM} {mo : Nat} {I : Nat → Nat → Int32} {L : Nat → Nat → Int64} (hm : MR M0 mo) (x1 : Int32) (x2 : Int32) (hx : vp_in x1 8) (hb : ∃ n : Nat, n ≤ 10 ∧ I mo 48 = nI n) (hk : bd (I (mo + 2) x1.toNatClampNeg) 0 6) : Ct (YX5_falling, (3, 71, 0, 0), qi (fun r M' => r = faV (I (mo + 2) x1.toNatClampNeg) (I (mo + 3) x1.toNatClampNeg) x1 x2 ∧ ∃ I', M' = wIL M0 I' L ∧ sM I' mo = bodiesS (sM I mo) (faB (I (mo + 2) x1.toNatClampNeg)) ∧ frM mo I I' L L), noX) [.ref mo, .int x1, .int x2] (wIL M0 I L) := by
  refine ct_of [some (.ref mo), some (.int x1), some (.int x2), none, none, none] rfl rfl rfl (Nat.le_of_ble_eq_true rfl) rfl rfl ?_
  obtain ⟨n0, hn0, en0⟩ := hb
  obtain ⟨k, hk6, ek⟩ := bd_nI (n := 6) hk
  have hc : k = 0 ∨ k = 1 ∨ k = 2 ∨ k = 3 ∨ k = 4 ∨ k = 5 ∨ k = 6 := by omega
  rcases hc with rfl | rfl | rfl | rfl | rfl | rfl | rfl
  · refine r_aload_n (pc := 0) dX5_falling_0 rfl ?_
    refine r_getR (pc := 1) dX5_falling_1 fl_X5_23_5 (MR_k hm) (fun _ _ => rfl) (MR_r11 hm) ?_
    refine r_iload_n (pc := 4) dX5_falling_4 rfl ?_
    refine rm_iald (pc := 5) dX5_falling_5 (MR_k11 hm) (MR_z11 hm) (by first | assumption | exact vp_in_lit rfl) ?_
    refine r_eqi 0 ek ?_
    refine r_istore3 (pc := 6) dX5_falling_6 rfl ?_
    refine r_iload_n (pc := 7) dX5_falling_7 rfl ?_
    refine r_istore4 (pc := 8) dX5_falling_8 rfl ?_
    refine r_iload_n (pc := 10) dX5_falling_10 rfl ?_
    refine r_bipush (pc := 11) (v := 6) dX5_falling_11 (by decide) ?_
    refine r_icmp_ne (pc := 13) 22 dX5_falling_13 rfl (fun _ => ?_) (fun hno => absurd hno (by decide))
    refine r_iload_n (pc := 22) dX5_falling_22 rfl ?_
    refine r_iconst (pc := 23) (v := 4) dX5_falling_23 (by decide) ?_
    refine r_icmp_ne (pc := 24) 43 dX5_falling_24 rfl (fun _ => ?_) (fun hno => absurd hno (by decide))
    refine r_aload_n (pc := 43) dX5_falling_43 rfl ?_
    refine r_bipush (pc := 44) (v := 12) dX5_falling_44 (by decide) ?_
    refine r_o2 (pc := 46) (bc' := 0) (bs' := 0) (ct_X5_body (I := I) hm _ ⟨n0 + 0, by omega, en0⟩) k_X5_307_5 dX5_falling_46 (MR_k hm) (Nat.le_of_ble_eq_true rfl) ⟨Nat.le_of_ble_eq_true rfl, Nat.le_of_ble_eq_true rfl⟩ ⟨Nat.le_of_ble_eq_true rfl, Nat.le_of_ble_eq_true rfl⟩ (r_cv fun M46 p46 => ?_) nox
    obtain ⟨I1, rfl, e1, f1⟩ := p46
    have en1 : I1 mo 48 = nI (n0 + 1) := by rw [show I1 mo 48 = sM I1 mo 48 0 from rfl, e1]; exact bodyS_0 en0
    have k11_1 : I1 (mo + 2) = I (mo + 2) := by rw [show I1 (mo + 2) = sM I1 mo 11 from rfl, e1, bodyS_k (by decide) (by decide)]; exact rfl
    have k12_1 : I1 (mo + 3) = I (mo + 3) := by rw [show I1 (mo + 3) = sM I1 mo 12 from rfl, e1, bodyS_k (by decide) (by decide)]; exact rfl
    refine r_aload_n (pc := 49) dX5_falling_49 rfl ?_
    refine r_iload_n (pc := 50) dX5_falling_50 rfl ?_
    refine r_iload (pc := 51) dX5_falling_51 rfl ?_
    refine r_o3 (pc := 53) (bc' := 0) (bs' := 0) (ct_X5_resting (I := I1) hm _ _ hx ⟨n0 + 1, by omega, en1⟩ (by rw [k11_1]; exact hk)) k_X5_313_5 dX5_falling_53 (MR_k hm) (Nat.le_of_ble_eq_true rfl) ⟨Nat.le_of_ble_eq_true rfl, Nat.le_of_ble_eq_true rfl⟩ ⟨Nat.le_of_ble_eq_true rfl, Nat.le_of_ble_eq_true rfl⟩ (r_ci fun r53 M53 p53 => ?_) nox
    obtain ⟨er2, I2, rfl, e2, f2⟩ := p53
    rw [k11_1, ek] at er2 e2
    rw [k12_1] at er2
    have en2 : I2 mo 48 = nI (n0 + 3) := by rw [show I2 mo 48 = sM I2 mo 48 0 from rfl, e2, bodiesS_0 en1]; rfl
    have k11_2 : I2 (mo + 2) = I (mo + 2) := by rw [show I2 (mo + 2) = sM I2 mo 11 from rfl, e2, bodiesS_k (by decide) (by decide)]; exact k11_1
    have k12_2 : I2 (mo + 3) = I (mo + 3) := by rw [show I2 (mo + 3) = sM I2 mo 12 from rfl, e2, bodiesS_k (by decide) (by decide)]; exact k12_1
    subst er2
    refine r_istore5 (pc := 56) dX5_falling_56 rfl ?_
    refine r_iload (pc := 58) dX5_falling_58 rfl ?_
    refine r_aload_n (pc := 60) dX5_falling_60 rfl ?_
    refine r_iload_n (pc := 61) dX5_falling_61 rfl ?_
    refine r_iload (pc := 62) dX5_falling_62 rfl ?_
    refine r_aload_n (pc := 64) dX5_falling_64 rfl ?_
    refine r_getR (pc := 65) dX5_falling_65 fl_X5_26_5 (MR_k hm) (fun _ _ => rfl) (MR_r12 hm) ?_
    refine r_iload_n (pc := 68) dX5_falling_68 rfl ?_
    refine rm_iald (pc := 69) dX5_falling_69 (MR_k12 hm) (MR_z12 hm) (by first | assumption | exact vp_in_lit rfl) ?_
    refine r_eqi (I (mo + 3) x1.toNatClampNeg) (by rw [k12_2]) ?_
    refine r_isub (pc := 70) dX5_falling_70 ?_
    refine r_o3 (pc := 71) (bc' := 0) (bs' := 0) (ct_X5_going (I := I2) hm _ _ hx ⟨n0 + 3, by omega, en2⟩ (by rw [k11_2]; exact hk)) k_X5_310_5 dX5_falling_71 (MR_k hm) (Nat.le_of_ble_eq_true rfl) ⟨Nat.le_of_ble_eq_true rfl, Nat.le_of_ble_eq_true rfl⟩ ⟨Nat.le_of_ble_eq_true rfl, Nat.le_of_ble_eq_true rfl⟩ (r_ci fun r71 M71 p71 => ?_) nox
    obtain ⟨er3, I3, rfl, e3, f3⟩ := p71
    rw [k11_2, ek] at er3 e3
    rw [k12_2] at er3
    have en3 : I3 mo 48 = nI (n0 + 4) := by rw [show I3 mo 48 = sM I3 mo 48 0 from rfl, e3, bodiesS_0 en2]; rfl
    have k11_3 : I3 (mo + 2) = I (mo + 2) := by rw [show I3 (mo + 2) = sM I3 mo 11 from rfl, e3, bodiesS_k (by decide) (by decide)]; exact k11_2
    have k12_3 : I3 (mo + 3) = I (mo + 3) := by rw [show I3 (mo + 3) = sM I3 mo 12 from rfl, e3, bodiesS_k (by decide) (by decide)]; exact k12_2
    subst er3
    refine r_ixor (pc := 74) dX5_falling_74 ?_
    refine r_istore5 (pc := 75) dX5_falling_75 rfl ?_
    refine r_iload_n (pc := 77) dX5_falling_77 rfl ?_
    refine r_bipush (pc := 78) (v := 6) dX5_falling_78 (by decide) ?_
    refine r_icmp_ne (pc := 80) 90 dX5_falling_80 rfl (fun _ => ?_) (fun hno => absurd hno (by decide))
    refine r_iload (pc := 90) dX5_falling_90 rfl ?_
    refine r_ireturn (pc := 92) rfl dX5_falling_92 ⟨_, rfl, ?_⟩
    refine ⟨?_, _, rfl, ?_, ((f1).trans f2).trans f3⟩
    · rw [ek]; first | rfl | (simp (decide := true) only [faV]; done) | skip
    · rw [ek, e3, e2, e1]; rfl
  · refine r_aload_n (pc := 0) dX5_falling_0 rfl ?_
    refine r_getR (pc := 1) dX5_falling_1 fl_X5_23_5 (MR_k hm) (fun _ _ => rfl) (MR_r11 hm) ?_
    refine r_iload_n (pc := 4) dX5_falling_4 rfl ?_
    refine rm_iald (pc := 5) dX5_falling_5 (MR_k11 hm) (MR_z11 hm) (by first | assumption | exact vp_in_lit rfl) ?_
    refine r_eqi 1 ek ?_
    refine r_istore3 (pc := 6) dX5_falling_6 rfl ?_
    refine r_iload_n (pc := 7) dX5_falling_7 rfl ?_
    refine r_istore4 (pc := 8) dX5_falling_8 rfl ?_
    refine r_iload_n (pc := 10) dX5_falling_10 rfl ?_
    refine r_bipush (pc := 11) (v := 6) dX5_falling_11 (by decide) ?_
    refine r_icmp_ne (pc := 13) 22 dX5_falling_13 rfl (fun _ => ?_) (fun hno => absurd hno (by decide))
    refine r_iload_n (pc := 22) dX5_falling_22 rfl ?_
    refine r_iconst (pc := 23) (v := 4) dX5_falling_23 (by decide) ?_
    refine r_icmp_ne (pc := 24) 43 dX5_falling_24 rfl (fun _ => ?_) (fun hno => absurd hno (by decide))
    refine r_aload_n (pc := 43) dX5_falling_43 rfl ?_
    refine r_bipush (pc := 44) (v := 12) dX5_falling_44 (by decide) ?_
    refine r_o2 (pc := 46) (bc' := 0) (bs' := 0) (ct_X5_body (I := I) hm _ ⟨n0 + 0, by omega, en0⟩) k_X5_307_5 dX5_falling_46 (MR_k hm) (Nat.le_of_ble_eq_true rfl) ⟨Nat.le_of_ble_eq_true rfl, Nat.le_of_ble_eq_true rfl⟩ ⟨Nat.le_of_ble_eq_true rfl, Nat.le_of_ble_eq_true rfl⟩ (r_cv fun M46 p46 => ?_) nox
    obtain ⟨I1, rfl, e1, f1⟩ := p46
    have en1 : I1 mo 48 = nI (n0 + 1) := by rw [show I1 mo 48 = sM I1 mo 48 0 from rfl, e1]; exact bodyS_0 en0
    have k11_1 : I1 (mo + 2) = I (mo + 2) := by rw [show I1 (mo + 2) = sM I1 mo 11 from rfl, e1, bodyS_k (by decide) (by decide)]; exact rfl
    have k12_1 : I1 (mo + 3) = I (mo + 3) := by rw [show I1 (mo + 3) = sM I1 mo 12 from rfl, e1, bodyS_k (by decide) (by decide)]; exact rfl
    refine r_aload_n (pc := 49) dX5_falling_49 rfl ?_
    refine r_iload_n (pc := 50) dX5_falling_50 rfl ?_
    refine r_iload (pc := 51) dX5_falling_51 rfl ?_
    refine r_o3 (pc := 53) (bc' := 0) (bs' := 0) (ct_X5_resting (I := I1) hm _ _ hx ⟨n0 + 1, by omega, en1⟩ (by rw [k11_1]; exact hk)) k_X5_313_5 dX5_falling_53 (MR_k hm) (Nat.le_of_ble_eq_true rfl) ⟨Nat.le_of_ble_eq_true rfl, Nat.le_of_ble_eq_true rfl⟩ ⟨Nat.le_of_ble_eq_true rfl, Nat.le_of_ble_eq_true rfl⟩ (r_ci fun r53 M53 p53 => ?_) nox
    obtain ⟨er2, I2, rfl, e2, f2⟩ := p53
    rw [k11_1, ek] at er2 e2
    rw [k12_1] at er2
    have en2 : I2 mo 48 = nI (n0 + 4) := by rw [show I2 mo 48 = sM I2 mo 48 0 from rfl, e2, bodiesS_0 en1]; rfl
    have k11_2 : I2 (mo + 2) = I (mo + 2) := by rw [show I2 (mo + 2) = sM I2 mo 11 from rfl, e2, bodiesS_k (by decide) (by decide)]; exact k11_1
    have k12_2 : I2 (mo + 3) = I (mo + 3) := by rw [show I2 (mo + 3) = sM I2 mo 12 from rfl, e2, bodiesS_k (by decide) (by decide)]; exact k12_1
    subst er2
    refine r_istore5 (pc := 56) dX5_falling_56 rfl ?_
    refine r_iload (pc := 58) dX5_falling_58 rfl ?_
    refine r_aload_n (pc := 60) dX5_falling_60 rfl ?_
    refine r_iload_n (pc := 61) dX5_falling_61 rfl ?_
    refine r_iload (pc := 62) dX5_falling_62 rfl ?_
    refine r_aload_n (pc := 64) dX5_falling_64 rfl ?_
    refine r_getR (pc := 65) dX5_falling_65 fl_X5_26_5 (MR_k hm) (fun _ _ => rfl) (MR_r12 hm) ?_
    refine r_iload_n (pc := 68) dX5_falling_68 rfl ?_
    refine rm_iald (pc := 69) dX5_falling_69 (MR_k12 hm) (MR_z12 hm) (by first | assumption | exact vp_in_lit rfl) ?_
    refine r_eqi (I (mo + 3) x1.toNatClampNeg) (by rw [k12_2]) ?_
    refine r_isub (pc := 70) dX5_falling_70 ?_
    refine r_o3 (pc := 71) (bc' := 0) (bs' := 0) (ct_X5_going (I := I2) hm _ _ hx ⟨n0 + 4, by omega, en2⟩ (by rw [k11_2]; exact hk)) k_X5_310_5 dX5_falling_71 (MR_k hm) (Nat.le_of_ble_eq_true rfl) ⟨Nat.le_of_ble_eq_true rfl, Nat.le_of_ble_eq_true rfl⟩ ⟨Nat.le_of_ble_eq_true rfl, Nat.le_of_ble_eq_true rfl⟩ (r_ci fun r71 M71 p71 => ?_) nox
    obtain ⟨er3, I3, rfl, e3, f3⟩ := p71
    rw [k11_2, ek] at er3 e3
    rw [k12_2] at er3
    have en3 : I3 mo 48 = nI (n0 + 6) := by rw [show I3 mo 48 = sM I3 mo 48 0 from rfl, e3, bodiesS_0 en2]; rfl
    have k11_3 : I3 (mo + 2) = I (mo + 2) := by rw [show I3 (mo + 2) = sM I3 mo 11 from rfl, e3, bodiesS_k (by decide) (by decide)]; exact k11_2
    have k12_3 : I3 (mo + 3) = I (mo + 3) := by rw [show I3 (mo + 3) = sM I3 mo 12 from rfl, e3, bodiesS_k (by decide) (by decide)]; exact k12_2
    subst er3
    refine r_ixor (pc := 74) dX5_falling_74 ?_
    refine r_istore5 (pc := 75) dX5_falling_75 rfl ?_
    refine r_iload_n (pc := 77) dX5_falling_77 rfl ?_
    refine r_bipush (pc := 78) (v := 6) dX5_falling_78 (by decide) ?_
    refine r_icmp_ne (pc := 80) 90 dX5_falling_80 rfl (fun _ => ?_) (fun hno => absurd hno (by decide))
    refine r_iload (pc := 90) dX5_falling_90 rfl ?_
    refine r_ireturn (pc := 92) rfl dX5_falling_92 ⟨_, rfl, ?_⟩
    refine ⟨?_, _, rfl, ?_, ((f1).trans f2).trans f3⟩
    · rw [ek]; first | rfl | (simp (decide := true) only [faV]; done) | skip
    · rw [ek, e3, e2, e1]; rfl
  · refine r_aload_n (pc := 0) dX5_falling_0 rfl ?_
    refine r_getR (pc := 1) dX5_falling_1 fl_X5_23_5 (MR_k hm) (fun _ _ => rfl) (MR_r11 hm) ?_
    refine r_iload_n (pc := 4) dX5_falling_4 rfl ?_
    refine rm_iald (pc := 5) dX5_falling_5 (MR_k11 hm) (MR_z11 hm) (by first | assumption | exact vp_in_lit rfl) ?_
    refine r_eqi 2 ek ?_
    refine r_istore3 (pc := 6) dX5_falling_6 rfl ?_
    refine r_iload_n (pc := 7) dX5_falling_7 rfl ?_
    refine r_istore4 (pc := 8) dX5_falling_8 rfl ?_
    refine r_iload_n (pc := 10) dX5_falling_10 rfl ?_
    refine r_bipush (pc := 11) (v := 6) dX5_falling_11 (by decide) ?_
    refine r_icmp_ne (pc := 13) 22 dX5_falling_13 rfl (fun _ => ?_) (fun hno => absurd hno (by decide))
    refine r_iload_n (pc := 22) dX5_falling_22 rfl ?_
    refine r_iconst (pc := 23) (v := 4) dX5_falling_23 (by decide) ?_
    refine r_icmp_ne (pc := 24) 43 dX5_falling_24 rfl (fun _ => ?_) (fun hno => absurd hno (by decide))
    refine r_aload_n (pc := 43) dX5_falling_43 rfl ?_
    refine r_bipush (pc := 44) (v := 12) dX5_falling_44 (by decide) ?_
    refine r_o2 (pc := 46) (bc' := 0) (bs' := 0) (ct_X5_body (I := I) hm _ ⟨n0 + 0, by omega, en0⟩) k_X5_307_5 dX5_falling_46 (MR_k hm) (Nat.le_of_ble_eq_true rfl) ⟨Nat.le_of_ble_eq_true rfl, Nat.le_of_ble_eq_true rfl⟩ ⟨Nat.le_of_ble_eq_true rfl, Nat.le_of_ble_eq_true rfl⟩ (r_cv fun M46 p46 => ?_) nox
    obtain ⟨I1, rfl, e1, f1⟩ := p46
    have en1 : I1 mo 48 = nI (n0 + 1) := by rw [show I1 mo 48 = sM I1 mo 48 0 from rfl, e1]; exact bodyS_0 en0
    have k11_1 : I1 (mo + 2) = I (mo + 2) := by rw [show I1 (mo + 2) = sM I1 mo 11 from rfl, e1, bodyS_k (by decide) (by decide)]; exact rfl
    have k12_1 : I1 (mo + 3) = I (mo + 3) := by rw [show I1 (mo + 3) = sM I1 mo 12 from rfl, e1, bodyS_k (by decide) (by decide)]; exact rfl
    refine r_aload_n (pc := 49) dX5_falling_49 rfl ?_
    refine r_iload_n (pc := 50) dX5_falling_50 rfl ?_
    refine r_iload (pc := 51) dX5_falling_51 rfl ?_
    refine r_o3 (pc := 53) (bc' := 0) (bs' := 0) (ct_X5_resting (I := I1) hm _ _ hx ⟨n0 + 1, by omega, en1⟩ (by rw [k11_1]; exact hk)) k_X5_313_5 dX5_falling_53 (MR_k hm) (Nat.le_of_ble_eq_true rfl) ⟨Nat.le_of_ble_eq_true rfl, Nat.le_of_ble_eq_true rfl⟩ ⟨Nat.le_of_ble_eq_true rfl, Nat.le_of_ble_eq_true rfl⟩ (r_ci fun r53 M53 p53 => ?_) nox
    obtain ⟨er2, I2, rfl, e2, f2⟩ := p53
    rw [k11_1, ek] at er2 e2
    rw [k12_1] at er2
    have en2 : I2 mo 48 = nI (n0 + 4) := by rw [show I2 mo 48 = sM I2 mo 48 0 from rfl, e2, bodiesS_0 en1]; rfl
    have k11_2 : I2 (mo + 2) = I (mo + 2) := by rw [show I2 (mo + 2) = sM I2 mo 11 from rfl, e2, bodiesS_k (by decide) (by decide)]; exact k11_1
    have k12_2 : I2 (mo + 3) = I (mo + 3) := by rw [show I2 (mo + 3) = sM I2 mo 12 from rfl, e2, bodiesS_k (by decide) (by decide)]; exact k12_1
    subst er2
    refine r_istore5 (pc := 56) dX5_falling_56 rfl ?_
    refine r_iload (pc := 58) dX5_falling_58 rfl ?_
    refine r_aload_n (pc := 60) dX5_falling_60 rfl ?_
    refine r_iload_n (pc := 61) dX5_falling_61 rfl ?_
    refine r_iload (pc := 62) dX5_falling_62 rfl ?_
    refine r_aload_n (pc := 64) dX5_falling_64 rfl ?_
    refine r_getR (pc := 65) dX5_falling_65 fl_X5_26_5 (MR_k hm) (fun _ _ => rfl) (MR_r12 hm) ?_
    refine r_iload_n (pc := 68) dX5_falling_68 rfl ?_
    refine rm_iald (pc := 69) dX5_falling_69 (MR_k12 hm) (MR_z12 hm) (by first | assumption | exact vp_in_lit rfl) ?_
    refine r_eqi (I (mo + 3) x1.toNatClampNeg) (by rw [k12_2]) ?_
    refine r_isub (pc := 70) dX5_falling_70 ?_
    refine r_o3 (pc := 71) (bc' := 0) (bs' := 0) (ct_X5_going (I := I2) hm _ _ hx ⟨n0 + 4, by omega, en2⟩ (by rw [k11_2]; exact hk)) k_X5_310_5 dX5_falling_71 (MR_k hm) (Nat.le_of_ble_eq_true rfl) ⟨Nat.le_of_ble_eq_true rfl, Nat.le_of_ble_eq_true rfl⟩ ⟨Nat.le_of_ble_eq_true rfl, Nat.le_of_ble_eq_true rfl⟩ (r_ci fun r71 M71 p71 => ?_) nox
    obtain ⟨er3, I3, rfl, e3, f3⟩ := p71
    rw [k11_2, ek] at er3 e3
    rw [k12_2] at er3
    have en3 : I3 mo 48 = nI (n0 + 5) := by rw [show I3 mo 48 = sM I3 mo 48 0 from rfl, e3, bodiesS_0 en2]; rfl
    have k11_3 : I3 (mo + 2) = I (mo + 2) := by rw [show I3 (mo + 2) = sM I3 mo 11 from rfl, e3, bodiesS_k (by decide) (by decide)]; exact k11_2
    have k12_3 : I3 (mo + 3) = I (mo + 3) := by rw [show I3 (mo + 3) = sM I3 mo 12 from rfl, e3, bodiesS_k (by decide) (by decide)]; exact k12_2
    subst er3
    refine r_ixor (pc := 74) dX5_falling_74 ?_
    refine r_istore5 (pc := 75) dX5_falling_75 rfl ?_
    refine r_iload_n (pc := 77) dX5_falling_77 rfl ?_
    refine r_bipush (pc := 78) (v := 6) dX5_falling_78 (by decide) ?_
    refine r_icmp_ne (pc := 80) 90 dX5_falling_80 rfl (fun _ => ?_) (fun hno => absurd hno (by decide))
    refine r_iload (pc := 90) dX5_falling_90 rfl ?_
    refine r_ireturn (pc := 92) rfl dX5_falling_92 ⟨_, rfl, ?_⟩
    refine ⟨?_, _, rfl, ?_, ((f1).trans f2).trans f3⟩
    · rw [ek]; first | rfl | (simp (decide := true) only [faV]; done) | skip
    · rw [ek, e3, e2, e1]; rfl
  · refine r_aload_n (pc := 0) dX5_falling_0 rfl ?_
    refine r_getR (pc := 1) dX5_falling_1 fl_X5_23_5 (MR_k hm) (fun _ _ => rfl) (MR_r11 hm) ?_
    refine r_iload_n (pc := 4) dX5_falling_4 rfl ?_
    refine rm_iald (pc := 5) dX5_falling_5 (MR_k11 hm) (MR_z11 hm) (by first | assumption | exact vp_in_lit rfl) ?_
    refine r_eqi 3 ek ?_
    refine r_istore3 (pc := 6) dX5_falling_6 rfl ?_
    refine r_iload_n (pc := 7) dX5_falling_7 rfl ?_
    refine r_istore4 (pc := 8) dX5_falling_8 rfl ?_
    refine r_iload_n (pc := 10) dX5_falling_10 rfl ?_
    refine r_bipush (pc := 11) (v := 6) dX5_falling_11 (by decide) ?_
    refine r_icmp_ne (pc := 13) 22 dX5_falling_13 rfl (fun _ => ?_) (fun hno => absurd hno (by decide))
    refine r_iload_n (pc := 22) dX5_falling_22 rfl ?_
    refine r_iconst (pc := 23) (v := 4) dX5_falling_23 (by decide) ?_
    refine r_icmp_ne (pc := 24) 43 dX5_falling_24 rfl (fun _ => ?_) (fun hno => absurd hno (by decide))
    refine r_aload_n (pc := 43) dX5_falling_43 rfl ?_
    refine r_bipush (pc := 44) (v := 12) dX5_falling_44 (by decide) ?_
    refine r_o2 (pc := 46) (bc' := 0) (bs' := 0) (ct_X5_body (I := I) hm _ ⟨n0 + 0, by omega, en0⟩) k_X5_307_5 dX5_falling_46 (MR_k hm) (Nat.le_of_ble_eq_true rfl) ⟨Nat.le_of_ble_eq_true rfl, Nat.le_of_ble_eq_true rfl⟩ ⟨Nat.le_of_ble_eq_true rfl, Nat.le_of_ble_eq_true rfl⟩ (r_cv fun M46 p46 => ?_) nox
    obtain ⟨I1, rfl, e1, f1⟩ := p46
    have en1 : I1 mo 48 = nI (n0 + 1) := by rw [show I1 mo 48 = sM I1 mo 48 0 from rfl, e1]; exact bodyS_0 en0
    have k11_1 : I1 (mo + 2) = I (mo + 2) := by rw [show I1 (mo + 2) = sM I1 mo 11 from rfl, e1, bodyS_k (by decide) (by decide)]; exact rfl
    have k12_1 : I1 (mo + 3) = I (mo + 3) := by rw [show I1 (mo + 3) = sM I1 mo 12 from rfl, e1, bodyS_k (by decide) (by decide)]; exact rfl
    refine r_aload_n (pc := 49) dX5_falling_49 rfl ?_
    refine r_iload_n (pc := 50) dX5_falling_50 rfl ?_
    refine r_iload (pc := 51) dX5_falling_51 rfl ?_
    refine r_o3 (pc := 53) (bc' := 0) (bs' := 0) (ct_X5_resting (I := I1) hm _ _ hx ⟨n0 + 1, by omega, en1⟩ (by rw [k11_1]; exact hk)) k_X5_313_5 dX5_falling_53 (MR_k hm) (Nat.le_of_ble_eq_true rfl) ⟨Nat.le_of_ble_eq_true rfl, Nat.le_of_ble_eq_true rfl⟩ ⟨Nat.le_of_ble_eq_true rfl, Nat.le_of_ble_eq_true rfl⟩ (r_ci fun r53 M53 p53 => ?_) nox
    obtain ⟨er2, I2, rfl, e2, f2⟩ := p53
    rw [k11_1, ek] at er2 e2
    rw [k12_1] at er2
    have en2 : I2 mo 48 = nI (n0 + 5) := by rw [show I2 mo 48 = sM I2 mo 48 0 from rfl, e2, bodiesS_0 en1]; rfl
    have k11_2 : I2 (mo + 2) = I (mo + 2) := by rw [show I2 (mo + 2) = sM I2 mo 11 from rfl, e2, bodiesS_k (by decide) (by decide)]; exact k11_1
    have k12_2 : I2 (mo + 3) = I (mo + 3) := by rw [show I2 (mo + 3) = sM I2 mo 12 from rfl, e2, bodiesS_k (by decide) (by decide)]; exact k12_1
    subst er2
    refine r_istore5 (pc := 56) dX5_falling_56 rfl ?_
    refine r_iload (pc := 58) dX5_falling_58 rfl ?_
    refine r_aload_n (pc := 60) dX5_falling_60 rfl ?_
    refine r_iload_n (pc := 61) dX5_falling_61 rfl ?_
    refine r_iload (pc := 62) dX5_falling_62 rfl ?_
    refine r_aload_n (pc := 64) dX5_falling_64 rfl ?_
    refine r_getR (pc := 65) dX5_falling_65 fl_X5_26_5 (MR_k hm) (fun _ _ => rfl) (MR_r12 hm) ?_
    refine r_iload_n (pc := 68) dX5_falling_68 rfl ?_
    refine rm_iald (pc := 69) dX5_falling_69 (MR_k12 hm) (MR_z12 hm) (by first | assumption | exact vp_in_lit rfl) ?_
    refine r_eqi (I (mo + 3) x1.toNatClampNeg) (by rw [k12_2]) ?_
    refine r_isub (pc := 70) dX5_falling_70 ?_
    refine r_o3 (pc := 71) (bc' := 0) (bs' := 0) (ct_X5_going (I := I2) hm _ _ hx ⟨n0 + 5, by omega, en2⟩ (by rw [k11_2]; exact hk)) k_X5_310_5 dX5_falling_71 (MR_k hm) (Nat.le_of_ble_eq_true rfl) ⟨Nat.le_of_ble_eq_true rfl, Nat.le_of_ble_eq_true rfl⟩ ⟨Nat.le_of_ble_eq_true rfl, Nat.le_of_ble_eq_true rfl⟩ (r_ci fun r71 M71 p71 => ?_) nox
    obtain ⟨er3, I3, rfl, e3, f3⟩ := p71
    rw [k11_2, ek] at er3 e3
    rw [k12_2] at er3
    have en3 : I3 mo 48 = nI (n0 + 6) := by rw [show I3 mo 48 = sM I3 mo 48 0 from rfl, e3, bodiesS_0 en2]; rfl
    have k11_3 : I3 (mo + 2) = I (mo + 2) := by rw [show I3 (mo + 2) = sM I3 mo 11 from rfl, e3, bodiesS_k (by decide) (by decide)]; exact k11_2
    have k12_3 : I3 (mo + 3) = I (mo + 3) := by rw [show I3 (mo + 3) = sM I3 mo 12 from rfl, e3, bodiesS_k (by decide) (by decide)]; exact k12_2
    subst er3
    refine r_ixor (pc := 74) dX5_falling_74 ?_
    refine r_istore5 (pc := 75) dX5_falling_75 rfl ?_
    refine r_iload_n (pc := 77) dX5_falling_77 rfl ?_
    refine r_bipush (pc := 78) (v := 6) dX5_falling_78 (by decide) ?_
    refine r_icmp_ne (pc := 80) 90 dX5_falling_80 rfl (fun _ => ?_) (fun hno => absurd hno (by decide))
    refine r_iload (pc := 90) dX5_falling_90 rfl ?_
    refine r_ireturn (pc := 92) rfl dX5_falling_92 ⟨_, rfl, ?_⟩
    refine ⟨?_, _, rfl, ?_, ((f1).trans f2).trans f3⟩
    · rw [ek]; first | rfl | (simp (decide := true) only [faV]; done) | skip
    · rw [ek, e3, e2, e1]; rfl
  · refine r_aload_n (pc := 0) dX5_falling_0 rfl ?_
    refine r_getR (pc := 1) dX5_falling_1 fl_X5_23_5 (MR_k hm) (fun _ _ => rfl) (MR_r11 hm) ?_
    refine r_iload_n (pc := 4) dX5_falling_4 rfl ?_
    refine rm_iald (pc := 5) dX5_falling_5 (MR_k11 hm) (MR_z11 hm) (by first | assumption | exact vp_in_lit rfl) ?_
    refine r_eqi 4 ek ?_
    refine r_istore3 (pc := 6) dX5_falling_6 rfl ?_
    refine r_iload_n (pc := 7) dX5_falling_7 rfl ?_
    refine r_istore4 (pc := 8) dX5_falling_8 rfl ?_
    refine r_iload_n (pc := 10) dX5_falling_10 rfl ?_
    refine r_bipush (pc := 11) (v := 6) dX5_falling_11 (by decide) ?_
    refine r_icmp_ne (pc := 13) 22 dX5_falling_13 rfl (fun _ => ?_) (fun hno => absurd hno (by decide))
    refine r_iload_n (pc := 22) dX5_falling_22 rfl ?_
    refine r_iconst (pc := 23) (v := 4) dX5_falling_23 (by decide) ?_
    refine r_icmp_ne (pc := 24) 43 dX5_falling_24 rfl (fun hno => absurd hno (by decide)) (fun _ => ?_)
    refine r_aload_n (pc := 27) dX5_falling_27 rfl ?_
    refine r_bipush (pc := 28) (v := 71) dX5_falling_28 (by decide) ?_
    refine r_o2 (pc := 30) (bc' := 0) (bs' := 0) (ct_X5_body (I := I) hm _ ⟨n0 + 0, by omega, en0⟩) k_X5_307_5 dX5_falling_30 (MR_k hm) (Nat.le_of_ble_eq_true rfl) ⟨Nat.le_of_ble_eq_true rfl, Nat.le_of_ble_eq_true rfl⟩ ⟨Nat.le_of_ble_eq_true rfl, Nat.le_of_ble_eq_true rfl⟩ (r_cv fun M30 p30 => ?_) nox
    obtain ⟨I1, rfl, e1, f1⟩ := p30
    have en1 : I1 mo 48 = nI (n0 + 1) := by rw [show I1 mo 48 = sM I1 mo 48 0 from rfl, e1]; exact bodyS_0 en0
    have k11_1 : I1 (mo + 2) = I (mo + 2) := by rw [show I1 (mo + 2) = sM I1 mo 11 from rfl, e1, bodyS_k (by decide) (by decide)]; exact rfl
    have k12_1 : I1 (mo + 3) = I (mo + 3) := by rw [show I1 (mo + 3) = sM I1 mo 12 from rfl, e1, bodyS_k (by decide) (by decide)]; exact rfl
    refine r_iload_n (pc := 33) dX5_falling_33 rfl ?_
    refine r_aload_n (pc := 34) dX5_falling_34 rfl ?_
    refine r_getR (pc := 35) dX5_falling_35 fl_X5_26_5 (MR_k hm) (fun _ _ => rfl) (MR_r12 hm) ?_
    refine r_iload_n (pc := 38) dX5_falling_38 rfl ?_
    refine rm_iald (pc := 39) dX5_falling_39 (MR_k12 hm) (MR_z12 hm) (by first | assumption | exact vp_in_lit rfl) ?_
    refine r_eqi (I (mo + 3) x1.toNatClampNeg) (by rw [k12_1]) ?_
    refine r_isub (pc := 40) dX5_falling_40 ?_
    refine r_istore4 (pc := 41) dX5_falling_41 rfl ?_
    refine r_aload_n (pc := 43) dX5_falling_43 rfl ?_
    refine r_bipush (pc := 44) (v := 12) dX5_falling_44 (by decide) ?_
    refine r_o2 (pc := 46) (bc' := 0) (bs' := 0) (ct_X5_body (I := I1) hm _ ⟨n0 + 1, by omega, en1⟩) k_X5_307_5 dX5_falling_46 (MR_k hm) (Nat.le_of_ble_eq_true rfl) ⟨Nat.le_of_ble_eq_true rfl, Nat.le_of_ble_eq_true rfl⟩ ⟨Nat.le_of_ble_eq_true rfl, Nat.le_of_ble_eq_true rfl⟩ (r_cv fun M46 p46 => ?_) nox
    obtain ⟨I2, rfl, e2, f2⟩ := p46
    have en2 : I2 mo 48 = nI (n0 + 2) := by rw [show I2 mo 48 = sM I2 mo 48 0 from rfl, e2]; exact bodyS_0 en1
    have k11_2 : I2 (mo + 2) = I (mo + 2) := by rw [show I2 (mo + 2) = sM I2 mo 11 from rfl, e2, bodyS_k (by decide) (by decide)]; exact k11_1
    have k12_2 : I2 (mo + 3) = I (mo + 3) := by rw [show I2 (mo + 3) = sM I2 mo 12 from rfl, e2, bodyS_k (by decide) (by decide)]; exact k12_1
    refine r_aload_n (pc := 49) dX5_falling_49 rfl ?_
    refine r_iload_n (pc := 50) dX5_falling_50 rfl ?_
    refine r_iload (pc := 51) dX5_falling_51 rfl ?_
    refine r_o3 (pc := 53) (bc' := 0) (bs' := 0) (ct_X5_resting (I := I2) hm _ _ hx ⟨n0 + 2, by omega, en2⟩ (by rw [k11_2]; exact hk)) k_X5_313_5 dX5_falling_53 (MR_k hm) (Nat.le_of_ble_eq_true rfl) ⟨Nat.le_of_ble_eq_true rfl, Nat.le_of_ble_eq_true rfl⟩ ⟨Nat.le_of_ble_eq_true rfl, Nat.le_of_ble_eq_true rfl⟩ (r_ci fun r53 M53 p53 => ?_) nox
    obtain ⟨er3, I3, rfl, e3, f3⟩ := p53
    rw [k11_2, ek] at er3 e3
    rw [k12_2] at er3
    have en3 : I3 mo 48 = nI (n0 + 5) := by rw [show I3 mo 48 = sM I3 mo 48 0 from rfl, e3, bodiesS_0 en2]; rfl
    have k11_3 : I3 (mo + 2) = I (mo + 2) := by rw [show I3 (mo + 2) = sM I3 mo 11 from rfl, e3, bodiesS_k (by decide) (by decide)]; exact k11_2
    have k12_3 : I3 (mo + 3) = I (mo + 3) := by rw [show I3 (mo + 3) = sM I3 mo 12 from rfl, e3, bodiesS_k (by decide) (by decide)]; exact k12_2
    subst er3
    refine r_istore5 (pc := 56) dX5_falling_56 rfl ?_
    refine r_iload (pc := 58) dX5_falling_58 rfl ?_
    refine r_aload_n (pc := 60) dX5_falling_60 rfl ?_
    refine r_iload_n (pc := 61) dX5_falling_61 rfl ?_
    refine r_iload (pc := 62) dX5_falling_62 rfl ?_
    refine r_aload_n (pc := 64) dX5_falling_64 rfl ?_
    refine r_getR (pc := 65) dX5_falling_65 fl_X5_26_5 (MR_k hm) (fun _ _ => rfl) (MR_r12 hm) ?_
    refine r_iload_n (pc := 68) dX5_falling_68 rfl ?_
    refine rm_iald (pc := 69) dX5_falling_69 (MR_k12 hm) (MR_z12 hm) (by first | assumption | exact vp_in_lit rfl) ?_
    refine r_eqi (I (mo + 3) x1.toNatClampNeg) (by rw [k12_3]) ?_
    refine r_isub (pc := 70) dX5_falling_70 ?_
    refine r_o3 (pc := 71) (bc' := 0) (bs' := 0) (ct_X5_going (I := I3) hm _ _ hx ⟨n0 + 5, by omega, en3⟩ (by rw [k11_3]; exact hk)) k_X5_310_5 dX5_falling_71 (MR_k hm) (Nat.le_of_ble_eq_true rfl) ⟨Nat.le_of_ble_eq_true rfl, Nat.le_of_ble_eq_true rfl⟩ ⟨Nat.le_of_ble_eq_true rfl, Nat.le_of_ble_eq_true rfl⟩ (r_ci fun r71 M71 p71 => ?_) nox
    obtain ⟨er4, I4, rfl, e4, f4⟩ := p71
    rw [k11_3, ek] at er4 e4
    rw [k12_3] at er4
    have en4 : I4 mo 48 = nI (n0 + 7) := by rw [show I4 mo 48 = sM I4 mo 48 0 from rfl, e4, bodiesS_0 en3]; rfl
    have k11_4 : I4 (mo + 2) = I (mo + 2) := by rw [show I4 (mo + 2) = sM I4 mo 11 from rfl, e4, bodiesS_k (by decide) (by decide)]; exact k11_3
    have k12_4 : I4 (mo + 3) = I (mo + 3) := by rw [show I4 (mo + 3) = sM I4 mo 12 from rfl, e4, bodiesS_k (by decide) (by decide)]; exact k12_3
    subst er4
    refine r_ixor (pc := 74) dX5_falling_74 ?_
    refine r_istore5 (pc := 75) dX5_falling_75 rfl ?_
    refine r_iload_n (pc := 77) dX5_falling_77 rfl ?_
    refine r_bipush (pc := 78) (v := 6) dX5_falling_78 (by decide) ?_
    refine r_icmp_ne (pc := 80) 90 dX5_falling_80 rfl (fun _ => ?_) (fun hno => absurd hno (by decide))
    refine r_iload (pc := 90) dX5_falling_90 rfl ?_
    refine r_ireturn (pc := 92) rfl dX5_falling_92 ⟨_, rfl, ?_⟩
    refine ⟨?_, _, rfl, ?_, (((f1).trans f2).trans f3).trans f4⟩
    · rw [ek]; first | rfl | (simp (decide := true) only [faV]; done) | skip
    · rw [ek, e4, e3, e2, e1]; rfl
  · refine r_aload_n (pc := 0) dX5_falling_0 rfl ?_
    refine r_getR (pc := 1) dX5_falling_1 fl_X5_23_5 (MR_k hm) (fun _ _ => rfl) (MR_r11 hm) ?_
    refine r_iload_n (pc := 4) dX5_falling_4 rfl ?_
    refine rm_iald (pc := 5) dX5_falling_5 (MR_k11 hm) (MR_z11 hm) (by first | assumption | exact vp_in_lit rfl) ?_
    refine r_eqi 5 ek ?_
    refine r_istore3 (pc := 6) dX5_falling_6 rfl ?_
    refine r_iload_n (pc := 7) dX5_falling_7 rfl ?_
    refine r_istore4 (pc := 8) dX5_falling_8 rfl ?_
    refine r_iload_n (pc := 10) dX5_falling_10 rfl ?_
    refine r_bipush (pc := 11) (v := 6) dX5_falling_11 (by decide) ?_
    refine r_icmp_ne (pc := 13) 22 dX5_falling_13 rfl (fun _ => ?_) (fun hno => absurd hno (by decide))
    refine r_iload_n (pc := 22) dX5_falling_22 rfl ?_
    refine r_iconst (pc := 23) (v := 4) dX5_falling_23 (by decide) ?_
    refine r_icmp_ne (pc := 24) 43 dX5_falling_24 rfl (fun _ => ?_) (fun hno => absurd hno (by decide))
    refine r_aload_n (pc := 43) dX5_falling_43 rfl ?_
    refine r_bipush (pc := 44) (v := 12) dX5_falling_44 (by decide) ?_
    refine r_o2 (pc := 46) (bc' := 0) (bs' := 0) (ct_X5_body (I := I) hm _ ⟨n0 + 0, by omega, en0⟩) k_X5_307_5 dX5_falling_46 (MR_k hm) (Nat.le_of_ble_eq_true rfl) ⟨Nat.le_of_ble_eq_true rfl, Nat.le_of_ble_eq_true rfl⟩ ⟨Nat.le_of_ble_eq_true rfl, Nat.le_of_ble_eq_true rfl⟩ (r_cv fun M46 p46 => ?_) nox
    obtain ⟨I1, rfl, e1, f1⟩ := p46
    have en1 : I1 mo 48 = nI (n0 + 1) := by rw [show I1 mo 48 = sM I1 mo 48 0 from rfl, e1]; exact bodyS_0 en0
    have k11_1 : I1 (mo + 2) = I (mo + 2) := by rw [show I1 (mo + 2) = sM I1 mo 11 from rfl, e1, bodyS_k (by decide) (by decide)]; exact rfl
    have k12_1 : I1 (mo + 3) = I (mo + 3) := by rw [show I1 (mo + 3) = sM I1 mo 12 from rfl, e1, bodyS_k (by decide) (by decide)]; exact rfl
    refine r_aload_n (pc := 49) dX5_falling_49 rfl ?_
    refine r_iload_n (pc := 50) dX5_falling_50 rfl ?_
    refine r_iload (pc := 51) dX5_falling_51 rfl ?_
    refine r_o3 (pc := 53) (bc' := 0) (bs' := 0) (ct_X5_resting (I := I1) hm _ _ hx ⟨n0 + 1, by omega, en1⟩ (by rw [k11_1]; exact hk)) k_X5_313_5 dX5_falling_53 (MR_k hm) (Nat.le_of_ble_eq_true rfl) ⟨Nat.le_of_ble_eq_true rfl, Nat.le_of_ble_eq_true rfl⟩ ⟨Nat.le_of_ble_eq_true rfl, Nat.le_of_ble_eq_true rfl⟩ (r_ci fun r53 M53 p53 => ?_) nox
    obtain ⟨er2, I2, rfl, e2, f2⟩ := p53
    rw [k11_1, ek] at er2 e2
    rw [k12_1] at er2
    have en2 : I2 mo 48 = nI (n0 + 5) := by rw [show I2 mo 48 = sM I2 mo 48 0 from rfl, e2, bodiesS_0 en1]; rfl
    have k11_2 : I2 (mo + 2) = I (mo + 2) := by rw [show I2 (mo + 2) = sM I2 mo 11 from rfl, e2, bodiesS_k (by decide) (by decide)]; exact k11_1
    have k12_2 : I2 (mo + 3) = I (mo + 3) := by rw [show I2 (mo + 3) = sM I2 mo 12 from rfl, e2, bodiesS_k (by decide) (by decide)]; exact k12_1
    subst er2
    refine r_istore5 (pc := 56) dX5_falling_56 rfl ?_
    refine r_iload (pc := 58) dX5_falling_58 rfl ?_
    refine r_aload_n (pc := 60) dX5_falling_60 rfl ?_
    refine r_iload_n (pc := 61) dX5_falling_61 rfl ?_
    refine r_iload (pc := 62) dX5_falling_62 rfl ?_
    refine r_aload_n (pc := 64) dX5_falling_64 rfl ?_
    refine r_getR (pc := 65) dX5_falling_65 fl_X5_26_5 (MR_k hm) (fun _ _ => rfl) (MR_r12 hm) ?_
    refine r_iload_n (pc := 68) dX5_falling_68 rfl ?_
    refine rm_iald (pc := 69) dX5_falling_69 (MR_k12 hm) (MR_z12 hm) (by first | assumption | exact vp_in_lit rfl) ?_
    refine r_eqi (I (mo + 3) x1.toNatClampNeg) (by rw [k12_2]) ?_
    refine r_isub (pc := 70) dX5_falling_70 ?_
    refine r_o3 (pc := 71) (bc' := 0) (bs' := 0) (ct_X5_going (I := I2) hm _ _ hx ⟨n0 + 5, by omega, en2⟩ (by rw [k11_2]; exact hk)) k_X5_310_5 dX5_falling_71 (MR_k hm) (Nat.le_of_ble_eq_true rfl) ⟨Nat.le_of_ble_eq_true rfl, Nat.le_of_ble_eq_true rfl⟩ ⟨Nat.le_of_ble_eq_true rfl, Nat.le_of_ble_eq_true rfl⟩ (r_ci fun r71 M71 p71 => ?_) nox
    obtain ⟨er3, I3, rfl, e3, f3⟩ := p71
    rw [k11_2, ek] at er3 e3
    rw [k12_2] at er3
    have en3 : I3 mo 48 = nI (n0 + 7) := by rw [show I3 mo 48 = sM I3 mo 48 0 from rfl, e3, bodiesS_0 en2]; rfl
    have k11_3 : I3 (mo + 2) = I (mo + 2) := by rw [show I3 (mo + 2) = sM I3 mo 11 from rfl, e3, bodiesS_k (by decide) (by decide)]; exact k11_2
    have k12_3 : I3 (mo + 3) = I (mo + 3) := by rw [show I3 (mo + 3) = sM I3 mo 12 from rfl, e3, bodiesS_k (by decide) (by decide)]; exact k12_2
    subst er3
    refine r_ixor (pc := 74) dX5_falling_74 ?_
    refine r_istore5 (pc := 75) dX5_falling_75 rfl ?_
    refine r_iload_n (pc := 77) dX5_falling_77 rfl ?_
    refine r_bipush (pc := 78) (v := 6) dX5_falling_78 (by decide) ?_
    refine r_icmp_ne (pc := 80) 90 dX5_falling_80 rfl (fun _ => ?_) (fun hno => absurd hno (by decide))
    refine r_iload (pc := 90) dX5_falling_90 rfl ?_
    refine r_ireturn (pc := 92) rfl dX5_falling_92 ⟨_, rfl, ?_⟩
    refine ⟨?_, _, rfl, ?_, ((f1).trans f2).trans f3⟩
    · rw [ek]; first | rfl | (simp (decide := true) only [faV]; done) | skip
    · rw [ek, e3, e2, e1]; rfl
  · refine r_aload_n (pc := 0) dX5_falling_0 rfl ?_
    refine r_getR (pc := 1) dX5_falling_1 fl_X5_23_5 (MR_k hm) (fun _ _ => rfl) (MR_r11 hm) ?_
    refine r_iload_n (pc := 4) dX5_falling_4 rfl ?_
    refine rm_iald (pc := 5) dX5_falling_5 (MR_k11 hm) (MR_z11 hm) (by first | assumption | exact vp_in_lit rfl) ?_
    refine r_eqi 6 ek ?_
    refine r_istore3 (pc := 6) dX5_falling_6 rfl ?_
    refine r_iload_n (pc := 7) dX5_falling_7 rfl ?_
    refine r_istore4 (pc := 8) dX5_falling_8 rfl ?_
    refine r_iload_n (pc := 10) dX5_falling_10 rfl ?_
    refine r_bipush (pc := 11) (v := 6) dX5_falling_11 (by decide) ?_
    refine r_icmp_ne (pc := 13) 22 dX5_falling_13 rfl (fun hno => absurd hno (by decide)) (fun _ => ?_)
    refine r_aload_n (pc := 16) dX5_falling_16 rfl ?_
    refine r_bipush (pc := 17) (v := 41) dX5_falling_17 (by decide) ?_
    refine r_o2 (pc := 19) (bc' := 0) (bs' := 0) (ct_X5_body (I := I) hm _ ⟨n0 + 0, by omega, en0⟩) k_X5_307_5 dX5_falling_19 (MR_k hm) (Nat.le_of_ble_eq_true rfl) ⟨Nat.le_of_ble_eq_true rfl, Nat.le_of_ble_eq_true rfl⟩ ⟨Nat.le_of_ble_eq_true rfl, Nat.le_of_ble_eq_true rfl⟩ (r_cv fun M19 p19 => ?_) nox
    obtain ⟨I1, rfl, e1, f1⟩ := p19
    have en1 : I1 mo 48 = nI (n0 + 1) := by rw [show I1 mo 48 = sM I1 mo 48 0 from rfl, e1]; exact bodyS_0 en0
    have k11_1 : I1 (mo + 2) = I (mo + 2) := by rw [show I1 (mo + 2) = sM I1 mo 11 from rfl, e1, bodyS_k (by decide) (by decide)]; exact rfl
    have k12_1 : I1 (mo + 3) = I (mo + 3) := by rw [show I1 (mo + 3) = sM I1 mo 12 from rfl, e1, bodyS_k (by decide) (by decide)]; exact rfl
    refine r_iload_n (pc := 22) dX5_falling_22 rfl ?_
    refine r_iconst (pc := 23) (v := 4) dX5_falling_23 (by decide) ?_
    refine r_icmp_ne (pc := 24) 43 dX5_falling_24 rfl (fun _ => ?_) (fun hno => absurd hno (by decide))
    refine r_aload_n (pc := 43) dX5_falling_43 rfl ?_
    refine r_bipush (pc := 44) (v := 12) dX5_falling_44 (by decide) ?_
    refine r_o2 (pc := 46) (bc' := 0) (bs' := 0) (ct_X5_body (I := I1) hm _ ⟨n0 + 1, by omega, en1⟩) k_X5_307_5 dX5_falling_46 (MR_k hm) (Nat.le_of_ble_eq_true rfl) ⟨Nat.le_of_ble_eq_true rfl, Nat.le_of_ble_eq_true rfl⟩ ⟨Nat.le_of_ble_eq_true rfl, Nat.le_of_ble_eq_true rfl⟩ (r_cv fun M46 p46 => ?_) nox
    obtain ⟨I2, rfl, e2, f2⟩ := p46
    have en2 : I2 mo 48 = nI (n0 + 2) := by rw [show I2 mo 48 = sM I2 mo 48 0 from rfl, e2]; exact bodyS_0 en1
    have k11_2 : I2 (mo + 2) = I (mo + 2) := by rw [show I2 (mo + 2) = sM I2 mo 11 from rfl, e2, bodyS_k (by decide) (by decide)]; exact k11_1
    have k12_2 : I2 (mo + 3) = I (mo + 3) := by rw [show I2 (mo + 3) = sM I2 mo 12 from rfl, e2, bodyS_k (by decide) (by decide)]; exact k12_1
    refine r_aload_n (pc := 49) dX5_falling_49 rfl ?_
    refine r_iload_n (pc := 50) dX5_falling_50 rfl ?_
    refine r_iload (pc := 51) dX5_falling_51 rfl ?_
    refine r_o3 (pc := 53) (bc' := 0) (bs' := 0) (ct_X5_resting (I := I2) hm _ _ hx ⟨n0 + 2, by omega, en2⟩ (by rw [k11_2]; exact hk)) k_X5_313_5 dX5_falling_53 (MR_k hm) (Nat.le_of_ble_eq_true rfl) ⟨Nat.le_of_ble_eq_true rfl, Nat.le_of_ble_eq_true rfl⟩ ⟨Nat.le_of_ble_eq_true rfl, Nat.le_of_ble_eq_true rfl⟩ (r_ci fun r53 M53 p53 => ?_) nox
    obtain ⟨er3, I3, rfl, e3, f3⟩ := p53
    rw [k11_2, ek] at er3 e3
    rw [k12_2] at er3
    have en3 : I3 mo 48 = nI (n0 + 6) := by rw [show I3 mo 48 = sM I3 mo 48 0 from rfl, e3, bodiesS_0 en2]; rfl
    have k11_3 : I3 (mo + 2) = I (mo + 2) := by rw [show I3 (mo + 2) = sM I3 mo 11 from rfl, e3, bodiesS_k (by decide) (by decide)]; exact k11_2
    have k12_3 : I3 (mo + 3) = I (mo + 3) := by rw [show I3 (mo + 3) = sM I3 mo 12 from rfl, e3, bodiesS_k (by decide) (by decide)]; exact k12_2
    subst er3
    refine r_istore5 (pc := 56) dX5_falling_56 rfl ?_
    refine r_iload (pc := 58) dX5_falling_58 rfl ?_
    refine r_aload_n (pc := 60) dX5_falling_60 rfl ?_
    refine r_iload_n (pc := 61) dX5_falling_61 rfl ?_
    refine r_iload (pc := 62) dX5_falling_62 rfl ?_
    refine r_aload_n (pc := 64) dX5_falling_64 rfl ?_
    refine r_getR (pc := 65) dX5_falling_65 fl_X5_26_5 (MR_k hm) (fun _ _ => rfl) (MR_r12 hm) ?_
    refine r_iload_n (pc := 68) dX5_falling_68 rfl ?_
    refine rm_iald (pc := 69) dX5_falling_69 (MR_k12 hm) (MR_z12 hm) (by first | assumption | exact vp_in_lit rfl) ?_
    refine r_eqi (I (mo + 3) x1.toNatClampNeg) (by rw [k12_3]) ?_
    refine r_isub (pc := 70) dX5_falling_70 ?_
    refine r_o3 (pc := 71) (bc' := 0) (bs' := 0) (ct_X5_going (I := I3) hm _ _ hx ⟨n0 + 6, by omega, en3⟩ (by rw [k11_3]; exact hk)) k_X5_310_5 dX5_falling_71 (MR_k hm) (Nat.le_of_ble_eq_true rfl) ⟨Nat.le_of_ble_eq_true rfl, Nat.le_of_ble_eq_true rfl⟩ ⟨Nat.le_of_ble_eq_true rfl, Nat.le_of_ble_eq_true rfl⟩ (r_ci fun r71 M71 p71 => ?_) nox
    obtain ⟨er4, I4, rfl, e4, f4⟩ := p71
    rw [k11_3, ek] at er4 e4
    rw [k12_3] at er4
    have en4 : I4 mo 48 = nI (n0 + 9) := by rw [show I4 mo 48 = sM I4 mo 48 0 from rfl, e4, bodiesS_0 en3]; rfl
    have k11_4 : I4 (mo + 2) = I (mo + 2) := by rw [show I4 (mo + 2) = sM I4 mo 11 from rfl, e4, bodiesS_k (by decide) (by decide)]; exact k11_3
    have k12_4 : I4 (mo + 3) = I (mo + 3) := by rw [show I4 (mo + 3) = sM I4 mo 12 from rfl, e4, bodiesS_k (by decide) (by decide)]; exact k12_3
    subst er4
    refine r_ixor (pc := 74) dX5_falling_74 ?_
    refine r_istore5 (pc := 75) dX5_falling_75 rfl ?_
    refine r_iload_n (pc := 77) dX5_falling_77 rfl ?_
    refine r_bipush (pc := 78) (v := 6) dX5_falling_78 (by decide) ?_
    refine r_icmp_ne (pc := 80) 90 dX5_falling_80 rfl (fun hno => absurd hno (by decide)) (fun _ => ?_)
    refine r_iload (pc := 83) dX5_falling_83 rfl ?_
    refine r_iload_n (pc := 85) dX5_falling_85 rfl ?_
    refine r_isub (pc := 86) dX5_falling_86 ?_
    refine r_goto (pc := 87) 92 dX5_falling_87 rfl ?_
    refine r_ireturn (pc := 92) rfl dX5_falling_92 ⟨_, rfl, ?_⟩
    refine ⟨?_, _, rfl, ?_, (((f1).trans f2).trans f3).trans f4⟩
    · rw [ek]; first | rfl | (simp (decide := true) only [faV]; done) | skip
    · rw [ek, e4, e3, e2, e1]; rfl
theorem ct_X5_act {M0 : PM} {mo : Nat} {I : Nat → Nat → Int32} {L : Nat → Nat → Int64} (hm : MR M0 mo) (x1 : Int32) (x2 : Int32) (x3 : Int32) (hk : OkS (sM I mo)) : Ct (YX5_act, (4, 96, 0, 0), qi (fun r M' => oM M0 mo I L (actS (sS I L mo) x1 x2 x3) r M'), noX) [.ref mo, .int x1, .int x2, .int x3] (wIL M0 I L) := by
  refine ct_of [some (.ref mo), some (.int x1), some (.int x2), some (.int x3)] rfl rfl rfl (Nat.le_of_ble_eq_true rfl) rfl rfl ?_
  refine r_aload_n (pc := 0) dX5_act_0 rfl ?_
  refine r_iconst (pc := 1) (v := 0) dX5_act_1 (by decide) ?_
  refine rm_putI (pc := 2) dX5_act_2 fl_X5_304_5 (MR_k hm) rfl rfl ?_
  refine r_aload_n (pc := 5) dX5_act_5 rfl ?_
  refine r_iload_n (pc := 6) dX5_act_6 rfl ?_
  refine r_o2 (pc := 7) (bc' := 0) (bs' := 0) (ct_X5_isThing (I := up2 I mo 48 0) hm _) k_X5_140_5 dX5_act_7 (MR_k hm) (Nat.le_of_ble_eq_true rfl) ⟨Nat.le_of_ble_eq_true rfl, Nat.le_of_ble_eq_true rfl⟩ ⟨Nat.le_of_ble_eq_true rfl, Nat.le_of_ble_eq_true rfl⟩ (r_ci fun r7 M7 p7 => ?_) nox
  obtain ⟨rfl, rfl⟩ := p7
  rw [show up2 I mo 48 0 mo 0 = I mo 0 by simp [up2_self, va_up]]
  refine r_if_eq (pc := 10) 22 dX5_act_10 rfl (fun h10 => ?_) (fun h10 => ?_)
  · rw [bI_eq0] at h10
    refine r_iconst (pc := 22) (v := 0) dX5_act_22 (by decide) ?_
    refine r_ireturn (pc := 23) rfl dX5_act_23 ⟨_, rfl, ?_⟩
    first
      | (refine oM.of ?_ (by repeat' (first | exact frM.rf | assumption | refine frM.up0 ?_ | refine frM.up ?_ (by decide) | refine frM.upL ?_ (by decide)))
         simp (decide := true) only [actS, noS, noTenS, thP, mnP, shelfP, stepS, farP, eq_false h10, not_true_eq_false, not_false_eq_true, true_and, and_true, false_and, and_false, true_or, or_true, false_or, or_false, cI_True, cI_False, if_true, if_false, sm0, sm1, sm2, sm3, sm4, sm5, sm6, sm7, sm8, sm9, sm10, sm11, sm12, sm13, sm14, sm15, sm16, sm17, sm18, sm19, sm20, sm21, sm22, sm23, sm24, sm25, sm26, sm27, sm28, sm29, sm30, sm31, sm32, sm33, sm34, sm35, sm36, sm37, sm38, sm39, sm40, sm41, sm42, sm43, sm44, sm45, sm46, sm47, sm48, sm49, su0, su1, su2, su3, su4, su5, su6, su7, su8, su9, su10, su11, su12, su13, su14, su15, su16, su17, su18, su19, su20, su21, su22, su23, su24, su25, su26, su27, su28, su29, su30, su31, su32, su33, su34, su35, su36, su37, su38, su39, su40, su41, su42, su43, su44, su45, su46, su47, su48, su49]; done)
      | (refine oM.of ?_ f2
         simp (decide := true) only [actS, thP, e1, eq_false h10, not_true_eq_false, not_false_eq_true, true_and, and_true, false_and, and_false, true_or, or_true, false_or, or_false, cI_True, cI_False, if_true, if_false, sm0, sm1, sm2, sm3, sm4, sm5, sm6, sm7, sm8, sm9, sm10, sm11, sm12, sm13, sm14, sm15, sm16, sm17, sm18, sm19, sm20, sm21, sm22, sm23, sm24, sm25, sm26, sm27, sm28, sm29, sm30, sm31, sm32, sm33, sm34, sm35, sm36, sm37, sm38, sm39, sm40, sm41, sm42, sm43, sm44, sm45, sm46, sm47, sm48, sm49, show up2 I mo 48 0 (mo + 2) = I (mo + 2) from up2_ne (by omega), show up2 I mo 48 0 (mo + 3) = I (mo + 3) from up2_ne (by omega)])
  · rw [bI_ne0] at h10
    have ht := vp_b (n := 8) h10.1 h10.2 hk.1.1.1.2
    refine r_iload_n (pc := 13) dX5_act_13 rfl ?_
    refine r_if_lt (pc := 14) 22 dX5_act_14 rfl (fun h14 => ?_) (fun h14 => ?_)
    · refine r_iconst (pc := 22) (v := 0) dX5_act_22 (by decide) ?_
      refine r_ireturn (pc := 23) rfl dX5_act_23 ⟨_, rfl, ?_⟩
      first
        | (refine oM.of ?_ (by repeat' (first | exact frM.rf | assumption | refine frM.up0 ?_ | refine frM.up ?_ (by decide) | refine frM.upL ?_ (by decide)))
           simp (decide := true) only [actS, noS, noTenS, thP, mnP, shelfP, stepS, farP, eq_true h10, h14, not_true_eq_false, not_false_eq_true, true_and, and_true, false_and, and_false, true_or, or_true, false_or, or_false, cI_True, cI_False, if_true, if_false, sm0, sm1, sm2, sm3, sm4, sm5, sm6, sm7, sm8, sm9, sm10, sm11, sm12, sm13, sm14, sm15, sm16, sm17, sm18, sm19, sm20, sm21, sm22, sm23, sm24, sm25, sm26, sm27, sm28, sm29, sm30, sm31, sm32, sm33, sm34, sm35, sm36, sm37, sm38, sm39, sm40, sm41, sm42, sm43, sm44, sm45, sm46, sm47, sm48, sm49, su0, su1, su2, su3, su4, su5, su6, su7, su8, su9, su10, su11, su12, su13, su14, su15, su16, su17, su18, su19, su20, su21, su22, su23, su24, su25, su26, su27, su28, su29, su30, su31, su32, su33, su34, su35, su36, su37, su38, su39, su40, su41, su42, su43, su44, su45, su46, su47, su48, su49]; done)
        | (refine oM.of ?_ f2
           simp (decide := true) only [actS, thP, e1, eq_true h10, h14, not_true_eq_false, not_false_eq_true, true_and, and_true, false_and, and_false, true_or, or_true, false_or, or_false, cI_True, cI_False, if_true, if_false, sm0, sm1, sm2, sm3, sm4, sm5, sm6, sm7, sm8, sm9, sm10, sm11, sm12, sm13, sm14, sm15, sm16, sm17, sm18, sm19, sm20, sm21, sm22, sm23, sm24, sm25, sm26, sm27, sm28, sm29, sm30, sm31, sm32, sm33, sm34, sm35, sm36, sm37, sm38, sm39, sm40, sm41, sm42, sm43, sm44, sm45, sm46, sm47, sm48, sm49, show up2 I mo 48 0 (mo + 2) = I (mo + 2) from up2_ne (by omega), show up2 I mo 48 0 (mo + 3) = I (mo + 3) from up2_ne (by omega)])
    · refine r_iload_n (pc := 17) dX5_act_17 rfl ?_
      refine r_iconst (pc := 18) (v := 2) dX5_act_18 (by decide) ?_
      refine r_icmp_le (pc := 19) 24 dX5_act_19 rfl (fun h19 => ?_) (fun h19 => ?_)
      · refine r_iload_n (pc := 24) dX5_act_24 rfl ?_
        refine r_if_ne (pc := 25) 37 dX5_act_25 rfl (fun h25 => ?_) (fun h25 => ?_)
        · refine r_iload_n (pc := 37) dX5_act_37 rfl ?_
          refine r_iconst (pc := 38) (v := 1) dX5_act_38 (by decide) ?_
          refine r_icmp_ne (pc := 39) 51 dX5_act_39 rfl (fun h39 => ?_) (fun h39 => ?_)
          · refine r_aload_n (pc := 51) dX5_act_51 rfl ?_
            refine r_iload_n (pc := 52) dX5_act_52 rfl ?_
            refine r_iload_n (pc := 53) dX5_act_53 rfl ?_
            refine r_o3 (pc := 54) (bc' := 0) (bs' := 0) (ct_X5_falling (I := up2 I mo 48 0) hm _ _ ht ⟨0, by omega, by rw [up2_self, va_up_self]; rfl⟩ (by rw [up2_ne (by omega)]; exact (hk.1.2.2.1 _ (ix_lt h10.1 h10.2)).1)) k_X5_316_5 dX5_act_54 (MR_k hm) (Nat.le_of_ble_eq_true rfl) ⟨Nat.le_of_ble_eq_true rfl, Nat.le_of_ble_eq_true rfl⟩ ⟨Nat.le_of_ble_eq_true rfl, Nat.le_of_ble_eq_true rfl⟩ (r_ci fun r54 M54 p54 => ?_) nox
            obtain ⟨rfl, I1, rfl, e1, f1⟩ := p54
            rw [show up2 I mo 48 0 (mo + 2) = I (mo + 2) from up2_ne (by omega)] at e1
            rw [← su48] at e1
            have f2 : frM mo I I1 L L := (frM.up0 frM.rf).trans f1
            refine r_ireturn (pc := 57) rfl dX5_act_57 ⟨_, rfl, ?_⟩
            first
              | (refine oM.of ?_ (by repeat' (first | exact frM.rf | assumption | refine frM.up0 ?_ | refine frM.up ?_ (by decide) | refine frM.upL ?_ (by decide)))
                 simp (decide := true) only [actS, noS, noTenS, thP, mnP, shelfP, stepS, farP, eq_true h10, h14, h19, h25, h39, not_true_eq_false, not_false_eq_true, true_and, and_true, false_and, and_false, true_or, or_true, false_or, or_false, cI_True, cI_False, if_true, if_false, sm0, sm1, sm2, sm3, sm4, sm5, sm6, sm7, sm8, sm9, sm10, sm11, sm12, sm13, sm14, sm15, sm16, sm17, sm18, sm19, sm20, sm21, sm22, sm23, sm24, sm25, sm26, sm27, sm28, sm29, sm30, sm31, sm32, sm33, sm34, sm35, sm36, sm37, sm38, sm39, sm40, sm41, sm42, sm43, sm44, sm45, sm46, sm47, sm48, sm49, su0, su1, su2, su3, su4, su5, su6, su7, su8, su9, su10, su11, su12, su13, su14, su15, su16, su17, su18, su19, su20, su21, su22, su23, su24, su25, su26, su27, su28, su29, su30, su31, su32, su33, su34, su35, su36, su37, su38, su39, su40, su41, su42, su43, su44, su45, su46, su47, su48, su49]; done)
              | (refine oM.of ?_ f2
                 simp (decide := true) only [actS, thP, e1, eq_true h10, h14, h19, h25, h39, not_true_eq_false, not_false_eq_true, true_and, and_true, false_and, and_false, true_or, or_true, false_or, or_false, cI_True, cI_False, if_true, if_false, sm0, sm1, sm2, sm3, sm4, sm5, sm6, sm7, sm8, sm9, sm10, sm11, sm12, sm13, sm14, sm15, sm16, sm17, sm18, sm19, sm20, sm21, sm22, sm23, sm24, sm25, sm26, sm27, sm28, sm29, sm30, sm31, sm32, sm33, sm34, sm35, sm36, sm37, sm38, sm39, sm40, sm41, sm42, sm43, sm44, sm45, sm46, sm47, sm48, sm49, show up2 I mo 48 0 (mo + 2) = I (mo + 2) from up2_ne (by omega), show up2 I mo 48 0 (mo + 3) = I (mo + 3) from up2_ne (by omega)])
          · subst h39
            refine r_aload_n (pc := 42) dX5_act_42 rfl ?_
            refine r_iload_n (pc := 43) dX5_act_43 rfl ?_
            refine r_iload_n (pc := 44) dX5_act_44 rfl ?_
            refine r_o3 (pc := 45) (bc' := 0) (bs' := 0) (ct_X5_resting (I := up2 I mo 48 0) hm _ _ ht ⟨0, by omega, by rw [up2_self, va_up_self]; rfl⟩ (by rw [up2_ne (by omega)]; exact (hk.1.2.2.1 _ (ix_lt h10.1 h10.2)).1)) k_X5_313_5 dX5_act_45 (MR_k hm) (Nat.le_of_ble_eq_true rfl) ⟨Nat.le_of_ble_eq_true rfl, Nat.le_of_ble_eq_true rfl⟩ ⟨Nat.le_of_ble_eq_true rfl, Nat.le_of_ble_eq_true rfl⟩ (r_ci fun r45 M45 p45 => ?_) nox
            obtain ⟨rfl, I1, rfl, e1, f1⟩ := p45
            rw [show up2 I mo 48 0 (mo + 2) = I (mo + 2) from up2_ne (by omega)] at e1
            rw [← su48] at e1
            have f2 : frM mo I I1 L L := (frM.up0 frM.rf).trans f1
            refine r_goto (pc := 48) 57 dX5_act_48 rfl ?_
            refine r_ireturn (pc := 57) rfl dX5_act_57 ⟨_, rfl, ?_⟩
            first
              | (refine oM.of ?_ (by repeat' (first | exact frM.rf | assumption | refine frM.up0 ?_ | refine frM.up ?_ (by decide) | refine frM.upL ?_ (by decide)))
                 simp (decide := true) only [actS, noS, noTenS, thP, mnP, shelfP, stepS, farP, eq_true h10, h14, h19, h25, not_true_eq_false, not_false_eq_true, true_and, and_true, false_and, and_false, true_or, or_true, false_or, or_false, cI_True, cI_False, if_true, if_false, sm0, sm1, sm2, sm3, sm4, sm5, sm6, sm7, sm8, sm9, sm10, sm11, sm12, sm13, sm14, sm15, sm16, sm17, sm18, sm19, sm20, sm21, sm22, sm23, sm24, sm25, sm26, sm27, sm28, sm29, sm30, sm31, sm32, sm33, sm34, sm35, sm36, sm37, sm38, sm39, sm40, sm41, sm42, sm43, sm44, sm45, sm46, sm47, sm48, sm49, su0, su1, su2, su3, su4, su5, su6, su7, su8, su9, su10, su11, su12, su13, su14, su15, su16, su17, su18, su19, su20, su21, su22, su23, su24, su25, su26, su27, su28, su29, su30, su31, su32, su33, su34, su35, su36, su37, su38, su39, su40, su41, su42, su43, su44, su45, su46, su47, su48, su49]; done)
              | (refine oM.of ?_ f2
                 simp (decide := true) only [actS, thP, e1, eq_true h10, h14, h19, h25, not_true_eq_false, not_false_eq_true, true_and, and_true, false_and, and_false, true_or, or_true, false_or, or_false, cI_True, cI_False, if_true, if_false, sm0, sm1, sm2, sm3, sm4, sm5, sm6, sm7, sm8, sm9, sm10, sm11, sm12, sm13, sm14, sm15, sm16, sm17, sm18, sm19, sm20, sm21, sm22, sm23, sm24, sm25, sm26, sm27, sm28, sm29, sm30, sm31, sm32, sm33, sm34, sm35, sm36, sm37, sm38, sm39, sm40, sm41, sm42, sm43, sm44, sm45, sm46, sm47, sm48, sm49, show up2 I mo 48 0 (mo + 2) = I (mo + 2) from up2_ne (by omega), show up2 I mo 48 0 (mo + 3) = I (mo + 3) from up2_ne (by omega)])
        · subst h25
          refine r_aload_n (pc := 28) dX5_act_28 rfl ?_
          refine r_iload_n (pc := 29) dX5_act_29 rfl ?_
          refine r_iload_n (pc := 30) dX5_act_30 rfl ?_
          refine r_o3 (pc := 31) (bc' := 0) (bs' := 0) (ct_X5_going (I := up2 I mo 48 0) hm _ _ ht ⟨0, by omega, by rw [up2_self, va_up_self]; rfl⟩ (by rw [up2_ne (by omega)]; exact (hk.1.2.2.1 _ (ix_lt h10.1 h10.2)).1)) k_X5_310_5 dX5_act_31 (MR_k hm) (Nat.le_of_ble_eq_true rfl) ⟨Nat.le_of_ble_eq_true rfl, Nat.le_of_ble_eq_true rfl⟩ ⟨Nat.le_of_ble_eq_true rfl, Nat.le_of_ble_eq_true rfl⟩ (r_ci fun r31 M31 p31 => ?_) nox
          obtain ⟨rfl, I1, rfl, e1, f1⟩ := p31
          rw [show up2 I mo 48 0 (mo + 2) = I (mo + 2) from up2_ne (by omega)] at e1
          rw [← su48] at e1
          have f2 : frM mo I I1 L L := (frM.up0 frM.rf).trans f1
          refine r_goto (pc := 34) 57 dX5_act_34 rfl ?_
          refine r_ireturn (pc := 57) rfl dX5_act_57 ⟨_, rfl, ?_⟩
          first
            | (refine oM.of ?_ (by repeat' (first | exact frM.rf | assumption | refine frM.up0 ?_ | refine frM.up ?_ (by decide) | refine frM.upL ?_ (by decide)))
               simp (decide := true) only [actS, noS, noTenS, thP, mnP, shelfP, stepS, farP, eq_true h10, h14, h19, not_true_eq_false, not_false_eq_true, true_and, and_true, false_and, and_false, true_or, or_true, false_or, or_false, cI_True, cI_False, if_true, if_false, sm0, sm1, sm2, sm3, sm4, sm5, sm6, sm7, sm8, sm9, sm10, sm11, sm12, sm13, sm14, sm15, sm16, sm17, sm18, sm19, sm20, sm21, sm22, sm23, sm24, sm25, sm26, sm27, sm28, sm29, sm30, sm31, sm32, sm33, sm34, sm35, sm36, sm37, sm38, sm39, sm40, sm41, sm42, sm43, sm44, sm45, sm46, sm47, sm48, sm49, su0, su1, su2, su3, su4, su5, su6, su7, su8, su9, su10, su11, su12, su13, su14, su15, su16, su17, su18, su19, su20, su21, su22, su23, su24, su25, su26, su27, su28, su29, su30, su31, su32, su33, su34, su35, su36, su37, su38, su39, su40, su41, su42, su43, su44, su45, su46, su47, su48, su49]; done)
            | (refine oM.of ?_ f2
               simp (decide := true) only [actS, thP, e1, eq_true h10, h14, h19, not_true_eq_false, not_false_eq_true, true_and, and_true, false_and, and_false, true_or, or_true, false_or, or_false, cI_True, cI_False, if_true, if_false, sm0, sm1, sm2, sm3, sm4, sm5, sm6, sm7, sm8, sm9, sm10, sm11, sm12, sm13, sm14, sm15, sm16, sm17, sm18, sm19, sm20, sm21, sm22, sm23, sm24, sm25, sm26, sm27, sm28, sm29, sm30, sm31, sm32, sm33, sm34, sm35, sm36, sm37, sm38, sm39, sm40, sm41, sm42, sm43, sm44, sm45, sm46, sm47, sm48, sm49, show up2 I mo 48 0 (mo + 2) = I (mo + 2) from up2_ne (by omega), show up2 I mo 48 0 (mo + 3) = I (mo + 3) from up2_ne (by omega)])
      · refine r_iconst (pc := 22) (v := 0) dX5_act_22 (by decide) ?_
        refine r_ireturn (pc := 23) rfl dX5_act_23 ⟨_, rfl, ?_⟩
        first
          | (refine oM.of ?_ (by repeat' (first | exact frM.rf | assumption | refine frM.up0 ?_ | refine frM.up ?_ (by decide) | refine frM.upL ?_ (by decide)))
             simp (decide := true) only [actS, noS, noTenS, thP, mnP, shelfP, stepS, farP, eq_true h10, h14, h19, not_true_eq_false, not_false_eq_true, true_and, and_true, false_and, and_false, true_or, or_true, false_or, or_false, cI_True, cI_False, if_true, if_false, sm0, sm1, sm2, sm3, sm4, sm5, sm6, sm7, sm8, sm9, sm10, sm11, sm12, sm13, sm14, sm15, sm16, sm17, sm18, sm19, sm20, sm21, sm22, sm23, sm24, sm25, sm26, sm27, sm28, sm29, sm30, sm31, sm32, sm33, sm34, sm35, sm36, sm37, sm38, sm39, sm40, sm41, sm42, sm43, sm44, sm45, sm46, sm47, sm48, sm49, su0, su1, su2, su3, su4, su5, su6, su7, su8, su9, su10, su11, su12, su13, su14, su15, su16, su17, su18, su19, su20, su21, su22, su23, su24, su25, su26, su27, su28, su29, su30, su31, su32, su33, su34, su35, su36, su37, su38, su39, su40, su41, su42, su43, su44, su45, su46, su47, su48, su49]; done)
          | (refine oM.of ?_ f2
             simp (decide := true) only [actS, thP, e1, eq_true h10, h14, h19, not_true_eq_false, not_false_eq_true, true_and, and_true, false_and, and_false, true_or, or_true, false_or, or_false, cI_True, cI_False, if_true, if_false, sm0, sm1, sm2, sm3, sm4, sm5, sm6, sm7, sm8, sm9, sm10, sm11, sm12, sm13, sm14, sm15, sm16, sm17, sm18, sm19, sm20, sm21, sm22, sm23, sm24, sm25, sm26, sm27, sm28, sm29, sm30, sm31, sm32, sm33, sm34, sm35, sm36, sm37, sm38, sm39, sm40, sm41, sm42, sm43, sm44, sm45, sm46, sm47, sm48, sm49, show up2 I mo 48 0 (mo + 2) = I (mo + 2) from up2_ne (by omega), show up2 I mo 48 0 (mo + 3) = I (mo + 3) from up2_ne (by omega)])
theorem ct_X5_toss {M0 : PM} {mo : Nat} {I : Nat → Nat → Int32} {L : Nat → Nat → Int64} (hm : MR M0 mo) (x1 : Int32) (x2 : Int32) (x3 : Int32) (hk : OkS (sM I mo)) : Ct (YX5_toss, (4, 93, 0, 0), qi (fun r M' => oM M0 mo I L (tossS (sS I L mo) x1 x2 x3) r M'), noX) [.ref mo, .int x1, .int x2, .int x3] (wIL M0 I L) := by
  refine ct_of [some (.ref mo), some (.int x1), some (.int x2), some (.int x3), none] rfl rfl rfl (Nat.le_of_ble_eq_true rfl) rfl rfl ?_
  refine r_aload_n (pc := 0) dX5_toss_0 rfl ?_
  refine r_iload_n (pc := 1) dX5_toss_1 rfl ?_
  refine r_o2 (pc := 2) (bc' := 0) (bs' := 0) (ct_X5_isMan hm _) k_X5_178_5 dX5_toss_2 (MR_k hm) (Nat.le_of_ble_eq_true rfl) ⟨Nat.le_of_ble_eq_true rfl, Nat.le_of_ble_eq_true rfl⟩ ⟨Nat.le_of_ble_eq_true rfl, Nat.le_of_ble_eq_true rfl⟩ (r_ci fun r2 M2 p2 => ?_) nox
  obtain ⟨rfl, rfl⟩ := p2
  refine r_if_eq (pc := 5) 16 dX5_toss_5 rfl (fun h5 => ?_) (fun h5 => ?_)
  · rw [bI_eq0] at h5
    refine r_aload_n (pc := 16) dX5_toss_16 rfl ?_
    refine r_iconst (pc := 17) (v := (-1)) dX5_toss_17 (by decide) ?_
    refine r_o2 (pc := 18) (bc' := 0) (bs' := 0) (ct_X5_no hm _ (vp_in_lit rfl)) k_X5_136_5 dX5_toss_18 (MR_k hm) (Nat.le_of_ble_eq_true rfl) ⟨Nat.le_of_ble_eq_true rfl, Nat.le_of_ble_eq_true rfl⟩ ⟨Nat.le_of_ble_eq_true rfl, Nat.le_of_ble_eq_true rfl⟩ (r_ci fun r18 M18 p18 => ?_) nox
    obtain ⟨rfl, rfl⟩ := p18
    refine r_ireturn (pc := 21) rfl dX5_toss_21 ⟨_, rfl, ?_⟩
    first
      | contradiction
      | (refine oM.of ?_ (by repeat' (first | exact frM.rf | assumption | refine frM.up0 ?_ | refine frM.up ?_ (by decide) | refine frM.upL ?_ (by decide)))
         simp (decide := true) only [tossS, noS, noTenS, thP, mnP, shelfP, stepS, farP, tossM, farS, farBS, throwP, Bool.false_eq_true, eq_false h5, not_true_eq_false, not_false_eq_true, true_and, and_true, false_and, and_false, true_or, or_true, false_or, or_false, cI_True, cI_False, if_true, if_false, sm0, sm1, sm2, sm3, sm4, sm5, sm6, sm7, sm8, sm9, sm10, sm11, sm12, sm13, sm14, sm15, sm16, sm17, sm18, sm19, sm20, sm21, sm22, sm23, sm24, sm25, sm26, sm27, sm28, sm29, sm30, sm31, sm32, sm33, sm34, sm35, sm36, sm37, sm38, sm39, sm40, sm41, sm42, sm43, sm44, sm45, sm46, sm47, sm48, sm49, su0, su1, su2, su3, su4, su5, su6, su7, su8, su9, su10, su11, su12, su13, su14, su15, su16, su17, su18, su19, su20, su21, su22, su23, su24, su25, su26, su27, su28, su29, su30, su31, su32, su33, su34, su35, su36, su37, su38, su39, su40, su41, su42, su43, su44, su45, su46, su47, su48, su49]; done)
      | (refine oM.of ?_ (by repeat' (first | exact frM.rf | assumption | refine frM.up0 ?_ | refine frM.up ?_ (by decide) | refine frM.upL ?_ (by decide)))
         simp (decide := true) only [tossS, noS, noTenS, thP, mnP, shelfP, stepS, farP, tossM, farS, farBS, throwP, Bool.false_eq_true, eq_false h5, not_true_eq_false, not_false_eq_true, true_and, and_true, false_and, and_false, true_or, or_true, false_or, or_false, cI_True, cI_False, if_true, if_false, sm0, sm1, sm2, sm3, sm4, sm5, sm6, sm7, sm8, sm9, sm10, sm11, sm12, sm13, sm14, sm15, sm16, sm17, sm18, sm19, sm20, sm21, sm22, sm23, sm24, sm25, sm26, sm27, sm28, sm29, sm30, sm31, sm32, sm33, sm34, sm35, sm36, sm37, sm38, sm39, sm40, sm41, sm42, sm43, sm44, sm45, sm46, sm47, sm48, sm49, su0, su1, su2, su3, su4, su5, su6, su7, su8, su9, su10, su11, su12, su13, su14, su15, su16, su17, su18, su19, su20, su21, su22, su23, su24, su25, su26, su27, su28, su29, su30, su31, su32, su33, su34, su35, su36, su37, su38, su39, su40, su41, su42, su43, su44, su45, su46, su47, su48, su49]
         simp [up2_ne])
  · rw [bI_ne0] at h5
    have hn := vp_b (n := 8) h5.1 h5.2 hk.1.1.2.1.2
    refine r_aload_n (pc := 8) dX5_toss_8 rfl ?_
    refine r_iload_n (pc := 9) dX5_toss_9 rfl ?_
    refine r_o2 (pc := 10) (bc' := 0) (bs' := 0) (ct_X5_isThing hm _) k_X5_140_5 dX5_toss_10 (MR_k hm) (Nat.le_of_ble_eq_true rfl) ⟨Nat.le_of_ble_eq_true rfl, Nat.le_of_ble_eq_true rfl⟩ ⟨Nat.le_of_ble_eq_true rfl, Nat.le_of_ble_eq_true rfl⟩ (r_ci fun r10 M10 p10 => ?_) nox
    obtain ⟨rfl, rfl⟩ := p10
    refine r_if_ne (pc := 13) 22 dX5_toss_13 rfl (fun h13 => ?_) (fun h13 => ?_)
    · rw [bI_ne0] at h13
      have ht := vp_b (n := 8) h13.1 h13.2 hk.1.1.1.2
      have hd := hk.1.far (ix_lt h13.1 h13.2)
      refine r_aload_n (pc := 22) dX5_toss_22 rfl ?_
      refine r_iload_n (pc := 23) dX5_toss_23 rfl ?_
      refine r_o2 (pc := 24) (bc' := 0) (bs' := 0) (ct_X5_isFar hm _) k_X5_287_5 dX5_toss_24 (MR_k hm) (Nat.le_of_ble_eq_true rfl) ⟨Nat.le_of_ble_eq_true rfl, Nat.le_of_ble_eq_true rfl⟩ ⟨Nat.le_of_ble_eq_true rfl, Nat.le_of_ble_eq_true rfl⟩ (r_ci fun r24 M24 p24 => ?_) nox
      obtain ⟨rfl, rfl⟩ := p24
      refine r_if_eq (pc := 27) 50 dX5_toss_27 rfl (fun h27 => ?_) (fun h27 => ?_)
      · rw [bI_eq0] at h27
        refine r_aload_n (pc := 50) dX5_toss_50 rfl ?_
        refine r_bipush (pc := 51) (v := (-6)) dX5_toss_51 (by decide) ?_
        refine r_o2 (pc := 53) (bc' := 0) (bs' := 0) (ct_X5_no hm _ (vp_in_lit rfl)) k_X5_136_5 dX5_toss_53 (MR_k hm) (Nat.le_of_ble_eq_true rfl) ⟨Nat.le_of_ble_eq_true rfl, Nat.le_of_ble_eq_true rfl⟩ ⟨Nat.le_of_ble_eq_true rfl, Nat.le_of_ble_eq_true rfl⟩ (r_ci fun r53 M53 p53 => ?_) nox
        obtain ⟨rfl, rfl⟩ := p53
        refine r_ireturn (pc := 56) rfl dX5_toss_56 ⟨_, rfl, ?_⟩
        first
          | contradiction
          | (refine oM.of ?_ (by repeat' (first | exact frM.rf | assumption | refine frM.up0 ?_ | refine frM.up ?_ (by decide) | refine frM.upL ?_ (by decide)))
             simp (decide := true) only [tossS, noS, noTenS, thP, mnP, shelfP, stepS, farP, tossM, farS, farBS, throwP, Bool.false_eq_true, eq_true h5, eq_true h13, eq_false h27, not_true_eq_false, not_false_eq_true, true_and, and_true, false_and, and_false, true_or, or_true, false_or, or_false, cI_True, cI_False, if_true, if_false, sm0, sm1, sm2, sm3, sm4, sm5, sm6, sm7, sm8, sm9, sm10, sm11, sm12, sm13, sm14, sm15, sm16, sm17, sm18, sm19, sm20, sm21, sm22, sm23, sm24, sm25, sm26, sm27, sm28, sm29, sm30, sm31, sm32, sm33, sm34, sm35, sm36, sm37, sm38, sm39, sm40, sm41, sm42, sm43, sm44, sm45, sm46, sm47, sm48, sm49, su0, su1, su2, su3, su4, su5, su6, su7, su8, su9, su10, su11, su12, su13, su14, su15, su16, su17, su18, su19, su20, su21, su22, su23, su24, su25, su26, su27, su28, su29, su30, su31, su32, su33, su34, su35, su36, su37, su38, su39, su40, su41, su42, su43, su44, su45, su46, su47, su48, su49]; done)
          | (refine oM.of ?_ (by repeat' (first | exact frM.rf | assumption | refine frM.up0 ?_ | refine frM.up ?_ (by decide) | refine frM.upL ?_ (by decide)))
             simp (decide := true) only [tossS, noS, noTenS, thP, mnP, shelfP, stepS, farP, tossM, farS, farBS, throwP, Bool.false_eq_true, eq_true h5, eq_true h13, eq_false h27, not_true_eq_false, not_false_eq_true, true_and, and_true, false_and, and_false, true_or, or_true, false_or, or_false, cI_True, cI_False, if_true, if_false, sm0, sm1, sm2, sm3, sm4, sm5, sm6, sm7, sm8, sm9, sm10, sm11, sm12, sm13, sm14, sm15, sm16, sm17, sm18, sm19, sm20, sm21, sm22, sm23, sm24, sm25, sm26, sm27, sm28, sm29, sm30, sm31, sm32, sm33, sm34, sm35, sm36, sm37, sm38, sm39, sm40, sm41, sm42, sm43, sm44, sm45, sm46, sm47, sm48, sm49, su0, su1, su2, su3, su4, su5, su6, su7, su8, su9, su10, su11, su12, su13, su14, su15, su16, su17, su18, su19, su20, su21, su22, su23, su24, su25, su26, su27, su28, su29, su30, su31, su32, su33, su34, su35, su36, su37, su38, su39, su40, su41, su42, su43, su44, su45, su46, su47, su48, su49]
             simp [up2_ne])
      · rw [bI_ne0] at h27
        refine r_aload_n (pc := 30) dX5_toss_30 rfl ?_
        refine r_iload_n (pc := 31) dX5_toss_31 rfl ?_
        refine r_iload_n (pc := 32) dX5_toss_32 rfl ?_
        refine r_iload_n (pc := 33) dX5_toss_33 rfl ?_
        refine r_o4 (pc := 34) (bc' := 0) (bs' := 0) (ct_X5_isThrow hm _ _ _ hn ht hd.1 hd.2) k_X5_293_5 dX5_toss_34 (MR_k hm) (Nat.le_of_ble_eq_true rfl) ⟨Nat.le_of_ble_eq_true rfl, Nat.le_of_ble_eq_true rfl⟩ ⟨Nat.le_of_ble_eq_true rfl, Nat.le_of_ble_eq_true rfl⟩ (r_ci fun r34 M34 p34 => ?_) nox
        obtain ⟨rfl, rfl⟩ := p34
        refine r_if_eq (pc := 37) 50 dX5_toss_37 rfl (fun h37 => ?_) (fun h37 => ?_)
        · rw [bI_eq0] at h37
          refine r_aload_n (pc := 50) dX5_toss_50 rfl ?_
          refine r_bipush (pc := 51) (v := (-6)) dX5_toss_51 (by decide) ?_
          refine r_o2 (pc := 53) (bc' := 0) (bs' := 0) (ct_X5_no hm _ (vp_in_lit rfl)) k_X5_136_5 dX5_toss_53 (MR_k hm) (Nat.le_of_ble_eq_true rfl) ⟨Nat.le_of_ble_eq_true rfl, Nat.le_of_ble_eq_true rfl⟩ ⟨Nat.le_of_ble_eq_true rfl, Nat.le_of_ble_eq_true rfl⟩ (r_ci fun r53 M53 p53 => ?_) nox
          obtain ⟨rfl, rfl⟩ := p53
          refine r_ireturn (pc := 56) rfl dX5_toss_56 ⟨_, rfl, ?_⟩
          first
            | contradiction
            | (refine oM.of ?_ (by repeat' (first | exact frM.rf | assumption | refine frM.up0 ?_ | refine frM.up ?_ (by decide) | refine frM.upL ?_ (by decide)))
               simp (decide := true) only [tossS, noS, noTenS, thP, mnP, shelfP, stepS, farP, tossM, farS, farBS, throwP, Bool.false_eq_true, eq_true h5, eq_true h13, eq_true h27, eq_false h37, not_true_eq_false, not_false_eq_true, true_and, and_true, false_and, and_false, true_or, or_true, false_or, or_false, cI_True, cI_False, if_true, if_false, sm0, sm1, sm2, sm3, sm4, sm5, sm6, sm7, sm8, sm9, sm10, sm11, sm12, sm13, sm14, sm15, sm16, sm17, sm18, sm19, sm20, sm21, sm22, sm23, sm24, sm25, sm26, sm27, sm28, sm29, sm30, sm31, sm32, sm33, sm34, sm35, sm36, sm37, sm38, sm39, sm40, sm41, sm42, sm43, sm44, sm45, sm46, sm47, sm48, sm49, su0, su1, su2, su3, su4, su5, su6, su7, su8, su9, su10, su11, su12, su13, su14, su15, su16, su17, su18, su19, su20, su21, su22, su23, su24, su25, su26, su27, su28, su29, su30, su31, su32, su33, su34, su35, su36, su37, su38, su39, su40, su41, su42, su43, su44, su45, su46, su47, su48, su49]; done)
            | (refine oM.of ?_ (by repeat' (first | exact frM.rf | assumption | refine frM.up0 ?_ | refine frM.up ?_ (by decide) | refine frM.upL ?_ (by decide)))
               simp (decide := true) only [tossS, noS, noTenS, thP, mnP, shelfP, stepS, farP, tossM, farS, farBS, throwP, Bool.false_eq_true, eq_true h5, eq_true h13, eq_true h27, eq_false h37, not_true_eq_false, not_false_eq_true, true_and, and_true, false_and, and_false, true_or, or_true, false_or, or_false, cI_True, cI_False, if_true, if_false, sm0, sm1, sm2, sm3, sm4, sm5, sm6, sm7, sm8, sm9, sm10, sm11, sm12, sm13, sm14, sm15, sm16, sm17, sm18, sm19, sm20, sm21, sm22, sm23, sm24, sm25, sm26, sm27, sm28, sm29, sm30, sm31, sm32, sm33, sm34, sm35, sm36, sm37, sm38, sm39, sm40, sm41, sm42, sm43, sm44, sm45, sm46, sm47, sm48, sm49, su0, su1, su2, su3, su4, su5, su6, su7, su8, su9, su10, su11, su12, su13, su14, su15, su16, su17, su18, su19, su20, su21, su22, su23, su24, su25, su26, su27, su28, su29, su30, su31, su32, su33, su34, su35, su36, su37, su38, su39, su40, su41, su42, su43, su44, su45, su46, su47, su48, su49]
               simp [up2_ne])
        · rw [bI_ne0] at h37
          refine r_aload_n (pc := 40) dX5_toss_40 rfl ?_
          refine r_getR (pc := 41) dX5_toss_41 fl_X5_38_5 (MR_k hm) (fun _ _ => rfl) (MR_r16 hm) ?_
          refine r_iload_n (pc := 44) dX5_toss_44 rfl ?_
          refine rm_iald (pc := 45) dX5_toss_45 (MR_k16 hm) (MR_z16 hm) (by first | assumption | exact vp_in_lit rfl) ?_
          refine r_iconst (pc := 46) (v := 1) dX5_toss_46 (by decide) ?_
          refine r_icmp_ne (pc := 47) 57 dX5_toss_47 rfl (fun h47 => ?_) (fun h47 => ?_)
          · refine r_aload_n (pc := 57) dX5_toss_57 rfl ?_
            refine r_bipush (pc := 58) (v := 10) dX5_toss_58 (by decide) ?_
            refine r_o2 (pc := 60) (bc' := 0) (bs' := 0) (ct_X5_draw hm _ (by decide)) k_X5_301_5 dX5_toss_60 (MR_k hm) (Nat.le_of_ble_eq_true rfl) ⟨Nat.le_of_ble_eq_true rfl, Nat.le_of_ble_eq_true rfl⟩ ⟨Nat.le_of_ble_eq_true rfl, Nat.le_of_ble_eq_true rfl⟩ (r_ci fun r60 M60 p60 => ?_) nox
            obtain ⟨rfl, rfl⟩ := p60
            refine r_eqi (drC (I mo 7) 10) rfl ?_
            refine r_mem (wIL M0 (up2 I mo 7 (sdC (I mo 7))) L) rfl ?_
            refine r_aload_n (pc := 63) dX5_toss_63 rfl ?_
            refine r_iload_n (pc := 64) dX5_toss_64 rfl ?_
            refine r_iload_n (pc := 65) dX5_toss_65 rfl ?_
            refine r_iload_n (pc := 66) dX5_toss_66 rfl ?_
            refine r_o4 (pc := 67) (bc' := 0) (bs' := 0) (ct_X5_caughtBy (I := (up2 I mo 7 (sdC (I mo 7)))) hm _ _ _ hn ht (by rw [up2_ne (by omega)]; exact hd.1) (by rw [up2_ne (by omega), up2_ne (by omega), up2_ne (by omega)]; exact hd.2)) k_X5_290_5 dX5_toss_67 (MR_k hm) (Nat.le_of_ble_eq_true rfl) ⟨Nat.le_of_ble_eq_true rfl, Nat.le_of_ble_eq_true rfl⟩ ⟨Nat.le_of_ble_eq_true rfl, Nat.le_of_ble_eq_true rfl⟩ (r_ci fun r67 M67 p67 => ?_) nox
            obtain ⟨rfl, rfl⟩ := p67
            refine r_eqi (caughtC x3 (farC (I (mo + 2) x2.toNatClampNeg) (I (mo + 3) x2.toNatClampNeg) (I (mo + 4) x2.toNatClampNeg) (I mo 6) (I (mo + 8) x1.toNatClampNeg - I (mo + 9) x1.toNatClampNeg))) (by simp [up2_ne, up2_self, va_up]) ?_
            refine r_icmp_ge (pc := 70) 77 dX5_toss_70 rfl (fun h70 => ?_) (fun h70 => ?_)
            · refine r_iconst (pc := 77) (v := 0) dX5_toss_77 (by decide) ?_
              refine r_istore4 (pc := 78) dX5_toss_78 rfl ?_
              refine r_aload_n (pc := 80) dX5_toss_80 rfl ?_
              refine r_getR (pc := 81) dX5_toss_81 fl_X5_32_5 (MR_k hm) (fun _ _ => rfl) (MR_r14 hm) ?_
              refine r_iload_n (pc := 84) dX5_toss_84 rfl ?_
              refine r_dup2 (pc := 85) dX5_toss_85 rfl rfl ?_
              refine rm_ialde (pc := 86) (f := I (mo + 5)) dX5_toss_86 (MR_k14 hm) (MR_z14 hm) (by first | assumption | exact vp_in_lit rfl) (by simp [up2_ne]) ?_
              refine r_iload_n (pc := 87) dX5_toss_87 rfl ?_
              refine r_iadd (pc := 88) dX5_toss_88 ?_
              refine rm_iast (pc := 89) dX5_toss_89 (MR_k14 hm) (MR_z14 hm) (by first | assumption | exact vp_in_lit rfl) ?_
              refine r_aload_n (pc := 90) dX5_toss_90 rfl ?_
              refine r_getR (pc := 91) dX5_toss_91 fl_X5_35_5 (MR_k hm) (fun _ _ => rfl) (MR_r15 hm) ?_
              refine r_iload_n (pc := 94) dX5_toss_94 rfl ?_
              refine r_iconst (pc := 95) (v := (-1)) dX5_toss_95 (by decide) ?_
              refine rm_iast (pc := 96) dX5_toss_96 (MR_k15 hm) (MR_z15 hm) (by first | assumption | exact vp_in_lit rfl) ?_
              refine r_iload (pc := 97) dX5_toss_97 rfl ?_
              refine r_if_ne (pc := 99) 119 dX5_toss_99 rfl (fun hno => absurd hno (by decide)) (fun _ => ?_)
              refine r_aload_n (pc := 102) dX5_toss_102 rfl ?_
              refine r_getR (pc := 103) dX5_toss_103 fl_X5_23_5 (MR_k hm) (fun _ _ => rfl) (MR_r11 hm) ?_
              refine r_iload_n (pc := 106) dX5_toss_106 rfl ?_
              refine rm_ialde (pc := 107) (f := I (mo + 2)) dX5_toss_107 (MR_k11 hm) (MR_z11 hm) (by first | assumption | exact vp_in_lit rfl) (by simp [up2_ne]) ?_
              refine r_iconst (pc := 108) (v := 4) dX5_toss_108 (by decide) ?_
              refine r_icmp_ne (pc := 109) 119 dX5_toss_109 rfl (fun h109 => ?_) (fun h109 => ?_)
              · refine r_aload_n (pc := 119) dX5_toss_119 rfl ?_
                refine r_iload_n (pc := 120) dX5_toss_120 rfl ?_
                refine r_iload_n (pc := 121) dX5_toss_121 rfl ?_
                refine r_o3 (pc := 122) (bc' := 0) (bs' := 0) (ct_X5_tires hm _ _ hn ht) k_X5_245_5 dX5_toss_122 (MR_k hm) (Nat.le_of_ble_eq_true rfl) ⟨Nat.le_of_ble_eq_true rfl, Nat.le_of_ble_eq_true rfl⟩ ⟨Nat.le_of_ble_eq_true rfl, Nat.le_of_ble_eq_true rfl⟩ (r_cv fun M122 p122 => ?_) nox
                have p122 : _ = _ := p122
                subst p122
                refine r_aload_n (pc := 125) dX5_toss_125 rfl ?_
                refine r_dup (pc := 126) dX5_toss_126 rfl ?_
                refine rm_getIe (pc := 127) (v := I mo 8) dX5_toss_127 fl_X5_223_5 (MR_k hm) (fun _ _ => rfl) (by simp [up2_ne, up2_self, va_up]) ?_
                refine r_iconst (pc := 130) (v := 1) dX5_toss_130 (by decide) ?_
                refine r_iadd (pc := 131) dX5_toss_131 ?_
                refine rm_putI (pc := 132) dX5_toss_132 fl_X5_223_5 (MR_k hm) rfl rfl ?_
                refine r_iload (pc := 135) dX5_toss_135 rfl ?_
                refine r_if_eq (pc := 137) 144 dX5_toss_137 rfl (fun _ => ?_) (fun hno => absurd hno (by decide))
                refine r_iconst (pc := 144) (v := 0) dX5_toss_144 (by decide) ?_
                refine r_ireturn (pc := 145) rfl dX5_toss_145 ⟨_, rfl, ?_⟩
                first
                  | contradiction
                  | (refine oM.of ?_ (by repeat' (first | exact frM.rf | assumption | refine frM.up0 ?_ | refine frM.up ?_ (by decide) | refine frM.upL ?_ (by decide)))
                     simp (decide := true) only [tossS, noS, noTenS, thP, mnP, shelfP, stepS, farP, tossM, farS, farBS, throwP, Bool.false_eq_true, eq_true h5, eq_true h13, eq_true h27, eq_true h37, h47, h70, eq_false h109, not_true_eq_false, not_false_eq_true, true_and, and_true, false_and, and_false, true_or, or_true, false_or, or_false, cI_True, cI_False, if_true, if_false, sm0, sm1, sm2, sm3, sm4, sm5, sm6, sm7, sm8, sm9, sm10, sm11, sm12, sm13, sm14, sm15, sm16, sm17, sm18, sm19, sm20, sm21, sm22, sm23, sm24, sm25, sm26, sm27, sm28, sm29, sm30, sm31, sm32, sm33, sm34, sm35, sm36, sm37, sm38, sm39, sm40, sm41, sm42, sm43, sm44, sm45, sm46, sm47, sm48, sm49, su0, su1, su2, su3, su4, su5, su6, su7, su8, su9, su10, su11, su12, su13, su14, su15, su16, su17, su18, su19, su20, su21, su22, su23, su24, su25, su26, su27, su28, su29, su30, su31, su32, su33, su34, su35, su36, su37, su38, su39, su40, su41, su42, su43, su44, su45, su46, su47, su48, su49]; done)
                  | (refine oM.of ?_ (by repeat' (first | exact frM.rf | assumption | refine frM.up0 ?_ | refine frM.up ?_ (by decide) | refine frM.upL ?_ (by decide)))
                     simp (decide := true) only [tossS, noS, noTenS, thP, mnP, shelfP, stepS, farP, tossM, farS, farBS, throwP, Bool.false_eq_true, eq_true h5, eq_true h13, eq_true h27, eq_true h37, h47, h70, eq_false h109, not_true_eq_false, not_false_eq_true, true_and, and_true, false_and, and_false, true_or, or_true, false_or, or_false, cI_True, cI_False, if_true, if_false, sm0, sm1, sm2, sm3, sm4, sm5, sm6, sm7, sm8, sm9, sm10, sm11, sm12, sm13, sm14, sm15, sm16, sm17, sm18, sm19, sm20, sm21, sm22, sm23, sm24, sm25, sm26, sm27, sm28, sm29, sm30, sm31, sm32, sm33, sm34, sm35, sm36, sm37, sm38, sm39, sm40, sm41, sm42, sm43, sm44, sm45, sm46, sm47, sm48, sm49, su0, su1, su2, su3, su4, su5, su6, su7, su8, su9, su10, su11, su12, su13, su14, su15, su16, su17, su18, su19, su20, su21, su22, su23, su24, su25, su26, su27, su28, su29, su30, su31, su32, su33, su34, su35, su36, su37, su38, su39, su40, su41, su42, su43, su44, su45, su46, su47, su48, su49]
                     simp [up2_ne])
              · refine r_aload_n (pc := 112) dX5_toss_112 rfl ?_
                refine r_getR (pc := 113) dX5_toss_113 fl_X5_38_5 (MR_k hm) (fun _ _ => rfl) (MR_r16 hm) ?_
                refine r_iload_n (pc := 116) dX5_toss_116 rfl ?_
                refine r_iconst (pc := 117) (v := 1) dX5_toss_117 (by decide) ?_
                refine rm_iast (pc := 118) dX5_toss_118 (MR_k16 hm) (MR_z16 hm) (by first | assumption | exact vp_in_lit rfl) ?_
                refine r_aload_n (pc := 119) dX5_toss_119 rfl ?_
                refine r_iload_n (pc := 120) dX5_toss_120 rfl ?_
                refine r_iload_n (pc := 121) dX5_toss_121 rfl ?_
                refine r_o3 (pc := 122) (bc' := 0) (bs' := 0) (ct_X5_tires hm _ _ hn ht) k_X5_245_5 dX5_toss_122 (MR_k hm) (Nat.le_of_ble_eq_true rfl) ⟨Nat.le_of_ble_eq_true rfl, Nat.le_of_ble_eq_true rfl⟩ ⟨Nat.le_of_ble_eq_true rfl, Nat.le_of_ble_eq_true rfl⟩ (r_cv fun M122 p122 => ?_) nox
                have p122 : _ = _ := p122
                subst p122
                refine r_aload_n (pc := 125) dX5_toss_125 rfl ?_
                refine r_dup (pc := 126) dX5_toss_126 rfl ?_
                refine rm_getIe (pc := 127) (v := I mo 8) dX5_toss_127 fl_X5_223_5 (MR_k hm) (fun _ _ => rfl) (by simp [up2_ne, up2_self, va_up]) ?_
                refine r_iconst (pc := 130) (v := 1) dX5_toss_130 (by decide) ?_
                refine r_iadd (pc := 131) dX5_toss_131 ?_
                refine rm_putI (pc := 132) dX5_toss_132 fl_X5_223_5 (MR_k hm) rfl rfl ?_
                refine r_iload (pc := 135) dX5_toss_135 rfl ?_
                refine r_if_eq (pc := 137) 144 dX5_toss_137 rfl (fun _ => ?_) (fun hno => absurd hno (by decide))
                refine r_iconst (pc := 144) (v := 0) dX5_toss_144 (by decide) ?_
                refine r_ireturn (pc := 145) rfl dX5_toss_145 ⟨_, rfl, ?_⟩
                first
                  | contradiction
                  | (refine oM.of ?_ (by repeat' (first | exact frM.rf | assumption | refine frM.up0 ?_ | refine frM.up ?_ (by decide) | refine frM.upL ?_ (by decide)))
                     simp (decide := true) only [tossS, noS, noTenS, thP, mnP, shelfP, stepS, farP, tossM, farS, farBS, throwP, Bool.false_eq_true, eq_true h5, eq_true h13, eq_true h27, eq_true h37, h47, h70, eq_true h109, not_true_eq_false, not_false_eq_true, true_and, and_true, false_and, and_false, true_or, or_true, false_or, or_false, cI_True, cI_False, if_true, if_false, sm0, sm1, sm2, sm3, sm4, sm5, sm6, sm7, sm8, sm9, sm10, sm11, sm12, sm13, sm14, sm15, sm16, sm17, sm18, sm19, sm20, sm21, sm22, sm23, sm24, sm25, sm26, sm27, sm28, sm29, sm30, sm31, sm32, sm33, sm34, sm35, sm36, sm37, sm38, sm39, sm40, sm41, sm42, sm43, sm44, sm45, sm46, sm47, sm48, sm49, su0, su1, su2, su3, su4, su5, su6, su7, su8, su9, su10, su11, su12, su13, su14, su15, su16, su17, su18, su19, su20, su21, su22, su23, su24, su25, su26, su27, su28, su29, su30, su31, su32, su33, su34, su35, su36, su37, su38, su39, su40, su41, su42, su43, su44, su45, su46, su47, su48, su49]; done)
                  | (refine oM.of ?_ (by repeat' (first | exact frM.rf | assumption | refine frM.up0 ?_ | refine frM.up ?_ (by decide) | refine frM.upL ?_ (by decide)))
                     simp (decide := true) only [tossS, noS, noTenS, thP, mnP, shelfP, stepS, farP, tossM, farS, farBS, throwP, Bool.false_eq_true, eq_true h5, eq_true h13, eq_true h27, eq_true h37, h47, h70, eq_true h109, not_true_eq_false, not_false_eq_true, true_and, and_true, false_and, and_false, true_or, or_true, false_or, or_false, cI_True, cI_False, if_true, if_false, sm0, sm1, sm2, sm3, sm4, sm5, sm6, sm7, sm8, sm9, sm10, sm11, sm12, sm13, sm14, sm15, sm16, sm17, sm18, sm19, sm20, sm21, sm22, sm23, sm24, sm25, sm26, sm27, sm28, sm29, sm30, sm31, sm32, sm33, sm34, sm35, sm36, sm37, sm38, sm39, sm40, sm41, sm42, sm43, sm44, sm45, sm46, sm47, sm48, sm49, su0, su1, su2, su3, su4, su5, su6, su7, su8, su9, su10, su11, su12, su13, su14, su15, su16, su17, su18, su19, su20, su21, su22, su23, su24, su25, su26, su27, su28, su29, su30, su31, su32, su33, su34, su35, su36, su37, su38, su39, su40, su41, su42, su43, su44, su45, su46, su47, su48, su49]
                     simp [up2_ne])
            · refine r_iconst (pc := 73) (v := 1) dX5_toss_73 (by decide) ?_
              refine r_goto (pc := 74) 78 dX5_toss_74 rfl ?_
              refine r_istore4 (pc := 78) dX5_toss_78 rfl ?_
              refine r_aload_n (pc := 80) dX5_toss_80 rfl ?_
              refine r_getR (pc := 81) dX5_toss_81 fl_X5_32_5 (MR_k hm) (fun _ _ => rfl) (MR_r14 hm) ?_
              refine r_iload_n (pc := 84) dX5_toss_84 rfl ?_
              refine r_dup2 (pc := 85) dX5_toss_85 rfl rfl ?_
              refine rm_ialde (pc := 86) (f := I (mo + 5)) dX5_toss_86 (MR_k14 hm) (MR_z14 hm) (by first | assumption | exact vp_in_lit rfl) (by simp [up2_ne]) ?_
              refine r_iload_n (pc := 87) dX5_toss_87 rfl ?_
              refine r_iadd (pc := 88) dX5_toss_88 ?_
              refine rm_iast (pc := 89) dX5_toss_89 (MR_k14 hm) (MR_z14 hm) (by first | assumption | exact vp_in_lit rfl) ?_
              refine r_aload_n (pc := 90) dX5_toss_90 rfl ?_
              refine r_getR (pc := 91) dX5_toss_91 fl_X5_35_5 (MR_k hm) (fun _ _ => rfl) (MR_r15 hm) ?_
              refine r_iload_n (pc := 94) dX5_toss_94 rfl ?_
              refine r_iconst (pc := 95) (v := (-1)) dX5_toss_95 (by decide) ?_
              refine rm_iast (pc := 96) dX5_toss_96 (MR_k15 hm) (MR_z15 hm) (by first | assumption | exact vp_in_lit rfl) ?_
              refine r_iload (pc := 97) dX5_toss_97 rfl ?_
              refine r_if_ne (pc := 99) 119 dX5_toss_99 rfl (fun _ => ?_) (fun hno => absurd hno (by decide))
              refine r_aload_n (pc := 119) dX5_toss_119 rfl ?_
              refine r_iload_n (pc := 120) dX5_toss_120 rfl ?_
              refine r_iload_n (pc := 121) dX5_toss_121 rfl ?_
              refine r_o3 (pc := 122) (bc' := 0) (bs' := 0) (ct_X5_tires hm _ _ hn ht) k_X5_245_5 dX5_toss_122 (MR_k hm) (Nat.le_of_ble_eq_true rfl) ⟨Nat.le_of_ble_eq_true rfl, Nat.le_of_ble_eq_true rfl⟩ ⟨Nat.le_of_ble_eq_true rfl, Nat.le_of_ble_eq_true rfl⟩ (r_cv fun M122 p122 => ?_) nox
              have p122 : _ = _ := p122
              subst p122
              refine r_aload_n (pc := 125) dX5_toss_125 rfl ?_
              refine r_dup (pc := 126) dX5_toss_126 rfl ?_
              refine rm_getIe (pc := 127) (v := I mo 8) dX5_toss_127 fl_X5_223_5 (MR_k hm) (fun _ _ => rfl) (by simp [up2_ne, up2_self, va_up]) ?_
              refine r_iconst (pc := 130) (v := 1) dX5_toss_130 (by decide) ?_
              refine r_iadd (pc := 131) dX5_toss_131 ?_
              refine rm_putI (pc := 132) dX5_toss_132 fl_X5_223_5 (MR_k hm) rfl rfl ?_
              refine r_iload (pc := 135) dX5_toss_135 rfl ?_
              refine r_if_eq (pc := 137) 144 dX5_toss_137 rfl (fun hno => absurd hno (by decide)) (fun _ => ?_)
              refine r_iconst (pc := 140) (v := 1) dX5_toss_140 (by decide) ?_
              refine r_goto (pc := 141) 145 dX5_toss_141 rfl ?_
              refine r_ireturn (pc := 145) rfl dX5_toss_145 ⟨_, rfl, ?_⟩
              first
                | contradiction
                | (refine oM.of ?_ (by repeat' (first | exact frM.rf | assumption | refine frM.up0 ?_ | refine frM.up ?_ (by decide) | refine frM.upL ?_ (by decide)))
                   simp (decide := true) only [tossS, noS, noTenS, thP, mnP, shelfP, stepS, farP, tossM, farS, farBS, throwP, Bool.false_eq_true, eq_true h5, eq_true h13, eq_true h27, eq_true h37, h47, h70, not_true_eq_false, not_false_eq_true, true_and, and_true, false_and, and_false, true_or, or_true, false_or, or_false, cI_True, cI_False, if_true, if_false, sm0, sm1, sm2, sm3, sm4, sm5, sm6, sm7, sm8, sm9, sm10, sm11, sm12, sm13, sm14, sm15, sm16, sm17, sm18, sm19, sm20, sm21, sm22, sm23, sm24, sm25, sm26, sm27, sm28, sm29, sm30, sm31, sm32, sm33, sm34, sm35, sm36, sm37, sm38, sm39, sm40, sm41, sm42, sm43, sm44, sm45, sm46, sm47, sm48, sm49, su0, su1, su2, su3, su4, su5, su6, su7, su8, su9, su10, su11, su12, su13, su14, su15, su16, su17, su18, su19, su20, su21, su22, su23, su24, su25, su26, su27, su28, su29, su30, su31, su32, su33, su34, su35, su36, su37, su38, su39, su40, su41, su42, su43, su44, su45, su46, su47, su48, su49]; done)
                | (refine oM.of ?_ (by repeat' (first | exact frM.rf | assumption | refine frM.up0 ?_ | refine frM.up ?_ (by decide) | refine frM.upL ?_ (by decide)))
                   simp (decide := true) only [tossS, noS, noTenS, thP, mnP, shelfP, stepS, farP, tossM, farS, farBS, throwP, Bool.false_eq_true, eq_true h5, eq_true h13, eq_true h27, eq_true h37, h47, h70, not_true_eq_false, not_false_eq_true, true_and, and_true, false_and, and_false, true_or, or_true, false_or, or_false, cI_True, cI_False, if_true, if_false, sm0, sm1, sm2, sm3, sm4, sm5, sm6, sm7, sm8, sm9, sm10, sm11, sm12, sm13, sm14, sm15, sm16, sm17, sm18, sm19, sm20, sm21, sm22, sm23, sm24, sm25, sm26, sm27, sm28, sm29, sm30, sm31, sm32, sm33, sm34, sm35, sm36, sm37, sm38, sm39, sm40, sm41, sm42, sm43, sm44, sm45, sm46, sm47, sm48, sm49, su0, su1, su2, su3, su4, su5, su6, su7, su8, su9, su10, su11, su12, su13, su14, su15, su16, su17, su18, su19, su20, su21, su22, su23, su24, su25, su26, su27, su28, su29, su30, su31, su32, su33, su34, su35, su36, su37, su38, su39, su40, su41, su42, su43, su44, su45, su46, su47, su48, su49]
                   simp [up2_ne])
          · refine r_aload_n (pc := 50) dX5_toss_50 rfl ?_
            refine r_bipush (pc := 51) (v := (-6)) dX5_toss_51 (by decide) ?_
            refine r_o2 (pc := 53) (bc' := 0) (bs' := 0) (ct_X5_no hm _ (vp_in_lit rfl)) k_X5_136_5 dX5_toss_53 (MR_k hm) (Nat.le_of_ble_eq_true rfl) ⟨Nat.le_of_ble_eq_true rfl, Nat.le_of_ble_eq_true rfl⟩ ⟨Nat.le_of_ble_eq_true rfl, Nat.le_of_ble_eq_true rfl⟩ (r_ci fun r53 M53 p53 => ?_) nox
            obtain ⟨rfl, rfl⟩ := p53
            refine r_ireturn (pc := 56) rfl dX5_toss_56 ⟨_, rfl, ?_⟩
            first
              | contradiction
              | (refine oM.of ?_ (by repeat' (first | exact frM.rf | assumption | refine frM.up0 ?_ | refine frM.up ?_ (by decide) | refine frM.upL ?_ (by decide)))
                 simp (decide := true) only [tossS, noS, noTenS, thP, mnP, shelfP, stepS, farP, tossM, farS, farBS, throwP, Bool.false_eq_true, eq_true h5, eq_true h13, eq_true h27, eq_true h37, h47, not_true_eq_false, not_false_eq_true, true_and, and_true, false_and, and_false, true_or, or_true, false_or, or_false, cI_True, cI_False, if_true, if_false, sm0, sm1, sm2, sm3, sm4, sm5, sm6, sm7, sm8, sm9, sm10, sm11, sm12, sm13, sm14, sm15, sm16, sm17, sm18, sm19, sm20, sm21, sm22, sm23, sm24, sm25, sm26, sm27, sm28, sm29, sm30, sm31, sm32, sm33, sm34, sm35, sm36, sm37, sm38, sm39, sm40, sm41, sm42, sm43, sm44, sm45, sm46, sm47, sm48, sm49, su0, su1, su2, su3, su4, su5, su6, su7, su8, su9, su10, su11, su12, su13, su14, su15, su16, su17, su18, su19, su20, su21, su22, su23, su24, su25, su26, su27, su28, su29, su30, su31, su32, su33, su34, su35, su36, su37, su38, su39, su40, su41, su42, su43, su44, su45, su46, su47, su48, su49]; done)
              | (refine oM.of ?_ (by repeat' (first | exact frM.rf | assumption | refine frM.up0 ?_ | refine frM.up ?_ (by decide) | refine frM.upL ?_ (by decide)))
                 simp (decide := true) only [tossS, noS, noTenS, thP, mnP, shelfP, stepS, farP, tossM, farS, farBS, throwP, Bool.false_eq_true, eq_true h5, eq_true h13, eq_true h27, eq_true h37, h47, not_true_eq_false, not_false_eq_true, true_and, and_true, false_and, and_false, true_or, or_true, false_or, or_false, cI_True, cI_False, if_true, if_false, sm0, sm1, sm2, sm3, sm4, sm5, sm6, sm7, sm8, sm9, sm10, sm11, sm12, sm13, sm14, sm15, sm16, sm17, sm18, sm19, sm20, sm21, sm22, sm23, sm24, sm25, sm26, sm27, sm28, sm29, sm30, sm31, sm32, sm33, sm34, sm35, sm36, sm37, sm38, sm39, sm40, sm41, sm42, sm43, sm44, sm45, sm46, sm47, sm48, sm49, su0, su1, su2, su3, su4, su5, su6, su7, su8, su9, su10, su11, su12, su13, su14, su15, su16, su17, su18, su19, su20, su21, su22, su23, su24, su25, su26, su27, su28, su29, su30, su31, su32, su33, su34, su35, su36, su37, su38, su39, su40, su41, su42, su43, su44, su45, su46, su47, su48, su49]
                 simp [up2_ne])
    · rw [bI_eq0] at h13
      refine r_aload_n (pc := 16) dX5_toss_16 rfl ?_
      refine r_iconst (pc := 17) (v := (-1)) dX5_toss_17 (by decide) ?_
      refine r_o2 (pc := 18) (bc' := 0) (bs' := 0) (ct_X5_no hm _ (vp_in_lit rfl)) k_X5_136_5 dX5_toss_18 (MR_k hm) (Nat.le_of_ble_eq_true rfl) ⟨Nat.le_of_ble_eq_true rfl, Nat.le_of_ble_eq_true rfl⟩ ⟨Nat.le_of_ble_eq_true rfl, Nat.le_of_ble_eq_true rfl⟩ (r_ci fun r18 M18 p18 => ?_) nox
      obtain ⟨rfl, rfl⟩ := p18
      refine r_ireturn (pc := 21) rfl dX5_toss_21 ⟨_, rfl, ?_⟩
      first
        | contradiction
        | (refine oM.of ?_ (by repeat' (first | exact frM.rf | assumption | refine frM.up0 ?_ | refine frM.up ?_ (by decide) | refine frM.upL ?_ (by decide)))
           simp (decide := true) only [tossS, noS, noTenS, thP, mnP, shelfP, stepS, farP, tossM, farS, farBS, throwP, Bool.false_eq_true, eq_true h5, eq_false h13, not_true_eq_false, not_false_eq_true, true_and, and_true, false_and, and_false, true_or, or_true, false_or, or_false, cI_True, cI_False, if_true, if_false, sm0, sm1, sm2, sm3, sm4, sm5, sm6, sm7, sm8, sm9, sm10, sm11, sm12, sm13, sm14, sm15, sm16, sm17, sm18, sm19, sm20, sm21, sm22, sm23, sm24, sm25, sm26, sm27, sm28, sm29, sm30, sm31, sm32, sm33, sm34, sm35, sm36, sm37, sm38, sm39, sm40, sm41, sm42, sm43, sm44, sm45, sm46, sm47, sm48, sm49, su0, su1, su2, su3, su4, su5, su6, su7, su8, su9, su10, su11, su12, su13, su14, su15, su16, su17, su18, su19, su20, su21, su22, su23, su24, su25, su26, su27, su28, su29, su30, su31, su32, su33, su34, su35, su36, su37, su38, su39, su40, su41, su42, su43, su44, su45, su46, su47, su48, su49]; done)
        | (refine oM.of ?_ (by repeat' (first | exact frM.rf | assumption | refine frM.up0 ?_ | refine frM.up ?_ (by decide) | refine frM.upL ?_ (by decide)))
           simp (decide := true) only [tossS, noS, noTenS, thP, mnP, shelfP, stepS, farP, tossM, farS, farBS, throwP, Bool.false_eq_true, eq_true h5, eq_false h13, not_true_eq_false, not_false_eq_true, true_and, and_true, false_and, and_false, true_or, or_true, false_or, or_false, cI_True, cI_False, if_true, if_false, sm0, sm1, sm2, sm3, sm4, sm5, sm6, sm7, sm8, sm9, sm10, sm11, sm12, sm13, sm14, sm15, sm16, sm17, sm18, sm19, sm20, sm21, sm22, sm23, sm24, sm25, sm26, sm27, sm28, sm29, sm30, sm31, sm32, sm33, sm34, sm35, sm36, sm37, sm38, sm39, sm40, sm41, sm42, sm43, sm44, sm45, sm46, sm47, sm48, sm49, su0, su1, su2, su3, su4, su5, su6, su7, su8, su9, su10, su11, su12, su13, su14, su15, su16, su17, su18, su19, su20, su21, su22, su23, su24, su25, su26, su27, su28, su29, su30, su31, su32, su33, su34, su35, su36, su37, su38, su39, su40, su41, su42, su43, su44, su45, su46, su47, su48, su49]
           simp [up2_ne])
