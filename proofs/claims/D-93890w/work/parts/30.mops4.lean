/-! THE MODEL's calls: throws, mills, nights, parts (printed by gen/model6.py) -/
set_option maxRecDepth 100000
theorem ct_X5_meanOf {M0 : PM} {mo : Nat} {I : Nat → Nat → Int32} {L : Nat → Nat → Int64} (hm : MR M0 mo) (x1 : Int32) (x2 : Int32) (x3 : Int32) (hx1 : vp_in x1 8) (hx : vp_in x2 8) (h1 : ¬ I (mo + 3) x2.toNatClampNeg = 0) (h2 : I (mo + 2) x2.toNatClampNeg = 5 → ¬ I (mo + 4) x2.toNatClampNeg = 0 ∧ ¬ (I (mo + 3) x2.toNatClampNeg + I (mo + 4) x2.toNatClampNeg - 1) / I (mo + 4) x2.toNatClampNeg = 0) (hb : bd (I mo 2) 0 4) : Ct (YX5_meanOf, (4, 93, 0, 0), qi (fun r M' => r = meanV (sM I mo) x1 x2 x3 ∧ M' = wIL M0 I L), noX) [.ref mo, .int x1, .int x2, .int x3] (wIL M0 I L) := by
  refine ct_of [some (.ref mo), some (.int x1), some (.int x2), some (.int x3), none, none] rfl rfl rfl (Nat.le_of_ble_eq_true rfl) rfl rfl ?_
  obtain ⟨N, hN, eN⟩ := bd_nI (n := 4) hb
  have iN : Int32.toNatClampNeg (sM I mo 2 0) = N := by show Int32.toNatClampNeg (I mo 2) = N; rw [eN, ix_nI (by omega)]
  have L1 : ∀ (n : Nat) (j : Nat) (s : Int32), throwP (sM I mo) x1 x2 x3 → j + n = N → meanL (sM I mo) x2 x3 N 0 0 = meanL (sM I mo) x2 x3 n j s → Wx (YX5_meanOf, (4, 93, 0, 0), qi (fun r M' => r = meanV (sM I mo) x1 x2 x3 ∧ M' = wIL M0 I L), noX) 0 0 (wIL M0 I L) 18 [some (.ref mo), some (.int x1), some (.int x2), some (.int x3), some (.int s), some (.int (nI j))] [] := by
    intro n
    induction n with
    | zero =>
      intro j s hp hj hw
      refine r_iload (pc := 18) dX5_meanOf_18 rfl ?_
      refine r_aload_n (pc := 20) dX5_meanOf_20 rfl ?_
      refine rm_getI (pc := 21) dX5_meanOf_21 fl_X5_162_5 (MR_k hm) (fun _ _ => rfl) ?_
      refine r_icmp_ge (pc := 24) 74 dX5_meanOf_24 rfl (fun _ => ?_) (fun hno => False.elim (by rw [eN, nI_ltI (by omega) (by omega)] at hno; omega))
      refine r_aload_n (pc := 74) dX5_meanOf_74 rfl ?_
      refine r_iload_n (pc := 75) dX5_meanOf_75 rfl ?_
      refine r_iload_n (pc := 76) dX5_meanOf_76 rfl ?_
      refine r_iload_n (pc := 77) dX5_meanOf_77 rfl ?_
      refine r_o4 (pc := 78) (bc' := 0) (bs' := 0) (ct_X5_caughtBy hm _ _ _ hx1 hx h1 h2) k_X5_290_5 dX5_meanOf_78 (MR_k hm) (Nat.le_of_ble_eq_true rfl) ⟨Nat.le_of_ble_eq_true rfl, Nat.le_of_ble_eq_true rfl⟩ ⟨Nat.le_of_ble_eq_true rfl, Nat.le_of_ble_eq_true rfl⟩ (r_ci fun r78 M78 p78 => ?_) nox
      obtain ⟨rfl, rfl⟩ := p78
      refine r_iload (pc := 81) dX5_meanOf_81 rfl ?_
      refine r_imul (pc := 83) dX5_meanOf_83 ?_
      refine r_bipush (pc := 84) (v := 10) dX5_meanOf_84 (by decide) ?_
      refine r_idiv (pc := 86) dX5_meanOf_86 (by decide) ?_
      refine r_ireturn (pc := 87) rfl dX5_meanOf_87 ⟨_, rfl, ?_⟩
      refine ⟨?_, rfl⟩
      rw [meanV, cI_t hp, iN, hw]
      rfl
    | succ n ih =>
      intro j s hp hj hw
      have hv : vp_in (nI j) 4 := vp_in_nI (by omega) (by decide)
      have ej : Int32.toNatClampNeg (nI j) = j := ix_nI (by omega)
      rw [meanL] at hw
      refine r_iload (pc := 18) dX5_meanOf_18 rfl ?_
      refine r_aload_n (pc := 20) dX5_meanOf_20 rfl ?_
      refine rm_getI (pc := 21) dX5_meanOf_21 fl_X5_162_5 (MR_k hm) (fun _ _ => rfl) ?_
      refine r_icmp_ge (pc := 24) 74 dX5_meanOf_24 rfl (fun hno => False.elim (by rw [eN, nI_ltI (by omega) (by omega)] at hno; omega)) (fun _ => ?_)
      refine r_aload_n (pc := 27) dX5_meanOf_27 rfl ?_
      refine r_getR (pc := 28) dX5_meanOf_28 fl_X5_47_5 (MR_k hm) (fun _ _ => rfl) (MR_r19 hm) ?_
      refine r_iload (pc := 31) dX5_meanOf_31 rfl ?_
      refine rm_iald (pc := 33) dX5_meanOf_33 (MR_k19 hm) (MR_z19 hm) (by first | assumption | exact vp_in_lit rfl) ?_
      refine r_iload_n (pc := 34) dX5_meanOf_34 rfl ?_
      refine r_icmp_ne (pc := 35) 68 dX5_meanOf_35 rfl (fun h35 => ?_) (fun h35 => ?_)
      · rw [ej] at h35
        refine r_iinc5 (pc := 68) dX5_meanOf_68 (nI_1 _) rfl ?_
        refine r_goto (pc := 71) 18 dX5_meanOf_71 rfl ?_
        refine ih (j + 1) _ hp (by omega) (hw.trans ?_)
        congr 1
        simp only [show sM I mo 19 = I (mo + 10) from rfl, show sM I mo 20 = I (mo + 11) from rfl, show sM I mo 21 = I (mo + 12) from rfl, show sM I mo 14 = I (mo + 5) from rfl]
        first
          | rw [if_neg (fun q => h35 q.1)]
          | rw [if_neg (fun q => h53 q.2)]
          | rw [if_pos ⟨h35, h53⟩]
      · rw [ej] at h35
        refine r_aload_n (pc := 38) dX5_meanOf_38 rfl ?_
        refine r_getR (pc := 39) dX5_meanOf_39 fl_X5_50_5 (MR_k hm) (fun _ _ => rfl) (MR_r20 hm) ?_
        refine r_iload (pc := 42) dX5_meanOf_42 rfl ?_
        refine rm_iald (pc := 44) dX5_meanOf_44 (MR_k20 hm) (MR_z20 hm) (by first | assumption | exact vp_in_lit rfl) ?_
        refine r_aload_n (pc := 45) dX5_meanOf_45 rfl ?_
        refine r_getR (pc := 46) dX5_meanOf_46 fl_X5_32_5 (MR_k hm) (fun _ _ => rfl) (MR_r14 hm) ?_
        refine r_iload_n (pc := 49) dX5_meanOf_49 rfl ?_
        refine rm_iald (pc := 50) dX5_meanOf_50 (MR_k14 hm) (MR_z14 hm) (by first | assumption | exact vp_in_lit rfl) ?_
        refine r_iload_n (pc := 51) dX5_meanOf_51 rfl ?_
        refine r_iadd (pc := 52) dX5_meanOf_52 ?_
        refine r_icmp_ne (pc := 53) 68 dX5_meanOf_53 rfl (fun h53 => ?_) (fun h53 => ?_)
        · rw [ej] at h53
          refine r_iinc5 (pc := 68) dX5_meanOf_68 (nI_1 _) rfl ?_
          refine r_goto (pc := 71) 18 dX5_meanOf_71 rfl ?_
          refine ih (j + 1) _ hp (by omega) (hw.trans ?_)
          congr 1
          simp only [show sM I mo 19 = I (mo + 10) from rfl, show sM I mo 20 = I (mo + 11) from rfl, show sM I mo 21 = I (mo + 12) from rfl, show sM I mo 14 = I (mo + 5) from rfl]
          first
            | rw [if_neg (fun q => h35 q.1)]
            | rw [if_neg (fun q => h53 q.2)]
            | rw [if_pos ⟨h35, h53⟩]
        · rw [ej] at h53
          refine r_iload (pc := 56) dX5_meanOf_56 rfl ?_
          refine r_aload_n (pc := 58) dX5_meanOf_58 rfl ?_
          refine r_getR (pc := 59) dX5_meanOf_59 fl_X5_53_5 (MR_k hm) (fun _ _ => rfl) (MR_r21 hm) ?_
          refine r_iload (pc := 62) dX5_meanOf_62 rfl ?_
          refine rm_iald (pc := 64) dX5_meanOf_64 (MR_k21 hm) (MR_z21 hm) (by first | assumption | exact vp_in_lit rfl) ?_
          refine r_iadd (pc := 65) dX5_meanOf_65 ?_
          rw [ej]
          refine r_istore4 (pc := 66) dX5_meanOf_66 rfl ?_
          refine r_iinc5 (pc := 68) dX5_meanOf_68 (nI_1 _) rfl ?_
          refine r_goto (pc := 71) 18 dX5_meanOf_71 rfl ?_
          refine ih (j + 1) _ hp (by omega) (hw.trans ?_)
          congr 1
          simp only [show sM I mo 19 = I (mo + 10) from rfl, show sM I mo 20 = I (mo + 11) from rfl, show sM I mo 21 = I (mo + 12) from rfl, show sM I mo 14 = I (mo + 5) from rfl]
          first
            | rw [if_neg (fun q => h35 q.1)]
            | rw [if_neg (fun q => h53 q.2)]
            | rw [if_pos ⟨h35, h53⟩]
  refine r_aload_n (pc := 0) dX5_meanOf_0 rfl ?_
  refine r_iload_n (pc := 1) dX5_meanOf_1 rfl ?_
  refine r_iload_n (pc := 2) dX5_meanOf_2 rfl ?_
  refine r_iload_n (pc := 3) dX5_meanOf_3 rfl ?_
  refine r_o4 (pc := 4) (bc' := 0) (bs' := 0) (ct_X5_isThrow hm _ _ _ hx1 hx h1 h2) k_X5_293_5 dX5_meanOf_4 (MR_k hm) (Nat.le_of_ble_eq_true rfl) ⟨Nat.le_of_ble_eq_true rfl, Nat.le_of_ble_eq_true rfl⟩ ⟨Nat.le_of_ble_eq_true rfl, Nat.le_of_ble_eq_true rfl⟩ (r_ci fun r4 M4 p4 => ?_) nox
  obtain ⟨rfl, rfl⟩ := p4
  refine r_if_ne (pc := 7) 12 dX5_meanOf_7 rfl (fun h7 => ?_) (fun h7 => ?_)
  · rw [bI_ne0] at h7
    refine r_iconst (pc := 12) (v := 0) dX5_meanOf_12 (by decide) ?_
    refine r_istore4 (pc := 13) dX5_meanOf_13 rfl ?_
    refine r_iconst (pc := 15) (v := 0) dX5_meanOf_15 (by decide) ?_
    refine r_istore5 (pc := 16) dX5_meanOf_16 rfl ?_
    exact L1 N 0 0 h7 (by omega) rfl
  · rw [bI_eq0] at h7
    refine r_iconst (pc := 10) (v := 0) dX5_meanOf_10 (by decide) ?_
    refine r_ireturn (pc := 11) rfl dX5_meanOf_11 ⟨_, rfl, ?_⟩
    refine ⟨?_, rfl⟩
    rw [meanV, cI_f (show ¬ throwP (sM I mo) x1 x2 x3 from h7)]
theorem ct_X5_mean {M0 : PM} {mo : Nat} {I : Nat → Nat → Int32} {L : Nat → Nat → Int64} (hm : MR M0 mo) (x1 : Int32) (x2 : Int32) (x3 : Int32) (hk : OkS (sM I mo)) : Ct (YX5_mean, (5, 118, 0, 0), qi (fun r M' => oM M0 mo I L (meanS (sS I L mo) x1 x2 x3) r M'), noX) [.ref mo, .int x1, .int x2, .int x3] (wIL M0 I L) := by
  refine ct_of [some (.ref mo), some (.int x1), some (.int x2), some (.int x3)] rfl rfl rfl (Nat.le_of_ble_eq_true rfl) rfl rfl ?_
  refine r_aload_n (pc := 0) dX5_mean_0 rfl ?_
  refine r_iload_n (pc := 1) dX5_mean_1 rfl ?_
  refine r_o2 (pc := 2) (bc' := 0) (bs' := 0) (ct_X5_isMan hm _) k_X5_178_5 dX5_mean_2 (MR_k hm) (Nat.le_of_ble_eq_true rfl) ⟨Nat.le_of_ble_eq_true rfl, Nat.le_of_ble_eq_true rfl⟩ ⟨Nat.le_of_ble_eq_true rfl, Nat.le_of_ble_eq_true rfl⟩ (r_ci fun r2 M2 p2 => ?_) nox
  obtain ⟨rfl, rfl⟩ := p2
  refine r_if_eq (pc := 5) 16 dX5_mean_5 rfl (fun h5 => ?_) (fun h5 => ?_)
  · rw [bI_eq0] at h5
    refine r_aload_n (pc := 16) dX5_mean_16 rfl ?_
    refine r_iconst (pc := 17) (v := (-1)) dX5_mean_17 (by decide) ?_
    refine r_o2 (pc := 18) (bc' := 0) (bs' := 0) (ct_X5_no hm _ (vp_in_lit rfl)) k_X5_136_5 dX5_mean_18 (MR_k hm) (Nat.le_of_ble_eq_true rfl) ⟨Nat.le_of_ble_eq_true rfl, Nat.le_of_ble_eq_true rfl⟩ ⟨Nat.le_of_ble_eq_true rfl, Nat.le_of_ble_eq_true rfl⟩ (r_ci fun r18 M18 p18 => ?_) nox
    obtain ⟨rfl, rfl⟩ := p18
    refine r_ireturn (pc := 21) rfl dX5_mean_21 ⟨_, rfl, ?_⟩
    first
      | contradiction
      | (refine oM.of ?_ (by repeat' (first | exact frM.rf | assumption | refine frM.up0 ?_ | refine frM.up ?_ (by decide) | refine frM.upL ?_ (by decide)))
         simp (decide := true) only [meanS, noS, noTenS, thP, mnP, shelfP, stepS, farP, eq_false h5, not_true_eq_false, not_false_eq_true, true_and, and_true, false_and, and_false, true_or, or_true, false_or, or_false, cI_True, cI_False, if_true, if_false, sm0, sm1, sm2, sm3, sm4, sm5, sm6, sm7, sm8, sm9, sm10, sm11, sm12, sm13, sm14, sm15, sm16, sm17, sm18, sm19, sm20, sm21, sm22, sm23, sm24, sm25, sm26, sm27, sm28, sm29, sm30, sm31, sm32, sm33, sm34, sm35, sm36, sm37, sm38, sm39, sm40, sm41, sm42, sm43, sm44, sm45, sm46, sm47, sm48, sm49, su0, su1, su2, su3, su4, su5, su6, su7, su8, su9, su10, su11, su12, su13, su14, su15, su16, su17, su18, su19, su20, su21, su22, su23, su24, su25, su26, su27, su28, su29, su30, su31, su32, su33, su34, su35, su36, su37, su38, su39, su40, su41, su42, su43, su44, su45, su46, su47, su48, su49])
  · rw [bI_ne0] at h5
    have hn := vp_b (n := 8) h5.1 h5.2 hk.1.1.2.1.2
    refine r_aload_n (pc := 8) dX5_mean_8 rfl ?_
    refine r_iload_n (pc := 9) dX5_mean_9 rfl ?_
    refine r_o2 (pc := 10) (bc' := 0) (bs' := 0) (ct_X5_isThing hm _) k_X5_140_5 dX5_mean_10 (MR_k hm) (Nat.le_of_ble_eq_true rfl) ⟨Nat.le_of_ble_eq_true rfl, Nat.le_of_ble_eq_true rfl⟩ ⟨Nat.le_of_ble_eq_true rfl, Nat.le_of_ble_eq_true rfl⟩ (r_ci fun r10 M10 p10 => ?_) nox
    obtain ⟨rfl, rfl⟩ := p10
    refine r_if_ne (pc := 13) 22 dX5_mean_13 rfl (fun h13 => ?_) (fun h13 => ?_)
    · rw [bI_ne0] at h13
      have ht := vp_b (n := 8) h13.1 h13.2 hk.1.1.1.2
      have hd := hk.1.far (ix_lt h13.1 h13.2)
      refine r_aload_n (pc := 22) dX5_mean_22 rfl ?_
      refine r_iload_n (pc := 23) dX5_mean_23 rfl ?_
      refine r_o2 (pc := 24) (bc' := 0) (bs' := 0) (ct_X5_isFar hm _) k_X5_287_5 dX5_mean_24 (MR_k hm) (Nat.le_of_ble_eq_true rfl) ⟨Nat.le_of_ble_eq_true rfl, Nat.le_of_ble_eq_true rfl⟩ ⟨Nat.le_of_ble_eq_true rfl, Nat.le_of_ble_eq_true rfl⟩ (r_ci fun r24 M24 p24 => ?_) nox
      obtain ⟨rfl, rfl⟩ := p24
      refine r_if_eq (pc := 27) 40 dX5_mean_27 rfl (fun h27 => ?_) (fun h27 => ?_)
      · rw [bI_eq0] at h27
        refine r_aload_n (pc := 40) dX5_mean_40 rfl ?_
        refine r_bipush (pc := 41) (v := (-6)) dX5_mean_41 (by decide) ?_
        refine r_o2 (pc := 43) (bc' := 0) (bs' := 0) (ct_X5_no hm _ (vp_in_lit rfl)) k_X5_136_5 dX5_mean_43 (MR_k hm) (Nat.le_of_ble_eq_true rfl) ⟨Nat.le_of_ble_eq_true rfl, Nat.le_of_ble_eq_true rfl⟩ ⟨Nat.le_of_ble_eq_true rfl, Nat.le_of_ble_eq_true rfl⟩ (r_ci fun r43 M43 p43 => ?_) nox
        obtain ⟨rfl, rfl⟩ := p43
        refine r_ireturn (pc := 46) rfl dX5_mean_46 ⟨_, rfl, ?_⟩
        first
          | contradiction
          | (refine oM.of ?_ (by repeat' (first | exact frM.rf | assumption | refine frM.up0 ?_ | refine frM.up ?_ (by decide) | refine frM.upL ?_ (by decide)))
             simp (decide := true) only [meanS, noS, noTenS, thP, mnP, shelfP, stepS, farP, eq_true h5, eq_true h13, eq_false h27, not_true_eq_false, not_false_eq_true, true_and, and_true, false_and, and_false, true_or, or_true, false_or, or_false, cI_True, cI_False, if_true, if_false, sm0, sm1, sm2, sm3, sm4, sm5, sm6, sm7, sm8, sm9, sm10, sm11, sm12, sm13, sm14, sm15, sm16, sm17, sm18, sm19, sm20, sm21, sm22, sm23, sm24, sm25, sm26, sm27, sm28, sm29, sm30, sm31, sm32, sm33, sm34, sm35, sm36, sm37, sm38, sm39, sm40, sm41, sm42, sm43, sm44, sm45, sm46, sm47, sm48, sm49, su0, su1, su2, su3, su4, su5, su6, su7, su8, su9, su10, su11, su12, su13, su14, su15, su16, su17, su18, su19, su20, su21, su22, su23, su24, su25, su26, su27, su28, su29, su30, su31, su32, su33, su34, su35, su36, su37, su38, su39, su40, su41, su42, su43, su44, su45, su46, su47, su48, su49])
      · rw [bI_ne0] at h27
        refine r_aload_n (pc := 30) dX5_mean_30 rfl ?_
        refine r_iload_n (pc := 31) dX5_mean_31 rfl ?_
        refine r_iload_n (pc := 32) dX5_mean_32 rfl ?_
        refine r_iload_n (pc := 33) dX5_mean_33 rfl ?_
        refine r_o4 (pc := 34) (bc' := 0) (bs' := 0) (ct_X5_meanOf hm _ _ _ hn ht hd.1 hd.2 hk.1.1.2.2) k_X5_297_5 dX5_mean_34 (MR_k hm) (Nat.le_of_ble_eq_true rfl) ⟨Nat.le_of_ble_eq_true rfl, Nat.le_of_ble_eq_true rfl⟩ ⟨Nat.le_of_ble_eq_true rfl, Nat.le_of_ble_eq_true rfl⟩ (r_ci fun r34 M34 p34 => ?_) nox
        obtain ⟨rfl, rfl⟩ := p34
        refine r_goto (pc := 37) 46 dX5_mean_37 rfl ?_
        refine r_ireturn (pc := 46) rfl dX5_mean_46 ⟨_, rfl, ?_⟩
        first
          | contradiction
          | (refine oM.of ?_ (by repeat' (first | exact frM.rf | assumption | refine frM.up0 ?_ | refine frM.up ?_ (by decide) | refine frM.upL ?_ (by decide)))
             simp (decide := true) only [meanS, noS, noTenS, thP, mnP, shelfP, stepS, farP, eq_true h5, eq_true h13, eq_true h27, not_true_eq_false, not_false_eq_true, true_and, and_true, false_and, and_false, true_or, or_true, false_or, or_false, cI_True, cI_False, if_true, if_false, sm0, sm1, sm2, sm3, sm4, sm5, sm6, sm7, sm8, sm9, sm10, sm11, sm12, sm13, sm14, sm15, sm16, sm17, sm18, sm19, sm20, sm21, sm22, sm23, sm24, sm25, sm26, sm27, sm28, sm29, sm30, sm31, sm32, sm33, sm34, sm35, sm36, sm37, sm38, sm39, sm40, sm41, sm42, sm43, sm44, sm45, sm46, sm47, sm48, sm49, su0, su1, su2, su3, su4, su5, su6, su7, su8, su9, su10, su11, su12, su13, su14, su15, su16, su17, su18, su19, su20, su21, su22, su23, su24, su25, su26, su27, su28, su29, su30, su31, su32, su33, su34, su35, su36, su37, su38, su39, su40, su41, su42, su43, su44, su45, su46, su47, su48, su49])
    · rw [bI_eq0] at h13
      refine r_aload_n (pc := 16) dX5_mean_16 rfl ?_
      refine r_iconst (pc := 17) (v := (-1)) dX5_mean_17 (by decide) ?_
      refine r_o2 (pc := 18) (bc' := 0) (bs' := 0) (ct_X5_no hm _ (vp_in_lit rfl)) k_X5_136_5 dX5_mean_18 (MR_k hm) (Nat.le_of_ble_eq_true rfl) ⟨Nat.le_of_ble_eq_true rfl, Nat.le_of_ble_eq_true rfl⟩ ⟨Nat.le_of_ble_eq_true rfl, Nat.le_of_ble_eq_true rfl⟩ (r_ci fun r18 M18 p18 => ?_) nox
      obtain ⟨rfl, rfl⟩ := p18
      refine r_ireturn (pc := 21) rfl dX5_mean_21 ⟨_, rfl, ?_⟩
      first
        | contradiction
        | (refine oM.of ?_ (by repeat' (first | exact frM.rf | assumption | refine frM.up0 ?_ | refine frM.up ?_ (by decide) | refine frM.upL ?_ (by decide)))
           simp (decide := true) only [meanS, noS, noTenS, thP, mnP, shelfP, stepS, farP, eq_true h5, eq_false h13, not_true_eq_false, not_false_eq_true, true_and, and_true, false_and, and_false, true_or, or_true, false_or, or_false, cI_True, cI_False, if_true, if_false, sm0, sm1, sm2, sm3, sm4, sm5, sm6, sm7, sm8, sm9, sm10, sm11, sm12, sm13, sm14, sm15, sm16, sm17, sm18, sm19, sm20, sm21, sm22, sm23, sm24, sm25, sm26, sm27, sm28, sm29, sm30, sm31, sm32, sm33, sm34, sm35, sm36, sm37, sm38, sm39, sm40, sm41, sm42, sm43, sm44, sm45, sm46, sm47, sm48, sm49, su0, su1, su2, su3, su4, su5, su6, su7, su8, su9, su10, su11, su12, su13, su14, su15, su16, su17, su18, su19, su20, su21, su22, su23, su24, su25, su26, su27, su28, su29, su30, su31, su32, su33, su34, su35, su36, su37, su38, su39, su40, su41, su42, su43, su44, su45, su46, su47, su48, su49])
theorem ct_X5_cast {M0 : PM} {mo : Nat} {I : Nat → Nat → Int32} {L : Nat → Nat → Int64} (hm : MR M0 mo) (x1 : Int32) (x2 : Int32) (hk : OkS (sM I mo)) : Ct (YX5_cast, (5, 118, 0, 0), qi (fun r M' => oM M0 mo I L (castS (sS I L mo) x1 x2) r M'), noX) [.ref mo, .int x1, .int x2] (wIL M0 I L) := by
  refine ct_of [some (.ref mo), some (.int x1), some (.int x2), none, none, none, none] rfl rfl rfl (Nat.le_of_ble_eq_true rfl) rfl rfl ?_
  have base : mnP (sM I mo) x1 → thP (sM I mo) x2 → Wx (YX5_cast, (5, 118, 0, 0), qi (fun r M' => oM M0 mo I L (castS (sS I L mo) x1 x2) r M'), noX) 0 0 (wIL M0 I L) 22 [some (.ref mo), some (.int x1), some (.int x2), none, none, none, none] [] := by
    intro a1 a2
    have hw0 : castS (sS I L mo) x1 x2 = (castL (sM I mo) x1 x2 40 1 (-1) 0, sS I L mo) := by rw [castS, cI_f (by intro q; exact q.elim (fun q => q a1) (fun q => q a2))]
    have hn := vp_b (n := 8) a1.1 a1.2 hk.1.1.2.1.2
    have ht := vp_b (n := 8) a2.1 a2.2 hk.1.1.1.2
    have hd := hk.1.far (ix_lt a2.1 a2.2)
    have L1 : ∀ (n : Nat) (j : Nat) (b w : Int32) (o : Option Value), j + n = 41 → castS (sS I L mo) x1 x2 = (castL (sM I mo) x1 x2 n j b w, sS I L mo) → Wx (YX5_cast, (5, 118, 0, 0), qi (fun r M' => oM M0 mo I L (castS (sS I L mo) x1 x2) r M'), noX) 0 0 (wIL M0 I L) 30 [some (.ref mo), some (.int x1), some (.int x2), some (.int b), some (.int w), some (.int (nI j)), o] [] := by
      intro n
      induction n with
      | zero =>
        intro j b w o hj hw
        refine r_iload (pc := 30) dX5_cast_30 rfl ?_
        refine r_bipush (pc := 32) (v := 40) dX5_cast_32 (by decide) ?_
        refine r_icmp_gt (pc := 34) 70 dX5_cast_34 rfl (fun _ => ?_) (fun hno => False.elim (by rw [show (40 : Int32) = nI 40 from rfl, nI_ltI (by omega) (by omega)] at hno; omega))
        refine r_iload_n (pc := 70) dX5_cast_70 rfl ?_
        refine r_ireturn (pc := 71) rfl dX5_cast_71 ⟨_, rfl, ?_⟩
        refine oM.of ?_ frM.rf
        rw [hw]
        rfl
      | succ n ih =>
        intro j b w o hj hw
        rw [castL] at hw
        refine r_iload (pc := 30) dX5_cast_30 rfl ?_
        refine r_bipush (pc := 32) (v := 40) dX5_cast_32 (by decide) ?_
        refine r_icmp_gt (pc := 34) 70 dX5_cast_34 rfl (fun hno => False.elim (by rw [show (40 : Int32) = nI 40 from rfl, nI_ltI (by omega) (by omega)] at hno; omega)) (fun _ => ?_)
        refine r_aload_n (pc := 37) dX5_cast_37 rfl ?_
        refine r_iload_n (pc := 38) dX5_cast_38 rfl ?_
        refine r_iload_n (pc := 39) dX5_cast_39 rfl ?_
        refine r_iload (pc := 40) dX5_cast_40 rfl ?_
        refine r_o4 (pc := 42) (bc' := 0) (bs' := 0) (ct_X5_meanOf hm _ _ _ hn ht hd.1 hd.2 hk.1.1.2.2) k_X5_297_5 dX5_cast_42 (MR_k hm) (Nat.le_of_ble_eq_true rfl) ⟨Nat.le_of_ble_eq_true rfl, Nat.le_of_ble_eq_true rfl⟩ ⟨Nat.le_of_ble_eq_true rfl, Nat.le_of_ble_eq_true rfl⟩ (r_ci fun r42 M42 p42 => ?_) nox
        obtain ⟨rfl, rfl⟩ := p42
        refine r_istore6 (pc := 45) dX5_cast_45 rfl ?_
        refine r_iload (pc := 47) dX5_cast_47 rfl ?_
        refine r_iload (pc := 49) dX5_cast_49 rfl ?_
        refine r_icmp_gt (pc := 51) 57 dX5_cast_51 rfl (fun h51 => ?_) (fun h51 => ?_)
        · rw [if_pos h51] at hw
          refine r_iload (pc := 57) dX5_cast_57 rfl ?_
          refine r_istore3 (pc := 59) dX5_cast_59 rfl ?_
          refine r_iload (pc := 60) dX5_cast_60 rfl ?_
          refine r_istore4 (pc := 62) dX5_cast_62 rfl ?_
          refine r_iinc5 (pc := 64) dX5_cast_64 (nI_1 _) rfl ?_
          refine r_goto (pc := 67) 30 dX5_cast_67 rfl ?_
          exact ih (j + 1) _ _ _ (by omega) hw
        · rw [if_neg h51] at hw
          refine r_goto (pc := 54) 64 dX5_cast_54 rfl ?_
          refine r_iinc5 (pc := 64) dX5_cast_64 (nI_1 _) rfl ?_
          refine r_goto (pc := 67) 30 dX5_cast_67 rfl ?_
          exact ih (j + 1) _ _ _ (by omega) hw
    refine r_iconst (pc := 22) (v := (-1)) dX5_cast_22 (by decide) ?_
    refine r_istore3 (pc := 23) dX5_cast_23 rfl ?_
    refine r_iconst (pc := 24) (v := 0) dX5_cast_24 (by decide) ?_
    refine r_istore4 (pc := 25) dX5_cast_25 rfl ?_
    refine r_iconst (pc := 27) (v := 1) dX5_cast_27 (by decide) ?_
    refine r_istore5 (pc := 28) dX5_cast_28 rfl ?_
    exact L1 40 1 _ _ _ rfl hw0
  refine r_aload_n (pc := 0) dX5_cast_0 rfl ?_
  refine r_iload_n (pc := 1) dX5_cast_1 rfl ?_
  refine r_o2 (pc := 2) (bc' := 0) (bs' := 0) (ct_X5_isMan hm _) k_X5_178_5 dX5_cast_2 (MR_k hm) (Nat.le_of_ble_eq_true rfl) ⟨Nat.le_of_ble_eq_true rfl, Nat.le_of_ble_eq_true rfl⟩ ⟨Nat.le_of_ble_eq_true rfl, Nat.le_of_ble_eq_true rfl⟩ (r_ci fun r2 M2 p2 => ?_) nox
  obtain ⟨rfl, rfl⟩ := p2
  refine r_if_eq (pc := 5) 16 dX5_cast_5 rfl (fun h5 => ?_) (fun h5 => ?_)
  · rw [bI_eq0] at h5
    refine r_aload_n (pc := 16) dX5_cast_16 rfl ?_
    refine r_iconst (pc := 17) (v := (-1)) dX5_cast_17 (by decide) ?_
    refine r_o2 (pc := 18) (bc' := 0) (bs' := 0) (ct_X5_noTen hm _ (vp_in_lit rfl)) k_X5_271_5 dX5_cast_18 (MR_k hm) (Nat.le_of_ble_eq_true rfl) ⟨Nat.le_of_ble_eq_true rfl, Nat.le_of_ble_eq_true rfl⟩ ⟨Nat.le_of_ble_eq_true rfl, Nat.le_of_ble_eq_true rfl⟩ (r_ci fun r18 M18 p18 => ?_) nox
    obtain ⟨rfl, rfl⟩ := p18
    refine r_ireturn (pc := 21) rfl dX5_cast_21 ⟨_, rfl, ?_⟩
    first
      | contradiction
      | (refine oM.of ?_ (by repeat' (first | exact frM.rf | assumption | refine frM.up0 ?_ | refine frM.up ?_ (by decide) | refine frM.upL ?_ (by decide)))
         simp (decide := true) only [castS, noS, noTenS, thP, mnP, shelfP, stepS, farP, eq_false h5, not_true_eq_false, not_false_eq_true, true_and, and_true, false_and, and_false, true_or, or_true, false_or, or_false, cI_True, cI_False, if_true, if_false, sm0, sm1, sm2, sm3, sm4, sm5, sm6, sm7, sm8, sm9, sm10, sm11, sm12, sm13, sm14, sm15, sm16, sm17, sm18, sm19, sm20, sm21, sm22, sm23, sm24, sm25, sm26, sm27, sm28, sm29, sm30, sm31, sm32, sm33, sm34, sm35, sm36, sm37, sm38, sm39, sm40, sm41, sm42, sm43, sm44, sm45, sm46, sm47, sm48, sm49, su0, su1, su2, su3, su4, su5, su6, su7, su8, su9, su10, su11, su12, su13, su14, su15, su16, su17, su18, su19, su20, su21, su22, su23, su24, su25, su26, su27, su28, su29, su30, su31, su32, su33, su34, su35, su36, su37, su38, su39, su40, su41, su42, su43, su44, su45, su46, su47, su48, su49])
  · rw [bI_ne0] at h5
    refine r_aload_n (pc := 8) dX5_cast_8 rfl ?_
    refine r_iload_n (pc := 9) dX5_cast_9 rfl ?_
    refine r_o2 (pc := 10) (bc' := 0) (bs' := 0) (ct_X5_isThing hm _) k_X5_140_5 dX5_cast_10 (MR_k hm) (Nat.le_of_ble_eq_true rfl) ⟨Nat.le_of_ble_eq_true rfl, Nat.le_of_ble_eq_true rfl⟩ ⟨Nat.le_of_ble_eq_true rfl, Nat.le_of_ble_eq_true rfl⟩ (r_ci fun r10 M10 p10 => ?_) nox
    obtain ⟨rfl, rfl⟩ := p10
    refine r_if_ne (pc := 13) 22 dX5_cast_13 rfl (fun h13 => ?_) (fun h13 => ?_)
    · rw [bI_ne0] at h13
      exact base h5 h13
    · rw [bI_eq0] at h13
      refine r_aload_n (pc := 16) dX5_cast_16 rfl ?_
      refine r_iconst (pc := 17) (v := (-1)) dX5_cast_17 (by decide) ?_
      refine r_o2 (pc := 18) (bc' := 0) (bs' := 0) (ct_X5_noTen hm _ (vp_in_lit rfl)) k_X5_271_5 dX5_cast_18 (MR_k hm) (Nat.le_of_ble_eq_true rfl) ⟨Nat.le_of_ble_eq_true rfl, Nat.le_of_ble_eq_true rfl⟩ ⟨Nat.le_of_ble_eq_true rfl, Nat.le_of_ble_eq_true rfl⟩ (r_ci fun r18 M18 p18 => ?_) nox
      obtain ⟨rfl, rfl⟩ := p18
      refine r_ireturn (pc := 21) rfl dX5_cast_21 ⟨_, rfl, ?_⟩
      first
        | contradiction
        | (refine oM.of ?_ (by repeat' (first | exact frM.rf | assumption | refine frM.up0 ?_ | refine frM.up ?_ (by decide) | refine frM.upL ?_ (by decide)))
           simp (decide := true) only [castS, noS, noTenS, thP, mnP, shelfP, stepS, farP, eq_true h5, eq_false h13, not_true_eq_false, not_false_eq_true, true_and, and_true, false_and, and_false, true_or, or_true, false_or, or_false, cI_True, cI_False, if_true, if_false, sm0, sm1, sm2, sm3, sm4, sm5, sm6, sm7, sm8, sm9, sm10, sm11, sm12, sm13, sm14, sm15, sm16, sm17, sm18, sm19, sm20, sm21, sm22, sm23, sm24, sm25, sm26, sm27, sm28, sm29, sm30, sm31, sm32, sm33, sm34, sm35, sm36, sm37, sm38, sm39, sm40, sm41, sm42, sm43, sm44, sm45, sm46, sm47, sm48, sm49, su0, su1, su2, su3, su4, su5, su6, su7, su8, su9, su10, su11, su12, su13, su14, su15, su16, su17, su18, su19, su20, su21, su22, su23, su24, su25, su26, su27, su28, su29, su30, su31, su32, su33, su34, su35, su36, su37, su38, su39, su40, su41, su42, su43, su44, su45, su46, su47, su48, su49])
theorem ct_X5_mill {M0 : PM} {mo : Nat} {I : Nat → Nat → Int32} {L : Nat → Nat → Int64} (hm : MR M0 mo) (x1 : Int32) (x2 : Int32) (x3 : Int32) (hk : OkS (sM I mo)) : Ct (YX5_mill, (3, 64, 0, 0), qi (fun r M' => oM M0 mo I L (millS (sS I L mo) x1 x2 x3) r M'), noX) [.ref mo, .int x1, .int x2, .int x3] (wIL M0 I L) := by
  refine ct_of [some (.ref mo), some (.int x1), some (.int x2), some (.int x3), none, none, none, none] rfl rfl rfl (Nat.le_of_ble_eq_true rfl) rfl rfl ?_
  have base : thP (sM I mo) x1 → onP (sM I mo) x1 x2 → ¬ x3 < 1 → ¬ 99 < x3 → Wx (YX5_mill, (3, 64, 0, 0), qi (fun r M' => oM M0 mo I L (millS (sS I L mo) x1 x2 x3) r M'), noX) 0 0 (wIL M0 I L) 41 [some (.ref mo), some (.int x1), some (.int x2), some (.int x3), none, none, none, none] [] := by
    intro a1 a2 a3 a4
    have hw0 : millS (sS I L mo) x1 x2 x3 = (millL (I mo 4) (I mo 5) (farBS (sM I mo) x3 (Int32.toNatClampNeg x1)) x2 101 (I (mo + 5) (Int32.toNatClampNeg x1)) 0, sS I L mo) := by rw [millS, cI_f (by intro q; exact q a1), cI_f (by intro q; exact q.elim (fun q => q a2) (fun q => q.elim a3 a4))]; rfl
    have ht := vp_b (n := 8) a1.1 a1.2 hk.1.1.1.2
    have hd := hk.1.far (ix_lt a1.1 a1.2)
    have hx3 : bd x3 (-200) 200 := by rw [i_lt, c_1] at a3; rw [i_lt, c_99] at a4; unfold bd; omega
    have hfb := hk.1.farb (ix_lt a1.1 a1.2) hx3
    have h14 := (hk.1.2.2.1 _ (ix_lt a1.1 a1.2)).2.2.2.1
    have hp99 : x2.toInt ≤ 99 := by have e := hk.1.2.1.1.2; have g := Int32.not_lt.mp a2.1.2.1; rw [Int32.le_iff_toInt_le] at g; omega
    have hp0 : 0 ≤ x2.toInt := by have g := Int32.not_lt.mp a2.1.1; rw [Int32.le_iff_toInt_le, c_0] at g; exact g
    have L1 : ∀ (n : Nat) (f q c : Int32) (o : Option Value), bd f 0 49 → x2.toInt - q.toInt < n → 0 ≤ q.toInt → q.toInt ≤ x2.toInt → ¬ wetP (I mo 4) (I mo 5) q → millS (sS I L mo) x1 x2 x3 = (millL (I mo 4) (I mo 5) f x2 n q c, sS I L mo) → Wx (YX5_mill, (3, 64, 0, 0), qi (fun r M' => oM M0 mo I L (millS (sS I L mo) x1 x2 x3) r M'), noX) 0 0 (wIL M0 I L) 60 [some (.ref mo), some (.int x1), some (.int x2), some (.int x3), some (.int f), some (.int q), some (.int c), o] [] := by
      intro n
      induction n with
      | zero =>
        intro f q c o b1 b2 b3 b4 b5 hw
        exfalso; omega
      | succ n ih =>
        intro f q c o b1 b2 b3 b4 b5 hw
        rw [millL] at hw
        have hg := goes_ok (f := f) b3 b4 hp99 (by unfold bd at b1 ⊢; omega) b5 a2.1.2.2
        refine r_iload (pc := 60) dX5_mill_60 rfl ?_
        refine r_iload_n (pc := 62) dX5_mill_62 rfl ?_
        refine r_icmp_ge (pc := 63) 96 dX5_mill_63 rfl (fun h63 => ?_) (fun h63 => ?_)
        · rw [if_neg h63] at hw
          refine r_iload (pc := 96) dX5_mill_96 rfl ?_
          refine r_ireturn (pc := 98) rfl dX5_mill_98 ⟨_, rfl, ?_⟩
          exact oM.of hw frM.rf
        · rw [if_pos h63] at hw
          refine r_aload_n (pc := 66) dX5_mill_66 rfl ?_
          refine r_iload (pc := 67) dX5_mill_67 rfl ?_
          refine r_iload (pc := 69) dX5_mill_69 rfl ?_
          refine r_iload_n (pc := 71) dX5_mill_71 rfl ?_
          refine r_o4 (pc := 72) (bc' := 0) (bs' := 0) (ct_X5_goes hm _ _ _) k_X5_253_5 dX5_mill_72 (MR_k hm) (Nat.le_of_ble_eq_true rfl) ⟨Nat.le_of_ble_eq_true rfl, Nat.le_of_ble_eq_true rfl⟩ ⟨Nat.le_of_ble_eq_true rfl, Nat.le_of_ble_eq_true rfl⟩ (r_ci fun r72 M72 p72 => ?_) nox
          obtain ⟨rfl, rfl⟩ := p72
          refine r_istore7 (pc := 75) dX5_mill_75 rfl ?_
          refine r_iload (pc := 77) dX5_mill_77 rfl ?_
          refine r_iload (pc := 79) dX5_mill_79 rfl ?_
          refine r_icmp_ne (pc := 81) 86 dX5_mill_81 rfl (fun h81 => ?_) (fun h81 => ?_)
          · rw [if_neg h81] at hw
            refine r_iload (pc := 86) dX5_mill_86 rfl ?_
            refine r_istore5 (pc := 88) dX5_mill_88 rfl ?_
            refine r_iinc6 (pc := 90) dX5_mill_90 rfl rfl ?_
            refine r_goto (pc := 93) 60 dX5_mill_93 rfl ?_
            refine ih _ _ _ _ b1 ?_ (by omega) hg.2.1 hg.2.2 hw
            have hne : ¬ (goesC (I mo 4) (I mo 5) q f x2).toInt = q.toInt := fun e => h81 (i_eq.mpr e)
            omega
          · rw [if_pos h81] at hw
            refine r_iconst (pc := 84) (v := (-1)) dX5_mill_84 (by decide) ?_
            refine r_ireturn (pc := 85) rfl dX5_mill_85 ⟨_, rfl, ?_⟩
            exact oM.of hw frM.rf
    refine r_aload_n (pc := 41) dX5_mill_41 rfl ?_
    refine r_iload_n (pc := 42) dX5_mill_42 rfl ?_
    refine r_iload_n (pc := 43) dX5_mill_43 rfl ?_
    refine r_o3 (pc := 44) (bc' := 0) (bs' := 0) (ct_X5_farBy hm _ _ ht hd.1 hd.2) k_X5_143_5 dX5_mill_44 (MR_k hm) (Nat.le_of_ble_eq_true rfl) ⟨Nat.le_of_ble_eq_true rfl, Nat.le_of_ble_eq_true rfl⟩ ⟨Nat.le_of_ble_eq_true rfl, Nat.le_of_ble_eq_true rfl⟩ (r_ci fun r44 M44 p44 => ?_) nox
    obtain ⟨rfl, rfl⟩ := p44
    refine r_istore4 (pc := 47) dX5_mill_47 rfl ?_
    refine r_aload_n (pc := 49) dX5_mill_49 rfl ?_
    refine r_getR (pc := 50) dX5_mill_50 fl_X5_32_5 (MR_k hm) (fun _ _ => rfl) (MR_r14 hm) ?_
    refine r_iload_n (pc := 53) dX5_mill_53 rfl ?_
    refine rm_iald (pc := 54) dX5_mill_54 (MR_k14 hm) (MR_z14 hm) (by first | assumption | exact vp_in_lit rfl) ?_
    refine r_istore5 (pc := 55) dX5_mill_55 rfl ?_
    refine r_iconst (pc := 57) (v := 0) dX5_mill_57 (by decide) ?_
    refine r_istore6 (pc := 58) dX5_mill_58 rfl ?_
    refine L1 101 _ _ _ _ hfb ?_ ?_ ?_ h14.2.2 hw0
    · have g := Int32.not_lt.mp h14.1; rw [Int32.le_iff_toInt_le, c_0] at g; have g : 0 ≤ (I (mo + 5) x1.toNatClampNeg).toInt := g; omega
    · have g := Int32.not_lt.mp h14.1; rw [Int32.le_iff_toInt_le, c_0] at g; exact g
    · have g := i_lt.mp a2.2; have g : (I (mo + 5) x1.toNatClampNeg).toInt < x2.toInt := g; omega
  refine r_aload_n (pc := 0) dX5_mill_0 rfl ?_
  refine r_iload_n (pc := 1) dX5_mill_1 rfl ?_
  refine r_o2 (pc := 2) (bc' := 0) (bs' := 0) (ct_X5_isThing hm _) k_X5_140_5 dX5_mill_2 (MR_k hm) (Nat.le_of_ble_eq_true rfl) ⟨Nat.le_of_ble_eq_true rfl, Nat.le_of_ble_eq_true rfl⟩ ⟨Nat.le_of_ble_eq_true rfl, Nat.le_of_ble_eq_true rfl⟩ (r_ci fun r2 M2 p2 => ?_) nox
  obtain ⟨rfl, rfl⟩ := p2
  refine r_if_ne (pc := 5) 14 dX5_mill_5 rfl (fun h5 => ?_) (fun h5 => ?_)
  · rw [bI_ne0] at h5
    have ht := vp_b (n := 8) h5.1 h5.2 hk.1.1.1.2
    refine r_aload_n (pc := 14) dX5_mill_14 rfl ?_
    refine r_iload_n (pc := 15) dX5_mill_15 rfl ?_
    refine r_iload_n (pc := 16) dX5_mill_16 rfl ?_
    refine r_o3 (pc := 17) (bc' := 0) (bs' := 0) (ct_X5_isOnward hm _ _ ht) k_X5_265_5 dX5_mill_17 (MR_k hm) (Nat.le_of_ble_eq_true rfl) ⟨Nat.le_of_ble_eq_true rfl, Nat.le_of_ble_eq_true rfl⟩ ⟨Nat.le_of_ble_eq_true rfl, Nat.le_of_ble_eq_true rfl⟩ (r_ci fun r17 M17 p17 => ?_) nox
    obtain ⟨rfl, rfl⟩ := p17
    refine r_if_eq (pc := 20) 34 dX5_mill_20 rfl (fun h20 => ?_) (fun h20 => ?_)
    · rw [bI_eq0] at h20
      refine r_aload_n (pc := 34) dX5_mill_34 rfl ?_
      refine r_bipush (pc := 35) (v := (-6)) dX5_mill_35 (by decide) ?_
      refine r_o2 (pc := 37) (bc' := 0) (bs' := 0) (ct_X5_noTen hm _ (vp_in_lit rfl)) k_X5_271_5 dX5_mill_37 (MR_k hm) (Nat.le_of_ble_eq_true rfl) ⟨Nat.le_of_ble_eq_true rfl, Nat.le_of_ble_eq_true rfl⟩ ⟨Nat.le_of_ble_eq_true rfl, Nat.le_of_ble_eq_true rfl⟩ (r_ci fun r37 M37 p37 => ?_) nox
      obtain ⟨rfl, rfl⟩ := p37
      refine r_ireturn (pc := 40) rfl dX5_mill_40 ⟨_, rfl, ?_⟩
      first
        | contradiction
        | (refine oM.of ?_ (by repeat' (first | exact frM.rf | assumption | refine frM.up0 ?_ | refine frM.up ?_ (by decide) | refine frM.upL ?_ (by decide)))
           simp (decide := true) only [millS, noS, noTenS, thP, mnP, shelfP, stepS, farP, onP, eq_true h5, eq_false h20, not_true_eq_false, not_false_eq_true, true_and, and_true, false_and, and_false, true_or, or_true, false_or, or_false, cI_True, cI_False, if_true, if_false, sm0, sm1, sm2, sm3, sm4, sm5, sm6, sm7, sm8, sm9, sm10, sm11, sm12, sm13, sm14, sm15, sm16, sm17, sm18, sm19, sm20, sm21, sm22, sm23, sm24, sm25, sm26, sm27, sm28, sm29, sm30, sm31, sm32, sm33, sm34, sm35, sm36, sm37, sm38, sm39, sm40, sm41, sm42, sm43, sm44, sm45, sm46, sm47, sm48, sm49, su0, su1, su2, su3, su4, su5, su6, su7, su8, su9, su10, su11, su12, su13, su14, su15, su16, su17, su18, su19, su20, su21, su22, su23, su24, su25, su26, su27, su28, su29, su30, su31, su32, su33, su34, su35, su36, su37, su38, su39, su40, su41, su42, su43, su44, su45, su46, su47, su48, su49])
    · rw [bI_ne0] at h20
      refine r_iload_n (pc := 23) dX5_mill_23 rfl ?_
      refine r_iconst (pc := 24) (v := 1) dX5_mill_24 (by decide) ?_
      refine r_icmp_lt (pc := 25) 34 dX5_mill_25 rfl (fun h25 => ?_) (fun h25 => ?_)
      · refine r_aload_n (pc := 34) dX5_mill_34 rfl ?_
        refine r_bipush (pc := 35) (v := (-6)) dX5_mill_35 (by decide) ?_
        refine r_o2 (pc := 37) (bc' := 0) (bs' := 0) (ct_X5_noTen hm _ (vp_in_lit rfl)) k_X5_271_5 dX5_mill_37 (MR_k hm) (Nat.le_of_ble_eq_true rfl) ⟨Nat.le_of_ble_eq_true rfl, Nat.le_of_ble_eq_true rfl⟩ ⟨Nat.le_of_ble_eq_true rfl, Nat.le_of_ble_eq_true rfl⟩ (r_ci fun r37 M37 p37 => ?_) nox
        obtain ⟨rfl, rfl⟩ := p37
        refine r_ireturn (pc := 40) rfl dX5_mill_40 ⟨_, rfl, ?_⟩
        first
          | contradiction
          | (refine oM.of ?_ (by repeat' (first | exact frM.rf | assumption | refine frM.up0 ?_ | refine frM.up ?_ (by decide) | refine frM.upL ?_ (by decide)))
             simp (decide := true) only [millS, noS, noTenS, thP, mnP, shelfP, stepS, farP, onP, eq_true h5, eq_true h20, h25, not_true_eq_false, not_false_eq_true, true_and, and_true, false_and, and_false, true_or, or_true, false_or, or_false, cI_True, cI_False, if_true, if_false, sm0, sm1, sm2, sm3, sm4, sm5, sm6, sm7, sm8, sm9, sm10, sm11, sm12, sm13, sm14, sm15, sm16, sm17, sm18, sm19, sm20, sm21, sm22, sm23, sm24, sm25, sm26, sm27, sm28, sm29, sm30, sm31, sm32, sm33, sm34, sm35, sm36, sm37, sm38, sm39, sm40, sm41, sm42, sm43, sm44, sm45, sm46, sm47, sm48, sm49, su0, su1, su2, su3, su4, su5, su6, su7, su8, su9, su10, su11, su12, su13, su14, su15, su16, su17, su18, su19, su20, su21, su22, su23, su24, su25, su26, su27, su28, su29, su30, su31, su32, su33, su34, su35, su36, su37, su38, su39, su40, su41, su42, su43, su44, su45, su46, su47, su48, su49])
      · refine r_iload_n (pc := 28) dX5_mill_28 rfl ?_
        refine r_bipush (pc := 29) (v := 99) dX5_mill_29 (by decide) ?_
        refine r_icmp_le (pc := 31) 41 dX5_mill_31 rfl (fun h31 => ?_) (fun h31 => ?_)
        · exact base h5 h20 h25 h31
        · refine r_aload_n (pc := 34) dX5_mill_34 rfl ?_
          refine r_bipush (pc := 35) (v := (-6)) dX5_mill_35 (by decide) ?_
          refine r_o2 (pc := 37) (bc' := 0) (bs' := 0) (ct_X5_noTen hm _ (vp_in_lit rfl)) k_X5_271_5 dX5_mill_37 (MR_k hm) (Nat.le_of_ble_eq_true rfl) ⟨Nat.le_of_ble_eq_true rfl, Nat.le_of_ble_eq_true rfl⟩ ⟨Nat.le_of_ble_eq_true rfl, Nat.le_of_ble_eq_true rfl⟩ (r_ci fun r37 M37 p37 => ?_) nox
          obtain ⟨rfl, rfl⟩ := p37
          refine r_ireturn (pc := 40) rfl dX5_mill_40 ⟨_, rfl, ?_⟩
          first
            | contradiction
            | (refine oM.of ?_ (by repeat' (first | exact frM.rf | assumption | refine frM.up0 ?_ | refine frM.up ?_ (by decide) | refine frM.upL ?_ (by decide)))
               simp (decide := true) only [millS, noS, noTenS, thP, mnP, shelfP, stepS, farP, onP, eq_true h5, eq_true h20, h25, h31, not_true_eq_false, not_false_eq_true, true_and, and_true, false_and, and_false, true_or, or_true, false_or, or_false, cI_True, cI_False, if_true, if_false, sm0, sm1, sm2, sm3, sm4, sm5, sm6, sm7, sm8, sm9, sm10, sm11, sm12, sm13, sm14, sm15, sm16, sm17, sm18, sm19, sm20, sm21, sm22, sm23, sm24, sm25, sm26, sm27, sm28, sm29, sm30, sm31, sm32, sm33, sm34, sm35, sm36, sm37, sm38, sm39, sm40, sm41, sm42, sm43, sm44, sm45, sm46, sm47, sm48, sm49, su0, su1, su2, su3, su4, su5, su6, su7, su8, su9, su10, su11, su12, su13, su14, su15, su16, su17, su18, su19, su20, su21, su22, su23, su24, su25, su26, su27, su28, su29, su30, su31, su32, su33, su34, su35, su36, su37, su38, su39, su40, su41, su42, su43, su44, su45, su46, su47, su48, su49])
  · rw [bI_eq0] at h5
    refine r_aload_n (pc := 8) dX5_mill_8 rfl ?_
    refine r_iconst (pc := 9) (v := (-1)) dX5_mill_9 (by decide) ?_
    refine r_o2 (pc := 10) (bc' := 0) (bs' := 0) (ct_X5_noTen hm _ (vp_in_lit rfl)) k_X5_271_5 dX5_mill_10 (MR_k hm) (Nat.le_of_ble_eq_true rfl) ⟨Nat.le_of_ble_eq_true rfl, Nat.le_of_ble_eq_true rfl⟩ ⟨Nat.le_of_ble_eq_true rfl, Nat.le_of_ble_eq_true rfl⟩ (r_ci fun r10 M10 p10 => ?_) nox
    obtain ⟨rfl, rfl⟩ := p10
    refine r_ireturn (pc := 13) rfl dX5_mill_13 ⟨_, rfl, ?_⟩
    first
      | contradiction
      | (refine oM.of ?_ (by repeat' (first | exact frM.rf | assumption | refine frM.up0 ?_ | refine frM.up ?_ (by decide) | refine frM.upL ?_ (by decide)))
         simp (decide := true) only [millS, noS, noTenS, thP, mnP, shelfP, stepS, farP, onP, eq_false h5, not_true_eq_false, not_false_eq_true, true_and, and_true, false_and, and_false, true_or, or_true, false_or, or_false, cI_True, cI_False, if_true, if_false, sm0, sm1, sm2, sm3, sm4, sm5, sm6, sm7, sm8, sm9, sm10, sm11, sm12, sm13, sm14, sm15, sm16, sm17, sm18, sm19, sm20, sm21, sm22, sm23, sm24, sm25, sm26, sm27, sm28, sm29, sm30, sm31, sm32, sm33, sm34, sm35, sm36, sm37, sm38, sm39, sm40, sm41, sm42, sm43, sm44, sm45, sm46, sm47, sm48, sm49, su0, su1, su2, su3, su4, su5, su6, su7, su8, su9, su10, su11, su12, su13, su14, su15, su16, su17, su18, su19, su20, su21, su22, su23, su24, su25, su26, su27, su28, su29, su30, su31, su32, su33, su34, su35, su36, su37, su38, su39, su40, su41, su42, su43, su44, su45, su46, su47, su48, su49])
theorem ct_X5_night {M0 : PM} {mo : Nat} {I : Nat → Nat → Int32} {L : Nat → Nat → Int64} (hm : MR M0 mo)  (hk : OkS (sM I mo)) : Ct (YX5_night, (0, 0, 0, 0), qi (fun r M' => oM M0 mo I L (nightS (sS I L mo)) r M'), noX) [.ref mo] (wIL M0 I L) := by
  refine ct_of [some (.ref mo), none, none] rfl rfl rfl (Nat.le_of_ble_eq_true rfl) rfl rfl ?_
  obtain ⟨N, hN, eN⟩ := bd_nI (n := 8) hk.1.1.2.1
  obtain ⟨T, hT, eT⟩ := bd_nI (n := 8) hk.1.1.1
  have iN : Int32.toNatClampNeg (sM I mo 1 0) = N := by rw [eN, ix_nI (by omega)]
  have iT : Int32.toNatClampNeg (sM I mo 0 0) = T := by rw [eT, ix_nI (by omega)]
  have hw0 : nightS (sS I L mo) = ((nightL N 0 0 (sM I mo)).1, (nightT T 0 (nightL N 0 0 (sM I mo)).2, L (mo + 17))) := by rw [nightS]; simp only [iN, iT]
  have L2 : ∀ (n : Nat) (j : Nat) (s : Int32) (I1 : Nat → Nat → Int32), frM mo I I1 L L → I1 mo = I mo → j + n = T → nightS (sS I L mo) = (s, (nightT n j (sM I1 mo), L (mo + 17))) → Wx (YX5_night, (0, 0, 0, 0), qi (fun r M' => oM M0 mo I L (nightS (sS I L mo)) r M'), noX) 0 0 (wIL M0 I1 L) 39 [some (.ref mo), some (.int s), some (.int (nI j))] [] := by
    intro n
    induction n with
    | zero =>
      intro j s I1 f1 e1 hj hw
      refine r_iload_n (pc := 39) dX5_night_39 rfl ?_
      refine r_aload_n (pc := 40) dX5_night_40 rfl ?_
      refine rm_getI (pc := 41) dX5_night_41 fl_X5_117_5 (MR_k hm) (fun _ _ => rfl) ?_
      refine r_icmp_ge (pc := 44) 60 dX5_night_44 rfl (fun _ => ?_) (fun hno => False.elim (by rw [e1, show I mo 0 = nI T from eT, nI_ltI (by omega) (by omega)] at hno; omega))
      refine r_iload_n (pc := 60) dX5_night_60 rfl ?_
      refine r_ireturn (pc := 61) rfl dX5_night_61 ⟨_, rfl, ?_⟩
      exact oM.of hw f1
    | succ n ih =>
      intro j s I1 f1 e1 hj hw
      have hv : vp_in (nI j) 8 := vp_in_nI (by omega) (by decide)
      have ej : Int32.toNatClampNeg (nI j) = j := ix_nI (by omega)
      rw [nightT, su15] at hw
      refine r_iload_n (pc := 39) dX5_night_39 rfl ?_
      refine r_aload_n (pc := 40) dX5_night_40 rfl ?_
      refine rm_getI (pc := 41) dX5_night_41 fl_X5_117_5 (MR_k hm) (fun _ _ => rfl) ?_
      refine r_icmp_ge (pc := 44) 60 dX5_night_44 rfl (fun hno => False.elim (by rw [e1, show I mo 0 = nI T from eT, nI_ltI (by omega) (by omega)] at hno; omega)) (fun _ => ?_)
      refine r_aload_n (pc := 47) dX5_night_47 rfl ?_
      refine r_getR (pc := 48) dX5_night_48 fl_X5_35_5 (MR_k hm) (fun _ _ => rfl) (MR_r15 hm) ?_
      refine r_iload_n (pc := 51) dX5_night_51 rfl ?_
      refine r_iconst (pc := 52) (v := (-1)) dX5_night_52 (by decide) ?_
      refine rm_iast (pc := 53) dX5_night_53 (MR_k15 hm) (MR_z15 hm) (by first | assumption | exact vp_in_lit rfl) ?_
      rw [ej]
      refine r_iinc2 (pc := 54) dX5_night_54 (nI_1 _) rfl ?_
      refine r_goto (pc := 57) 39 dX5_night_57 rfl ?_
      exact ih (j + 1) s _ (f1.up (by decide)) ((up2_ne (by omega)).trans e1) (by omega) hw
  have L1 : ∀ (n : Nat) (j : Nat) (s : Int32) (I1 : Nat → Nat → Int32), frM mo I I1 L L → I1 mo = I mo → j + n = N → nightL N 0 0 (sM I mo) = nightL n j s (sM I1 mo) → Wx (YX5_night, (0, 0, 0, 0), qi (fun r M' => oM M0 mo I L (nightS (sS I L mo)) r M'), noX) 0 0 (wIL M0 I1 L) 4 [some (.ref mo), some (.int s), some (.int (nI j))] [] := by
    intro n
    induction n with
    | zero =>
      intro j s I1 f1 e1 hj hw
      refine r_iload_n (pc := 4) dX5_night_4 rfl ?_
      refine r_aload_n (pc := 5) dX5_night_5 rfl ?_
      refine rm_getI (pc := 6) dX5_night_6 fl_X5_120_5 (MR_k hm) (fun _ _ => rfl) ?_
      refine r_icmp_ge (pc := 9) 37 dX5_night_9 rfl (fun _ => ?_) (fun hno => False.elim (by rw [e1, show I mo 1 = nI N from eN, nI_ltI (by omega) (by omega)] at hno; omega))
      refine r_iconst (pc := 37) (v := 0) dX5_night_37 (by decide) ?_
      refine r_istore2 (pc := 38) dX5_night_38 rfl ?_
      refine L2 T 0 s I1 f1 e1 (by omega) ?_
      rw [hw0, hw]
      rfl
    | succ n ih =>
      intro j s I1 f1 e1 hj hw
      have hv : vp_in (nI j) 8 := vp_in_nI (by omega) (by decide)
      have ej : Int32.toNatClampNeg (nI j) = j := ix_nI (by omega)
      rw [nightL, su18] at hw
      refine r_iload_n (pc := 4) dX5_night_4 rfl ?_
      refine r_aload_n (pc := 5) dX5_night_5 rfl ?_
      refine rm_getI (pc := 6) dX5_night_6 fl_X5_120_5 (MR_k hm) (fun _ _ => rfl) ?_
      refine r_icmp_ge (pc := 9) 37 dX5_night_9 rfl (fun hno => False.elim (by rw [e1, show I mo 1 = nI N from eN, nI_ltI (by omega) (by omega)] at hno; omega)) (fun _ => ?_)
      refine r_aload_n (pc := 12) dX5_night_12 rfl ?_
      refine r_getR (pc := 13) dX5_night_13 fl_X5_44_5 (MR_k hm) (fun _ _ => rfl) (MR_r18 hm) ?_
      refine r_iload_n (pc := 16) dX5_night_16 rfl ?_
      refine r_dup2 (pc := 17) dX5_night_17 rfl rfl ?_
      refine rm_iald (pc := 18) dX5_night_18 (MR_k18 hm) (MR_z18 hm) (by first | assumption | exact vp_in_lit rfl) ?_
      refine r_iconst (pc := 19) (v := 2) dX5_night_19 (by decide) ?_
      refine r_idiv (pc := 20) dX5_night_20 (by decide) ?_
      refine rm_iast (pc := 21) dX5_night_21 (MR_k18 hm) (MR_z18 hm) (by first | assumption | exact vp_in_lit rfl) ?_
      refine r_iload_n (pc := 22) dX5_night_22 rfl ?_
      refine r_aload_n (pc := 23) dX5_night_23 rfl ?_
      refine r_getR (pc := 24) dX5_night_24 fl_X5_44_5 (MR_k hm) (fun _ _ => rfl) (MR_r18 hm) ?_
      refine r_iload_n (pc := 27) dX5_night_27 rfl ?_
      refine rm_iald (pc := 28) dX5_night_28 (MR_k18 hm) (MR_z18 hm) (by first | assumption | exact vp_in_lit rfl) ?_
      refine r_eqi (I1 (mo + 9) j / 2) (by rw [up2_self, ej, va_up_self]) ?_
      refine r_iadd (pc := 29) dX5_night_29 ?_
      refine r_istore1 (pc := 30) dX5_night_30 rfl ?_
      rw [ej]
      refine r_iinc2 (pc := 31) dX5_night_31 (nI_1 _) rfl ?_
      refine r_goto (pc := 34) 4 dX5_night_34 rfl ?_
      exact ih (j + 1) _ _ (f1.up (by decide)) ((up2_ne (by omega)).trans e1) (by omega) hw
  refine r_iconst (pc := 0) (v := 0) dX5_night_0 (by decide) ?_
  refine r_istore1 (pc := 1) dX5_night_1 rfl ?_
  refine r_iconst (pc := 2) (v := 0) dX5_night_2 (by decide) ?_
  refine r_istore2 (pc := 3) dX5_night_3 rfl ?_
  exact L1 N 0 0 I frM.rf rfl (by omega) rfl
theorem ct_X5_part {M0 : PM} {mo : Nat} {I : Nat → Nat → Int32} {L : Nat → Nat → Int64} (hm : MR M0 mo) (x1 : Int32) (hk : OkS (sM I mo)) : Ct (YX5_part, (1, 24, 0, 0), qi (fun r M' => oM M0 mo I L (partS (sS I L mo) x1) r M'), noX) [.ref mo, .int x1] (wIL M0 I L) := by
  refine ct_of [some (.ref mo), some (.int x1), none, none, none, none] rfl rfl rfl (Nat.le_of_ble_eq_true rfl) rfl rfl ?_
  have loop : ∀ (N : Nat) (n0 w : Int32) (I0 : Nat → Nat → Int32) (v0 : cS), n0 = nI N → 1 ≤ N → N ≤ 9 → vp_in x1 8 → frM mo I I0 L L → partS (sS I L mo) x1 = (v0 0 0, (v0, L (mo + 17))) → v0 = partL (Int32.toNatClampNeg x1) w (N - 1) (sM I0 mo) → (∃ T : Nat, I0 mo 0 = nI T ∧ T + (N - 1) ≤ 8) → Wx (YX5_part, (1, 24, 0, 0), qi (fun r M' => oM M0 mo I L (partS (sS I L mo) x1) r M'), noX) 0 0 (wIL M0 I0 L) 92 [some (.ref mo), some (.int x1), some (.int n0), some (.int w), none, none] [] := by
    intro N n0 w I0 v0 eN h1N hN9 hx f0 hw0 hv0 hT0
    have L1 : ∀ (n : Nat) (j : Nat) (o : Option Value) (I1 : Nat → Nat → Int32), frM mo I I1 L L → j + n = N → v0 = partL (Int32.toNatClampNeg x1) w n (sM I1 mo) → (∃ T : Nat, I1 mo 0 = nI T ∧ T + n ≤ 8) → Wx (YX5_part, (1, 24, 0, 0), qi (fun r M' => oM M0 mo I L (partS (sS I L mo) x1) r M'), noX) 0 0 (wIL M0 I1 L) 95 [some (.ref mo), some (.int x1), some (.int n0), some (.int w), some (.int (nI j)), o] [] := by
      intro n
      induction n with
      | zero =>
        intro j o I1 f1 hj hw hT
        refine r_iload (pc := 95) dX5_part_95 rfl ?_
        refine r_iload_n (pc := 97) dX5_part_97 rfl ?_
        refine r_icmp_ge (pc := 98) 135 dX5_part_98 rfl (fun _ => ?_) (fun hno => False.elim (by rw [eN, nI_ltI (by omega) (by omega)] at hno; omega))
        refine r_aload_n (pc := 135) dX5_part_135 rfl ?_
        refine rm_getI (pc := 136) dX5_part_136 fl_X5_117_5 (MR_k hm) (fun _ _ => rfl) ?_
        refine r_ireturn (pc := 139) rfl dX5_part_139 ⟨_, rfl, ?_⟩
        refine oM.of ?_ f1
        rw [hw0, hw]
        rfl
      | succ n ih =>
        intro j o I1 f1 hj hw hT
        obtain ⟨T, eT, hT⟩ := hT
        have iT : Int32.toNatClampNeg (I1 mo 0) = T := by rw [eT, ix_nI (by omega)]
        have hy : vp_in (I1 mo 0) 8 := by rw [eT]; exact vp_in_nI (by omega) (by decide)
        rw [partL] at hw
        refine r_iload (pc := 95) dX5_part_95 rfl ?_
        refine r_iload_n (pc := 97) dX5_part_97 rfl ?_
        refine r_icmp_ge (pc := 98) 135 dX5_part_98 rfl (fun hno => False.elim (by rw [eN, nI_ltI (by omega) (by omega)] at hno; omega)) (fun _ => ?_)
        refine r_aload_n (pc := 101) dX5_part_101 rfl ?_
        refine r_iconst (pc := 102) (v := 0) dX5_part_102 (by decide) ?_
        refine r_iload_n (pc := 103) dX5_part_103 rfl ?_
        refine r_iconst (pc := 104) (v := 1) dX5_part_104 (by decide) ?_
        refine r_aload_n (pc := 105) dX5_part_105 rfl ?_
        refine r_getR (pc := 106) dX5_part_106 fl_X5_32_5 (MR_k hm) (fun _ _ => rfl) (MR_r14 hm) ?_
        refine r_iload_n (pc := 109) dX5_part_109 rfl ?_
        refine rm_iald (pc := 110) dX5_part_110 (MR_k14 hm) (MR_z14 hm) (by first | assumption | exact vp_in_lit rfl) ?_
        refine r_o5 (pc := 111) (bc' := 0) (bs' := 0) (ct_X5_things hm _ _ _ _ hy) k_X5_150_5 dX5_part_111 (MR_k hm) (Nat.le_of_ble_eq_true rfl) ⟨Nat.le_of_ble_eq_true rfl, Nat.le_of_ble_eq_true rfl⟩ ⟨Nat.le_of_ble_eq_true rfl, Nat.le_of_ble_eq_true rfl⟩ (r_ci fun r111 M111 p111 => ?_) nox
        obtain ⟨rfl, I2, rfl, e2, f2⟩ := p111
        refine r_istore5 (pc := 114) dX5_part_114 rfl ?_
        refine r_aload_n (pc := 116) dX5_part_116 rfl ?_
        refine r_getR (pc := 117) dX5_part_117 fl_X5_35_5 (MR_k hm) (fun _ _ => rfl) (MR_r15 hm) ?_
        refine r_iload (pc := 120) dX5_part_120 rfl ?_
        refine r_aload_n (pc := 122) dX5_part_122 rfl ?_
        refine r_getR (pc := 123) dX5_part_123 fl_X5_35_5 (MR_k hm) (fun _ _ => rfl) (MR_r15 hm) ?_
        refine r_iload_n (pc := 126) dX5_part_126 rfl ?_
        refine rm_iald (pc := 127) dX5_part_127 (MR_k15 hm) (MR_z15 hm) (by first | assumption | exact vp_in_lit rfl) ?_
        refine rm_iast (pc := 128) dX5_part_128 (MR_k15 hm) (MR_z15 hm) (by first | assumption | exact vp_in_lit rfl) ?_
        refine r_iinc4 (pc := 129) dX5_part_129 (nI_1 _) rfl ?_
        refine r_goto (pc := 132) 95 dX5_part_132 rfl ?_
        refine ih (j + 1) _ _ ((f1.trans f2).up (by decide)) (by omega) ?_ ⟨T + 1, ?_, by omega⟩
        · rw [hw, ← su15, show I2 (mo + 6) = sM I2 mo 15 from rfl, e2]; rfl
        · rw [up2_ne (by omega), show I2 mo 0 = sM I2 mo 0 0 from rfl, e2, thingsS, up2_self, va_up_self, show sM I1 mo 0 0 = I1 mo 0 from rfl, eT, nI_1]
    refine r_iconst (pc := 92) (v := 1) dX5_part_92 (by decide) ?_
    refine r_istore4 (pc := 93) dX5_part_93 rfl ?_
    obtain ⟨T, e1, e2⟩ := hT0
    exact L1 (N - 1) 1 _ _ f0 (by omega) hv0 ⟨T, e1, e2⟩
  refine r_aload_n (pc := 0) dX5_part_0 rfl ?_
  refine r_iload_n (pc := 1) dX5_part_1 rfl ?_
  refine r_o2 (pc := 2) (bc' := 0) (bs' := 0) (ct_X5_isThing hm _) k_X5_140_5 dX5_part_2 (MR_k hm) (Nat.le_of_ble_eq_true rfl) ⟨Nat.le_of_ble_eq_true rfl, Nat.le_of_ble_eq_true rfl⟩ ⟨Nat.le_of_ble_eq_true rfl, Nat.le_of_ble_eq_true rfl⟩ (r_ci fun r2 M2 p2 => ?_) nox
  obtain ⟨rfl, rfl⟩ := p2
  refine r_if_ne (pc := 5) 14 dX5_part_5 rfl (fun h5 => ?_) (fun h5 => ?_)
  · rw [bI_ne0] at h5
    have ht := vp_b (n := 8) h5.1 h5.2 hk.1.1.1.2
    have hd := hk.1.far (ix_lt h5.1 h5.2)
    have ho := hk.1.2.2.1 _ (ix_lt h5.1 h5.2)
    have ho3 : bd (I (mo + 4) (Int32.toNatClampNeg x1)) 1 9 := ho.2.2.1
    obtain ⟨N, hN, eN⟩ := bd_nI (n := 9) (x := I (mo + 4) x1.toNatClampNeg) ⟨by omega, ho3.2⟩
    refine r_aload_n (pc := 14) dX5_part_14 rfl ?_
    refine r_getR (pc := 15) dX5_part_15 fl_X5_23_5 (MR_k hm) (fun _ _ => rfl) (MR_r11 hm) ?_
    refine r_iload_n (pc := 18) dX5_part_18 rfl ?_
    refine rm_iald (pc := 19) dX5_part_19 (MR_k11 hm) (MR_z11 hm) (by first | assumption | exact vp_in_lit rfl) ?_
    refine r_iconst (pc := 20) (v := 5) dX5_part_20 (by decide) ?_
    refine r_icmp_eq (pc := 21) 31 dX5_part_21 rfl (fun h21 => ?_) (fun h21 => ?_)
    · refine r_aload_n (pc := 31) dX5_part_31 rfl ?_
      refine r_getR (pc := 32) dX5_part_32 fl_X5_29_5 (MR_k hm) (fun _ _ => rfl) (MR_r13 hm) ?_
      refine r_iload_n (pc := 35) dX5_part_35 rfl ?_
      refine rm_iald (pc := 36) dX5_part_36 (MR_k13 hm) (MR_z13 hm) (by first | assumption | exact vp_in_lit rfl) ?_
      refine r_istore2 (pc := 37) dX5_part_37 rfl ?_
      refine r_aload_n (pc := 38) dX5_part_38 rfl ?_
      refine r_getR (pc := 39) dX5_part_39 fl_X5_26_5 (MR_k hm) (fun _ _ => rfl) (MR_r12 hm) ?_
      refine r_iload_n (pc := 42) dX5_part_42 rfl ?_
      refine rm_iald (pc := 43) dX5_part_43 (MR_k12 hm) (MR_z12 hm) (by first | assumption | exact vp_in_lit rfl) ?_
      refine r_iload_n (pc := 44) dX5_part_44 rfl ?_
      refine r_iadd (pc := 45) dX5_part_45 ?_
      refine r_iconst (pc := 46) (v := 1) dX5_part_46 (by decide) ?_
      refine r_isub (pc := 47) dX5_part_47 ?_
      refine r_iload_n (pc := 48) dX5_part_48 rfl ?_
      refine r_idiv (pc := 49) dX5_part_49 (hd.2 h21).1 ?_
      refine r_istore3 (pc := 50) dX5_part_50 rfl ?_
      refine r_aload_n (pc := 51) dX5_part_51 rfl ?_
      refine rm_getI (pc := 52) dX5_part_52 fl_X5_117_5 (MR_k hm) (fun _ _ => rfl) ?_
      refine r_iload_n (pc := 55) dX5_part_55 rfl ?_
      refine r_iadd (pc := 56) dX5_part_56 ?_
      refine r_iconst (pc := 57) (v := 1) dX5_part_57 (by decide) ?_
      refine r_isub (pc := 58) dX5_part_58 ?_
      refine r_bipush (pc := 59) (v := 8) dX5_part_59 (by decide) ?_
      refine r_icmp_le (pc := 61) 71 dX5_part_61 rfl (fun h61 => ?_) (fun h61 => ?_)
      · refine r_aload_n (pc := 71) dX5_part_71 rfl ?_
        refine r_getR (pc := 72) dX5_part_72 fl_X5_23_5 (MR_k hm) (fun _ _ => rfl) (MR_r11 hm) ?_
        refine r_iload_n (pc := 75) dX5_part_75 rfl ?_
        refine r_iconst (pc := 76) (v := 0) dX5_part_76 (by decide) ?_
        refine rm_iast (pc := 77) dX5_part_77 (MR_k11 hm) (MR_z11 hm) (by first | assumption | exact vp_in_lit rfl) ?_
        refine r_aload_n (pc := 78) dX5_part_78 rfl ?_
        refine r_getR (pc := 79) dX5_part_79 fl_X5_26_5 (MR_k hm) (fun _ _ => rfl) (MR_r12 hm) ?_
        refine r_iload_n (pc := 82) dX5_part_82 rfl ?_
        refine r_iload_n (pc := 83) dX5_part_83 rfl ?_
        refine rm_iast (pc := 84) dX5_part_84 (MR_k12 hm) (MR_z12 hm) (by first | assumption | exact vp_in_lit rfl) ?_
        refine r_aload_n (pc := 85) dX5_part_85 rfl ?_
        refine r_getR (pc := 86) dX5_part_86 fl_X5_29_5 (MR_k hm) (fun _ _ => rfl) (MR_r13 hm) ?_
        refine r_iload_n (pc := 89) dX5_part_89 rfl ?_
        refine r_iconst (pc := 90) (v := 1) dX5_part_90 (by decide) ?_
        refine rm_iast (pc := 91) dX5_part_91 (MR_k13 hm) (MR_z13 hm) (by first | assumption | exact vp_in_lit rfl) ?_
        obtain ⟨T, hT, eT⟩ := bd_nI (n := 8) hk.1.1.1
        have eT : I mo 0 = nI T := eT
        have hN1 : 1 ≤ N := by have := ho3.1; rw [eN, nI_toInt (by omega)] at this; omega
        have iN : Int32.toNatClampNeg (I (mo + 4) (Int32.toNatClampNeg x1)) = N := by rw [eN, ix_nI (by omega)]
        have hle : T + (N - 1) ≤ 8 := by rw [eN, eT, nI_add, show T + N = (T + N - 1) + 1 by omega, nI_pred, show (8 : Int32) = nI 8 from rfl, nI_ltI (by omega) (by omega)] at h61; omega
        refine loop N _ _ _ (partM (sM I mo) (Int32.toNatClampNeg x1)) eN hN1 hN ht (((frM.rf.up (by decide)).up (by decide)).up (by decide)) ?_ ?_ ⟨T, ?_, hle⟩
        · rw [partS, cI_f (by intro q; exact q h5), cI_f (by intro q; exact q h21), cI_f (show ¬ (8 < (sS I L mo).1 0 0 + (sS I L mo).1 13 x1.toNatClampNeg - 1) from h61)]
        · rw [partM, su11, su12, su13, show sM I mo 13 = I (mo + 4) from rfl, iN]; rfl
        · rw [up2_ne (by omega), up2_ne (by omega), up2_ne (by omega)]; exact eT
      · refine r_aload_n (pc := 64) dX5_part_64 rfl ?_
        refine r_bipush (pc := 65) (v := (-7)) dX5_part_65 (by decide) ?_
        refine r_o2 (pc := 67) (bc' := 0) (bs' := 0) (ct_X5_no hm _ (vp_in_lit rfl)) k_X5_136_5 dX5_part_67 (MR_k hm) (Nat.le_of_ble_eq_true rfl) ⟨Nat.le_of_ble_eq_true rfl, Nat.le_of_ble_eq_true rfl⟩ ⟨Nat.le_of_ble_eq_true rfl, Nat.le_of_ble_eq_true rfl⟩ (r_ci fun r67 M67 p67 => ?_) nox
        obtain ⟨rfl, rfl⟩ := p67
        refine r_ireturn (pc := 70) rfl dX5_part_70 ⟨_, rfl, ?_⟩
        first
          | contradiction
          | (refine oM.of ?_ (by repeat' (first | exact frM.rf | assumption | refine frM.up0 ?_ | refine frM.up ?_ (by decide) | refine frM.upL ?_ (by decide)))
             simp (decide := true) only [partS, noS, noTenS, thP, mnP, shelfP, stepS, farP, eq_true h5, h21, h61, not_true_eq_false, not_false_eq_true, true_and, and_true, false_and, and_false, true_or, or_true, false_or, or_false, cI_True, cI_False, if_true, if_false, sm0, sm1, sm2, sm3, sm4, sm5, sm6, sm7, sm8, sm9, sm10, sm11, sm12, sm13, sm14, sm15, sm16, sm17, sm18, sm19, sm20, sm21, sm22, sm23, sm24, sm25, sm26, sm27, sm28, sm29, sm30, sm31, sm32, sm33, sm34, sm35, sm36, sm37, sm38, sm39, sm40, sm41, sm42, sm43, sm44, sm45, sm46, sm47, sm48, sm49, su0, su1, su2, su3, su4, su5, su6, su7, su8, su9, su10, su11, su12, su13, su14, su15, su16, su17, su18, su19, su20, su21, su22, su23, su24, su25, su26, su27, su28, su29, su30, su31, su32, su33, su34, su35, su36, su37, su38, su39, su40, su41, su42, su43, su44, su45, su46, su47, su48, su49])
    · refine r_aload_n (pc := 24) dX5_part_24 rfl ?_
      refine r_bipush (pc := 25) (v := (-2)) dX5_part_25 (by decide) ?_
      refine r_o2 (pc := 27) (bc' := 0) (bs' := 0) (ct_X5_no hm _ (vp_in_lit rfl)) k_X5_136_5 dX5_part_27 (MR_k hm) (Nat.le_of_ble_eq_true rfl) ⟨Nat.le_of_ble_eq_true rfl, Nat.le_of_ble_eq_true rfl⟩ ⟨Nat.le_of_ble_eq_true rfl, Nat.le_of_ble_eq_true rfl⟩ (r_ci fun r27 M27 p27 => ?_) nox
      obtain ⟨rfl, rfl⟩ := p27
      refine r_ireturn (pc := 30) rfl dX5_part_30 ⟨_, rfl, ?_⟩
      first
        | contradiction
        | (refine oM.of ?_ (by repeat' (first | exact frM.rf | assumption | refine frM.up0 ?_ | refine frM.up ?_ (by decide) | refine frM.upL ?_ (by decide)))
           simp (decide := true) only [partS, noS, noTenS, thP, mnP, shelfP, stepS, farP, eq_true h5, h21, not_true_eq_false, not_false_eq_true, true_and, and_true, false_and, and_false, true_or, or_true, false_or, or_false, cI_True, cI_False, if_true, if_false, sm0, sm1, sm2, sm3, sm4, sm5, sm6, sm7, sm8, sm9, sm10, sm11, sm12, sm13, sm14, sm15, sm16, sm17, sm18, sm19, sm20, sm21, sm22, sm23, sm24, sm25, sm26, sm27, sm28, sm29, sm30, sm31, sm32, sm33, sm34, sm35, sm36, sm37, sm38, sm39, sm40, sm41, sm42, sm43, sm44, sm45, sm46, sm47, sm48, sm49, su0, su1, su2, su3, su4, su5, su6, su7, su8, su9, su10, su11, su12, su13, su14, su15, su16, su17, su18, su19, su20, su21, su22, su23, su24, su25, su26, su27, su28, su29, su30, su31, su32, su33, su34, su35, su36, su37, su38, su39, su40, su41, su42, su43, su44, su45, su46, su47, su48, su49])
  · rw [bI_eq0] at h5
    refine r_aload_n (pc := 8) dX5_part_8 rfl ?_
    refine r_iconst (pc := 9) (v := (-1)) dX5_part_9 (by decide) ?_
    refine r_o2 (pc := 10) (bc' := 0) (bs' := 0) (ct_X5_no hm _ (vp_in_lit rfl)) k_X5_136_5 dX5_part_10 (MR_k hm) (Nat.le_of_ble_eq_true rfl) ⟨Nat.le_of_ble_eq_true rfl, Nat.le_of_ble_eq_true rfl⟩ ⟨Nat.le_of_ble_eq_true rfl, Nat.le_of_ble_eq_true rfl⟩ (r_ci fun r10 M10 p10 => ?_) nox
    obtain ⟨rfl, rfl⟩ := p10
    refine r_ireturn (pc := 13) rfl dX5_part_13 ⟨_, rfl, ?_⟩
    first
      | contradiction
      | (refine oM.of ?_ (by repeat' (first | exact frM.rf | assumption | refine frM.up0 ?_ | refine frM.up ?_ (by decide) | refine frM.upL ?_ (by decide)))
         simp (decide := true) only [partS, noS, noTenS, thP, mnP, shelfP, stepS, farP, eq_false h5, not_true_eq_false, not_false_eq_true, true_and, and_true, false_and, and_false, true_or, or_true, false_or, or_false, cI_True, cI_False, if_true, if_false, sm0, sm1, sm2, sm3, sm4, sm5, sm6, sm7, sm8, sm9, sm10, sm11, sm12, sm13, sm14, sm15, sm16, sm17, sm18, sm19, sm20, sm21, sm22, sm23, sm24, sm25, sm26, sm27, sm28, sm29, sm30, sm31, sm32, sm33, sm34, sm35, sm36, sm37, sm38, sm39, sm40, sm41, sm42, sm43, sm44, sm45, sm46, sm47, sm48, sm49, su0, su1, su2, su3, su4, su5, su6, su7, su8, su9, su10, su11, su12, su13, su14, su15, su16, su17, su18, su19, su20, su21, su22, su23, su24, su25, su26, su27, su28, su29, su30, su31, su32, su33, su34, su35, su36, su37, su38, su39, su40, su41, su42, su43, su44, su45, su46, su47, su48, su49])
