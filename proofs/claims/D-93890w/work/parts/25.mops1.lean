/-! THE MODEL's calls, first group (printed by gen/model3.py) -/
set_option maxRecDepth 100000
theorem sm0 {I : Nat → Nat → Int32} {mo : Nat} : sM I mo 0 0 = I mo 0 := rfl
theorem sm1 {I : Nat → Nat → Int32} {mo : Nat} : sM I mo 1 0 = I mo 1 := rfl
theorem sm2 {I : Nat → Nat → Int32} {mo : Nat} : sM I mo 2 0 = I mo 2 := rfl
theorem sm3 {I : Nat → Nat → Int32} {mo : Nat} : sM I mo 3 0 = I mo 3 := rfl
theorem sm4 {I : Nat → Nat → Int32} {mo : Nat} : sM I mo 4 0 = I mo 4 := rfl
theorem sm5 {I : Nat → Nat → Int32} {mo : Nat} : sM I mo 5 0 = I mo 5 := rfl
theorem sm6 {I : Nat → Nat → Int32} {mo : Nat} : sM I mo 6 0 = I mo 6 := rfl
theorem sm7 {I : Nat → Nat → Int32} {mo : Nat} : sM I mo 7 0 = I mo 7 := rfl
theorem sm8 {I : Nat → Nat → Int32} {mo : Nat} : sM I mo 8 0 = I mo 8 := rfl
theorem sm9 {I : Nat → Nat → Int32} {mo : Nat} : sM I mo 9 0 = I mo 9 := rfl
theorem sm30 {I : Nat → Nat → Int32} {mo : Nat} : sM I mo 30 0 = I mo 30 := rfl
theorem sm31 {I : Nat → Nat → Int32} {mo : Nat} : sM I mo 31 0 = I mo 31 := rfl
theorem sm32 {I : Nat → Nat → Int32} {mo : Nat} : sM I mo 32 0 = I mo 32 := rfl
theorem sm33 {I : Nat → Nat → Int32} {mo : Nat} : sM I mo 33 0 = I mo 33 := rfl
theorem sm34 {I : Nat → Nat → Int32} {mo : Nat} : sM I mo 34 0 = I mo 34 := rfl
theorem sm46 {I : Nat → Nat → Int32} {mo : Nat} : sM I mo 46 0 = I mo 46 := rfl
theorem sm48 {I : Nat → Nat → Int32} {mo : Nat} : sM I mo 48 0 = I mo 48 := rfl
theorem sm49 {I : Nat → Nat → Int32} {mo : Nat} : sM I mo 49 0 = I mo 49 := rfl
theorem sm10 {I : Nat → Nat → Int32} {mo : Nat} : sM I mo 10 = I (mo + 1) := rfl
theorem sm11 {I : Nat → Nat → Int32} {mo : Nat} : sM I mo 11 = I (mo + 2) := rfl
theorem sm12 {I : Nat → Nat → Int32} {mo : Nat} : sM I mo 12 = I (mo + 3) := rfl
theorem sm13 {I : Nat → Nat → Int32} {mo : Nat} : sM I mo 13 = I (mo + 4) := rfl
theorem sm14 {I : Nat → Nat → Int32} {mo : Nat} : sM I mo 14 = I (mo + 5) := rfl
theorem sm15 {I : Nat → Nat → Int32} {mo : Nat} : sM I mo 15 = I (mo + 6) := rfl
theorem sm16 {I : Nat → Nat → Int32} {mo : Nat} : sM I mo 16 = I (mo + 7) := rfl
theorem sm17 {I : Nat → Nat → Int32} {mo : Nat} : sM I mo 17 = I (mo + 8) := rfl
theorem sm18 {I : Nat → Nat → Int32} {mo : Nat} : sM I mo 18 = I (mo + 9) := rfl
theorem sm19 {I : Nat → Nat → Int32} {mo : Nat} : sM I mo 19 = I (mo + 10) := rfl
theorem sm20 {I : Nat → Nat → Int32} {mo : Nat} : sM I mo 20 = I (mo + 11) := rfl
theorem sm21 {I : Nat → Nat → Int32} {mo : Nat} : sM I mo 21 = I (mo + 12) := rfl
theorem sm22 {I : Nat → Nat → Int32} {mo : Nat} : sM I mo 22 = I (mo + 13) := rfl
theorem sm23 {I : Nat → Nat → Int32} {mo : Nat} : sM I mo 23 = I (mo + 14) := rfl
theorem sm24 {I : Nat → Nat → Int32} {mo : Nat} : sM I mo 24 = I (mo + 15) := rfl
theorem sm25 {I : Nat → Nat → Int32} {mo : Nat} : sM I mo 25 = I (mo + 16) := rfl
theorem sm26 {I : Nat → Nat → Int32} {mo : Nat} : sM I mo 26 = I (mo + 17) := rfl
theorem sm27 {I : Nat → Nat → Int32} {mo : Nat} : sM I mo 27 = I (mo + 18) := rfl
theorem sm28 {I : Nat → Nat → Int32} {mo : Nat} : sM I mo 28 = I (mo + 19) := rfl
theorem sm29 {I : Nat → Nat → Int32} {mo : Nat} : sM I mo 29 = I (mo + 20) := rfl
theorem sm35 {I : Nat → Nat → Int32} {mo : Nat} : sM I mo 35 = I (mo + 21) := rfl
theorem sm36 {I : Nat → Nat → Int32} {mo : Nat} : sM I mo 36 = I (mo + 22) := rfl
theorem sm37 {I : Nat → Nat → Int32} {mo : Nat} : sM I mo 37 = I (mo + 23) := rfl
theorem sm38 {I : Nat → Nat → Int32} {mo : Nat} : sM I mo 38 = I (mo + 24) := rfl
theorem sm39 {I : Nat → Nat → Int32} {mo : Nat} : sM I mo 39 = I (mo + 25) := rfl
theorem sm40 {I : Nat → Nat → Int32} {mo : Nat} : sM I mo 40 = I (mo + 26) := rfl
theorem sm41 {I : Nat → Nat → Int32} {mo : Nat} : sM I mo 41 = I (mo + 27) := rfl
theorem sm42 {I : Nat → Nat → Int32} {mo : Nat} : sM I mo 42 = I (mo + 28) := rfl
theorem sm43 {I : Nat → Nat → Int32} {mo : Nat} : sM I mo 43 = I (mo + 29) := rfl
theorem sm44 {I : Nat → Nat → Int32} {mo : Nat} : sM I mo 44 = I (mo + 30) := rfl
theorem sm45 {I : Nat → Nat → Int32} {mo : Nat} : sM I mo 45 = I (mo + 31) := rfl
theorem sm47 {I : Nat → Nat → Int32} {mo : Nat} : sM I mo 47 = I (mo + 32) := rfl
theorem su0 {I : Nat → Nat → Int32} {mo : Nat} {v : Int32} : up2 (sM I mo) 0 0 v = sM (up2 I mo 0 v) mo := (sM_us (by unfold isSc; decide)).symm
theorem su1 {I : Nat → Nat → Int32} {mo : Nat} {v : Int32} : up2 (sM I mo) 1 0 v = sM (up2 I mo 1 v) mo := (sM_us (by unfold isSc; decide)).symm
theorem su2 {I : Nat → Nat → Int32} {mo : Nat} {v : Int32} : up2 (sM I mo) 2 0 v = sM (up2 I mo 2 v) mo := (sM_us (by unfold isSc; decide)).symm
theorem su3 {I : Nat → Nat → Int32} {mo : Nat} {v : Int32} : up2 (sM I mo) 3 0 v = sM (up2 I mo 3 v) mo := (sM_us (by unfold isSc; decide)).symm
theorem su4 {I : Nat → Nat → Int32} {mo : Nat} {v : Int32} : up2 (sM I mo) 4 0 v = sM (up2 I mo 4 v) mo := (sM_us (by unfold isSc; decide)).symm
theorem su5 {I : Nat → Nat → Int32} {mo : Nat} {v : Int32} : up2 (sM I mo) 5 0 v = sM (up2 I mo 5 v) mo := (sM_us (by unfold isSc; decide)).symm
theorem su6 {I : Nat → Nat → Int32} {mo : Nat} {v : Int32} : up2 (sM I mo) 6 0 v = sM (up2 I mo 6 v) mo := (sM_us (by unfold isSc; decide)).symm
theorem su7 {I : Nat → Nat → Int32} {mo : Nat} {v : Int32} : up2 (sM I mo) 7 0 v = sM (up2 I mo 7 v) mo := (sM_us (by unfold isSc; decide)).symm
theorem su8 {I : Nat → Nat → Int32} {mo : Nat} {v : Int32} : up2 (sM I mo) 8 0 v = sM (up2 I mo 8 v) mo := (sM_us (by unfold isSc; decide)).symm
theorem su9 {I : Nat → Nat → Int32} {mo : Nat} {v : Int32} : up2 (sM I mo) 9 0 v = sM (up2 I mo 9 v) mo := (sM_us (by unfold isSc; decide)).symm
theorem su30 {I : Nat → Nat → Int32} {mo : Nat} {v : Int32} : up2 (sM I mo) 30 0 v = sM (up2 I mo 30 v) mo := (sM_us (by unfold isSc; decide)).symm
theorem su31 {I : Nat → Nat → Int32} {mo : Nat} {v : Int32} : up2 (sM I mo) 31 0 v = sM (up2 I mo 31 v) mo := (sM_us (by unfold isSc; decide)).symm
theorem su32 {I : Nat → Nat → Int32} {mo : Nat} {v : Int32} : up2 (sM I mo) 32 0 v = sM (up2 I mo 32 v) mo := (sM_us (by unfold isSc; decide)).symm
theorem su33 {I : Nat → Nat → Int32} {mo : Nat} {v : Int32} : up2 (sM I mo) 33 0 v = sM (up2 I mo 33 v) mo := (sM_us (by unfold isSc; decide)).symm
theorem su34 {I : Nat → Nat → Int32} {mo : Nat} {v : Int32} : up2 (sM I mo) 34 0 v = sM (up2 I mo 34 v) mo := (sM_us (by unfold isSc; decide)).symm
theorem su46 {I : Nat → Nat → Int32} {mo : Nat} {v : Int32} : up2 (sM I mo) 46 0 v = sM (up2 I mo 46 v) mo := (sM_us (by unfold isSc; decide)).symm
theorem su48 {I : Nat → Nat → Int32} {mo : Nat} {v : Int32} : up2 (sM I mo) 48 0 v = sM (up2 I mo 48 v) mo := (sM_us (by unfold isSc; decide)).symm
theorem su49 {I : Nat → Nat → Int32} {mo : Nat} {v : Int32} : up2 (sM I mo) 49 0 v = sM (up2 I mo 49 v) mo := (sM_us (by unfold isSc; decide)).symm
theorem su10 {I : Nat → Nat → Int32} {mo i : Nat} {v : Int32} : up2 (sM I mo) 10 i v = sM (up2 I (mo + 1) i v) mo := (sM_ua (by unfold isAd; decide)).symm
theorem su11 {I : Nat → Nat → Int32} {mo i : Nat} {v : Int32} : up2 (sM I mo) 11 i v = sM (up2 I (mo + 2) i v) mo := (sM_ua (by unfold isAd; decide)).symm
theorem su12 {I : Nat → Nat → Int32} {mo i : Nat} {v : Int32} : up2 (sM I mo) 12 i v = sM (up2 I (mo + 3) i v) mo := (sM_ua (by unfold isAd; decide)).symm
theorem su13 {I : Nat → Nat → Int32} {mo i : Nat} {v : Int32} : up2 (sM I mo) 13 i v = sM (up2 I (mo + 4) i v) mo := (sM_ua (by unfold isAd; decide)).symm
theorem su14 {I : Nat → Nat → Int32} {mo i : Nat} {v : Int32} : up2 (sM I mo) 14 i v = sM (up2 I (mo + 5) i v) mo := (sM_ua (by unfold isAd; decide)).symm
theorem su15 {I : Nat → Nat → Int32} {mo i : Nat} {v : Int32} : up2 (sM I mo) 15 i v = sM (up2 I (mo + 6) i v) mo := (sM_ua (by unfold isAd; decide)).symm
theorem su16 {I : Nat → Nat → Int32} {mo i : Nat} {v : Int32} : up2 (sM I mo) 16 i v = sM (up2 I (mo + 7) i v) mo := (sM_ua (by unfold isAd; decide)).symm
theorem su17 {I : Nat → Nat → Int32} {mo i : Nat} {v : Int32} : up2 (sM I mo) 17 i v = sM (up2 I (mo + 8) i v) mo := (sM_ua (by unfold isAd; decide)).symm
theorem su18 {I : Nat → Nat → Int32} {mo i : Nat} {v : Int32} : up2 (sM I mo) 18 i v = sM (up2 I (mo + 9) i v) mo := (sM_ua (by unfold isAd; decide)).symm
theorem su19 {I : Nat → Nat → Int32} {mo i : Nat} {v : Int32} : up2 (sM I mo) 19 i v = sM (up2 I (mo + 10) i v) mo := (sM_ua (by unfold isAd; decide)).symm
theorem su20 {I : Nat → Nat → Int32} {mo i : Nat} {v : Int32} : up2 (sM I mo) 20 i v = sM (up2 I (mo + 11) i v) mo := (sM_ua (by unfold isAd; decide)).symm
theorem su21 {I : Nat → Nat → Int32} {mo i : Nat} {v : Int32} : up2 (sM I mo) 21 i v = sM (up2 I (mo + 12) i v) mo := (sM_ua (by unfold isAd; decide)).symm
theorem su22 {I : Nat → Nat → Int32} {mo i : Nat} {v : Int32} : up2 (sM I mo) 22 i v = sM (up2 I (mo + 13) i v) mo := (sM_ua (by unfold isAd; decide)).symm
theorem su23 {I : Nat → Nat → Int32} {mo i : Nat} {v : Int32} : up2 (sM I mo) 23 i v = sM (up2 I (mo + 14) i v) mo := (sM_ua (by unfold isAd; decide)).symm
theorem su24 {I : Nat → Nat → Int32} {mo i : Nat} {v : Int32} : up2 (sM I mo) 24 i v = sM (up2 I (mo + 15) i v) mo := (sM_ua (by unfold isAd; decide)).symm
theorem su25 {I : Nat → Nat → Int32} {mo i : Nat} {v : Int32} : up2 (sM I mo) 25 i v = sM (up2 I (mo + 16) i v) mo := (sM_ua (by unfold isAd; decide)).symm
theorem su26 {I : Nat → Nat → Int32} {mo i : Nat} {v : Int32} : up2 (sM I mo) 26 i v = sM (up2 I (mo + 17) i v) mo := (sM_ua (by unfold isAd; decide)).symm
theorem su27 {I : Nat → Nat → Int32} {mo i : Nat} {v : Int32} : up2 (sM I mo) 27 i v = sM (up2 I (mo + 18) i v) mo := (sM_ua (by unfold isAd; decide)).symm
theorem su28 {I : Nat → Nat → Int32} {mo i : Nat} {v : Int32} : up2 (sM I mo) 28 i v = sM (up2 I (mo + 19) i v) mo := (sM_ua (by unfold isAd; decide)).symm
theorem su29 {I : Nat → Nat → Int32} {mo i : Nat} {v : Int32} : up2 (sM I mo) 29 i v = sM (up2 I (mo + 20) i v) mo := (sM_ua (by unfold isAd; decide)).symm
theorem su35 {I : Nat → Nat → Int32} {mo i : Nat} {v : Int32} : up2 (sM I mo) 35 i v = sM (up2 I (mo + 21) i v) mo := (sM_ua (by unfold isAd; decide)).symm
theorem su36 {I : Nat → Nat → Int32} {mo i : Nat} {v : Int32} : up2 (sM I mo) 36 i v = sM (up2 I (mo + 22) i v) mo := (sM_ua (by unfold isAd; decide)).symm
theorem su37 {I : Nat → Nat → Int32} {mo i : Nat} {v : Int32} : up2 (sM I mo) 37 i v = sM (up2 I (mo + 23) i v) mo := (sM_ua (by unfold isAd; decide)).symm
theorem su38 {I : Nat → Nat → Int32} {mo i : Nat} {v : Int32} : up2 (sM I mo) 38 i v = sM (up2 I (mo + 24) i v) mo := (sM_ua (by unfold isAd; decide)).symm
theorem su39 {I : Nat → Nat → Int32} {mo i : Nat} {v : Int32} : up2 (sM I mo) 39 i v = sM (up2 I (mo + 25) i v) mo := (sM_ua (by unfold isAd; decide)).symm
theorem su40 {I : Nat → Nat → Int32} {mo i : Nat} {v : Int32} : up2 (sM I mo) 40 i v = sM (up2 I (mo + 26) i v) mo := (sM_ua (by unfold isAd; decide)).symm
theorem su41 {I : Nat → Nat → Int32} {mo i : Nat} {v : Int32} : up2 (sM I mo) 41 i v = sM (up2 I (mo + 27) i v) mo := (sM_ua (by unfold isAd; decide)).symm
theorem su42 {I : Nat → Nat → Int32} {mo i : Nat} {v : Int32} : up2 (sM I mo) 42 i v = sM (up2 I (mo + 28) i v) mo := (sM_ua (by unfold isAd; decide)).symm
theorem su43 {I : Nat → Nat → Int32} {mo i : Nat} {v : Int32} : up2 (sM I mo) 43 i v = sM (up2 I (mo + 29) i v) mo := (sM_ua (by unfold isAd; decide)).symm
theorem su44 {I : Nat → Nat → Int32} {mo i : Nat} {v : Int32} : up2 (sM I mo) 44 i v = sM (up2 I (mo + 30) i v) mo := (sM_ua (by unfold isAd; decide)).symm
theorem su45 {I : Nat → Nat → Int32} {mo i : Nat} {v : Int32} : up2 (sM I mo) 45 i v = sM (up2 I (mo + 31) i v) mo := (sM_ua (by unfold isAd; decide)).symm
theorem su47 {I : Nat → Nat → Int32} {mo i : Nat} {v : Int32} : up2 (sM I mo) 47 i v = sM (up2 I (mo + 32) i v) mo := (sM_ua (by unfold isAd; decide)).symm
theorem L17 {L : Nat → Nat → Int64} {mo i : Nat} {v : Int64} : up2 L (mo + 17) i v (mo + 17) = va_up (L (mo + 17)) i v := up2_self _ _ _ _
theorem ct_X5_things {M0 : PM} {mo : Nat} {I : Nat → Nat → Int32} {L : Nat → Nat → Int64} (hm : MR M0 mo) (x1 : Int32) (x2 : Int32) (x3 : Int32) (x4 : Int32) (hx : vp_in (I mo 0) 8) : Ct (YX5_things, (0, 0, 0, 0), qi (fun r M' => r = I mo 0 ∧ ∃ I', M' = wIL M0 I' L ∧ sM I' mo = thingsS (sM I mo) x1 x2 x3 x4 ∧ frM mo I I' L L), noX) [.ref mo, .int x1, .int x2, .int x3, .int x4] (wIL M0 I L) := by
  refine ct_of [some (.ref mo), some (.int x1), some (.int x2), some (.int x3), some (.int x4)] rfl rfl rfl (Nat.le_of_ble_eq_true rfl) rfl rfl ?_
  refine r_aload_n (pc := 0) dX5_things_0 rfl ?_
  refine r_getR (pc := 1) dX5_things_1 fl_X5_23_5 (MR_k hm) (fun _ _ => rfl) (MR_r11 hm) ?_
  refine r_aload_n (pc := 4) dX5_things_4 rfl ?_
  refine rm_getI (pc := 5) dX5_things_5 fl_X5_117_5 (MR_k hm) (fun _ _ => rfl) ?_
  refine r_iload_n (pc := 8) dX5_things_8 rfl ?_
  refine rm_iast (pc := 9) dX5_things_9 (MR_k11 hm) (MR_z11 hm) (by first | assumption | exact vp_in_lit rfl) ?_
  refine r_aload_n (pc := 10) dX5_things_10 rfl ?_
  refine r_getR (pc := 11) dX5_things_11 fl_X5_26_5 (MR_k hm) (fun _ _ => rfl) (MR_r12 hm) ?_
  refine r_aload_n (pc := 14) dX5_things_14 rfl ?_
  refine rm_getIe (pc := 15) (v := I mo 0) dX5_things_15 fl_X5_117_5 (MR_k hm) (fun _ _ => rfl) (by simp [up2_ne, up2_self, va_up]) ?_
  refine r_iload_n (pc := 18) dX5_things_18 rfl ?_
  refine rm_iast (pc := 19) dX5_things_19 (MR_k12 hm) (MR_z12 hm) (by first | assumption | exact vp_in_lit rfl) ?_
  refine r_aload_n (pc := 20) dX5_things_20 rfl ?_
  refine r_getR (pc := 21) dX5_things_21 fl_X5_29_5 (MR_k hm) (fun _ _ => rfl) (MR_r13 hm) ?_
  refine r_aload_n (pc := 24) dX5_things_24 rfl ?_
  refine rm_getIe (pc := 25) (v := I mo 0) dX5_things_25 fl_X5_117_5 (MR_k hm) (fun _ _ => rfl) (by simp [up2_ne, up2_self, va_up]) ?_
  refine r_iload_n (pc := 28) dX5_things_28 rfl ?_
  refine rm_iast (pc := 29) dX5_things_29 (MR_k13 hm) (MR_z13 hm) (by first | assumption | exact vp_in_lit rfl) ?_
  refine r_aload_n (pc := 30) dX5_things_30 rfl ?_
  refine r_getR (pc := 31) dX5_things_31 fl_X5_32_5 (MR_k hm) (fun _ _ => rfl) (MR_r14 hm) ?_
  refine r_aload_n (pc := 34) dX5_things_34 rfl ?_
  refine rm_getIe (pc := 35) (v := I mo 0) dX5_things_35 fl_X5_117_5 (MR_k hm) (fun _ _ => rfl) (by simp [up2_ne, up2_self, va_up]) ?_
  refine r_iload (pc := 38) dX5_things_38 rfl ?_
  refine rm_iast (pc := 40) dX5_things_40 (MR_k14 hm) (MR_z14 hm) (by first | assumption | exact vp_in_lit rfl) ?_
  refine r_aload_n (pc := 41) dX5_things_41 rfl ?_
  refine r_getR (pc := 42) dX5_things_42 fl_X5_35_5 (MR_k hm) (fun _ _ => rfl) (MR_r15 hm) ?_
  refine r_aload_n (pc := 45) dX5_things_45 rfl ?_
  refine rm_getIe (pc := 46) (v := I mo 0) dX5_things_46 fl_X5_117_5 (MR_k hm) (fun _ _ => rfl) (by simp [up2_ne, up2_self, va_up]) ?_
  refine r_iconst (pc := 49) (v := (-1)) dX5_things_49 (by decide) ?_
  refine rm_iast (pc := 50) dX5_things_50 (MR_k15 hm) (MR_z15 hm) (by first | assumption | exact vp_in_lit rfl) ?_
  refine r_aload_n (pc := 51) dX5_things_51 rfl ?_
  refine r_getR (pc := 52) dX5_things_52 fl_X5_38_5 (MR_k hm) (fun _ _ => rfl) (MR_r16 hm) ?_
  refine r_aload_n (pc := 55) dX5_things_55 rfl ?_
  refine rm_getIe (pc := 56) (v := I mo 0) dX5_things_56 fl_X5_117_5 (MR_k hm) (fun _ _ => rfl) (by simp [up2_ne, up2_self, va_up]) ?_
  refine r_iconst (pc := 59) (v := 0) dX5_things_59 (by decide) ?_
  refine rm_iast (pc := 60) dX5_things_60 (MR_k16 hm) (MR_z16 hm) (by first | assumption | exact vp_in_lit rfl) ?_
  refine r_aload_n (pc := 61) dX5_things_61 rfl ?_
  refine r_dup (pc := 62) dX5_things_62 rfl ?_
  refine rm_getIe (pc := 63) (v := I mo 0) dX5_things_63 fl_X5_117_5 (MR_k hm) (fun _ _ => rfl) (by simp [up2_ne, up2_self, va_up]) ?_
  refine r_dup_x1 (pc := 66) dX5_things_66 rfl rfl ?_
  refine r_iconst (pc := 67) (v := 1) dX5_things_67 (by decide) ?_
  refine r_iadd (pc := 68) dX5_things_68 ?_
  refine rm_putI (pc := 69) dX5_things_69 fl_X5_117_5 (MR_k hm) rfl rfl ?_
  refine r_ireturn (pc := 72) rfl dX5_things_72 ⟨_, rfl, ?_⟩
  refine ⟨rfl, _, rfl, ?_, (by repeat' (first | exact frM.rf | assumption | refine frM.up0 ?_ | refine frM.up ?_ (by decide) | refine frM.upL ?_ (by decide)))⟩
  simp only [thingsS, sm0, sm1, sm2, sm3, sm4, sm5, sm6, sm7, sm8, sm9, sm10, sm11, sm12, sm13, sm14, sm15, sm16, sm17, sm18, sm19, sm20, sm21, sm22, sm23, sm24, sm25, su0, su1, su2, su3, su4, su5, su6, su7, su8, su9, su10, su11, su12, su13, su14, su15, su16, su17, su18, su19, su20, su21, su22, su23, su24, su25]
theorem ct_X5_men {M0 : PM} {mo : Nat} {I : Nat → Nat → Int32} {L : Nat → Nat → Int64} (hm : MR M0 mo) (x1 : Int32) (hx : vp_in (I mo 1) 8) : Ct (YX5_men, (0, 0, 0, 0), qi (fun r M' => r = I mo 1 ∧ ∃ I', M' = wIL M0 I' L ∧ sM I' mo = menS (sM I mo) x1 ∧ frM mo I I' L L), noX) [.ref mo, .int x1] (wIL M0 I L) := by
  refine ct_of [some (.ref mo), some (.int x1)] rfl rfl rfl (Nat.le_of_ble_eq_true rfl) rfl rfl ?_
  refine r_aload_n (pc := 0) dX5_men_0 rfl ?_
  refine r_getR (pc := 1) dX5_men_1 fl_X5_41_5 (MR_k hm) (fun _ _ => rfl) (MR_r17 hm) ?_
  refine r_aload_n (pc := 4) dX5_men_4 rfl ?_
  refine rm_getI (pc := 5) dX5_men_5 fl_X5_120_5 (MR_k hm) (fun _ _ => rfl) ?_
  refine r_iload_n (pc := 8) dX5_men_8 rfl ?_
  refine rm_iast (pc := 9) dX5_men_9 (MR_k17 hm) (MR_z17 hm) (by first | assumption | exact vp_in_lit rfl) ?_
  refine r_aload_n (pc := 10) dX5_men_10 rfl ?_
  refine r_getR (pc := 11) dX5_men_11 fl_X5_44_5 (MR_k hm) (fun _ _ => rfl) (MR_r18 hm) ?_
  refine r_aload_n (pc := 14) dX5_men_14 rfl ?_
  refine rm_getIe (pc := 15) (v := I mo 1) dX5_men_15 fl_X5_120_5 (MR_k hm) (fun _ _ => rfl) (by simp [up2_ne, up2_self, va_up]) ?_
  refine r_iconst (pc := 18) (v := 0) dX5_men_18 (by decide) ?_
  refine rm_iast (pc := 19) dX5_men_19 (MR_k18 hm) (MR_z18 hm) (by first | assumption | exact vp_in_lit rfl) ?_
  refine r_aload_n (pc := 20) dX5_men_20 rfl ?_
  refine r_dup (pc := 21) dX5_men_21 rfl ?_
  refine rm_getIe (pc := 22) (v := I mo 1) dX5_men_22 fl_X5_120_5 (MR_k hm) (fun _ _ => rfl) (by simp [up2_ne, up2_self, va_up]) ?_
  refine r_dup_x1 (pc := 25) dX5_men_25 rfl rfl ?_
  refine r_iconst (pc := 26) (v := 1) dX5_men_26 (by decide) ?_
  refine r_iadd (pc := 27) dX5_men_27 ?_
  refine rm_putI (pc := 28) dX5_men_28 fl_X5_120_5 (MR_k hm) rfl rfl ?_
  refine r_ireturn (pc := 31) rfl dX5_men_31 ⟨_, rfl, ?_⟩
  refine ⟨rfl, _, rfl, ?_, (by repeat' (first | exact frM.rf | assumption | refine frM.up0 ?_ | refine frM.up ?_ (by decide) | refine frM.upL ?_ (by decide)))⟩
  simp only [menS, sm0, sm1, sm2, sm3, sm4, sm5, sm6, sm7, sm8, sm9, sm10, sm11, sm12, sm13, sm14, sm15, sm16, sm17, sm18, sm19, sm20, sm21, sm22, sm23, sm24, sm25, su0, su1, su2, su3, su4, su5, su6, su7, su8, su9, su10, su11, su12, su13, su14, su15, su16, su17, su18, su19, su20, su21, su22, su23, su24, su25]
theorem ct_X5_wanted {M0 : PM} {mo : Nat} {I : Nat → Nat → Int32} {L : Nat → Nat → Int64} (hm : MR M0 mo) (x1 : Int32) (x2 : Int32) (x3 : Int32) (hx : vp_in (I mo 2) 4) : Ct (YX5_wanted, (0, 0, 0, 0), qi (fun r M' => r = I mo 2 ∧ ∃ I', M' = wIL M0 I' L ∧ sM I' mo = wantedS (sM I mo) x1 x2 x3 ∧ frM mo I I' L L), noX) [.ref mo, .int x1, .int x2, .int x3] (wIL M0 I L) := by
  refine ct_of [some (.ref mo), some (.int x1), some (.int x2), some (.int x3)] rfl rfl rfl (Nat.le_of_ble_eq_true rfl) rfl rfl ?_
  refine r_aload_n (pc := 0) dX5_wanted_0 rfl ?_
  refine r_getR (pc := 1) dX5_wanted_1 fl_X5_47_5 (MR_k hm) (fun _ _ => rfl) (MR_r19 hm) ?_
  refine r_aload_n (pc := 4) dX5_wanted_4 rfl ?_
  refine rm_getI (pc := 5) dX5_wanted_5 fl_X5_162_5 (MR_k hm) (fun _ _ => rfl) ?_
  refine r_iload_n (pc := 8) dX5_wanted_8 rfl ?_
  refine rm_iast (pc := 9) dX5_wanted_9 (MR_k19 hm) (MR_z19 hm) (by first | assumption | exact vp_in_lit rfl) ?_
  refine r_aload_n (pc := 10) dX5_wanted_10 rfl ?_
  refine r_getR (pc := 11) dX5_wanted_11 fl_X5_50_5 (MR_k hm) (fun _ _ => rfl) (MR_r20 hm) ?_
  refine r_aload_n (pc := 14) dX5_wanted_14 rfl ?_
  refine rm_getIe (pc := 15) (v := I mo 2) dX5_wanted_15 fl_X5_162_5 (MR_k hm) (fun _ _ => rfl) (by simp [up2_ne, up2_self, va_up]) ?_
  refine r_iload_n (pc := 18) dX5_wanted_18 rfl ?_
  refine rm_iast (pc := 19) dX5_wanted_19 (MR_k20 hm) (MR_z20 hm) (by first | assumption | exact vp_in_lit rfl) ?_
  refine r_aload_n (pc := 20) dX5_wanted_20 rfl ?_
  refine r_getR (pc := 21) dX5_wanted_21 fl_X5_53_5 (MR_k hm) (fun _ _ => rfl) (MR_r21 hm) ?_
  refine r_aload_n (pc := 24) dX5_wanted_24 rfl ?_
  refine rm_getIe (pc := 25) (v := I mo 2) dX5_wanted_25 fl_X5_162_5 (MR_k hm) (fun _ _ => rfl) (by simp [up2_ne, up2_self, va_up]) ?_
  refine r_iload_n (pc := 28) dX5_wanted_28 rfl ?_
  refine rm_iast (pc := 29) dX5_wanted_29 (MR_k21 hm) (MR_z21 hm) (by first | assumption | exact vp_in_lit rfl) ?_
  refine r_aload_n (pc := 30) dX5_wanted_30 rfl ?_
  refine r_dup (pc := 31) dX5_wanted_31 rfl ?_
  refine rm_getIe (pc := 32) (v := I mo 2) dX5_wanted_32 fl_X5_162_5 (MR_k hm) (fun _ _ => rfl) (by simp [up2_ne, up2_self, va_up]) ?_
  refine r_dup_x1 (pc := 35) dX5_wanted_35 rfl rfl ?_
  refine r_iconst (pc := 36) (v := 1) dX5_wanted_36 (by decide) ?_
  refine r_iadd (pc := 37) dX5_wanted_37 ?_
  refine rm_putI (pc := 38) dX5_wanted_38 fl_X5_162_5 (MR_k hm) rfl rfl ?_
  refine r_ireturn (pc := 41) rfl dX5_wanted_41 ⟨_, rfl, ?_⟩
  refine ⟨rfl, _, rfl, ?_, (by repeat' (first | exact frM.rf | assumption | refine frM.up0 ?_ | refine frM.up ?_ (by decide) | refine frM.upL ?_ (by decide)))⟩
  simp only [wantedS, sm0, sm1, sm2, sm3, sm4, sm5, sm6, sm7, sm8, sm9, sm10, sm11, sm12, sm13, sm14, sm15, sm16, sm17, sm18, sm19, sm20, sm21, sm22, sm23, sm24, sm25, su0, su1, su2, su3, su4, su5, su6, su7, su8, su9, su10, su11, su12, su13, su14, su15, su16, su17, su18, su19, su20, su21, su22, su23, su24, su25]
theorem ct_X5_show {M0 : PM} {mo : Nat} {I : Nat → Nat → Int32} {L : Nat → Nat → Int64} (hm : MR M0 mo) (x1 : Int32) (x2 : Int32) (hk : OkS (sM I mo)) : Ct (YX5_show, (1, 21, 0, 0), qi (fun r M' => oM M0 mo I L (showS (sS I L mo) x1 x2) r M'), noX) [.ref mo, .int x1, .int x2] (wIL M0 I L) := by
  refine ct_of [some (.ref mo), some (.int x1), some (.int x2)] rfl rfl rfl (Nat.le_of_ble_eq_true rfl) rfl rfl ?_
  refine r_aload_n (pc := 0) dX5_show_0 rfl ?_
  refine r_iload_n (pc := 1) dX5_show_1 rfl ?_
  refine r_o2 (pc := 2) (bc' := 0) (bs' := 0) (ct_X5_isShelf hm _) k_X5_133_5 dX5_show_2 (MR_k hm) (Nat.le_of_ble_eq_true rfl) ⟨Nat.le_of_ble_eq_true rfl, Nat.le_of_ble_eq_true rfl⟩ ⟨Nat.le_of_ble_eq_true rfl, Nat.le_of_ble_eq_true rfl⟩ (r_ci fun r2 M2 p2 => ?_) nox
  obtain ⟨rfl, rfl⟩ := p2
  refine r_if_eq (pc := 5) 21 dX5_show_5 rfl (fun h5 => ?_) (fun h5 => ?_)
  · rw [bI_eq0] at h5
    refine r_aload_n (pc := 21) dX5_show_21 rfl ?_
    refine r_iconst (pc := 22) (v := (-1)) dX5_show_22 (by decide) ?_
    refine r_o2 (pc := 23) (bc' := 0) (bs' := 0) (ct_X5_no hm _ (vp_in_lit rfl)) k_X5_136_5 dX5_show_23 (MR_k hm) (Nat.le_of_ble_eq_true rfl) ⟨Nat.le_of_ble_eq_true rfl, Nat.le_of_ble_eq_true rfl⟩ ⟨Nat.le_of_ble_eq_true rfl, Nat.le_of_ble_eq_true rfl⟩ (r_ci fun r23 M23 p23 => ?_) nox
    obtain ⟨rfl, rfl⟩ := p23
    refine r_ireturn (pc := 26) rfl dX5_show_26 ⟨_, rfl, ?_⟩
    first
      | contradiction
      | (refine oM.of ?_ (by repeat' (first | exact frM.rf | assumption | refine frM.up0 ?_ | refine frM.up ?_ (by decide) | refine frM.upL ?_ (by decide)))
         simp (decide := true) only [showS, noS, noTenS, thP, mnP, shelfP, stepS, eq_false h5, not_true_eq_false, not_false_eq_true, true_and, and_true, false_and, and_false, true_or, or_true, false_or, or_false, cI_True, cI_False, if_true, if_false, sm0, sm1, sm2, sm3, sm4, sm5, sm6, sm7, sm8, sm9, sm10, sm11, sm12, sm13, sm14, sm15, sm16, sm17, sm18, sm19, sm20, sm21, sm22, sm23, sm24, sm25, su0, su1, su2, su3, su4, su5, su6, su7, su8, su9, su10, su11, su12, su13, su14, su15, su16, su17, su18, su19, su20, su21, su22, su23, su24, su25])
  · rw [bI_ne0] at h5
    have hx := vp_sh h5
    refine r_iload_n (pc := 8) dX5_show_8 rfl ?_
    refine r_iconst (pc := 9) (v := (-1)) dX5_show_9 (by decide) ?_
    refine r_icmp_eq (pc := 10) 27 dX5_show_10 rfl (fun h10 => ?_) (fun h10 => ?_)
    · subst h10
      refine r_aload_n (pc := 27) dX5_show_27 rfl ?_
      refine r_getR (pc := 28) dX5_show_28 fl_X5_56_5 (MR_k hm) (fun _ _ => rfl) (MR_r22 hm) ?_
      refine r_iload_n (pc := 31) dX5_show_31 rfl ?_
      refine r_iload_n (pc := 32) dX5_show_32 rfl ?_
      refine r_iconst (pc := 33) (v := (-1)) dX5_show_33 (by decide) ?_
      refine r_icmp_ne (pc := 34) 41 dX5_show_34 rfl (fun hno => absurd hno (by decide)) (fun _ => ?_)
      refine r_iconst (pc := 37) (v := 0) dX5_show_37 (by decide) ?_
      refine r_goto (pc := 38) 42 dX5_show_38 rfl ?_
      refine rm_iast (pc := 42) dX5_show_42 (MR_k22 hm) (MR_z22 hm) (by first | assumption | exact vp_in_lit rfl) ?_
      refine r_aload_n (pc := 43) dX5_show_43 rfl ?_
      refine r_getR (pc := 44) dX5_show_44 fl_X5_65_5 (MR_k hm) (fun _ _ => rfl) (MR_r25 hm) ?_
      refine r_iload_n (pc := 47) dX5_show_47 rfl ?_
      refine r_iload_n (pc := 48) dX5_show_48 rfl ?_
      refine rm_iast (pc := 49) dX5_show_49 (MR_k25 hm) (MR_z25 hm) (by first | assumption | exact vp_in_lit rfl) ?_
      refine r_iload_n (pc := 50) dX5_show_50 rfl ?_
      refine r_iconst (pc := 51) (v := (-1)) dX5_show_51 (by decide) ?_
      refine r_icmp_ne (pc := 52) 59 dX5_show_52 rfl (fun hno => absurd hno (by decide)) (fun _ => ?_)
      refine r_iconst (pc := 55) (v := 0) dX5_show_55 (by decide) ?_
      refine r_goto (pc := 56) 60 dX5_show_56 rfl ?_
      refine r_ireturn (pc := 60) rfl dX5_show_60 ⟨_, rfl, ?_⟩
      first
        | contradiction
        | (refine oM.of ?_ (by repeat' (first | exact frM.rf | assumption | refine frM.up0 ?_ | refine frM.up ?_ (by decide) | refine frM.upL ?_ (by decide)))
           simp (decide := true) only [showS, noS, noTenS, thP, mnP, shelfP, stepS, eq_true h5, not_true_eq_false, not_false_eq_true, true_and, and_true, false_and, and_false, true_or, or_true, false_or, or_false, cI_True, cI_False, if_true, if_false, sm0, sm1, sm2, sm3, sm4, sm5, sm6, sm7, sm8, sm9, sm10, sm11, sm12, sm13, sm14, sm15, sm16, sm17, sm18, sm19, sm20, sm21, sm22, sm23, sm24, sm25, su0, su1, su2, su3, su4, su5, su6, su7, su8, su9, su10, su11, su12, su13, su14, su15, su16, su17, su18, su19, su20, su21, su22, su23, su24, su25])
    · refine r_aload_n (pc := 13) dX5_show_13 rfl ?_
      refine r_iload_n (pc := 14) dX5_show_14 rfl ?_
      refine r_o2 (pc := 15) (bc' := 0) (bs' := 0) (ct_X5_isThing hm _) k_X5_140_5 dX5_show_15 (MR_k hm) (Nat.le_of_ble_eq_true rfl) ⟨Nat.le_of_ble_eq_true rfl, Nat.le_of_ble_eq_true rfl⟩ ⟨Nat.le_of_ble_eq_true rfl, Nat.le_of_ble_eq_true rfl⟩ (r_ci fun r15 M15 p15 => ?_) nox
      obtain ⟨rfl, rfl⟩ := p15
      refine r_if_ne (pc := 18) 27 dX5_show_18 rfl (fun h18 => ?_) (fun h18 => ?_)
      · rw [bI_ne0] at h18
        refine r_aload_n (pc := 27) dX5_show_27 rfl ?_
        refine r_getR (pc := 28) dX5_show_28 fl_X5_56_5 (MR_k hm) (fun _ _ => rfl) (MR_r22 hm) ?_
        refine r_iload_n (pc := 31) dX5_show_31 rfl ?_
        refine r_iload_n (pc := 32) dX5_show_32 rfl ?_
        refine r_iconst (pc := 33) (v := (-1)) dX5_show_33 (by decide) ?_
        refine r_icmp_ne (pc := 34) 41 dX5_show_34 rfl (fun h34 => ?_) (fun h34 => ?_)
        · refine r_iconst (pc := 41) (v := 2) dX5_show_41 (by decide) ?_
          refine rm_iast (pc := 42) dX5_show_42 (MR_k22 hm) (MR_z22 hm) (by first | assumption | exact vp_in_lit rfl) ?_
          refine r_aload_n (pc := 43) dX5_show_43 rfl ?_
          refine r_getR (pc := 44) dX5_show_44 fl_X5_65_5 (MR_k hm) (fun _ _ => rfl) (MR_r25 hm) ?_
          refine r_iload_n (pc := 47) dX5_show_47 rfl ?_
          refine r_iload_n (pc := 48) dX5_show_48 rfl ?_
          refine rm_iast (pc := 49) dX5_show_49 (MR_k25 hm) (MR_z25 hm) (by first | assumption | exact vp_in_lit rfl) ?_
          refine r_iload_n (pc := 50) dX5_show_50 rfl ?_
          refine r_iconst (pc := 51) (v := (-1)) dX5_show_51 (by decide) ?_
          refine r_icmp_ne (pc := 52) 59 dX5_show_52 rfl (fun h52 => ?_) (fun h52 => ?_)
          · refine r_iconst (pc := 59) (v := 1) dX5_show_59 (by decide) ?_
            refine r_ireturn (pc := 60) rfl dX5_show_60 ⟨_, rfl, ?_⟩
            first
              | contradiction
              | (refine oM.of ?_ (by repeat' (first | exact frM.rf | assumption | refine frM.up0 ?_ | refine frM.up ?_ (by decide) | refine frM.upL ?_ (by decide)))
                 simp (decide := true) only [showS, noS, noTenS, thP, mnP, shelfP, stepS, eq_true h5, h10, eq_true h18, h34, h52, not_true_eq_false, not_false_eq_true, true_and, and_true, false_and, and_false, true_or, or_true, false_or, or_false, cI_True, cI_False, if_true, if_false, sm0, sm1, sm2, sm3, sm4, sm5, sm6, sm7, sm8, sm9, sm10, sm11, sm12, sm13, sm14, sm15, sm16, sm17, sm18, sm19, sm20, sm21, sm22, sm23, sm24, sm25, su0, su1, su2, su3, su4, su5, su6, su7, su8, su9, su10, su11, su12, su13, su14, su15, su16, su17, su18, su19, su20, su21, su22, su23, su24, su25])
          · subst h52
            refine r_iconst (pc := 55) (v := 0) dX5_show_55 (by decide) ?_
            refine r_goto (pc := 56) 60 dX5_show_56 rfl ?_
            refine r_ireturn (pc := 60) rfl dX5_show_60 ⟨_, rfl, ?_⟩
            first
              | contradiction
              | (refine oM.of ?_ (by repeat' (first | exact frM.rf | assumption | refine frM.up0 ?_ | refine frM.up ?_ (by decide) | refine frM.upL ?_ (by decide)))
                 simp (decide := true) only [showS, noS, noTenS, thP, mnP, shelfP, stepS, eq_true h5, h10, eq_true h18, h34, not_true_eq_false, not_false_eq_true, true_and, and_true, false_and, and_false, true_or, or_true, false_or, or_false, cI_True, cI_False, if_true, if_false, sm0, sm1, sm2, sm3, sm4, sm5, sm6, sm7, sm8, sm9, sm10, sm11, sm12, sm13, sm14, sm15, sm16, sm17, sm18, sm19, sm20, sm21, sm22, sm23, sm24, sm25, su0, su1, su2, su3, su4, su5, su6, su7, su8, su9, su10, su11, su12, su13, su14, su15, su16, su17, su18, su19, su20, su21, su22, su23, su24, su25])
        · subst h34
          refine r_iconst (pc := 37) (v := 0) dX5_show_37 (by decide) ?_
          refine r_goto (pc := 38) 42 dX5_show_38 rfl ?_
          refine rm_iast (pc := 42) dX5_show_42 (MR_k22 hm) (MR_z22 hm) (by first | assumption | exact vp_in_lit rfl) ?_
          refine r_aload_n (pc := 43) dX5_show_43 rfl ?_
          refine r_getR (pc := 44) dX5_show_44 fl_X5_65_5 (MR_k hm) (fun _ _ => rfl) (MR_r25 hm) ?_
          refine r_iload_n (pc := 47) dX5_show_47 rfl ?_
          refine r_iload_n (pc := 48) dX5_show_48 rfl ?_
          refine rm_iast (pc := 49) dX5_show_49 (MR_k25 hm) (MR_z25 hm) (by first | assumption | exact vp_in_lit rfl) ?_
          refine r_iload_n (pc := 50) dX5_show_50 rfl ?_
          refine r_iconst (pc := 51) (v := (-1)) dX5_show_51 (by decide) ?_
          refine r_icmp_ne (pc := 52) 59 dX5_show_52 rfl (fun hno => absurd hno (by decide)) (fun _ => ?_)
          refine r_iconst (pc := 55) (v := 0) dX5_show_55 (by decide) ?_
          refine r_goto (pc := 56) 60 dX5_show_56 rfl ?_
          refine r_ireturn (pc := 60) rfl dX5_show_60 ⟨_, rfl, ?_⟩
          first
            | contradiction
            | (refine oM.of ?_ (by repeat' (first | exact frM.rf | assumption | refine frM.up0 ?_ | refine frM.up ?_ (by decide) | refine frM.upL ?_ (by decide)))
               simp (decide := true) only [showS, noS, noTenS, thP, mnP, shelfP, stepS, eq_true h5, h10, eq_true h18, not_true_eq_false, not_false_eq_true, true_and, and_true, false_and, and_false, true_or, or_true, false_or, or_false, cI_True, cI_False, if_true, if_false, sm0, sm1, sm2, sm3, sm4, sm5, sm6, sm7, sm8, sm9, sm10, sm11, sm12, sm13, sm14, sm15, sm16, sm17, sm18, sm19, sm20, sm21, sm22, sm23, sm24, sm25, su0, su1, su2, su3, su4, su5, su6, su7, su8, su9, su10, su11, su12, su13, su14, su15, su16, su17, su18, su19, su20, su21, su22, su23, su24, su25])
      · rw [bI_eq0] at h18
        refine r_aload_n (pc := 21) dX5_show_21 rfl ?_
        refine r_iconst (pc := 22) (v := (-1)) dX5_show_22 (by decide) ?_
        refine r_o2 (pc := 23) (bc' := 0) (bs' := 0) (ct_X5_no hm _ (vp_in_lit rfl)) k_X5_136_5 dX5_show_23 (MR_k hm) (Nat.le_of_ble_eq_true rfl) ⟨Nat.le_of_ble_eq_true rfl, Nat.le_of_ble_eq_true rfl⟩ ⟨Nat.le_of_ble_eq_true rfl, Nat.le_of_ble_eq_true rfl⟩ (r_ci fun r23 M23 p23 => ?_) nox
        obtain ⟨rfl, rfl⟩ := p23
        refine r_ireturn (pc := 26) rfl dX5_show_26 ⟨_, rfl, ?_⟩
        first
          | contradiction
          | (refine oM.of ?_ (by repeat' (first | exact frM.rf | assumption | refine frM.up0 ?_ | refine frM.up ?_ (by decide) | refine frM.upL ?_ (by decide)))
             simp (decide := true) only [showS, noS, noTenS, thP, mnP, shelfP, stepS, eq_true h5, h10, eq_false h18, not_true_eq_false, not_false_eq_true, true_and, and_true, false_and, and_false, true_or, or_true, false_or, or_false, cI_True, cI_False, if_true, if_false, sm0, sm1, sm2, sm3, sm4, sm5, sm6, sm7, sm8, sm9, sm10, sm11, sm12, sm13, sm14, sm15, sm16, sm17, sm18, sm19, sm20, sm21, sm22, sm23, sm24, sm25, su0, su1, su2, su3, su4, su5, su6, su7, su8, su9, su10, su11, su12, su13, su14, su15, su16, su17, su18, su19, su20, su21, su22, su23, su24, su25])
theorem ct_X5_holds {M0 : PM} {mo : Nat} {I : Nat → Nat → Int32} {L : Nat → Nat → Int64} (hm : MR M0 mo) (x1 : Int32) (hk : OkS (sM I mo)) : Ct (YX5_holds, (1, 21, 0, 0), qi (fun r M' => r = holdsS (sS I L mo) x1 ∧ M' = wIL M0 I L), noX) [.ref mo, .int x1] (wIL M0 I L) := by
  refine ct_of [some (.ref mo), some (.int x1)] rfl rfl rfl (Nat.le_of_ble_eq_true rfl) rfl rfl ?_
  refine r_aload_n (pc := 0) dX5_holds_0 rfl ?_
  refine r_iload_n (pc := 1) dX5_holds_1 rfl ?_
  refine r_o2 (pc := 2) (bc' := 0) (bs' := 0) (ct_X5_isShelf hm _) k_X5_133_5 dX5_holds_2 (MR_k hm) (Nat.le_of_ble_eq_true rfl) ⟨Nat.le_of_ble_eq_true rfl, Nat.le_of_ble_eq_true rfl⟩ ⟨Nat.le_of_ble_eq_true rfl, Nat.le_of_ble_eq_true rfl⟩ (r_ci fun r2 M2 p2 => ?_) nox
  obtain ⟨rfl, rfl⟩ := p2
  refine r_if_eq (pc := 5) 17 dX5_holds_5 rfl (fun h5 => ?_) (fun h5 => ?_)
  · rw [bI_eq0] at h5
    refine r_iconst (pc := 17) (v := (-1)) dX5_holds_17 (by decide) ?_
    refine r_ireturn (pc := 18) rfl dX5_holds_18 ⟨_, rfl, ?_⟩
    first
      | contradiction
      | (refine ⟨?_, rfl⟩
         simp (decide := true) only [holdsS, thP, mnP, shelfP, eq_false h5, not_true_eq_false, not_false_eq_true, true_and, and_true, false_and, and_false, true_or, or_true, false_or, or_false, cI_True, cI_False, if_true, if_false, sm0, sm1, sm2, sm3, sm4, sm5, sm6, sm7, sm8, sm9, sm10, sm11, sm12, sm13, sm14, sm15, sm16, sm17, sm18, sm19, sm20, sm21, sm22, sm23, sm24, sm25])
  · rw [bI_ne0] at h5
    have hx := vp_sh h5
    refine r_aload_n (pc := 8) dX5_holds_8 rfl ?_
    refine r_getR (pc := 9) dX5_holds_9 fl_X5_56_5 (MR_k hm) (fun _ _ => rfl) (MR_r22 hm) ?_
    refine r_iload_n (pc := 12) dX5_holds_12 rfl ?_
    refine rm_iald (pc := 13) dX5_holds_13 (MR_k22 hm) (MR_z22 hm) (by first | assumption | exact vp_in_lit rfl) ?_
    refine r_if_ne (pc := 14) 19 dX5_holds_14 rfl (fun h14 => ?_) (fun h14 => ?_)
    · refine r_aload_n (pc := 19) dX5_holds_19 rfl ?_
      refine r_getR (pc := 20) dX5_holds_20 fl_X5_56_5 (MR_k hm) (fun _ _ => rfl) (MR_r22 hm) ?_
      refine r_iload_n (pc := 23) dX5_holds_23 rfl ?_
      refine rm_iald (pc := 24) dX5_holds_24 (MR_k22 hm) (MR_z22 hm) (by first | assumption | exact vp_in_lit rfl) ?_
      refine r_iconst (pc := 25) (v := 1) dX5_holds_25 (by decide) ?_
      refine r_icmp_ne (pc := 26) 41 dX5_holds_26 rfl (fun h26 => ?_) (fun h26 => ?_)
      · refine r_aload_n (pc := 41) dX5_holds_41 rfl ?_
        refine r_getR (pc := 42) dX5_holds_42 fl_X5_65_5 (MR_k hm) (fun _ _ => rfl) (MR_r25 hm) ?_
        refine r_iload_n (pc := 45) dX5_holds_45 rfl ?_
        refine rm_iald (pc := 46) dX5_holds_46 (MR_k25 hm) (MR_z25 hm) (by first | assumption | exact vp_in_lit rfl) ?_
        refine r_ireturn (pc := 47) rfl dX5_holds_47 ⟨_, rfl, ?_⟩
        first
          | contradiction
          | (refine ⟨?_, rfl⟩
             simp (decide := true) only [holdsS, thP, mnP, shelfP, eq_true h5, h14, h26, not_true_eq_false, not_false_eq_true, true_and, and_true, false_and, and_false, true_or, or_true, false_or, or_false, cI_True, cI_False, if_true, if_false, sm0, sm1, sm2, sm3, sm4, sm5, sm6, sm7, sm8, sm9, sm10, sm11, sm12, sm13, sm14, sm15, sm16, sm17, sm18, sm19, sm20, sm21, sm22, sm23, sm24, sm25])
      · refine r_bipush (pc := 29) (v := 100) dX5_holds_29 (by decide) ?_
        refine r_aload_n (pc := 31) dX5_holds_31 rfl ?_
        refine r_getR (pc := 32) dX5_holds_32 fl_X5_59_5 (MR_k hm) (fun _ _ => rfl) (MR_r23 hm) ?_
        refine r_iload_n (pc := 35) dX5_holds_35 rfl ?_
        refine rm_iald (pc := 36) dX5_holds_36 (MR_k23 hm) (MR_z23 hm) (by first | assumption | exact vp_in_lit rfl) ?_
        refine r_iadd (pc := 37) dX5_holds_37 ?_
        refine r_goto (pc := 38) 47 dX5_holds_38 rfl ?_
        refine r_ireturn (pc := 47) rfl dX5_holds_47 ⟨_, rfl, ?_⟩
        first
          | contradiction
          | (refine ⟨?_, rfl⟩
             simp (decide := true) only [holdsS, thP, mnP, shelfP, eq_true h5, h14, h26, not_true_eq_false, not_false_eq_true, true_and, and_true, false_and, and_false, true_or, or_true, false_or, or_false, cI_True, cI_False, if_true, if_false, sm0, sm1, sm2, sm3, sm4, sm5, sm6, sm7, sm8, sm9, sm10, sm11, sm12, sm13, sm14, sm15, sm16, sm17, sm18, sm19, sm20, sm21, sm22, sm23, sm24, sm25])
    · refine r_iconst (pc := 17) (v := (-1)) dX5_holds_17 (by decide) ?_
      refine r_ireturn (pc := 18) rfl dX5_holds_18 ⟨_, rfl, ?_⟩
      first
        | contradiction
        | (refine ⟨?_, rfl⟩
           simp (decide := true) only [holdsS, thP, mnP, shelfP, eq_true h5, h14, not_true_eq_false, not_false_eq_true, true_and, and_true, false_and, and_false, true_or, or_true, false_or, or_false, cI_True, cI_False, if_true, if_false, sm0, sm1, sm2, sm3, sm4, sm5, sm6, sm7, sm8, sm9, sm10, sm11, sm12, sm13, sm14, sm15, sm16, sm17, sm18, sm19, sm20, sm21, sm22, sm23, sm24, sm25])
theorem ct_X5_thing {M0 : PM} {mo : Nat} {I : Nat → Nat → Int32} {L : Nat → Nat → Int64} (hm : MR M0 mo) (x1 : Int32) (x2 : Int32) (x3 : Int32) (x4 : Int32) (hk : OkS (sM I mo)) : Ct (YX5_thing, (2, 42, 0, 0), qi (fun r M' => oM M0 mo I L (thingS (sS I L mo) x1 x2 x3 x4) r M'), noX) [.ref mo, .int x1, .int x2, .int x3, .int x4] (wIL M0 I L) := by
  refine ct_of [some (.ref mo), some (.int x1), some (.int x2), some (.int x3), some (.int x4)] rfl rfl rfl (Nat.le_of_ble_eq_true rfl) rfl rfl ?_
  refine r_iload_n (pc := 0) dX5_thing_0 rfl ?_
  refine r_if_lt (pc := 1) 10 dX5_thing_1 rfl (fun h1 => ?_) (fun h1 => ?_)
  · refine r_aload_n (pc := 10) dX5_thing_10 rfl ?_
    refine r_iconst (pc := 11) (v := (-1)) dX5_thing_11 (by decide) ?_
    refine r_o2 (pc := 12) (bc' := 0) (bs' := 0) (ct_X5_no hm _ (vp_in_lit rfl)) k_X5_136_5 dX5_thing_12 (MR_k hm) (Nat.le_of_ble_eq_true rfl) ⟨Nat.le_of_ble_eq_true rfl, Nat.le_of_ble_eq_true rfl⟩ ⟨Nat.le_of_ble_eq_true rfl, Nat.le_of_ble_eq_true rfl⟩ (r_ci fun r12 M12 p12 => ?_) nox
    obtain ⟨rfl, rfl⟩ := p12
    refine r_ireturn (pc := 15) rfl dX5_thing_15 ⟨_, rfl, ?_⟩
    first
      | contradiction
      | (refine oM.of ?_ (by repeat' (first | exact frM.rf | assumption | refine frM.up0 ?_ | refine frM.up ?_ (by decide) | refine frM.upL ?_ (by decide)))
         simp (decide := true) only [thingS, noS, noTenS, thP, mnP, shelfP, stepS, h1, not_true_eq_false, not_false_eq_true, true_and, and_true, false_and, and_false, true_or, or_true, false_or, or_false, cI_True, cI_False, if_true, if_false, sm0, sm1, sm2, sm3, sm4, sm5, sm6, sm7, sm8, sm9, sm10, sm11, sm12, sm13, sm14, sm15, sm16, sm17, sm18, sm19, sm20, sm21, sm22, sm23, sm24, sm25, su0, su1, su2, su3, su4, su5, su6, su7, su8, su9, su10, su11, su12, su13, su14, su15, su16, su17, su18, su19, su20, su21, su22, su23, su24, su25]; done)
      | (refine oM.of ?_ (by repeat' (first | exact frM.rf | assumption | refine frM.up0 ?_ | refine frM.up ?_ (by decide) | refine frM.upL ?_ (by decide)))
         simp (decide := true) only [thingS, noS, noTenS, thP, mnP, shelfP, stepS, h1, not_true_eq_false, not_false_eq_true, true_and, and_true, false_and, and_false, true_or, or_true, false_or, or_false, cI_True, cI_False, if_true, if_false, sm0, sm1, sm2, sm3, sm4, sm5, sm6, sm7, sm8, sm9, sm10, sm11, sm12, sm13, sm14, sm15, sm16, sm17, sm18, sm19, sm20, sm21, sm22, sm23, sm24, sm25, su0, su1, su2, su3, su4, su5, su6, su7, su8, su9, su10, su11, su12, su13, su14, su15, su16, su17, su18, su19, su20, su21, su22, su23, su24, su25, e1])
  · refine r_iload_n (pc := 4) dX5_thing_4 rfl ?_
    refine r_bipush (pc := 5) (v := 6) dX5_thing_5 (by decide) ?_
    refine r_icmp_le (pc := 7) 16 dX5_thing_7 rfl (fun h7 => ?_) (fun h7 => ?_)
    · refine r_iload_n (pc := 16) dX5_thing_16 rfl ?_
      refine r_iconst (pc := 17) (v := 1) dX5_thing_17 (by decide) ?_
      refine r_icmp_lt (pc := 18) 47 dX5_thing_18 rfl (fun h18 => ?_) (fun h18 => ?_)
      · refine r_aload_n (pc := 47) dX5_thing_47 rfl ?_
        refine r_bipush (pc := 48) (v := (-6)) dX5_thing_48 (by decide) ?_
        refine r_o2 (pc := 50) (bc' := 0) (bs' := 0) (ct_X5_no hm _ (vp_in_lit rfl)) k_X5_136_5 dX5_thing_50 (MR_k hm) (Nat.le_of_ble_eq_true rfl) ⟨Nat.le_of_ble_eq_true rfl, Nat.le_of_ble_eq_true rfl⟩ ⟨Nat.le_of_ble_eq_true rfl, Nat.le_of_ble_eq_true rfl⟩ (r_ci fun r50 M50 p50 => ?_) nox
        obtain ⟨rfl, rfl⟩ := p50
        refine r_ireturn (pc := 53) rfl dX5_thing_53 ⟨_, rfl, ?_⟩
        first
          | contradiction
          | (refine oM.of ?_ (by repeat' (first | exact frM.rf | assumption | refine frM.up0 ?_ | refine frM.up ?_ (by decide) | refine frM.upL ?_ (by decide)))
             simp (decide := true) only [thingS, noS, noTenS, thP, mnP, shelfP, stepS, h1, h7, h18, not_true_eq_false, not_false_eq_true, true_and, and_true, false_and, and_false, true_or, or_true, false_or, or_false, cI_True, cI_False, if_true, if_false, sm0, sm1, sm2, sm3, sm4, sm5, sm6, sm7, sm8, sm9, sm10, sm11, sm12, sm13, sm14, sm15, sm16, sm17, sm18, sm19, sm20, sm21, sm22, sm23, sm24, sm25, su0, su1, su2, su3, su4, su5, su6, su7, su8, su9, su10, su11, su12, su13, su14, su15, su16, su17, su18, su19, su20, su21, su22, su23, su24, su25]; done)
          | (refine oM.of ?_ (by repeat' (first | exact frM.rf | assumption | refine frM.up0 ?_ | refine frM.up ?_ (by decide) | refine frM.upL ?_ (by decide)))
             simp (decide := true) only [thingS, noS, noTenS, thP, mnP, shelfP, stepS, h1, h7, h18, not_true_eq_false, not_false_eq_true, true_and, and_true, false_and, and_false, true_or, or_true, false_or, or_false, cI_True, cI_False, if_true, if_false, sm0, sm1, sm2, sm3, sm4, sm5, sm6, sm7, sm8, sm9, sm10, sm11, sm12, sm13, sm14, sm15, sm16, sm17, sm18, sm19, sm20, sm21, sm22, sm23, sm24, sm25, su0, su1, su2, su3, su4, su5, su6, su7, su8, su9, su10, su11, su12, su13, su14, su15, su16, su17, su18, su19, su20, su21, su22, su23, su24, su25, e1])
      · refine r_iload_n (pc := 21) dX5_thing_21 rfl ?_
        refine r_bipush (pc := 22) (v := 99) dX5_thing_22 (by decide) ?_
        refine r_icmp_gt (pc := 24) 47 dX5_thing_24 rfl (fun h24 => ?_) (fun h24 => ?_)
        · refine r_aload_n (pc := 47) dX5_thing_47 rfl ?_
          refine r_bipush (pc := 48) (v := (-6)) dX5_thing_48 (by decide) ?_
          refine r_o2 (pc := 50) (bc' := 0) (bs' := 0) (ct_X5_no hm _ (vp_in_lit rfl)) k_X5_136_5 dX5_thing_50 (MR_k hm) (Nat.le_of_ble_eq_true rfl) ⟨Nat.le_of_ble_eq_true rfl, Nat.le_of_ble_eq_true rfl⟩ ⟨Nat.le_of_ble_eq_true rfl, Nat.le_of_ble_eq_true rfl⟩ (r_ci fun r50 M50 p50 => ?_) nox
          obtain ⟨rfl, rfl⟩ := p50
          refine r_ireturn (pc := 53) rfl dX5_thing_53 ⟨_, rfl, ?_⟩
          first
            | contradiction
            | (refine oM.of ?_ (by repeat' (first | exact frM.rf | assumption | refine frM.up0 ?_ | refine frM.up ?_ (by decide) | refine frM.upL ?_ (by decide)))
               simp (decide := true) only [thingS, noS, noTenS, thP, mnP, shelfP, stepS, h1, h7, h18, h24, not_true_eq_false, not_false_eq_true, true_and, and_true, false_and, and_false, true_or, or_true, false_or, or_false, cI_True, cI_False, if_true, if_false, sm0, sm1, sm2, sm3, sm4, sm5, sm6, sm7, sm8, sm9, sm10, sm11, sm12, sm13, sm14, sm15, sm16, sm17, sm18, sm19, sm20, sm21, sm22, sm23, sm24, sm25, su0, su1, su2, su3, su4, su5, su6, su7, su8, su9, su10, su11, su12, su13, su14, su15, su16, su17, su18, su19, su20, su21, su22, su23, su24, su25]; done)
            | (refine oM.of ?_ (by repeat' (first | exact frM.rf | assumption | refine frM.up0 ?_ | refine frM.up ?_ (by decide) | refine frM.upL ?_ (by decide)))
               simp (decide := true) only [thingS, noS, noTenS, thP, mnP, shelfP, stepS, h1, h7, h18, h24, not_true_eq_false, not_false_eq_true, true_and, and_true, false_and, and_false, true_or, or_true, false_or, or_false, cI_True, cI_False, if_true, if_false, sm0, sm1, sm2, sm3, sm4, sm5, sm6, sm7, sm8, sm9, sm10, sm11, sm12, sm13, sm14, sm15, sm16, sm17, sm18, sm19, sm20, sm21, sm22, sm23, sm24, sm25, su0, su1, su2, su3, su4, su5, su6, su7, su8, su9, su10, su11, su12, su13, su14, su15, su16, su17, su18, su19, su20, su21, su22, su23, su24, su25, e1])
        · refine r_iload_n (pc := 27) dX5_thing_27 rfl ?_
          refine r_iconst (pc := 28) (v := 1) dX5_thing_28 (by decide) ?_
          refine r_icmp_lt (pc := 29) 47 dX5_thing_29 rfl (fun h29 => ?_) (fun h29 => ?_)
          · refine r_aload_n (pc := 47) dX5_thing_47 rfl ?_
            refine r_bipush (pc := 48) (v := (-6)) dX5_thing_48 (by decide) ?_
            refine r_o2 (pc := 50) (bc' := 0) (bs' := 0) (ct_X5_no hm _ (vp_in_lit rfl)) k_X5_136_5 dX5_thing_50 (MR_k hm) (Nat.le_of_ble_eq_true rfl) ⟨Nat.le_of_ble_eq_true rfl, Nat.le_of_ble_eq_true rfl⟩ ⟨Nat.le_of_ble_eq_true rfl, Nat.le_of_ble_eq_true rfl⟩ (r_ci fun r50 M50 p50 => ?_) nox
            obtain ⟨rfl, rfl⟩ := p50
            refine r_ireturn (pc := 53) rfl dX5_thing_53 ⟨_, rfl, ?_⟩
            first
              | contradiction
              | (refine oM.of ?_ (by repeat' (first | exact frM.rf | assumption | refine frM.up0 ?_ | refine frM.up ?_ (by decide) | refine frM.upL ?_ (by decide)))
                 simp (decide := true) only [thingS, noS, noTenS, thP, mnP, shelfP, stepS, h1, h7, h18, h24, h29, not_true_eq_false, not_false_eq_true, true_and, and_true, false_and, and_false, true_or, or_true, false_or, or_false, cI_True, cI_False, if_true, if_false, sm0, sm1, sm2, sm3, sm4, sm5, sm6, sm7, sm8, sm9, sm10, sm11, sm12, sm13, sm14, sm15, sm16, sm17, sm18, sm19, sm20, sm21, sm22, sm23, sm24, sm25, su0, su1, su2, su3, su4, su5, su6, su7, su8, su9, su10, su11, su12, su13, su14, su15, su16, su17, su18, su19, su20, su21, su22, su23, su24, su25]; done)
              | (refine oM.of ?_ (by repeat' (first | exact frM.rf | assumption | refine frM.up0 ?_ | refine frM.up ?_ (by decide) | refine frM.upL ?_ (by decide)))
                 simp (decide := true) only [thingS, noS, noTenS, thP, mnP, shelfP, stepS, h1, h7, h18, h24, h29, not_true_eq_false, not_false_eq_true, true_and, and_true, false_and, and_false, true_or, or_true, false_or, or_false, cI_True, cI_False, if_true, if_false, sm0, sm1, sm2, sm3, sm4, sm5, sm6, sm7, sm8, sm9, sm10, sm11, sm12, sm13, sm14, sm15, sm16, sm17, sm18, sm19, sm20, sm21, sm22, sm23, sm24, sm25, su0, su1, su2, su3, su4, su5, su6, su7, su8, su9, su10, su11, su12, su13, su14, su15, su16, su17, su18, su19, su20, su21, su22, su23, su24, su25, e1])
          · refine r_iload_n (pc := 32) dX5_thing_32 rfl ?_
            refine r_bipush (pc := 33) (v := 9) dX5_thing_33 (by decide) ?_
            refine r_icmp_gt (pc := 35) 47 dX5_thing_35 rfl (fun h35 => ?_) (fun h35 => ?_)
            · refine r_aload_n (pc := 47) dX5_thing_47 rfl ?_
              refine r_bipush (pc := 48) (v := (-6)) dX5_thing_48 (by decide) ?_
              refine r_o2 (pc := 50) (bc' := 0) (bs' := 0) (ct_X5_no hm _ (vp_in_lit rfl)) k_X5_136_5 dX5_thing_50 (MR_k hm) (Nat.le_of_ble_eq_true rfl) ⟨Nat.le_of_ble_eq_true rfl, Nat.le_of_ble_eq_true rfl⟩ ⟨Nat.le_of_ble_eq_true rfl, Nat.le_of_ble_eq_true rfl⟩ (r_ci fun r50 M50 p50 => ?_) nox
              obtain ⟨rfl, rfl⟩ := p50
              refine r_ireturn (pc := 53) rfl dX5_thing_53 ⟨_, rfl, ?_⟩
              first
                | contradiction
                | (refine oM.of ?_ (by repeat' (first | exact frM.rf | assumption | refine frM.up0 ?_ | refine frM.up ?_ (by decide) | refine frM.upL ?_ (by decide)))
                   simp (decide := true) only [thingS, noS, noTenS, thP, mnP, shelfP, stepS, h1, h7, h18, h24, h29, h35, not_true_eq_false, not_false_eq_true, true_and, and_true, false_and, and_false, true_or, or_true, false_or, or_false, cI_True, cI_False, if_true, if_false, sm0, sm1, sm2, sm3, sm4, sm5, sm6, sm7, sm8, sm9, sm10, sm11, sm12, sm13, sm14, sm15, sm16, sm17, sm18, sm19, sm20, sm21, sm22, sm23, sm24, sm25, su0, su1, su2, su3, su4, su5, su6, su7, su8, su9, su10, su11, su12, su13, su14, su15, su16, su17, su18, su19, su20, su21, su22, su23, su24, su25]; done)
                | (refine oM.of ?_ (by repeat' (first | exact frM.rf | assumption | refine frM.up0 ?_ | refine frM.up ?_ (by decide) | refine frM.upL ?_ (by decide)))
                   simp (decide := true) only [thingS, noS, noTenS, thP, mnP, shelfP, stepS, h1, h7, h18, h24, h29, h35, not_true_eq_false, not_false_eq_true, true_and, and_true, false_and, and_false, true_or, or_true, false_or, or_false, cI_True, cI_False, if_true, if_false, sm0, sm1, sm2, sm3, sm4, sm5, sm6, sm7, sm8, sm9, sm10, sm11, sm12, sm13, sm14, sm15, sm16, sm17, sm18, sm19, sm20, sm21, sm22, sm23, sm24, sm25, su0, su1, su2, su3, su4, su5, su6, su7, su8, su9, su10, su11, su12, su13, su14, su15, su16, su17, su18, su19, su20, su21, su22, su23, su24, su25, e1])
            · refine r_aload_n (pc := 38) dX5_thing_38 rfl ?_
              refine r_iload (pc := 39) dX5_thing_39 rfl ?_
              refine r_o2 (pc := 41) (bc' := 0) (bs' := 0) (ct_X5_isStep hm _) k_X5_147_5 dX5_thing_41 (MR_k hm) (Nat.le_of_ble_eq_true rfl) ⟨Nat.le_of_ble_eq_true rfl, Nat.le_of_ble_eq_true rfl⟩ ⟨Nat.le_of_ble_eq_true rfl, Nat.le_of_ble_eq_true rfl⟩ (r_ci fun r41 M41 p41 => ?_) nox
              obtain ⟨rfl, rfl⟩ := p41
              refine r_if_ne (pc := 44) 54 dX5_thing_44 rfl (fun h44 => ?_) (fun h44 => ?_)
              · rw [bI_ne0] at h44
                refine r_aload_n (pc := 54) dX5_thing_54 rfl ?_
                refine rm_getI (pc := 55) dX5_thing_55 fl_X5_117_5 (MR_k hm) (fun _ _ => rfl) ?_
                refine r_bipush (pc := 58) (v := 8) dX5_thing_58 (by decide) ?_
                refine r_icmp_ne (pc := 60) 72 dX5_thing_60 rfl (fun h60 => ?_) (fun h60 => ?_)
                · have hy : vp_in (I mo 0) 8 := vp_n ⟨hk.1.1.1.1, by have a := hk.1.1.1.2; have b : ¬ (I mo 0).toInt = 8 := fun e => h60 (i_eq.mpr e); have c : (sM I mo 0 0).toInt = (I mo 0).toInt := rfl; omega⟩
                  refine r_aload_n (pc := 72) dX5_thing_72 rfl ?_
                  refine r_iload_n (pc := 73) dX5_thing_73 rfl ?_
                  refine r_iload_n (pc := 74) dX5_thing_74 rfl ?_
                  refine r_iload_n (pc := 75) dX5_thing_75 rfl ?_
                  refine r_iload (pc := 76) dX5_thing_76 rfl ?_
                  refine r_o5 (pc := 78) (bc' := 0) (bs' := 0) (ct_X5_things hm _ _ _ _ hy) k_X5_150_5 dX5_thing_78 (MR_k hm) (Nat.le_of_ble_eq_true rfl) ⟨Nat.le_of_ble_eq_true rfl, Nat.le_of_ble_eq_true rfl⟩ ⟨Nat.le_of_ble_eq_true rfl, Nat.le_of_ble_eq_true rfl⟩ (r_ci fun r78 M78 p78 => ?_) nox
                  obtain ⟨rfl, I1, rfl, e1, f1⟩ := p78
                  refine r_ireturn (pc := 81) rfl dX5_thing_81 ⟨_, rfl, ?_⟩
                  first
                    | contradiction
                    | (refine oM.of ?_ (by repeat' (first | exact frM.rf | assumption | refine frM.up0 ?_ | refine frM.up ?_ (by decide) | refine frM.upL ?_ (by decide)))
                       simp (decide := true) only [thingS, noS, noTenS, thP, mnP, shelfP, stepS, h1, h7, h18, h24, h29, h35, eq_true h44, h60, not_true_eq_false, not_false_eq_true, true_and, and_true, false_and, and_false, true_or, or_true, false_or, or_false, cI_True, cI_False, if_true, if_false, sm0, sm1, sm2, sm3, sm4, sm5, sm6, sm7, sm8, sm9, sm10, sm11, sm12, sm13, sm14, sm15, sm16, sm17, sm18, sm19, sm20, sm21, sm22, sm23, sm24, sm25, su0, su1, su2, su3, su4, su5, su6, su7, su8, su9, su10, su11, su12, su13, su14, su15, su16, su17, su18, su19, su20, su21, su22, su23, su24, su25]; done)
                    | (refine oM.of ?_ (by repeat' (first | exact frM.rf | assumption | refine frM.up0 ?_ | refine frM.up ?_ (by decide) | refine frM.upL ?_ (by decide)))
                       simp (decide := true) only [thingS, noS, noTenS, thP, mnP, shelfP, stepS, h1, h7, h18, h24, h29, h35, eq_true h44, h60, not_true_eq_false, not_false_eq_true, true_and, and_true, false_and, and_false, true_or, or_true, false_or, or_false, cI_True, cI_False, if_true, if_false, sm0, sm1, sm2, sm3, sm4, sm5, sm6, sm7, sm8, sm9, sm10, sm11, sm12, sm13, sm14, sm15, sm16, sm17, sm18, sm19, sm20, sm21, sm22, sm23, sm24, sm25, su0, su1, su2, su3, su4, su5, su6, su7, su8, su9, su10, su11, su12, su13, su14, su15, su16, su17, su18, su19, su20, su21, su22, su23, su24, su25, e1])
                · refine r_aload_n (pc := 63) dX5_thing_63 rfl ?_
                  refine r_bipush (pc := 64) (v := (-7)) dX5_thing_64 (by decide) ?_
                  refine r_o2 (pc := 66) (bc' := 0) (bs' := 0) (ct_X5_no hm _ (vp_in_lit rfl)) k_X5_136_5 dX5_thing_66 (MR_k hm) (Nat.le_of_ble_eq_true rfl) ⟨Nat.le_of_ble_eq_true rfl, Nat.le_of_ble_eq_true rfl⟩ ⟨Nat.le_of_ble_eq_true rfl, Nat.le_of_ble_eq_true rfl⟩ (r_ci fun r66 M66 p66 => ?_) nox
                  obtain ⟨rfl, rfl⟩ := p66
                  refine r_goto (pc := 69) 81 dX5_thing_69 rfl ?_
                  refine r_ireturn (pc := 81) rfl dX5_thing_81 ⟨_, rfl, ?_⟩
                  first
                    | contradiction
                    | (refine oM.of ?_ (by repeat' (first | exact frM.rf | assumption | refine frM.up0 ?_ | refine frM.up ?_ (by decide) | refine frM.upL ?_ (by decide)))
                       simp (decide := true) only [thingS, noS, noTenS, thP, mnP, shelfP, stepS, h1, h7, h18, h24, h29, h35, eq_true h44, h60, not_true_eq_false, not_false_eq_true, true_and, and_true, false_and, and_false, true_or, or_true, false_or, or_false, cI_True, cI_False, if_true, if_false, sm0, sm1, sm2, sm3, sm4, sm5, sm6, sm7, sm8, sm9, sm10, sm11, sm12, sm13, sm14, sm15, sm16, sm17, sm18, sm19, sm20, sm21, sm22, sm23, sm24, sm25, su0, su1, su2, su3, su4, su5, su6, su7, su8, su9, su10, su11, su12, su13, su14, su15, su16, su17, su18, su19, su20, su21, su22, su23, su24, su25]; done)
                    | (refine oM.of ?_ (by repeat' (first | exact frM.rf | assumption | refine frM.up0 ?_ | refine frM.up ?_ (by decide) | refine frM.upL ?_ (by decide)))
                       simp (decide := true) only [thingS, noS, noTenS, thP, mnP, shelfP, stepS, h1, h7, h18, h24, h29, h35, eq_true h44, h60, not_true_eq_false, not_false_eq_true, true_and, and_true, false_and, and_false, true_or, or_true, false_or, or_false, cI_True, cI_False, if_true, if_false, sm0, sm1, sm2, sm3, sm4, sm5, sm6, sm7, sm8, sm9, sm10, sm11, sm12, sm13, sm14, sm15, sm16, sm17, sm18, sm19, sm20, sm21, sm22, sm23, sm24, sm25, su0, su1, su2, su3, su4, su5, su6, su7, su8, su9, su10, su11, su12, su13, su14, su15, su16, su17, su18, su19, su20, su21, su22, su23, su24, su25, e1])
              · rw [bI_eq0] at h44
                refine r_aload_n (pc := 47) dX5_thing_47 rfl ?_
                refine r_bipush (pc := 48) (v := (-6)) dX5_thing_48 (by decide) ?_
                refine r_o2 (pc := 50) (bc' := 0) (bs' := 0) (ct_X5_no hm _ (vp_in_lit rfl)) k_X5_136_5 dX5_thing_50 (MR_k hm) (Nat.le_of_ble_eq_true rfl) ⟨Nat.le_of_ble_eq_true rfl, Nat.le_of_ble_eq_true rfl⟩ ⟨Nat.le_of_ble_eq_true rfl, Nat.le_of_ble_eq_true rfl⟩ (r_ci fun r50 M50 p50 => ?_) nox
                obtain ⟨rfl, rfl⟩ := p50
                refine r_ireturn (pc := 53) rfl dX5_thing_53 ⟨_, rfl, ?_⟩
                first
                  | contradiction
                  | (refine oM.of ?_ (by repeat' (first | exact frM.rf | assumption | refine frM.up0 ?_ | refine frM.up ?_ (by decide) | refine frM.upL ?_ (by decide)))
                     simp (decide := true) only [thingS, noS, noTenS, thP, mnP, shelfP, stepS, h1, h7, h18, h24, h29, h35, eq_false h44, not_true_eq_false, not_false_eq_true, true_and, and_true, false_and, and_false, true_or, or_true, false_or, or_false, cI_True, cI_False, if_true, if_false, sm0, sm1, sm2, sm3, sm4, sm5, sm6, sm7, sm8, sm9, sm10, sm11, sm12, sm13, sm14, sm15, sm16, sm17, sm18, sm19, sm20, sm21, sm22, sm23, sm24, sm25, su0, su1, su2, su3, su4, su5, su6, su7, su8, su9, su10, su11, su12, su13, su14, su15, su16, su17, su18, su19, su20, su21, su22, su23, su24, su25]; done)
                  | (refine oM.of ?_ (by repeat' (first | exact frM.rf | assumption | refine frM.up0 ?_ | refine frM.up ?_ (by decide) | refine frM.upL ?_ (by decide)))
                     simp (decide := true) only [thingS, noS, noTenS, thP, mnP, shelfP, stepS, h1, h7, h18, h24, h29, h35, eq_false h44, not_true_eq_false, not_false_eq_true, true_and, and_true, false_and, and_false, true_or, or_true, false_or, or_false, cI_True, cI_False, if_true, if_false, sm0, sm1, sm2, sm3, sm4, sm5, sm6, sm7, sm8, sm9, sm10, sm11, sm12, sm13, sm14, sm15, sm16, sm17, sm18, sm19, sm20, sm21, sm22, sm23, sm24, sm25, su0, su1, su2, su3, su4, su5, su6, su7, su8, su9, su10, su11, su12, su13, su14, su15, su16, su17, su18, su19, su20, su21, su22, su23, su24, su25, e1])
    · refine r_aload_n (pc := 10) dX5_thing_10 rfl ?_
      refine r_iconst (pc := 11) (v := (-1)) dX5_thing_11 (by decide) ?_
      refine r_o2 (pc := 12) (bc' := 0) (bs' := 0) (ct_X5_no hm _ (vp_in_lit rfl)) k_X5_136_5 dX5_thing_12 (MR_k hm) (Nat.le_of_ble_eq_true rfl) ⟨Nat.le_of_ble_eq_true rfl, Nat.le_of_ble_eq_true rfl⟩ ⟨Nat.le_of_ble_eq_true rfl, Nat.le_of_ble_eq_true rfl⟩ (r_ci fun r12 M12 p12 => ?_) nox
      obtain ⟨rfl, rfl⟩ := p12
      refine r_ireturn (pc := 15) rfl dX5_thing_15 ⟨_, rfl, ?_⟩
      first
        | contradiction
        | (refine oM.of ?_ (by repeat' (first | exact frM.rf | assumption | refine frM.up0 ?_ | refine frM.up ?_ (by decide) | refine frM.upL ?_ (by decide)))
           simp (decide := true) only [thingS, noS, noTenS, thP, mnP, shelfP, stepS, h1, h7, not_true_eq_false, not_false_eq_true, true_and, and_true, false_and, and_false, true_or, or_true, false_or, or_false, cI_True, cI_False, if_true, if_false, sm0, sm1, sm2, sm3, sm4, sm5, sm6, sm7, sm8, sm9, sm10, sm11, sm12, sm13, sm14, sm15, sm16, sm17, sm18, sm19, sm20, sm21, sm22, sm23, sm24, sm25, su0, su1, su2, su3, su4, su5, su6, su7, su8, su9, su10, su11, su12, su13, su14, su15, su16, su17, su18, su19, su20, su21, su22, su23, su24, su25]; done)
        | (refine oM.of ?_ (by repeat' (first | exact frM.rf | assumption | refine frM.up0 ?_ | refine frM.up ?_ (by decide) | refine frM.upL ?_ (by decide)))
           simp (decide := true) only [thingS, noS, noTenS, thP, mnP, shelfP, stepS, h1, h7, not_true_eq_false, not_false_eq_true, true_and, and_true, false_and, and_false, true_or, or_true, false_or, or_false, cI_True, cI_False, if_true, if_false, sm0, sm1, sm2, sm3, sm4, sm5, sm6, sm7, sm8, sm9, sm10, sm11, sm12, sm13, sm14, sm15, sm16, sm17, sm18, sm19, sm20, sm21, sm22, sm23, sm24, sm25, su0, su1, su2, su3, su4, su5, su6, su7, su8, su9, su10, su11, su12, su13, su14, su15, su16, su17, su18, su19, su20, su21, su22, su23, su24, su25, e1])
theorem ct_X5_man {M0 : PM} {mo : Nat} {I : Nat → Nat → Int32} {L : Nat → Nat → Int64} (hm : MR M0 mo) (x1 : Int32) (hk : OkS (sM I mo)) : Ct (YX5_man, (1, 21, 0, 0), qi (fun r M' => oM M0 mo I L (manS (sS I L mo) x1) r M'), noX) [.ref mo, .int x1] (wIL M0 I L) := by
  refine ct_of [some (.ref mo), some (.int x1)] rfl rfl rfl (Nat.le_of_ble_eq_true rfl) rfl rfl ?_
  refine r_iload_n (pc := 0) dX5_man_0 rfl ?_
  refine r_iconst (pc := 1) (v := 1) dX5_man_1 (by decide) ?_
  refine r_icmp_lt (pc := 2) 11 dX5_man_2 rfl (fun h2 => ?_) (fun h2 => ?_)
  · refine r_aload_n (pc := 11) dX5_man_11 rfl ?_
    refine r_bipush (pc := 12) (v := (-6)) dX5_man_12 (by decide) ?_
    refine r_o2 (pc := 14) (bc' := 0) (bs' := 0) (ct_X5_no hm _ (vp_in_lit rfl)) k_X5_136_5 dX5_man_14 (MR_k hm) (Nat.le_of_ble_eq_true rfl) ⟨Nat.le_of_ble_eq_true rfl, Nat.le_of_ble_eq_true rfl⟩ ⟨Nat.le_of_ble_eq_true rfl, Nat.le_of_ble_eq_true rfl⟩ (r_ci fun r14 M14 p14 => ?_) nox
    obtain ⟨rfl, rfl⟩ := p14
    refine r_ireturn (pc := 17) rfl dX5_man_17 ⟨_, rfl, ?_⟩
    first
      | contradiction
      | (refine oM.of ?_ (by repeat' (first | exact frM.rf | assumption | refine frM.up0 ?_ | refine frM.up ?_ (by decide) | refine frM.upL ?_ (by decide)))
         simp (decide := true) only [manS, noS, noTenS, thP, mnP, shelfP, stepS, h2, not_true_eq_false, not_false_eq_true, true_and, and_true, false_and, and_false, true_or, or_true, false_or, or_false, cI_True, cI_False, if_true, if_false, sm0, sm1, sm2, sm3, sm4, sm5, sm6, sm7, sm8, sm9, sm10, sm11, sm12, sm13, sm14, sm15, sm16, sm17, sm18, sm19, sm20, sm21, sm22, sm23, sm24, sm25, su0, su1, su2, su3, su4, su5, su6, su7, su8, su9, su10, su11, su12, su13, su14, su15, su16, su17, su18, su19, su20, su21, su22, su23, su24, su25]; done)
      | (refine oM.of ?_ (by repeat' (first | exact frM.rf | assumption | refine frM.up0 ?_ | refine frM.up ?_ (by decide) | refine frM.upL ?_ (by decide)))
         simp (decide := true) only [manS, noS, noTenS, thP, mnP, shelfP, stepS, h2, not_true_eq_false, not_false_eq_true, true_and, and_true, false_and, and_false, true_or, or_true, false_or, or_false, cI_True, cI_False, if_true, if_false, sm0, sm1, sm2, sm3, sm4, sm5, sm6, sm7, sm8, sm9, sm10, sm11, sm12, sm13, sm14, sm15, sm16, sm17, sm18, sm19, sm20, sm21, sm22, sm23, sm24, sm25, su0, su1, su2, su3, su4, su5, su6, su7, su8, su9, su10, su11, su12, su13, su14, su15, su16, su17, su18, su19, su20, su21, su22, su23, su24, su25, e1])
  · refine r_iload_n (pc := 5) dX5_man_5 rfl ?_
    refine r_bipush (pc := 6) (v := 99) dX5_man_6 (by decide) ?_
    refine r_icmp_le (pc := 8) 18 dX5_man_8 rfl (fun h8 => ?_) (fun h8 => ?_)
    · refine r_aload_n (pc := 18) dX5_man_18 rfl ?_
      refine rm_getI (pc := 19) dX5_man_19 fl_X5_120_5 (MR_k hm) (fun _ _ => rfl) ?_
      refine r_bipush (pc := 22) (v := 8) dX5_man_22 (by decide) ?_
      refine r_icmp_ne (pc := 24) 36 dX5_man_24 rfl (fun h24 => ?_) (fun h24 => ?_)
      · have hy : vp_in (I mo 1) 8 := vp_n ⟨hk.1.1.2.1.1, by have a := hk.1.1.2.1.2; have b : ¬ (I mo 1).toInt = 8 := fun e => h24 (i_eq.mpr e); have c : (sM I mo 1 0).toInt = (I mo 1).toInt := rfl; omega⟩
        refine r_aload_n (pc := 36) dX5_man_36 rfl ?_
        refine r_iload_n (pc := 37) dX5_man_37 rfl ?_
        refine r_o2 (pc := 38) (bc' := 0) (bs' := 0) (ct_X5_men hm _ hy) k_X5_153_5 dX5_man_38 (MR_k hm) (Nat.le_of_ble_eq_true rfl) ⟨Nat.le_of_ble_eq_true rfl, Nat.le_of_ble_eq_true rfl⟩ ⟨Nat.le_of_ble_eq_true rfl, Nat.le_of_ble_eq_true rfl⟩ (r_ci fun r38 M38 p38 => ?_) nox
        obtain ⟨rfl, I1, rfl, e1, f1⟩ := p38
        refine r_ireturn (pc := 41) rfl dX5_man_41 ⟨_, rfl, ?_⟩
        first
          | contradiction
          | (refine oM.of ?_ (by repeat' (first | exact frM.rf | assumption | refine frM.up0 ?_ | refine frM.up ?_ (by decide) | refine frM.upL ?_ (by decide)))
             simp (decide := true) only [manS, noS, noTenS, thP, mnP, shelfP, stepS, h2, h8, h24, not_true_eq_false, not_false_eq_true, true_and, and_true, false_and, and_false, true_or, or_true, false_or, or_false, cI_True, cI_False, if_true, if_false, sm0, sm1, sm2, sm3, sm4, sm5, sm6, sm7, sm8, sm9, sm10, sm11, sm12, sm13, sm14, sm15, sm16, sm17, sm18, sm19, sm20, sm21, sm22, sm23, sm24, sm25, su0, su1, su2, su3, su4, su5, su6, su7, su8, su9, su10, su11, su12, su13, su14, su15, su16, su17, su18, su19, su20, su21, su22, su23, su24, su25]; done)
          | (refine oM.of ?_ (by repeat' (first | exact frM.rf | assumption | refine frM.up0 ?_ | refine frM.up ?_ (by decide) | refine frM.upL ?_ (by decide)))
             simp (decide := true) only [manS, noS, noTenS, thP, mnP, shelfP, stepS, h2, h8, h24, not_true_eq_false, not_false_eq_true, true_and, and_true, false_and, and_false, true_or, or_true, false_or, or_false, cI_True, cI_False, if_true, if_false, sm0, sm1, sm2, sm3, sm4, sm5, sm6, sm7, sm8, sm9, sm10, sm11, sm12, sm13, sm14, sm15, sm16, sm17, sm18, sm19, sm20, sm21, sm22, sm23, sm24, sm25, su0, su1, su2, su3, su4, su5, su6, su7, su8, su9, su10, su11, su12, su13, su14, su15, su16, su17, su18, su19, su20, su21, su22, su23, su24, su25, e1])
      · refine r_aload_n (pc := 27) dX5_man_27 rfl ?_
        refine r_bipush (pc := 28) (v := (-7)) dX5_man_28 (by decide) ?_
        refine r_o2 (pc := 30) (bc' := 0) (bs' := 0) (ct_X5_no hm _ (vp_in_lit rfl)) k_X5_136_5 dX5_man_30 (MR_k hm) (Nat.le_of_ble_eq_true rfl) ⟨Nat.le_of_ble_eq_true rfl, Nat.le_of_ble_eq_true rfl⟩ ⟨Nat.le_of_ble_eq_true rfl, Nat.le_of_ble_eq_true rfl⟩ (r_ci fun r30 M30 p30 => ?_) nox
        obtain ⟨rfl, rfl⟩ := p30
        refine r_goto (pc := 33) 41 dX5_man_33 rfl ?_
        refine r_ireturn (pc := 41) rfl dX5_man_41 ⟨_, rfl, ?_⟩
        first
          | contradiction
          | (refine oM.of ?_ (by repeat' (first | exact frM.rf | assumption | refine frM.up0 ?_ | refine frM.up ?_ (by decide) | refine frM.upL ?_ (by decide)))
             simp (decide := true) only [manS, noS, noTenS, thP, mnP, shelfP, stepS, h2, h8, h24, not_true_eq_false, not_false_eq_true, true_and, and_true, false_and, and_false, true_or, or_true, false_or, or_false, cI_True, cI_False, if_true, if_false, sm0, sm1, sm2, sm3, sm4, sm5, sm6, sm7, sm8, sm9, sm10, sm11, sm12, sm13, sm14, sm15, sm16, sm17, sm18, sm19, sm20, sm21, sm22, sm23, sm24, sm25, su0, su1, su2, su3, su4, su5, su6, su7, su8, su9, su10, su11, su12, su13, su14, su15, su16, su17, su18, su19, su20, su21, su22, su23, su24, su25]; done)
          | (refine oM.of ?_ (by repeat' (first | exact frM.rf | assumption | refine frM.up0 ?_ | refine frM.up ?_ (by decide) | refine frM.upL ?_ (by decide)))
             simp (decide := true) only [manS, noS, noTenS, thP, mnP, shelfP, stepS, h2, h8, h24, not_true_eq_false, not_false_eq_true, true_and, and_true, false_and, and_false, true_or, or_true, false_or, or_false, cI_True, cI_False, if_true, if_false, sm0, sm1, sm2, sm3, sm4, sm5, sm6, sm7, sm8, sm9, sm10, sm11, sm12, sm13, sm14, sm15, sm16, sm17, sm18, sm19, sm20, sm21, sm22, sm23, sm24, sm25, su0, su1, su2, su3, su4, su5, su6, su7, su8, su9, su10, su11, su12, su13, su14, su15, su16, su17, su18, su19, su20, su21, su22, su23, su24, su25, e1])
    · refine r_aload_n (pc := 11) dX5_man_11 rfl ?_
      refine r_bipush (pc := 12) (v := (-6)) dX5_man_12 (by decide) ?_
      refine r_o2 (pc := 14) (bc' := 0) (bs' := 0) (ct_X5_no hm _ (vp_in_lit rfl)) k_X5_136_5 dX5_man_14 (MR_k hm) (Nat.le_of_ble_eq_true rfl) ⟨Nat.le_of_ble_eq_true rfl, Nat.le_of_ble_eq_true rfl⟩ ⟨Nat.le_of_ble_eq_true rfl, Nat.le_of_ble_eq_true rfl⟩ (r_ci fun r14 M14 p14 => ?_) nox
      obtain ⟨rfl, rfl⟩ := p14
      refine r_ireturn (pc := 17) rfl dX5_man_17 ⟨_, rfl, ?_⟩
      first
        | contradiction
        | (refine oM.of ?_ (by repeat' (first | exact frM.rf | assumption | refine frM.up0 ?_ | refine frM.up ?_ (by decide) | refine frM.upL ?_ (by decide)))
           simp (decide := true) only [manS, noS, noTenS, thP, mnP, shelfP, stepS, h2, h8, not_true_eq_false, not_false_eq_true, true_and, and_true, false_and, and_false, true_or, or_true, false_or, or_false, cI_True, cI_False, if_true, if_false, sm0, sm1, sm2, sm3, sm4, sm5, sm6, sm7, sm8, sm9, sm10, sm11, sm12, sm13, sm14, sm15, sm16, sm17, sm18, sm19, sm20, sm21, sm22, sm23, sm24, sm25, su0, su1, su2, su3, su4, su5, su6, su7, su8, su9, su10, su11, su12, su13, su14, su15, su16, su17, su18, su19, su20, su21, su22, su23, su24, su25]; done)
        | (refine oM.of ?_ (by repeat' (first | exact frM.rf | assumption | refine frM.up0 ?_ | refine frM.up ?_ (by decide) | refine frM.upL ?_ (by decide)))
           simp (decide := true) only [manS, noS, noTenS, thP, mnP, shelfP, stepS, h2, h8, not_true_eq_false, not_false_eq_true, true_and, and_true, false_and, and_false, true_or, or_true, false_or, or_false, cI_True, cI_False, if_true, if_false, sm0, sm1, sm2, sm3, sm4, sm5, sm6, sm7, sm8, sm9, sm10, sm11, sm12, sm13, sm14, sm15, sm16, sm17, sm18, sm19, sm20, sm21, sm22, sm23, sm24, sm25, su0, su1, su2, su3, su4, su5, su6, su7, su8, su9, su10, su11, su12, su13, su14, su15, su16, su17, su18, su19, su20, su21, su22, su23, su24, su25, e1])
theorem ct_X5_want {M0 : PM} {mo : Nat} {I : Nat → Nat → Int32} {L : Nat → Nat → Int64} (hm : MR M0 mo) (x1 : Int32) (x2 : Int32) (x3 : Int32) (hk : OkS (sM I mo)) : Ct (YX5_want, (2, 42, 0, 0), qi (fun r M' => oM M0 mo I L (wantS (sS I L mo) x1 x2 x3) r M'), noX) [.ref mo, .int x1, .int x2, .int x3] (wIL M0 I L) := by
  refine ct_of [some (.ref mo), some (.int x1), some (.int x2), some (.int x3)] rfl rfl rfl (Nat.le_of_ble_eq_true rfl) rfl rfl ?_
  refine r_aload_n (pc := 0) dX5_want_0 rfl ?_
  refine r_iload_n (pc := 1) dX5_want_1 rfl ?_
  refine r_o2 (pc := 2) (bc' := 0) (bs' := 0) (ct_X5_isThing hm _) k_X5_140_5 dX5_want_2 (MR_k hm) (Nat.le_of_ble_eq_true rfl) ⟨Nat.le_of_ble_eq_true rfl, Nat.le_of_ble_eq_true rfl⟩ ⟨Nat.le_of_ble_eq_true rfl, Nat.le_of_ble_eq_true rfl⟩ (r_ci fun r2 M2 p2 => ?_) nox
  obtain ⟨rfl, rfl⟩ := p2
  refine r_if_ne (pc := 5) 14 dX5_want_5 rfl (fun h5 => ?_) (fun h5 => ?_)
  · rw [bI_ne0] at h5
    refine r_aload_n (pc := 14) dX5_want_14 rfl ?_
    refine r_iload_n (pc := 15) dX5_want_15 rfl ?_
    refine r_o2 (pc := 16) (bc' := 0) (bs' := 0) (ct_X5_isStep hm _) k_X5_147_5 dX5_want_16 (MR_k hm) (Nat.le_of_ble_eq_true rfl) ⟨Nat.le_of_ble_eq_true rfl, Nat.le_of_ble_eq_true rfl⟩ ⟨Nat.le_of_ble_eq_true rfl, Nat.le_of_ble_eq_true rfl⟩ (r_ci fun r16 M16 p16 => ?_) nox
    obtain ⟨rfl, rfl⟩ := p16
    refine r_if_eq (pc := 19) 32 dX5_want_19 rfl (fun h19 => ?_) (fun h19 => ?_)
    · rw [bI_eq0] at h19
      refine r_aload_n (pc := 32) dX5_want_32 rfl ?_
      refine r_bipush (pc := 33) (v := (-6)) dX5_want_33 (by decide) ?_
      refine r_o2 (pc := 35) (bc' := 0) (bs' := 0) (ct_X5_no hm _ (vp_in_lit rfl)) k_X5_136_5 dX5_want_35 (MR_k hm) (Nat.le_of_ble_eq_true rfl) ⟨Nat.le_of_ble_eq_true rfl, Nat.le_of_ble_eq_true rfl⟩ ⟨Nat.le_of_ble_eq_true rfl, Nat.le_of_ble_eq_true rfl⟩ (r_ci fun r35 M35 p35 => ?_) nox
      obtain ⟨rfl, rfl⟩ := p35
      refine r_ireturn (pc := 38) rfl dX5_want_38 ⟨_, rfl, ?_⟩
      first
        | contradiction
        | (refine oM.of ?_ (by repeat' (first | exact frM.rf | assumption | refine frM.up0 ?_ | refine frM.up ?_ (by decide) | refine frM.upL ?_ (by decide)))
           simp (decide := true) only [wantS, noS, noTenS, thP, mnP, shelfP, stepS, eq_true h5, eq_false h19, not_true_eq_false, not_false_eq_true, true_and, and_true, false_and, and_false, true_or, or_true, false_or, or_false, cI_True, cI_False, if_true, if_false, sm0, sm1, sm2, sm3, sm4, sm5, sm6, sm7, sm8, sm9, sm10, sm11, sm12, sm13, sm14, sm15, sm16, sm17, sm18, sm19, sm20, sm21, sm22, sm23, sm24, sm25, su0, su1, su2, su3, su4, su5, su6, su7, su8, su9, su10, su11, su12, su13, su14, su15, su16, su17, su18, su19, su20, su21, su22, su23, su24, su25]; done)
        | (refine oM.of ?_ (by repeat' (first | exact frM.rf | assumption | refine frM.up0 ?_ | refine frM.up ?_ (by decide) | refine frM.upL ?_ (by decide)))
           simp (decide := true) only [wantS, noS, noTenS, thP, mnP, shelfP, stepS, eq_true h5, eq_false h19, not_true_eq_false, not_false_eq_true, true_and, and_true, false_and, and_false, true_or, or_true, false_or, or_false, cI_True, cI_False, if_true, if_false, sm0, sm1, sm2, sm3, sm4, sm5, sm6, sm7, sm8, sm9, sm10, sm11, sm12, sm13, sm14, sm15, sm16, sm17, sm18, sm19, sm20, sm21, sm22, sm23, sm24, sm25, su0, su1, su2, su3, su4, su5, su6, su7, su8, su9, su10, su11, su12, su13, su14, su15, su16, su17, su18, su19, su20, su21, su22, su23, su24, su25, e1])
    · rw [bI_ne0] at h19
      refine r_iload_n (pc := 22) dX5_want_22 rfl ?_
      refine r_if_lt (pc := 23) 32 dX5_want_23 rfl (fun h23 => ?_) (fun h23 => ?_)
      · refine r_aload_n (pc := 32) dX5_want_32 rfl ?_
        refine r_bipush (pc := 33) (v := (-6)) dX5_want_33 (by decide) ?_
        refine r_o2 (pc := 35) (bc' := 0) (bs' := 0) (ct_X5_no hm _ (vp_in_lit rfl)) k_X5_136_5 dX5_want_35 (MR_k hm) (Nat.le_of_ble_eq_true rfl) ⟨Nat.le_of_ble_eq_true rfl, Nat.le_of_ble_eq_true rfl⟩ ⟨Nat.le_of_ble_eq_true rfl, Nat.le_of_ble_eq_true rfl⟩ (r_ci fun r35 M35 p35 => ?_) nox
        obtain ⟨rfl, rfl⟩ := p35
        refine r_ireturn (pc := 38) rfl dX5_want_38 ⟨_, rfl, ?_⟩
        first
          | contradiction
          | (refine oM.of ?_ (by repeat' (first | exact frM.rf | assumption | refine frM.up0 ?_ | refine frM.up ?_ (by decide) | refine frM.upL ?_ (by decide)))
             simp (decide := true) only [wantS, noS, noTenS, thP, mnP, shelfP, stepS, eq_true h5, eq_true h19, h23, not_true_eq_false, not_false_eq_true, true_and, and_true, false_and, and_false, true_or, or_true, false_or, or_false, cI_True, cI_False, if_true, if_false, sm0, sm1, sm2, sm3, sm4, sm5, sm6, sm7, sm8, sm9, sm10, sm11, sm12, sm13, sm14, sm15, sm16, sm17, sm18, sm19, sm20, sm21, sm22, sm23, sm24, sm25, su0, su1, su2, su3, su4, su5, su6, su7, su8, su9, su10, su11, su12, su13, su14, su15, su16, su17, su18, su19, su20, su21, su22, su23, su24, su25]; done)
          | (refine oM.of ?_ (by repeat' (first | exact frM.rf | assumption | refine frM.up0 ?_ | refine frM.up ?_ (by decide) | refine frM.upL ?_ (by decide)))
             simp (decide := true) only [wantS, noS, noTenS, thP, mnP, shelfP, stepS, eq_true h5, eq_true h19, h23, not_true_eq_false, not_false_eq_true, true_and, and_true, false_and, and_false, true_or, or_true, false_or, or_false, cI_True, cI_False, if_true, if_false, sm0, sm1, sm2, sm3, sm4, sm5, sm6, sm7, sm8, sm9, sm10, sm11, sm12, sm13, sm14, sm15, sm16, sm17, sm18, sm19, sm20, sm21, sm22, sm23, sm24, sm25, su0, su1, su2, su3, su4, su5, su6, su7, su8, su9, su10, su11, su12, su13, su14, su15, su16, su17, su18, su19, su20, su21, su22, su23, su24, su25, e1])
      · refine r_iload_n (pc := 26) dX5_want_26 rfl ?_
        refine r_bipush (pc := 27) (v := 99) dX5_want_27 (by decide) ?_
        refine r_icmp_le (pc := 29) 39 dX5_want_29 rfl (fun h29 => ?_) (fun h29 => ?_)
        · refine r_aload_n (pc := 39) dX5_want_39 rfl ?_
          refine rm_getI (pc := 40) dX5_want_40 fl_X5_162_5 (MR_k hm) (fun _ _ => rfl) ?_
          refine r_iconst (pc := 43) (v := 4) dX5_want_43 (by decide) ?_
          refine r_icmp_ne (pc := 44) 56 dX5_want_44 rfl (fun h44 => ?_) (fun h44 => ?_)
          · have hy : vp_in (I mo 2) 4 := vp_n ⟨hk.1.1.2.2.1, by have a := hk.1.1.2.2.2; have b : ¬ (I mo 2).toInt = 4 := fun e => h44 (i_eq.mpr e); have c : (sM I mo 2 0).toInt = (I mo 2).toInt := rfl; omega⟩
            refine r_aload_n (pc := 56) dX5_want_56 rfl ?_
            refine r_iload_n (pc := 57) dX5_want_57 rfl ?_
            refine r_iload_n (pc := 58) dX5_want_58 rfl ?_
            refine r_iload_n (pc := 59) dX5_want_59 rfl ?_
            refine r_o4 (pc := 60) (bc' := 0) (bs' := 0) (ct_X5_wanted hm _ _ _ hy) k_X5_164_5 dX5_want_60 (MR_k hm) (Nat.le_of_ble_eq_true rfl) ⟨Nat.le_of_ble_eq_true rfl, Nat.le_of_ble_eq_true rfl⟩ ⟨Nat.le_of_ble_eq_true rfl, Nat.le_of_ble_eq_true rfl⟩ (r_ci fun r60 M60 p60 => ?_) nox
            obtain ⟨rfl, I1, rfl, e1, f1⟩ := p60
            refine r_ireturn (pc := 63) rfl dX5_want_63 ⟨_, rfl, ?_⟩
            first
              | contradiction
              | (refine oM.of ?_ (by repeat' (first | exact frM.rf | assumption | refine frM.up0 ?_ | refine frM.up ?_ (by decide) | refine frM.upL ?_ (by decide)))
                 simp (decide := true) only [wantS, noS, noTenS, thP, mnP, shelfP, stepS, eq_true h5, eq_true h19, h23, h29, h44, not_true_eq_false, not_false_eq_true, true_and, and_true, false_and, and_false, true_or, or_true, false_or, or_false, cI_True, cI_False, if_true, if_false, sm0, sm1, sm2, sm3, sm4, sm5, sm6, sm7, sm8, sm9, sm10, sm11, sm12, sm13, sm14, sm15, sm16, sm17, sm18, sm19, sm20, sm21, sm22, sm23, sm24, sm25, su0, su1, su2, su3, su4, su5, su6, su7, su8, su9, su10, su11, su12, su13, su14, su15, su16, su17, su18, su19, su20, su21, su22, su23, su24, su25]; done)
              | (refine oM.of ?_ (by repeat' (first | exact frM.rf | assumption | refine frM.up0 ?_ | refine frM.up ?_ (by decide) | refine frM.upL ?_ (by decide)))
                 simp (decide := true) only [wantS, noS, noTenS, thP, mnP, shelfP, stepS, eq_true h5, eq_true h19, h23, h29, h44, not_true_eq_false, not_false_eq_true, true_and, and_true, false_and, and_false, true_or, or_true, false_or, or_false, cI_True, cI_False, if_true, if_false, sm0, sm1, sm2, sm3, sm4, sm5, sm6, sm7, sm8, sm9, sm10, sm11, sm12, sm13, sm14, sm15, sm16, sm17, sm18, sm19, sm20, sm21, sm22, sm23, sm24, sm25, su0, su1, su2, su3, su4, su5, su6, su7, su8, su9, su10, su11, su12, su13, su14, su15, su16, su17, su18, su19, su20, su21, su22, su23, su24, su25, e1])
          · refine r_aload_n (pc := 47) dX5_want_47 rfl ?_
            refine r_bipush (pc := 48) (v := (-7)) dX5_want_48 (by decide) ?_
            refine r_o2 (pc := 50) (bc' := 0) (bs' := 0) (ct_X5_no hm _ (vp_in_lit rfl)) k_X5_136_5 dX5_want_50 (MR_k hm) (Nat.le_of_ble_eq_true rfl) ⟨Nat.le_of_ble_eq_true rfl, Nat.le_of_ble_eq_true rfl⟩ ⟨Nat.le_of_ble_eq_true rfl, Nat.le_of_ble_eq_true rfl⟩ (r_ci fun r50 M50 p50 => ?_) nox
            obtain ⟨rfl, rfl⟩ := p50
            refine r_goto (pc := 53) 63 dX5_want_53 rfl ?_
            refine r_ireturn (pc := 63) rfl dX5_want_63 ⟨_, rfl, ?_⟩
            first
              | contradiction
              | (refine oM.of ?_ (by repeat' (first | exact frM.rf | assumption | refine frM.up0 ?_ | refine frM.up ?_ (by decide) | refine frM.upL ?_ (by decide)))
                 simp (decide := true) only [wantS, noS, noTenS, thP, mnP, shelfP, stepS, eq_true h5, eq_true h19, h23, h29, h44, not_true_eq_false, not_false_eq_true, true_and, and_true, false_and, and_false, true_or, or_true, false_or, or_false, cI_True, cI_False, if_true, if_false, sm0, sm1, sm2, sm3, sm4, sm5, sm6, sm7, sm8, sm9, sm10, sm11, sm12, sm13, sm14, sm15, sm16, sm17, sm18, sm19, sm20, sm21, sm22, sm23, sm24, sm25, su0, su1, su2, su3, su4, su5, su6, su7, su8, su9, su10, su11, su12, su13, su14, su15, su16, su17, su18, su19, su20, su21, su22, su23, su24, su25]; done)
              | (refine oM.of ?_ (by repeat' (first | exact frM.rf | assumption | refine frM.up0 ?_ | refine frM.up ?_ (by decide) | refine frM.upL ?_ (by decide)))
                 simp (decide := true) only [wantS, noS, noTenS, thP, mnP, shelfP, stepS, eq_true h5, eq_true h19, h23, h29, h44, not_true_eq_false, not_false_eq_true, true_and, and_true, false_and, and_false, true_or, or_true, false_or, or_false, cI_True, cI_False, if_true, if_false, sm0, sm1, sm2, sm3, sm4, sm5, sm6, sm7, sm8, sm9, sm10, sm11, sm12, sm13, sm14, sm15, sm16, sm17, sm18, sm19, sm20, sm21, sm22, sm23, sm24, sm25, su0, su1, su2, su3, su4, su5, su6, su7, su8, su9, su10, su11, su12, su13, su14, su15, su16, su17, su18, su19, su20, su21, su22, su23, su24, su25, e1])
        · refine r_aload_n (pc := 32) dX5_want_32 rfl ?_
          refine r_bipush (pc := 33) (v := (-6)) dX5_want_33 (by decide) ?_
          refine r_o2 (pc := 35) (bc' := 0) (bs' := 0) (ct_X5_no hm _ (vp_in_lit rfl)) k_X5_136_5 dX5_want_35 (MR_k hm) (Nat.le_of_ble_eq_true rfl) ⟨Nat.le_of_ble_eq_true rfl, Nat.le_of_ble_eq_true rfl⟩ ⟨Nat.le_of_ble_eq_true rfl, Nat.le_of_ble_eq_true rfl⟩ (r_ci fun r35 M35 p35 => ?_) nox
          obtain ⟨rfl, rfl⟩ := p35
          refine r_ireturn (pc := 38) rfl dX5_want_38 ⟨_, rfl, ?_⟩
          first
            | contradiction
            | (refine oM.of ?_ (by repeat' (first | exact frM.rf | assumption | refine frM.up0 ?_ | refine frM.up ?_ (by decide) | refine frM.upL ?_ (by decide)))
               simp (decide := true) only [wantS, noS, noTenS, thP, mnP, shelfP, stepS, eq_true h5, eq_true h19, h23, h29, not_true_eq_false, not_false_eq_true, true_and, and_true, false_and, and_false, true_or, or_true, false_or, or_false, cI_True, cI_False, if_true, if_false, sm0, sm1, sm2, sm3, sm4, sm5, sm6, sm7, sm8, sm9, sm10, sm11, sm12, sm13, sm14, sm15, sm16, sm17, sm18, sm19, sm20, sm21, sm22, sm23, sm24, sm25, su0, su1, su2, su3, su4, su5, su6, su7, su8, su9, su10, su11, su12, su13, su14, su15, su16, su17, su18, su19, su20, su21, su22, su23, su24, su25]; done)
            | (refine oM.of ?_ (by repeat' (first | exact frM.rf | assumption | refine frM.up0 ?_ | refine frM.up ?_ (by decide) | refine frM.upL ?_ (by decide)))
               simp (decide := true) only [wantS, noS, noTenS, thP, mnP, shelfP, stepS, eq_true h5, eq_true h19, h23, h29, not_true_eq_false, not_false_eq_true, true_and, and_true, false_and, and_false, true_or, or_true, false_or, or_false, cI_True, cI_False, if_true, if_false, sm0, sm1, sm2, sm3, sm4, sm5, sm6, sm7, sm8, sm9, sm10, sm11, sm12, sm13, sm14, sm15, sm16, sm17, sm18, sm19, sm20, sm21, sm22, sm23, sm24, sm25, su0, su1, su2, su3, su4, su5, su6, su7, su8, su9, su10, su11, su12, su13, su14, su15, su16, su17, su18, su19, su20, su21, su22, su23, su24, su25, e1])
  · rw [bI_eq0] at h5
    refine r_aload_n (pc := 8) dX5_want_8 rfl ?_
    refine r_iconst (pc := 9) (v := (-1)) dX5_want_9 (by decide) ?_
    refine r_o2 (pc := 10) (bc' := 0) (bs' := 0) (ct_X5_no hm _ (vp_in_lit rfl)) k_X5_136_5 dX5_want_10 (MR_k hm) (Nat.le_of_ble_eq_true rfl) ⟨Nat.le_of_ble_eq_true rfl, Nat.le_of_ble_eq_true rfl⟩ ⟨Nat.le_of_ble_eq_true rfl, Nat.le_of_ble_eq_true rfl⟩ (r_ci fun r10 M10 p10 => ?_) nox
    obtain ⟨rfl, rfl⟩ := p10
    refine r_ireturn (pc := 13) rfl dX5_want_13 ⟨_, rfl, ?_⟩
    first
      | contradiction
      | (refine oM.of ?_ (by repeat' (first | exact frM.rf | assumption | refine frM.up0 ?_ | refine frM.up ?_ (by decide) | refine frM.upL ?_ (by decide)))
         simp (decide := true) only [wantS, noS, noTenS, thP, mnP, shelfP, stepS, eq_false h5, not_true_eq_false, not_false_eq_true, true_and, and_true, false_and, and_false, true_or, or_true, false_or, or_false, cI_True, cI_False, if_true, if_false, sm0, sm1, sm2, sm3, sm4, sm5, sm6, sm7, sm8, sm9, sm10, sm11, sm12, sm13, sm14, sm15, sm16, sm17, sm18, sm19, sm20, sm21, sm22, sm23, sm24, sm25, su0, su1, su2, su3, su4, su5, su6, su7, su8, su9, su10, su11, su12, su13, su14, su15, su16, su17, su18, su19, su20, su21, su22, su23, su24, su25]; done)
      | (refine oM.of ?_ (by repeat' (first | exact frM.rf | assumption | refine frM.up0 ?_ | refine frM.up ?_ (by decide) | refine frM.upL ?_ (by decide)))
         simp (decide := true) only [wantS, noS, noTenS, thP, mnP, shelfP, stepS, eq_false h5, not_true_eq_false, not_false_eq_true, true_and, and_true, false_and, and_false, true_or, or_true, false_or, or_false, cI_True, cI_False, if_true, if_false, sm0, sm1, sm2, sm3, sm4, sm5, sm6, sm7, sm8, sm9, sm10, sm11, sm12, sm13, sm14, sm15, sm16, sm17, sm18, sm19, sm20, sm21, sm22, sm23, sm24, sm25, su0, su1, su2, su3, su4, su5, su6, su7, su8, su9, su10, su11, su12, su13, su14, su15, su16, su17, su18, su19, su20, su21, su22, su23, su24, su25, e1])
theorem ct_X5_thingOf {M0 : PM} {mo : Nat} {I : Nat → Nat → Int32} {L : Nat → Nat → Int64} (hm : MR M0 mo) (x1 : Int32) (x2 : Int32) (hk : OkS (sM I mo)) : Ct (YX5_thingOf, (1, 21, 0, 0), qi (fun r M' => oM M0 mo I L (thingOfS (sS I L mo) x1 x2) r M'), noX) [.ref mo, .int x1, .int x2] (wIL M0 I L) := by
  refine ct_of [some (.ref mo), some (.int x1), some (.int x2)] rfl rfl rfl (Nat.le_of_ble_eq_true rfl) rfl rfl ?_
  refine r_aload_n (pc := 0) dX5_thingOf_0 rfl ?_
  refine r_iload_n (pc := 1) dX5_thingOf_1 rfl ?_
  refine r_o2 (pc := 2) (bc' := 0) (bs' := 0) (ct_X5_isThing hm _) k_X5_140_5 dX5_thingOf_2 (MR_k hm) (Nat.le_of_ble_eq_true rfl) ⟨Nat.le_of_ble_eq_true rfl, Nat.le_of_ble_eq_true rfl⟩ ⟨Nat.le_of_ble_eq_true rfl, Nat.le_of_ble_eq_true rfl⟩ (r_ci fun r2 M2 p2 => ?_) nox
  obtain ⟨rfl, rfl⟩ := p2
  refine r_if_eq (pc := 5) 17 dX5_thingOf_5 rfl (fun h5 => ?_) (fun h5 => ?_)
  · rw [bI_eq0] at h5
    refine r_aload_n (pc := 17) dX5_thingOf_17 rfl ?_
    refine r_bipush (pc := 18) (v := (-5)) dX5_thingOf_18 (by decide) ?_
    refine r_o2 (pc := 20) (bc' := 0) (bs' := 0) (ct_X5_no hm _ (vp_in_lit rfl)) k_X5_136_5 dX5_thingOf_20 (MR_k hm) (Nat.le_of_ble_eq_true rfl) ⟨Nat.le_of_ble_eq_true rfl, Nat.le_of_ble_eq_true rfl⟩ ⟨Nat.le_of_ble_eq_true rfl, Nat.le_of_ble_eq_true rfl⟩ (r_ci fun r20 M20 p20 => ?_) nox
    obtain ⟨rfl, rfl⟩ := p20
    refine r_ireturn (pc := 23) rfl dX5_thingOf_23 ⟨_, rfl, ?_⟩
    first
      | contradiction
      | (refine oM.of ?_ (by repeat' (first | exact frM.rf | assumption | refine frM.up0 ?_ | refine frM.up ?_ (by decide) | refine frM.upL ?_ (by decide)))
         simp (decide := true) only [thingOfS, noS, noTenS, thP, mnP, shelfP, stepS, eq_false h5, not_true_eq_false, not_false_eq_true, true_and, and_true, false_and, and_false, true_or, or_true, false_or, or_false, cI_True, cI_False, if_true, if_false, sm0, sm1, sm2, sm3, sm4, sm5, sm6, sm7, sm8, sm9, sm10, sm11, sm12, sm13, sm14, sm15, sm16, sm17, sm18, sm19, sm20, sm21, sm22, sm23, sm24, sm25, su0, su1, su2, su3, su4, su5, su6, su7, su8, su9, su10, su11, su12, su13, su14, su15, su16, su17, su18, su19, su20, su21, su22, su23, su24, su25])
  · rw [bI_ne0] at h5
    have ht := vp_b (n := 8) h5.1 h5.2 hk.1.1.1.2
    refine r_iload_n (pc := 8) dX5_thingOf_8 rfl ?_
    refine r_if_lt (pc := 9) 17 dX5_thingOf_9 rfl (fun h9 => ?_) (fun h9 => ?_)
    · refine r_aload_n (pc := 17) dX5_thingOf_17 rfl ?_
      refine r_bipush (pc := 18) (v := (-5)) dX5_thingOf_18 (by decide) ?_
      refine r_o2 (pc := 20) (bc' := 0) (bs' := 0) (ct_X5_no hm _ (vp_in_lit rfl)) k_X5_136_5 dX5_thingOf_20 (MR_k hm) (Nat.le_of_ble_eq_true rfl) ⟨Nat.le_of_ble_eq_true rfl, Nat.le_of_ble_eq_true rfl⟩ ⟨Nat.le_of_ble_eq_true rfl, Nat.le_of_ble_eq_true rfl⟩ (r_ci fun r20 M20 p20 => ?_) nox
      obtain ⟨rfl, rfl⟩ := p20
      refine r_ireturn (pc := 23) rfl dX5_thingOf_23 ⟨_, rfl, ?_⟩
      first
        | contradiction
        | (refine oM.of ?_ (by repeat' (first | exact frM.rf | assumption | refine frM.up0 ?_ | refine frM.up ?_ (by decide) | refine frM.upL ?_ (by decide)))
           simp (decide := true) only [thingOfS, noS, noTenS, thP, mnP, shelfP, stepS, eq_true h5, h9, not_true_eq_false, not_false_eq_true, true_and, and_true, false_and, and_false, true_or, or_true, false_or, or_false, cI_True, cI_False, if_true, if_false, sm0, sm1, sm2, sm3, sm4, sm5, sm6, sm7, sm8, sm9, sm10, sm11, sm12, sm13, sm14, sm15, sm16, sm17, sm18, sm19, sm20, sm21, sm22, sm23, sm24, sm25, su0, su1, su2, su3, su4, su5, su6, su7, su8, su9, su10, su11, su12, su13, su14, su15, su16, su17, su18, su19, su20, su21, su22, su23, su24, su25])
    · refine r_iload_n (pc := 12) dX5_thingOf_12 rfl ?_
      refine r_iconst (pc := 13) (v := 5) dX5_thingOf_13 (by decide) ?_
      refine r_icmp_le (pc := 14) 24 dX5_thingOf_14 rfl (fun h14 => ?_) (fun h14 => ?_)
      · refine r_iload_n (pc := 24) dX5_thingOf_24 rfl ?_
        refine r_if_ne (pc := 25) 37 dX5_thingOf_25 rfl (fun h25 => ?_) (fun h25 => ?_)
        · refine r_iload_n (pc := 37) dX5_thingOf_37 rfl ?_
          refine r_iconst (pc := 38) (v := 1) dX5_thingOf_38 (by decide) ?_
          refine r_icmp_ne (pc := 39) 51 dX5_thingOf_39 rfl (fun h39 => ?_) (fun h39 => ?_)
          · refine r_iload_n (pc := 51) dX5_thingOf_51 rfl ?_
            refine r_iconst (pc := 52) (v := 2) dX5_thingOf_52 (by decide) ?_
            refine r_icmp_ne (pc := 53) 65 dX5_thingOf_53 rfl (fun h53 => ?_) (fun h53 => ?_)
            · refine r_iload_n (pc := 65) dX5_thingOf_65 rfl ?_
              refine r_iconst (pc := 66) (v := 3) dX5_thingOf_66 (by decide) ?_
              refine r_icmp_ne (pc := 67) 79 dX5_thingOf_67 rfl (fun h67 => ?_) (fun h67 => ?_)
              · refine r_iload_n (pc := 79) dX5_thingOf_79 rfl ?_
                refine r_iconst (pc := 80) (v := 4) dX5_thingOf_80 (by decide) ?_
                refine r_icmp_ne (pc := 81) 93 dX5_thingOf_81 rfl (fun h81 => ?_) (fun h81 => ?_)
                · refine r_aload_n (pc := 93) dX5_thingOf_93 rfl ?_
                  refine r_getR (pc := 94) dX5_thingOf_94 fl_X5_38_5 (MR_k hm) (fun _ _ => rfl) (MR_r16 hm) ?_
                  refine r_iload_n (pc := 97) dX5_thingOf_97 rfl ?_
                  refine rm_iald (pc := 98) dX5_thingOf_98 (MR_k16 hm) (MR_z16 hm) (by first | assumption | exact vp_in_lit rfl) ?_
                  refine r_ireturn (pc := 99) rfl dX5_thingOf_99 ⟨_, rfl, ?_⟩
                  first
                    | contradiction
                    | (refine oM.of ?_ (by repeat' (first | exact frM.rf | assumption | refine frM.up0 ?_ | refine frM.up ?_ (by decide) | refine frM.upL ?_ (by decide)))
                       simp (decide := true) only [thingOfS, noS, noTenS, thP, mnP, shelfP, stepS, eq_true h5, h9, h14, h25, h39, h53, h67, h81, not_true_eq_false, not_false_eq_true, true_and, and_true, false_and, and_false, true_or, or_true, false_or, or_false, cI_True, cI_False, if_true, if_false, sm0, sm1, sm2, sm3, sm4, sm5, sm6, sm7, sm8, sm9, sm10, sm11, sm12, sm13, sm14, sm15, sm16, sm17, sm18, sm19, sm20, sm21, sm22, sm23, sm24, sm25, su0, su1, su2, su3, su4, su5, su6, su7, su8, su9, su10, su11, su12, su13, su14, su15, su16, su17, su18, su19, su20, su21, su22, su23, su24, su25])
                · subst h81
                  refine r_aload_n (pc := 84) dX5_thingOf_84 rfl ?_
                  refine r_getR (pc := 85) dX5_thingOf_85 fl_X5_35_5 (MR_k hm) (fun _ _ => rfl) (MR_r15 hm) ?_
                  refine r_iload_n (pc := 88) dX5_thingOf_88 rfl ?_
                  refine rm_iald (pc := 89) dX5_thingOf_89 (MR_k15 hm) (MR_z15 hm) (by first | assumption | exact vp_in_lit rfl) ?_
                  refine r_goto (pc := 90) 99 dX5_thingOf_90 rfl ?_
                  refine r_ireturn (pc := 99) rfl dX5_thingOf_99 ⟨_, rfl, ?_⟩
                  first
                    | contradiction
                    | (refine oM.of ?_ (by repeat' (first | exact frM.rf | assumption | refine frM.up0 ?_ | refine frM.up ?_ (by decide) | refine frM.upL ?_ (by decide)))
                       simp (decide := true) only [thingOfS, noS, noTenS, thP, mnP, shelfP, stepS, eq_true h5, h9, h14, h25, h39, h53, h67, not_true_eq_false, not_false_eq_true, true_and, and_true, false_and, and_false, true_or, or_true, false_or, or_false, cI_True, cI_False, if_true, if_false, sm0, sm1, sm2, sm3, sm4, sm5, sm6, sm7, sm8, sm9, sm10, sm11, sm12, sm13, sm14, sm15, sm16, sm17, sm18, sm19, sm20, sm21, sm22, sm23, sm24, sm25, su0, su1, su2, su3, su4, su5, su6, su7, su8, su9, su10, su11, su12, su13, su14, su15, su16, su17, su18, su19, su20, su21, su22, su23, su24, su25])
              · subst h67
                refine r_aload_n (pc := 70) dX5_thingOf_70 rfl ?_
                refine r_getR (pc := 71) dX5_thingOf_71 fl_X5_32_5 (MR_k hm) (fun _ _ => rfl) (MR_r14 hm) ?_
                refine r_iload_n (pc := 74) dX5_thingOf_74 rfl ?_
                refine rm_iald (pc := 75) dX5_thingOf_75 (MR_k14 hm) (MR_z14 hm) (by first | assumption | exact vp_in_lit rfl) ?_
                refine r_goto (pc := 76) 99 dX5_thingOf_76 rfl ?_
                refine r_ireturn (pc := 99) rfl dX5_thingOf_99 ⟨_, rfl, ?_⟩
                first
                  | contradiction
                  | (refine oM.of ?_ (by repeat' (first | exact frM.rf | assumption | refine frM.up0 ?_ | refine frM.up ?_ (by decide) | refine frM.upL ?_ (by decide)))
                     simp (decide := true) only [thingOfS, noS, noTenS, thP, mnP, shelfP, stepS, eq_true h5, h9, h14, h25, h39, h53, not_true_eq_false, not_false_eq_true, true_and, and_true, false_and, and_false, true_or, or_true, false_or, or_false, cI_True, cI_False, if_true, if_false, sm0, sm1, sm2, sm3, sm4, sm5, sm6, sm7, sm8, sm9, sm10, sm11, sm12, sm13, sm14, sm15, sm16, sm17, sm18, sm19, sm20, sm21, sm22, sm23, sm24, sm25, su0, su1, su2, su3, su4, su5, su6, su7, su8, su9, su10, su11, su12, su13, su14, su15, su16, su17, su18, su19, su20, su21, su22, su23, su24, su25])
            · subst h53
              refine r_aload_n (pc := 56) dX5_thingOf_56 rfl ?_
              refine r_getR (pc := 57) dX5_thingOf_57 fl_X5_29_5 (MR_k hm) (fun _ _ => rfl) (MR_r13 hm) ?_
              refine r_iload_n (pc := 60) dX5_thingOf_60 rfl ?_
              refine rm_iald (pc := 61) dX5_thingOf_61 (MR_k13 hm) (MR_z13 hm) (by first | assumption | exact vp_in_lit rfl) ?_
              refine r_goto (pc := 62) 99 dX5_thingOf_62 rfl ?_
              refine r_ireturn (pc := 99) rfl dX5_thingOf_99 ⟨_, rfl, ?_⟩
              first
                | contradiction
                | (refine oM.of ?_ (by repeat' (first | exact frM.rf | assumption | refine frM.up0 ?_ | refine frM.up ?_ (by decide) | refine frM.upL ?_ (by decide)))
                   simp (decide := true) only [thingOfS, noS, noTenS, thP, mnP, shelfP, stepS, eq_true h5, h9, h14, h25, h39, not_true_eq_false, not_false_eq_true, true_and, and_true, false_and, and_false, true_or, or_true, false_or, or_false, cI_True, cI_False, if_true, if_false, sm0, sm1, sm2, sm3, sm4, sm5, sm6, sm7, sm8, sm9, sm10, sm11, sm12, sm13, sm14, sm15, sm16, sm17, sm18, sm19, sm20, sm21, sm22, sm23, sm24, sm25, su0, su1, su2, su3, su4, su5, su6, su7, su8, su9, su10, su11, su12, su13, su14, su15, su16, su17, su18, su19, su20, su21, su22, su23, su24, su25])
          · subst h39
            refine r_aload_n (pc := 42) dX5_thingOf_42 rfl ?_
            refine r_getR (pc := 43) dX5_thingOf_43 fl_X5_26_5 (MR_k hm) (fun _ _ => rfl) (MR_r12 hm) ?_
            refine r_iload_n (pc := 46) dX5_thingOf_46 rfl ?_
            refine rm_iald (pc := 47) dX5_thingOf_47 (MR_k12 hm) (MR_z12 hm) (by first | assumption | exact vp_in_lit rfl) ?_
            refine r_goto (pc := 48) 99 dX5_thingOf_48 rfl ?_
            refine r_ireturn (pc := 99) rfl dX5_thingOf_99 ⟨_, rfl, ?_⟩
            first
              | contradiction
              | (refine oM.of ?_ (by repeat' (first | exact frM.rf | assumption | refine frM.up0 ?_ | refine frM.up ?_ (by decide) | refine frM.upL ?_ (by decide)))
                 simp (decide := true) only [thingOfS, noS, noTenS, thP, mnP, shelfP, stepS, eq_true h5, h9, h14, h25, not_true_eq_false, not_false_eq_true, true_and, and_true, false_and, and_false, true_or, or_true, false_or, or_false, cI_True, cI_False, if_true, if_false, sm0, sm1, sm2, sm3, sm4, sm5, sm6, sm7, sm8, sm9, sm10, sm11, sm12, sm13, sm14, sm15, sm16, sm17, sm18, sm19, sm20, sm21, sm22, sm23, sm24, sm25, su0, su1, su2, su3, su4, su5, su6, su7, su8, su9, su10, su11, su12, su13, su14, su15, su16, su17, su18, su19, su20, su21, su22, su23, su24, su25])
        · subst h25
          refine r_aload_n (pc := 28) dX5_thingOf_28 rfl ?_
          refine r_getR (pc := 29) dX5_thingOf_29 fl_X5_23_5 (MR_k hm) (fun _ _ => rfl) (MR_r11 hm) ?_
          refine r_iload_n (pc := 32) dX5_thingOf_32 rfl ?_
          refine rm_iald (pc := 33) dX5_thingOf_33 (MR_k11 hm) (MR_z11 hm) (by first | assumption | exact vp_in_lit rfl) ?_
          refine r_goto (pc := 34) 99 dX5_thingOf_34 rfl ?_
          refine r_ireturn (pc := 99) rfl dX5_thingOf_99 ⟨_, rfl, ?_⟩
          first
            | contradiction
            | (refine oM.of ?_ (by repeat' (first | exact frM.rf | assumption | refine frM.up0 ?_ | refine frM.up ?_ (by decide) | refine frM.upL ?_ (by decide)))
               simp (decide := true) only [thingOfS, noS, noTenS, thP, mnP, shelfP, stepS, eq_true h5, h9, h14, not_true_eq_false, not_false_eq_true, true_and, and_true, false_and, and_false, true_or, or_true, false_or, or_false, cI_True, cI_False, if_true, if_false, sm0, sm1, sm2, sm3, sm4, sm5, sm6, sm7, sm8, sm9, sm10, sm11, sm12, sm13, sm14, sm15, sm16, sm17, sm18, sm19, sm20, sm21, sm22, sm23, sm24, sm25, su0, su1, su2, su3, su4, su5, su6, su7, su8, su9, su10, su11, su12, su13, su14, su15, su16, su17, su18, su19, su20, su21, su22, su23, su24, su25])
      · refine r_aload_n (pc := 17) dX5_thingOf_17 rfl ?_
        refine r_bipush (pc := 18) (v := (-5)) dX5_thingOf_18 (by decide) ?_
        refine r_o2 (pc := 20) (bc' := 0) (bs' := 0) (ct_X5_no hm _ (vp_in_lit rfl)) k_X5_136_5 dX5_thingOf_20 (MR_k hm) (Nat.le_of_ble_eq_true rfl) ⟨Nat.le_of_ble_eq_true rfl, Nat.le_of_ble_eq_true rfl⟩ ⟨Nat.le_of_ble_eq_true rfl, Nat.le_of_ble_eq_true rfl⟩ (r_ci fun r20 M20 p20 => ?_) nox
        obtain ⟨rfl, rfl⟩ := p20
        refine r_ireturn (pc := 23) rfl dX5_thingOf_23 ⟨_, rfl, ?_⟩
        first
          | contradiction
          | (refine oM.of ?_ (by repeat' (first | exact frM.rf | assumption | refine frM.up0 ?_ | refine frM.up ?_ (by decide) | refine frM.upL ?_ (by decide)))
             simp (decide := true) only [thingOfS, noS, noTenS, thP, mnP, shelfP, stepS, eq_true h5, h9, h14, not_true_eq_false, not_false_eq_true, true_and, and_true, false_and, and_false, true_or, or_true, false_or, or_false, cI_True, cI_False, if_true, if_false, sm0, sm1, sm2, sm3, sm4, sm5, sm6, sm7, sm8, sm9, sm10, sm11, sm12, sm13, sm14, sm15, sm16, sm17, sm18, sm19, sm20, sm21, sm22, sm23, sm24, sm25, su0, su1, su2, su3, su4, su5, su6, su7, su8, su9, su10, su11, su12, su13, su14, su15, su16, su17, su18, su19, su20, su21, su22, su23, su24, su25])
theorem ct_X5_manOf {M0 : PM} {mo : Nat} {I : Nat → Nat → Int32} {L : Nat → Nat → Int64} (hm : MR M0 mo) (x1 : Int32) (x2 : Int32) (hk : OkS (sM I mo)) : Ct (YX5_manOf, (1, 21, 0, 0), qi (fun r M' => oM M0 mo I L (manOfS (sS I L mo) x1 x2) r M'), noX) [.ref mo, .int x1, .int x2] (wIL M0 I L) := by
  refine ct_of [some (.ref mo), some (.int x1), some (.int x2)] rfl rfl rfl (Nat.le_of_ble_eq_true rfl) rfl rfl ?_
  refine r_aload_n (pc := 0) dX5_manOf_0 rfl ?_
  refine r_iload_n (pc := 1) dX5_manOf_1 rfl ?_
  refine r_o2 (pc := 2) (bc' := 0) (bs' := 0) (ct_X5_isMan hm _) k_X5_178_5 dX5_manOf_2 (MR_k hm) (Nat.le_of_ble_eq_true rfl) ⟨Nat.le_of_ble_eq_true rfl, Nat.le_of_ble_eq_true rfl⟩ ⟨Nat.le_of_ble_eq_true rfl, Nat.le_of_ble_eq_true rfl⟩ (r_ci fun r2 M2 p2 => ?_) nox
  obtain ⟨rfl, rfl⟩ := p2
  refine r_if_eq (pc := 5) 17 dX5_manOf_5 rfl (fun h5 => ?_) (fun h5 => ?_)
  · rw [bI_eq0] at h5
    refine r_aload_n (pc := 17) dX5_manOf_17 rfl ?_
    refine r_bipush (pc := 18) (v := (-5)) dX5_manOf_18 (by decide) ?_
    refine r_o2 (pc := 20) (bc' := 0) (bs' := 0) (ct_X5_no hm _ (vp_in_lit rfl)) k_X5_136_5 dX5_manOf_20 (MR_k hm) (Nat.le_of_ble_eq_true rfl) ⟨Nat.le_of_ble_eq_true rfl, Nat.le_of_ble_eq_true rfl⟩ ⟨Nat.le_of_ble_eq_true rfl, Nat.le_of_ble_eq_true rfl⟩ (r_ci fun r20 M20 p20 => ?_) nox
    obtain ⟨rfl, rfl⟩ := p20
    refine r_ireturn (pc := 23) rfl dX5_manOf_23 ⟨_, rfl, ?_⟩
    first
      | contradiction
      | (refine oM.of ?_ (by repeat' (first | exact frM.rf | assumption | refine frM.up0 ?_ | refine frM.up ?_ (by decide) | refine frM.upL ?_ (by decide)))
         simp (decide := true) only [manOfS, noS, noTenS, thP, mnP, shelfP, stepS, eq_false h5, not_true_eq_false, not_false_eq_true, true_and, and_true, false_and, and_false, true_or, or_true, false_or, or_false, cI_True, cI_False, if_true, if_false, sm0, sm1, sm2, sm3, sm4, sm5, sm6, sm7, sm8, sm9, sm10, sm11, sm12, sm13, sm14, sm15, sm16, sm17, sm18, sm19, sm20, sm21, sm22, sm23, sm24, sm25, su0, su1, su2, su3, su4, su5, su6, su7, su8, su9, su10, su11, su12, su13, su14, su15, su16, su17, su18, su19, su20, su21, su22, su23, su24, su25])
  · rw [bI_ne0] at h5
    have hn := vp_b (n := 8) h5.1 h5.2 hk.1.1.2.1.2
    refine r_iload_n (pc := 8) dX5_manOf_8 rfl ?_
    refine r_if_lt (pc := 9) 17 dX5_manOf_9 rfl (fun h9 => ?_) (fun h9 => ?_)
    · refine r_aload_n (pc := 17) dX5_manOf_17 rfl ?_
      refine r_bipush (pc := 18) (v := (-5)) dX5_manOf_18 (by decide) ?_
      refine r_o2 (pc := 20) (bc' := 0) (bs' := 0) (ct_X5_no hm _ (vp_in_lit rfl)) k_X5_136_5 dX5_manOf_20 (MR_k hm) (Nat.le_of_ble_eq_true rfl) ⟨Nat.le_of_ble_eq_true rfl, Nat.le_of_ble_eq_true rfl⟩ ⟨Nat.le_of_ble_eq_true rfl, Nat.le_of_ble_eq_true rfl⟩ (r_ci fun r20 M20 p20 => ?_) nox
      obtain ⟨rfl, rfl⟩ := p20
      refine r_ireturn (pc := 23) rfl dX5_manOf_23 ⟨_, rfl, ?_⟩
      first
        | contradiction
        | (refine oM.of ?_ (by repeat' (first | exact frM.rf | assumption | refine frM.up0 ?_ | refine frM.up ?_ (by decide) | refine frM.upL ?_ (by decide)))
           simp (decide := true) only [manOfS, noS, noTenS, thP, mnP, shelfP, stepS, eq_true h5, h9, not_true_eq_false, not_false_eq_true, true_and, and_true, false_and, and_false, true_or, or_true, false_or, or_false, cI_True, cI_False, if_true, if_false, sm0, sm1, sm2, sm3, sm4, sm5, sm6, sm7, sm8, sm9, sm10, sm11, sm12, sm13, sm14, sm15, sm16, sm17, sm18, sm19, sm20, sm21, sm22, sm23, sm24, sm25, su0, su1, su2, su3, su4, su5, su6, su7, su8, su9, su10, su11, su12, su13, su14, su15, su16, su17, su18, su19, su20, su21, su22, su23, su24, su25])
    · refine r_iload_n (pc := 12) dX5_manOf_12 rfl ?_
      refine r_iconst (pc := 13) (v := 1) dX5_manOf_13 (by decide) ?_
      refine r_icmp_le (pc := 14) 24 dX5_manOf_14 rfl (fun h14 => ?_) (fun h14 => ?_)
      · refine r_iload_n (pc := 24) dX5_manOf_24 rfl ?_
        refine r_if_ne (pc := 25) 37 dX5_manOf_25 rfl (fun h25 => ?_) (fun h25 => ?_)
        · refine r_aload_n (pc := 37) dX5_manOf_37 rfl ?_
          refine r_getR (pc := 38) dX5_manOf_38 fl_X5_44_5 (MR_k hm) (fun _ _ => rfl) (MR_r18 hm) ?_
          refine r_iload_n (pc := 41) dX5_manOf_41 rfl ?_
          refine rm_iald (pc := 42) dX5_manOf_42 (MR_k18 hm) (MR_z18 hm) (by first | assumption | exact vp_in_lit rfl) ?_
          refine r_ireturn (pc := 43) rfl dX5_manOf_43 ⟨_, rfl, ?_⟩
          first
            | contradiction
            | (refine oM.of ?_ (by repeat' (first | exact frM.rf | assumption | refine frM.up0 ?_ | refine frM.up ?_ (by decide) | refine frM.upL ?_ (by decide)))
               simp (decide := true) only [manOfS, noS, noTenS, thP, mnP, shelfP, stepS, eq_true h5, h9, h14, h25, not_true_eq_false, not_false_eq_true, true_and, and_true, false_and, and_false, true_or, or_true, false_or, or_false, cI_True, cI_False, if_true, if_false, sm0, sm1, sm2, sm3, sm4, sm5, sm6, sm7, sm8, sm9, sm10, sm11, sm12, sm13, sm14, sm15, sm16, sm17, sm18, sm19, sm20, sm21, sm22, sm23, sm24, sm25, su0, su1, su2, su3, su4, su5, su6, su7, su8, su9, su10, su11, su12, su13, su14, su15, su16, su17, su18, su19, su20, su21, su22, su23, su24, su25])
        · subst h25
          refine r_aload_n (pc := 28) dX5_manOf_28 rfl ?_
          refine r_getR (pc := 29) dX5_manOf_29 fl_X5_41_5 (MR_k hm) (fun _ _ => rfl) (MR_r17 hm) ?_
          refine r_iload_n (pc := 32) dX5_manOf_32 rfl ?_
          refine rm_iald (pc := 33) dX5_manOf_33 (MR_k17 hm) (MR_z17 hm) (by first | assumption | exact vp_in_lit rfl) ?_
          refine r_goto (pc := 34) 43 dX5_manOf_34 rfl ?_
          refine r_ireturn (pc := 43) rfl dX5_manOf_43 ⟨_, rfl, ?_⟩
          first
            | contradiction
            | (refine oM.of ?_ (by repeat' (first | exact frM.rf | assumption | refine frM.up0 ?_ | refine frM.up ?_ (by decide) | refine frM.upL ?_ (by decide)))
               simp (decide := true) only [manOfS, noS, noTenS, thP, mnP, shelfP, stepS, eq_true h5, h9, h14, not_true_eq_false, not_false_eq_true, true_and, and_true, false_and, and_false, true_or, or_true, false_or, or_false, cI_True, cI_False, if_true, if_false, sm0, sm1, sm2, sm3, sm4, sm5, sm6, sm7, sm8, sm9, sm10, sm11, sm12, sm13, sm14, sm15, sm16, sm17, sm18, sm19, sm20, sm21, sm22, sm23, sm24, sm25, su0, su1, su2, su3, su4, su5, su6, su7, su8, su9, su10, su11, su12, su13, su14, su15, su16, su17, su18, su19, su20, su21, su22, su23, su24, su25])
      · refine r_aload_n (pc := 17) dX5_manOf_17 rfl ?_
        refine r_bipush (pc := 18) (v := (-5)) dX5_manOf_18 (by decide) ?_
        refine r_o2 (pc := 20) (bc' := 0) (bs' := 0) (ct_X5_no hm _ (vp_in_lit rfl)) k_X5_136_5 dX5_manOf_20 (MR_k hm) (Nat.le_of_ble_eq_true rfl) ⟨Nat.le_of_ble_eq_true rfl, Nat.le_of_ble_eq_true rfl⟩ ⟨Nat.le_of_ble_eq_true rfl, Nat.le_of_ble_eq_true rfl⟩ (r_ci fun r20 M20 p20 => ?_) nox
        obtain ⟨rfl, rfl⟩ := p20
        refine r_ireturn (pc := 23) rfl dX5_manOf_23 ⟨_, rfl, ?_⟩
        first
          | contradiction
          | (refine oM.of ?_ (by repeat' (first | exact frM.rf | assumption | refine frM.up0 ?_ | refine frM.up ?_ (by decide) | refine frM.upL ?_ (by decide)))
             simp (decide := true) only [manOfS, noS, noTenS, thP, mnP, shelfP, stepS, eq_true h5, h9, h14, not_true_eq_false, not_false_eq_true, true_and, and_true, false_and, and_false, true_or, or_true, false_or, or_false, cI_True, cI_False, if_true, if_false, sm0, sm1, sm2, sm3, sm4, sm5, sm6, sm7, sm8, sm9, sm10, sm11, sm12, sm13, sm14, sm15, sm16, sm17, sm18, sm19, sm20, sm21, sm22, sm23, sm24, sm25, su0, su1, su2, su3, su4, su5, su6, su7, su8, su9, su10, su11, su12, su13, su14, su15, su16, su17, su18, su19, su20, su21, su22, su23, su24, su25])
theorem ct_X5_wantOf {M0 : PM} {mo : Nat} {I : Nat → Nat → Int32} {L : Nat → Nat → Int64} (hm : MR M0 mo) (x1 : Int32) (x2 : Int32) (hk : OkS (sM I mo)) : Ct (YX5_wantOf, (1, 21, 0, 0), qi (fun r M' => oM M0 mo I L (wantOfS (sS I L mo) x1 x2) r M'), noX) [.ref mo, .int x1, .int x2] (wIL M0 I L) := by
  refine ct_of [some (.ref mo), some (.int x1), some (.int x2)] rfl rfl rfl (Nat.le_of_ble_eq_true rfl) rfl rfl ?_
  refine r_iload_n (pc := 0) dX5_wantOf_0 rfl ?_
  refine r_if_lt (pc := 1) 21 dX5_wantOf_1 rfl (fun h1 => ?_) (fun h1 => ?_)
  · refine r_aload_n (pc := 21) dX5_wantOf_21 rfl ?_
    refine r_bipush (pc := 22) (v := (-5)) dX5_wantOf_22 (by decide) ?_
    refine r_o2 (pc := 24) (bc' := 0) (bs' := 0) (ct_X5_no hm _ (vp_in_lit rfl)) k_X5_136_5 dX5_wantOf_24 (MR_k hm) (Nat.le_of_ble_eq_true rfl) ⟨Nat.le_of_ble_eq_true rfl, Nat.le_of_ble_eq_true rfl⟩ ⟨Nat.le_of_ble_eq_true rfl, Nat.le_of_ble_eq_true rfl⟩ (r_ci fun r24 M24 p24 => ?_) nox
    obtain ⟨rfl, rfl⟩ := p24
    refine r_ireturn (pc := 27) rfl dX5_wantOf_27 ⟨_, rfl, ?_⟩
    first
      | contradiction
      | (refine oM.of ?_ (by repeat' (first | exact frM.rf | assumption | refine frM.up0 ?_ | refine frM.up ?_ (by decide) | refine frM.upL ?_ (by decide)))
         simp (decide := true) only [wantOfS, noS, noTenS, thP, mnP, shelfP, stepS, bI_t, bI_f, h1, not_true_eq_false, not_false_eq_true, true_and, and_true, false_and, and_false, true_or, or_true, false_or, or_false, cI_True, cI_False, if_true, if_false, sm0, sm1, sm2, sm3, sm4, sm5, sm6, sm7, sm8, sm9, sm10, sm11, sm12, sm13, sm14, sm15, sm16, sm17, sm18, sm19, sm20, sm21, sm22, sm23, sm24, sm25, su0, su1, su2, su3, su4, su5, su6, su7, su8, su9, su10, su11, su12, su13, su14, su15, su16, su17, su18, su19, su20, su21, su22, su23, su24, su25])
  · refine r_iload_n (pc := 4) dX5_wantOf_4 rfl ?_
    refine r_aload_n (pc := 5) dX5_wantOf_5 rfl ?_
    refine rm_getI (pc := 6) dX5_wantOf_6 fl_X5_162_5 (MR_k hm) (fun _ _ => rfl) ?_
    refine r_icmp_ge (pc := 9) 21 dX5_wantOf_9 rfl (fun h9 => ?_) (fun h9 => ?_)
    · refine r_aload_n (pc := 21) dX5_wantOf_21 rfl ?_
      refine r_bipush (pc := 22) (v := (-5)) dX5_wantOf_22 (by decide) ?_
      refine r_o2 (pc := 24) (bc' := 0) (bs' := 0) (ct_X5_no hm _ (vp_in_lit rfl)) k_X5_136_5 dX5_wantOf_24 (MR_k hm) (Nat.le_of_ble_eq_true rfl) ⟨Nat.le_of_ble_eq_true rfl, Nat.le_of_ble_eq_true rfl⟩ ⟨Nat.le_of_ble_eq_true rfl, Nat.le_of_ble_eq_true rfl⟩ (r_ci fun r24 M24 p24 => ?_) nox
      obtain ⟨rfl, rfl⟩ := p24
      refine r_ireturn (pc := 27) rfl dX5_wantOf_27 ⟨_, rfl, ?_⟩
      first
        | contradiction
        | (refine oM.of ?_ (by repeat' (first | exact frM.rf | assumption | refine frM.up0 ?_ | refine frM.up ?_ (by decide) | refine frM.upL ?_ (by decide)))
           simp (decide := true) only [wantOfS, noS, noTenS, thP, mnP, shelfP, stepS, bI_t, bI_f, h1, h9, not_true_eq_false, not_false_eq_true, true_and, and_true, false_and, and_false, true_or, or_true, false_or, or_false, cI_True, cI_False, if_true, if_false, sm0, sm1, sm2, sm3, sm4, sm5, sm6, sm7, sm8, sm9, sm10, sm11, sm12, sm13, sm14, sm15, sm16, sm17, sm18, sm19, sm20, sm21, sm22, sm23, sm24, sm25, su0, su1, su2, su3, su4, su5, su6, su7, su8, su9, su10, su11, su12, su13, su14, su15, su16, su17, su18, su19, su20, su21, su22, su23, su24, su25])
    · have hw := vp_b (n := 4) h1 h9 hk.1.1.2.2.2
      have hw2 := hk.1.2.2.2.2 _ (ix_lt h1 h9)
      have ht : vp_in (I (mo + 10) x1.toNatClampNeg) 8 := vp_n ⟨hw2.1.1, Int.lt_of_lt_of_le hw2.1.2 hk.1.1.1.2⟩
      refine r_iload_n (pc := 12) dX5_wantOf_12 rfl ?_
      refine r_if_lt (pc := 13) 21 dX5_wantOf_13 rfl (fun h13 => ?_) (fun h13 => ?_)
      · refine r_aload_n (pc := 21) dX5_wantOf_21 rfl ?_
        refine r_bipush (pc := 22) (v := (-5)) dX5_wantOf_22 (by decide) ?_
        refine r_o2 (pc := 24) (bc' := 0) (bs' := 0) (ct_X5_no hm _ (vp_in_lit rfl)) k_X5_136_5 dX5_wantOf_24 (MR_k hm) (Nat.le_of_ble_eq_true rfl) ⟨Nat.le_of_ble_eq_true rfl, Nat.le_of_ble_eq_true rfl⟩ ⟨Nat.le_of_ble_eq_true rfl, Nat.le_of_ble_eq_true rfl⟩ (r_ci fun r24 M24 p24 => ?_) nox
        obtain ⟨rfl, rfl⟩ := p24
        refine r_ireturn (pc := 27) rfl dX5_wantOf_27 ⟨_, rfl, ?_⟩
        first
          | contradiction
          | (refine oM.of ?_ (by repeat' (first | exact frM.rf | assumption | refine frM.up0 ?_ | refine frM.up ?_ (by decide) | refine frM.upL ?_ (by decide)))
             simp (decide := true) only [wantOfS, noS, noTenS, thP, mnP, shelfP, stepS, bI_t, bI_f, h1, h9, h13, not_true_eq_false, not_false_eq_true, true_and, and_true, false_and, and_false, true_or, or_true, false_or, or_false, cI_True, cI_False, if_true, if_false, sm0, sm1, sm2, sm3, sm4, sm5, sm6, sm7, sm8, sm9, sm10, sm11, sm12, sm13, sm14, sm15, sm16, sm17, sm18, sm19, sm20, sm21, sm22, sm23, sm24, sm25, su0, su1, su2, su3, su4, su5, su6, su7, su8, su9, su10, su11, su12, su13, su14, su15, su16, su17, su18, su19, su20, su21, su22, su23, su24, su25])
      · refine r_iload_n (pc := 16) dX5_wantOf_16 rfl ?_
        refine r_iconst (pc := 17) (v := 3) dX5_wantOf_17 (by decide) ?_
        refine r_icmp_le (pc := 18) 28 dX5_wantOf_18 rfl (fun h18 => ?_) (fun h18 => ?_)
        · refine r_iload_n (pc := 28) dX5_wantOf_28 rfl ?_
          refine r_if_ne (pc := 29) 41 dX5_wantOf_29 rfl (fun h29 => ?_) (fun h29 => ?_)
          · refine r_iload_n (pc := 41) dX5_wantOf_41 rfl ?_
            refine r_iconst (pc := 42) (v := 1) dX5_wantOf_42 (by decide) ?_
            refine r_icmp_ne (pc := 43) 55 dX5_wantOf_43 rfl (fun h43 => ?_) (fun h43 => ?_)
            · refine r_iload_n (pc := 55) dX5_wantOf_55 rfl ?_
              refine r_iconst (pc := 56) (v := 2) dX5_wantOf_56 (by decide) ?_
              refine r_icmp_ne (pc := 57) 69 dX5_wantOf_57 rfl (fun h57 => ?_) (fun h57 => ?_)
              · refine r_aload_n (pc := 69) dX5_wantOf_69 rfl ?_
                refine r_getR (pc := 70) dX5_wantOf_70 fl_X5_32_5 (MR_k hm) (fun _ _ => rfl) (MR_r14 hm) ?_
                refine r_aload_n (pc := 73) dX5_wantOf_73 rfl ?_
                refine r_getR (pc := 74) dX5_wantOf_74 fl_X5_47_5 (MR_k hm) (fun _ _ => rfl) (MR_r19 hm) ?_
                refine r_iload_n (pc := 77) dX5_wantOf_77 rfl ?_
                refine rm_iald (pc := 78) dX5_wantOf_78 (MR_k19 hm) (MR_z19 hm) (by first | assumption | exact vp_in_lit rfl) ?_
                refine rm_iald (pc := 79) dX5_wantOf_79 (MR_k14 hm) (MR_z14 hm) (by first | assumption | exact vp_in_lit rfl) ?_
                refine r_aload_n (pc := 80) dX5_wantOf_80 rfl ?_
                refine r_getR (pc := 81) dX5_wantOf_81 fl_X5_50_5 (MR_k hm) (fun _ _ => rfl) (MR_r20 hm) ?_
                refine r_iload_n (pc := 84) dX5_wantOf_84 rfl ?_
                refine rm_iald (pc := 85) dX5_wantOf_85 (MR_k20 hm) (MR_z20 hm) (by first | assumption | exact vp_in_lit rfl) ?_
                refine r_icmp_ne (pc := 86) 93 dX5_wantOf_86 rfl (fun h86 => ?_) (fun h86 => ?_)
                · refine r_iconst (pc := 93) (v := 0) dX5_wantOf_93 (by decide) ?_
                  refine r_ireturn (pc := 94) rfl dX5_wantOf_94 ⟨_, rfl, ?_⟩
                  first
                    | contradiction
                    | (refine oM.of ?_ (by repeat' (first | exact frM.rf | assumption | refine frM.up0 ?_ | refine frM.up ?_ (by decide) | refine frM.upL ?_ (by decide)))
                       simp (decide := true) only [wantOfS, noS, noTenS, thP, mnP, shelfP, stepS, bI_t, bI_f, h1, h9, h13, h18, h29, h43, h57, h86, not_true_eq_false, not_false_eq_true, true_and, and_true, false_and, and_false, true_or, or_true, false_or, or_false, cI_True, cI_False, if_true, if_false, sm0, sm1, sm2, sm3, sm4, sm5, sm6, sm7, sm8, sm9, sm10, sm11, sm12, sm13, sm14, sm15, sm16, sm17, sm18, sm19, sm20, sm21, sm22, sm23, sm24, sm25, su0, su1, su2, su3, su4, su5, su6, su7, su8, su9, su10, su11, su12, su13, su14, su15, su16, su17, su18, su19, su20, su21, su22, su23, su24, su25])
                · refine r_iconst (pc := 89) (v := 1) dX5_wantOf_89 (by decide) ?_
                  refine r_goto (pc := 90) 94 dX5_wantOf_90 rfl ?_
                  refine r_ireturn (pc := 94) rfl dX5_wantOf_94 ⟨_, rfl, ?_⟩
                  first
                    | contradiction
                    | (refine oM.of ?_ (by repeat' (first | exact frM.rf | assumption | refine frM.up0 ?_ | refine frM.up ?_ (by decide) | refine frM.upL ?_ (by decide)))
                       simp (decide := true) only [wantOfS, noS, noTenS, thP, mnP, shelfP, stepS, bI_t, bI_f, h1, h9, h13, h18, h29, h43, h57, h86, not_true_eq_false, not_false_eq_true, true_and, and_true, false_and, and_false, true_or, or_true, false_or, or_false, cI_True, cI_False, if_true, if_false, sm0, sm1, sm2, sm3, sm4, sm5, sm6, sm7, sm8, sm9, sm10, sm11, sm12, sm13, sm14, sm15, sm16, sm17, sm18, sm19, sm20, sm21, sm22, sm23, sm24, sm25, su0, su1, su2, su3, su4, su5, su6, su7, su8, su9, su10, su11, su12, su13, su14, su15, su16, su17, su18, su19, su20, su21, su22, su23, su24, su25])
              · subst h57
                refine r_aload_n (pc := 60) dX5_wantOf_60 rfl ?_
                refine r_getR (pc := 61) dX5_wantOf_61 fl_X5_53_5 (MR_k hm) (fun _ _ => rfl) (MR_r21 hm) ?_
                refine r_iload_n (pc := 64) dX5_wantOf_64 rfl ?_
                refine rm_iald (pc := 65) dX5_wantOf_65 (MR_k21 hm) (MR_z21 hm) (by first | assumption | exact vp_in_lit rfl) ?_
                refine r_goto (pc := 66) 94 dX5_wantOf_66 rfl ?_
                refine r_ireturn (pc := 94) rfl dX5_wantOf_94 ⟨_, rfl, ?_⟩
                first
                  | contradiction
                  | (refine oM.of ?_ (by repeat' (first | exact frM.rf | assumption | refine frM.up0 ?_ | refine frM.up ?_ (by decide) | refine frM.upL ?_ (by decide)))
                     simp (decide := true) only [wantOfS, noS, noTenS, thP, mnP, shelfP, stepS, bI_t, bI_f, h1, h9, h13, h18, h29, h43, not_true_eq_false, not_false_eq_true, true_and, and_true, false_and, and_false, true_or, or_true, false_or, or_false, cI_True, cI_False, if_true, if_false, sm0, sm1, sm2, sm3, sm4, sm5, sm6, sm7, sm8, sm9, sm10, sm11, sm12, sm13, sm14, sm15, sm16, sm17, sm18, sm19, sm20, sm21, sm22, sm23, sm24, sm25, su0, su1, su2, su3, su4, su5, su6, su7, su8, su9, su10, su11, su12, su13, su14, su15, su16, su17, su18, su19, su20, su21, su22, su23, su24, su25])
            · subst h43
              refine r_aload_n (pc := 46) dX5_wantOf_46 rfl ?_
              refine r_getR (pc := 47) dX5_wantOf_47 fl_X5_50_5 (MR_k hm) (fun _ _ => rfl) (MR_r20 hm) ?_
              refine r_iload_n (pc := 50) dX5_wantOf_50 rfl ?_
              refine rm_iald (pc := 51) dX5_wantOf_51 (MR_k20 hm) (MR_z20 hm) (by first | assumption | exact vp_in_lit rfl) ?_
              refine r_goto (pc := 52) 94 dX5_wantOf_52 rfl ?_
              refine r_ireturn (pc := 94) rfl dX5_wantOf_94 ⟨_, rfl, ?_⟩
              first
                | contradiction
                | (refine oM.of ?_ (by repeat' (first | exact frM.rf | assumption | refine frM.up0 ?_ | refine frM.up ?_ (by decide) | refine frM.upL ?_ (by decide)))
                   simp (decide := true) only [wantOfS, noS, noTenS, thP, mnP, shelfP, stepS, bI_t, bI_f, h1, h9, h13, h18, h29, not_true_eq_false, not_false_eq_true, true_and, and_true, false_and, and_false, true_or, or_true, false_or, or_false, cI_True, cI_False, if_true, if_false, sm0, sm1, sm2, sm3, sm4, sm5, sm6, sm7, sm8, sm9, sm10, sm11, sm12, sm13, sm14, sm15, sm16, sm17, sm18, sm19, sm20, sm21, sm22, sm23, sm24, sm25, su0, su1, su2, su3, su4, su5, su6, su7, su8, su9, su10, su11, su12, su13, su14, su15, su16, su17, su18, su19, su20, su21, su22, su23, su24, su25])
          · subst h29
            refine r_aload_n (pc := 32) dX5_wantOf_32 rfl ?_
            refine r_getR (pc := 33) dX5_wantOf_33 fl_X5_47_5 (MR_k hm) (fun _ _ => rfl) (MR_r19 hm) ?_
            refine r_iload_n (pc := 36) dX5_wantOf_36 rfl ?_
            refine rm_iald (pc := 37) dX5_wantOf_37 (MR_k19 hm) (MR_z19 hm) (by first | assumption | exact vp_in_lit rfl) ?_
            refine r_goto (pc := 38) 94 dX5_wantOf_38 rfl ?_
            refine r_ireturn (pc := 94) rfl dX5_wantOf_94 ⟨_, rfl, ?_⟩
            first
              | contradiction
              | (refine oM.of ?_ (by repeat' (first | exact frM.rf | assumption | refine frM.up0 ?_ | refine frM.up ?_ (by decide) | refine frM.upL ?_ (by decide)))
                 simp (decide := true) only [wantOfS, noS, noTenS, thP, mnP, shelfP, stepS, bI_t, bI_f, h1, h9, h13, h18, not_true_eq_false, not_false_eq_true, true_and, and_true, false_and, and_false, true_or, or_true, false_or, or_false, cI_True, cI_False, if_true, if_false, sm0, sm1, sm2, sm3, sm4, sm5, sm6, sm7, sm8, sm9, sm10, sm11, sm12, sm13, sm14, sm15, sm16, sm17, sm18, sm19, sm20, sm21, sm22, sm23, sm24, sm25, su0, su1, su2, su3, su4, su5, su6, su7, su8, su9, su10, su11, su12, su13, su14, su15, su16, su17, su18, su19, su20, su21, su22, su23, su24, su25])
        · refine r_aload_n (pc := 21) dX5_wantOf_21 rfl ?_
          refine r_bipush (pc := 22) (v := (-5)) dX5_wantOf_22 (by decide) ?_
          refine r_o2 (pc := 24) (bc' := 0) (bs' := 0) (ct_X5_no hm _ (vp_in_lit rfl)) k_X5_136_5 dX5_wantOf_24 (MR_k hm) (Nat.le_of_ble_eq_true rfl) ⟨Nat.le_of_ble_eq_true rfl, Nat.le_of_ble_eq_true rfl⟩ ⟨Nat.le_of_ble_eq_true rfl, Nat.le_of_ble_eq_true rfl⟩ (r_ci fun r24 M24 p24 => ?_) nox
          obtain ⟨rfl, rfl⟩ := p24
          refine r_ireturn (pc := 27) rfl dX5_wantOf_27 ⟨_, rfl, ?_⟩
          first
            | contradiction
            | (refine oM.of ?_ (by repeat' (first | exact frM.rf | assumption | refine frM.up0 ?_ | refine frM.up ?_ (by decide) | refine frM.upL ?_ (by decide)))
               simp (decide := true) only [wantOfS, noS, noTenS, thP, mnP, shelfP, stepS, bI_t, bI_f, h1, h9, h13, h18, not_true_eq_false, not_false_eq_true, true_and, and_true, false_and, and_false, true_or, or_true, false_or, or_false, cI_True, cI_False, if_true, if_false, sm0, sm1, sm2, sm3, sm4, sm5, sm6, sm7, sm8, sm9, sm10, sm11, sm12, sm13, sm14, sm15, sm16, sm17, sm18, sm19, sm20, sm21, sm22, sm23, sm24, sm25, su0, su1, su2, su3, su4, su5, su6, su7, su8, su9, su10, su11, su12, su13, su14, su15, su16, su17, su18, su19, su20, su21, su22, su23, su24, su25])
theorem ct_X5_far {M0 : PM} {mo : Nat} {I : Nat → Nat → Int32} {L : Nat → Nat → Int64} (hm : MR M0 mo) (x1 : Int32) (x2 : Int32) (hk : OkS (sM I mo)) : Ct (YX5_far, (3, 69, 0, 0), qi (fun r M' => oM M0 mo I L (farOS (sS I L mo) x1 x2) r M'), noX) [.ref mo, .int x1, .int x2] (wIL M0 I L) := by
  refine ct_of [some (.ref mo), some (.int x1), some (.int x2)] rfl rfl rfl (Nat.le_of_ble_eq_true rfl) rfl rfl ?_
  refine r_aload_n (pc := 0) dX5_far_0 rfl ?_
  refine r_iload_n (pc := 1) dX5_far_1 rfl ?_
  refine r_o2 (pc := 2) (bc' := 0) (bs' := 0) (ct_X5_isMan hm _) k_X5_178_5 dX5_far_2 (MR_k hm) (Nat.le_of_ble_eq_true rfl) ⟨Nat.le_of_ble_eq_true rfl, Nat.le_of_ble_eq_true rfl⟩ ⟨Nat.le_of_ble_eq_true rfl, Nat.le_of_ble_eq_true rfl⟩ (r_ci fun r2 M2 p2 => ?_) nox
  obtain ⟨rfl, rfl⟩ := p2
  refine r_if_eq (pc := 5) 25 dX5_far_5 rfl (fun h5 => ?_) (fun h5 => ?_)
  · rw [bI_eq0] at h5
    refine r_aload_n (pc := 25) dX5_far_25 rfl ?_
    refine r_iconst (pc := 26) (v := (-1)) dX5_far_26 (by decide) ?_
    refine r_o2 (pc := 27) (bc' := 0) (bs' := 0) (ct_X5_no hm _ (vp_in_lit rfl)) k_X5_136_5 dX5_far_27 (MR_k hm) (Nat.le_of_ble_eq_true rfl) ⟨Nat.le_of_ble_eq_true rfl, Nat.le_of_ble_eq_true rfl⟩ ⟨Nat.le_of_ble_eq_true rfl, Nat.le_of_ble_eq_true rfl⟩ (r_ci fun r27 M27 p27 => ?_) nox
    obtain ⟨rfl, rfl⟩ := p27
    refine r_ireturn (pc := 30) rfl dX5_far_30 ⟨_, rfl, ?_⟩
    first
      | contradiction
      | (refine oM.of ?_ (by repeat' (first | exact frM.rf | assumption | refine frM.up0 ?_ | refine frM.up ?_ (by decide) | refine frM.upL ?_ (by decide)))
         simp (decide := true) only [farOS, noS, noTenS, thP, mnP, shelfP, stepS, farS, farBS, eq_false h5, not_true_eq_false, not_false_eq_true, true_and, and_true, false_and, and_false, true_or, or_true, false_or, or_false, cI_True, cI_False, if_true, if_false, sm0, sm1, sm2, sm3, sm4, sm5, sm6, sm7, sm8, sm9, sm10, sm11, sm12, sm13, sm14, sm15, sm16, sm17, sm18, sm19, sm20, sm21, sm22, sm23, sm24, sm25, su0, su1, su2, su3, su4, su5, su6, su7, su8, su9, su10, su11, su12, su13, su14, su15, su16, su17, su18, su19, su20, su21, su22, su23, su24, su25])
  · rw [bI_ne0] at h5
    have hn := vp_b (n := 8) h5.1 h5.2 hk.1.1.2.1.2
    refine r_aload_n (pc := 8) dX5_far_8 rfl ?_
    refine r_iload_n (pc := 9) dX5_far_9 rfl ?_
    refine r_o2 (pc := 10) (bc' := 0) (bs' := 0) (ct_X5_isThing hm _) k_X5_140_5 dX5_far_10 (MR_k hm) (Nat.le_of_ble_eq_true rfl) ⟨Nat.le_of_ble_eq_true rfl, Nat.le_of_ble_eq_true rfl⟩ ⟨Nat.le_of_ble_eq_true rfl, Nat.le_of_ble_eq_true rfl⟩ (r_ci fun r10 M10 p10 => ?_) nox
    obtain ⟨rfl, rfl⟩ := p10
    refine r_if_eq (pc := 13) 25 dX5_far_13 rfl (fun h13 => ?_) (fun h13 => ?_)
    · rw [bI_eq0] at h13
      refine r_aload_n (pc := 25) dX5_far_25 rfl ?_
      refine r_iconst (pc := 26) (v := (-1)) dX5_far_26 (by decide) ?_
      refine r_o2 (pc := 27) (bc' := 0) (bs' := 0) (ct_X5_no hm _ (vp_in_lit rfl)) k_X5_136_5 dX5_far_27 (MR_k hm) (Nat.le_of_ble_eq_true rfl) ⟨Nat.le_of_ble_eq_true rfl, Nat.le_of_ble_eq_true rfl⟩ ⟨Nat.le_of_ble_eq_true rfl, Nat.le_of_ble_eq_true rfl⟩ (r_ci fun r27 M27 p27 => ?_) nox
      obtain ⟨rfl, rfl⟩ := p27
      refine r_ireturn (pc := 30) rfl dX5_far_30 ⟨_, rfl, ?_⟩
      first
        | contradiction
        | (refine oM.of ?_ (by repeat' (first | exact frM.rf | assumption | refine frM.up0 ?_ | refine frM.up ?_ (by decide) | refine frM.upL ?_ (by decide)))
           simp (decide := true) only [farOS, noS, noTenS, thP, mnP, shelfP, stepS, farS, farBS, eq_true h5, eq_false h13, not_true_eq_false, not_false_eq_true, true_and, and_true, false_and, and_false, true_or, or_true, false_or, or_false, cI_True, cI_False, if_true, if_false, sm0, sm1, sm2, sm3, sm4, sm5, sm6, sm7, sm8, sm9, sm10, sm11, sm12, sm13, sm14, sm15, sm16, sm17, sm18, sm19, sm20, sm21, sm22, sm23, sm24, sm25, su0, su1, su2, su3, su4, su5, su6, su7, su8, su9, su10, su11, su12, su13, su14, su15, su16, su17, su18, su19, su20, su21, su22, su23, su24, su25])
    · rw [bI_ne0] at h13
      have ht := vp_b (n := 8) h13.1 h13.2 hk.1.1.1.2
      have hd := hk.1.far (ix_lt h13.1 h13.2)
      refine r_aload_n (pc := 16) dX5_far_16 rfl ?_
      refine r_iload_n (pc := 17) dX5_far_17 rfl ?_
      refine r_iload_n (pc := 18) dX5_far_18 rfl ?_
      refine r_o3 (pc := 19) (bc' := 0) (bs' := 0) (ct_X5_farOf hm _ _ hn ht hd.1 hd.2) k_X5_236_5 dX5_far_19 (MR_k hm) (Nat.le_of_ble_eq_true rfl) ⟨Nat.le_of_ble_eq_true rfl, Nat.le_of_ble_eq_true rfl⟩ ⟨Nat.le_of_ble_eq_true rfl, Nat.le_of_ble_eq_true rfl⟩ (r_ci fun r19 M19 p19 => ?_) nox
      obtain ⟨rfl, rfl⟩ := p19
      refine r_goto (pc := 22) 30 dX5_far_22 rfl ?_
      refine r_ireturn (pc := 30) rfl dX5_far_30 ⟨_, rfl, ?_⟩
      first
        | contradiction
        | (refine oM.of ?_ (by repeat' (first | exact frM.rf | assumption | refine frM.up0 ?_ | refine frM.up ?_ (by decide) | refine frM.upL ?_ (by decide)))
           simp (decide := true) only [farOS, noS, noTenS, thP, mnP, shelfP, stepS, farS, farBS, eq_true h5, eq_true h13, not_true_eq_false, not_false_eq_true, true_and, and_true, false_and, and_false, true_or, or_true, false_or, or_false, cI_True, cI_False, if_true, if_false, sm0, sm1, sm2, sm3, sm4, sm5, sm6, sm7, sm8, sm9, sm10, sm11, sm12, sm13, sm14, sm15, sm16, sm17, sm18, sm19, sm20, sm21, sm22, sm23, sm24, sm25, su0, su1, su2, su3, su4, su5, su6, su7, su8, su9, su10, su11, su12, su13, su14, su15, su16, su17, su18, su19, su20, su21, su22, su23, su24, su25])
theorem ct_X5_wrong_2 {M0 : PM} {mo : Nat} {I : Nat → Nat → Int32} {L : Nat → Nat → Int64} (hm : MR M0 mo) (x1 : Int32) (x2 : Int32) (x3 : Int32) (hk : OkS (sM I mo)) : Ct (YX5_wrong_2, (4, 93, 0, 0), qi (fun r M' => oM M0 mo I L (wrongOS (sS I L mo) x1 x2 x3) r M'), noX) [.ref mo, .int x1, .int x2, .int x3] (wIL M0 I L) := by
  refine ct_of [some (.ref mo), some (.int x1), some (.int x2), some (.int x3)] rfl rfl rfl (Nat.le_of_ble_eq_true rfl) rfl rfl ?_
  refine r_aload_n (pc := 0) dX5_wrong_2_0 rfl ?_
  refine r_iload_n (pc := 1) dX5_wrong_2_1 rfl ?_
  refine r_o2 (pc := 2) (bc' := 0) (bs' := 0) (ct_X5_isMan hm _) k_X5_178_5 dX5_wrong_2_2 (MR_k hm) (Nat.le_of_ble_eq_true rfl) ⟨Nat.le_of_ble_eq_true rfl, Nat.le_of_ble_eq_true rfl⟩ ⟨Nat.le_of_ble_eq_true rfl, Nat.le_of_ble_eq_true rfl⟩ (r_ci fun r2 M2 p2 => ?_) nox
  obtain ⟨rfl, rfl⟩ := p2
  refine r_if_eq (pc := 5) 30 dX5_wrong_2_5 rfl (fun h5 => ?_) (fun h5 => ?_)
  · rw [bI_eq0] at h5
    refine r_aload_n (pc := 30) dX5_wrong_2_30 rfl ?_
    refine r_iconst (pc := 31) (v := (-1)) dX5_wrong_2_31 (by decide) ?_
    refine r_o2 (pc := 32) (bc' := 0) (bs' := 0) (ct_X5_no hm _ (vp_in_lit rfl)) k_X5_136_5 dX5_wrong_2_32 (MR_k hm) (Nat.le_of_ble_eq_true rfl) ⟨Nat.le_of_ble_eq_true rfl, Nat.le_of_ble_eq_true rfl⟩ ⟨Nat.le_of_ble_eq_true rfl, Nat.le_of_ble_eq_true rfl⟩ (r_ci fun r32 M32 p32 => ?_) nox
    obtain ⟨rfl, rfl⟩ := p32
    refine r_ireturn (pc := 35) rfl dX5_wrong_2_35 ⟨_, rfl, ?_⟩
    first
      | contradiction
      | (refine oM.of ?_ (by repeat' (first | exact frM.rf | assumption | refine frM.up0 ?_ | refine frM.up ?_ (by decide) | refine frM.upL ?_ (by decide)))
         simp (decide := true) only [wrongOS, noS, noTenS, thP, mnP, shelfP, stepS, wrongS, farS, farBS, eq_false h5, not_true_eq_false, not_false_eq_true, true_and, and_true, false_and, and_false, true_or, or_true, false_or, or_false, cI_True, cI_False, if_true, if_false, sm0, sm1, sm2, sm3, sm4, sm5, sm6, sm7, sm8, sm9, sm10, sm11, sm12, sm13, sm14, sm15, sm16, sm17, sm18, sm19, sm20, sm21, sm22, sm23, sm24, sm25, su0, su1, su2, su3, su4, su5, su6, su7, su8, su9, su10, su11, su12, su13, su14, su15, su16, su17, su18, su19, su20, su21, su22, su23, su24, su25])
  · rw [bI_ne0] at h5
    have hn := vp_b (n := 8) h5.1 h5.2 hk.1.1.2.1.2
    refine r_aload_n (pc := 8) dX5_wrong_2_8 rfl ?_
    refine r_iload_n (pc := 9) dX5_wrong_2_9 rfl ?_
    refine r_o2 (pc := 10) (bc' := 0) (bs' := 0) (ct_X5_isThing hm _) k_X5_140_5 dX5_wrong_2_10 (MR_k hm) (Nat.le_of_ble_eq_true rfl) ⟨Nat.le_of_ble_eq_true rfl, Nat.le_of_ble_eq_true rfl⟩ ⟨Nat.le_of_ble_eq_true rfl, Nat.le_of_ble_eq_true rfl⟩ (r_ci fun r10 M10 p10 => ?_) nox
    obtain ⟨rfl, rfl⟩ := p10
    refine r_if_eq (pc := 13) 30 dX5_wrong_2_13 rfl (fun h13 => ?_) (fun h13 => ?_)
    · rw [bI_eq0] at h13
      refine r_aload_n (pc := 30) dX5_wrong_2_30 rfl ?_
      refine r_iconst (pc := 31) (v := (-1)) dX5_wrong_2_31 (by decide) ?_
      refine r_o2 (pc := 32) (bc' := 0) (bs' := 0) (ct_X5_no hm _ (vp_in_lit rfl)) k_X5_136_5 dX5_wrong_2_32 (MR_k hm) (Nat.le_of_ble_eq_true rfl) ⟨Nat.le_of_ble_eq_true rfl, Nat.le_of_ble_eq_true rfl⟩ ⟨Nat.le_of_ble_eq_true rfl, Nat.le_of_ble_eq_true rfl⟩ (r_ci fun r32 M32 p32 => ?_) nox
      obtain ⟨rfl, rfl⟩ := p32
      refine r_ireturn (pc := 35) rfl dX5_wrong_2_35 ⟨_, rfl, ?_⟩
      first
        | contradiction
        | (refine oM.of ?_ (by repeat' (first | exact frM.rf | assumption | refine frM.up0 ?_ | refine frM.up ?_ (by decide) | refine frM.upL ?_ (by decide)))
           simp (decide := true) only [wrongOS, noS, noTenS, thP, mnP, shelfP, stepS, wrongS, farS, farBS, eq_true h5, eq_false h13, not_true_eq_false, not_false_eq_true, true_and, and_true, false_and, and_false, true_or, or_true, false_or, or_false, cI_True, cI_False, if_true, if_false, sm0, sm1, sm2, sm3, sm4, sm5, sm6, sm7, sm8, sm9, sm10, sm11, sm12, sm13, sm14, sm15, sm16, sm17, sm18, sm19, sm20, sm21, sm22, sm23, sm24, sm25, su0, su1, su2, su3, su4, su5, su6, su7, su8, su9, su10, su11, su12, su13, su14, su15, su16, su17, su18, su19, su20, su21, su22, su23, su24, su25])
    · rw [bI_ne0] at h13
      have ht := vp_b (n := 8) h13.1 h13.2 hk.1.1.1.2
      have hd := hk.1.far (ix_lt h13.1 h13.2)
      refine r_aload_n (pc := 16) dX5_wrong_2_16 rfl ?_
      refine r_iload_n (pc := 17) dX5_wrong_2_17 rfl ?_
      refine r_iload_n (pc := 18) dX5_wrong_2_18 rfl ?_
      refine r_aload_n (pc := 19) dX5_wrong_2_19 rfl ?_
      refine r_iload_n (pc := 20) dX5_wrong_2_20 rfl ?_
      refine r_o2 (pc := 21) (bc' := 0) (bs' := 0) (ct_X5_near hm _) k_X5_239_5 dX5_wrong_2_21 (MR_k hm) (Nat.le_of_ble_eq_true rfl) ⟨Nat.le_of_ble_eq_true rfl, Nat.le_of_ble_eq_true rfl⟩ ⟨Nat.le_of_ble_eq_true rfl, Nat.le_of_ble_eq_true rfl⟩ (r_ci fun r21 M21 p21 => ?_) nox
      obtain ⟨rfl, rfl⟩ := p21
      refine r_o4 (pc := 24) (bc' := 0) (bs' := 0) (ct_X5_wrongBy hm _ _ _ hn ht hd.1 hd.2) k_X5_242_5 dX5_wrong_2_24 (MR_k hm) (Nat.le_of_ble_eq_true rfl) ⟨Nat.le_of_ble_eq_true rfl, Nat.le_of_ble_eq_true rfl⟩ ⟨Nat.le_of_ble_eq_true rfl, Nat.le_of_ble_eq_true rfl⟩ (r_ci fun r24 M24 p24 => ?_) nox
      obtain ⟨rfl, rfl⟩ := p24
      refine r_goto (pc := 27) 35 dX5_wrong_2_27 rfl ?_
      refine r_ireturn (pc := 35) rfl dX5_wrong_2_35 ⟨_, rfl, ?_⟩
      first
        | contradiction
        | (refine oM.of ?_ (by repeat' (first | exact frM.rf | assumption | refine frM.up0 ?_ | refine frM.up ?_ (by decide) | refine frM.upL ?_ (by decide)))
           simp (decide := true) only [wrongOS, noS, noTenS, thP, mnP, shelfP, stepS, wrongS, farS, farBS, eq_true h5, eq_true h13, not_true_eq_false, not_false_eq_true, true_and, and_true, false_and, and_false, true_or, or_true, false_or, or_false, cI_True, cI_False, if_true, if_false, sm0, sm1, sm2, sm3, sm4, sm5, sm6, sm7, sm8, sm9, sm10, sm11, sm12, sm13, sm14, sm15, sm16, sm17, sm18, sm19, sm20, sm21, sm22, sm23, sm24, sm25, su0, su1, su2, su3, su4, su5, su6, su7, su8, su9, su10, su11, su12, su13, su14, su15, su16, su17, su18, su19, su20, su21, su22, su23, su24, su25])
theorem ct_X5_carry {M0 : PM} {mo : Nat} {I : Nat → Nat → Int32} {L : Nat → Nat → Int64} (hm : MR M0 mo) (x1 : Int32) (x2 : Int32) (x3 : Int32) (hk : OkS (sM I mo)) : Ct (YX5_carry, (4, 93, 0, 0), qi (fun r M' => oM M0 mo I L (carryS (sS I L mo) x1 x2 x3) r M'), noX) [.ref mo, .int x1, .int x2, .int x3] (wIL M0 I L) := by
  refine ct_of [some (.ref mo), some (.int x1), some (.int x2), some (.int x3)] rfl rfl rfl (Nat.le_of_ble_eq_true rfl) rfl rfl ?_
  refine r_aload_n (pc := 0) dX5_carry_0 rfl ?_
  refine r_iload_n (pc := 1) dX5_carry_1 rfl ?_
  refine r_o2 (pc := 2) (bc' := 0) (bs' := 0) (ct_X5_isMan hm _) k_X5_178_5 dX5_carry_2 (MR_k hm) (Nat.le_of_ble_eq_true rfl) ⟨Nat.le_of_ble_eq_true rfl, Nat.le_of_ble_eq_true rfl⟩ ⟨Nat.le_of_ble_eq_true rfl, Nat.le_of_ble_eq_true rfl⟩ (r_ci fun r2 M2 p2 => ?_) nox
  obtain ⟨rfl, rfl⟩ := p2
  refine r_if_eq (pc := 5) 16 dX5_carry_5 rfl (fun h5 => ?_) (fun h5 => ?_)
  · rw [bI_eq0] at h5
    refine r_aload_n (pc := 16) dX5_carry_16 rfl ?_
    refine r_iconst (pc := 17) (v := (-1)) dX5_carry_17 (by decide) ?_
    refine r_o2 (pc := 18) (bc' := 0) (bs' := 0) (ct_X5_no hm _ (vp_in_lit rfl)) k_X5_136_5 dX5_carry_18 (MR_k hm) (Nat.le_of_ble_eq_true rfl) ⟨Nat.le_of_ble_eq_true rfl, Nat.le_of_ble_eq_true rfl⟩ ⟨Nat.le_of_ble_eq_true rfl, Nat.le_of_ble_eq_true rfl⟩ (r_ci fun r18 M18 p18 => ?_) nox
    obtain ⟨rfl, rfl⟩ := p18
    refine r_ireturn (pc := 21) rfl dX5_carry_21 ⟨_, rfl, ?_⟩
    first
      | contradiction
      | (refine oM.of ?_ (by repeat' (first | exact frM.rf | assumption | refine frM.up0 ?_ | refine frM.up ?_ (by decide) | refine frM.upL ?_ (by decide)))
         simp (decide := true) only [carryS, noS, noTenS, thP, mnP, shelfP, stepS, wrongS, farS, farBS, carriesS, eq_false h5, not_true_eq_false, not_false_eq_true, true_and, and_true, false_and, and_false, true_or, or_true, false_or, or_false, cI_True, cI_False, if_true, if_false, sm0, sm1, sm2, sm3, sm4, sm5, sm6, sm7, sm8, sm9, sm10, sm11, sm12, sm13, sm14, sm15, sm16, sm17, sm18, sm19, sm20, sm21, sm22, sm23, sm24, sm25, su0, su1, su2, su3, su4, su5, su6, su7, su8, su9, su10, su11, su12, su13, su14, su15, su16, su17, su18, su19, su20, su21, su22, su23, su24, su25])
  · rw [bI_ne0] at h5
    have hn := vp_b (n := 8) h5.1 h5.2 hk.1.1.2.1.2
    refine r_aload_n (pc := 8) dX5_carry_8 rfl ?_
    refine r_iload_n (pc := 9) dX5_carry_9 rfl ?_
    refine r_o2 (pc := 10) (bc' := 0) (bs' := 0) (ct_X5_isThing hm _) k_X5_140_5 dX5_carry_10 (MR_k hm) (Nat.le_of_ble_eq_true rfl) ⟨Nat.le_of_ble_eq_true rfl, Nat.le_of_ble_eq_true rfl⟩ ⟨Nat.le_of_ble_eq_true rfl, Nat.le_of_ble_eq_true rfl⟩ (r_ci fun r10 M10 p10 => ?_) nox
    obtain ⟨rfl, rfl⟩ := p10
    refine r_if_ne (pc := 13) 22 dX5_carry_13 rfl (fun h13 => ?_) (fun h13 => ?_)
    · rw [bI_ne0] at h13
      have ht := vp_b (n := 8) h13.1 h13.2 hk.1.1.1.2
      have hd := hk.1.far (ix_lt h13.1 h13.2)
      refine r_aload_n (pc := 22) dX5_carry_22 rfl ?_
      refine r_iload_n (pc := 23) dX5_carry_23 rfl ?_
      refine r_iload_n (pc := 24) dX5_carry_24 rfl ?_
      refine r_aload_n (pc := 25) dX5_carry_25 rfl ?_
      refine r_iload_n (pc := 26) dX5_carry_26 rfl ?_
      refine r_o2 (pc := 27) (bc' := 0) (bs' := 0) (ct_X5_near hm _) k_X5_239_5 dX5_carry_27 (MR_k hm) (Nat.le_of_ble_eq_true rfl) ⟨Nat.le_of_ble_eq_true rfl, Nat.le_of_ble_eq_true rfl⟩ ⟨Nat.le_of_ble_eq_true rfl, Nat.le_of_ble_eq_true rfl⟩ (r_ci fun r27 M27 p27 => ?_) nox
      obtain ⟨rfl, rfl⟩ := p27
      refine r_o4 (pc := 30) (bc' := 0) (bs' := 0) (ct_X5_wrongBy hm _ _ _ hn ht hd.1 hd.2) k_X5_242_5 dX5_carry_30 (MR_k hm) (Nat.le_of_ble_eq_true rfl) ⟨Nat.le_of_ble_eq_true rfl, Nat.le_of_ble_eq_true rfl⟩ ⟨Nat.le_of_ble_eq_true rfl, Nat.le_of_ble_eq_true rfl⟩ (r_ci fun r30 M30 p30 => ?_) nox
      obtain ⟨rfl, rfl⟩ := p30
      refine r_if_eq (pc := 33) 43 dX5_carry_33 rfl (fun h33 => ?_) (fun h33 => ?_)
      · refine r_aload_n (pc := 43) dX5_carry_43 rfl ?_
        refine r_iload_n (pc := 44) dX5_carry_44 rfl ?_
        refine r_iload_n (pc := 45) dX5_carry_45 rfl ?_
        refine r_iload_n (pc := 46) dX5_carry_46 rfl ?_
        refine r_o4 (pc := 47) (bc' := 0) (bs' := 0) (ct_X5_carries hm _ _ _ hn ht) k_X5_249_5 dX5_carry_47 (MR_k hm) (Nat.le_of_ble_eq_true rfl) ⟨Nat.le_of_ble_eq_true rfl, Nat.le_of_ble_eq_true rfl⟩ ⟨Nat.le_of_ble_eq_true rfl, Nat.le_of_ble_eq_true rfl⟩ (r_cv fun M47 p47 => ?_) nox
        have p47 : _ = _ := p47
        subst p47
        refine r_aload_n (pc := 50) dX5_carry_50 rfl ?_
        refine r_dup (pc := 51) dX5_carry_51 rfl ?_
        refine rm_getIe (pc := 52) (v := I mo 8) dX5_carry_52 fl_X5_223_5 (MR_k hm) (fun _ _ => rfl) (by simp [up2_ne, up2_self, va_up]) ?_
        refine r_iconst (pc := 55) (v := 1) dX5_carry_55 (by decide) ?_
        refine r_iadd (pc := 56) dX5_carry_56 ?_
        refine rm_putI (pc := 57) dX5_carry_57 fl_X5_223_5 (MR_k hm) rfl rfl ?_
        refine r_aload_n (pc := 60) dX5_carry_60 rfl ?_
        refine r_getR (pc := 61) dX5_carry_61 fl_X5_32_5 (MR_k hm) (fun _ _ => rfl) (MR_r14 hm) ?_
        refine r_iload_n (pc := 64) dX5_carry_64 rfl ?_
        refine rm_iald (pc := 65) dX5_carry_65 (MR_k14 hm) (MR_z14 hm) (by first | assumption | exact vp_in_lit rfl) ?_
        refine r_eqi (I (mo + 5) x2.toNatClampNeg + x3) (by simp [up2_ne, up2_self, va_up]) ?_
        refine r_ireturn (pc := 66) rfl dX5_carry_66 ⟨_, rfl, ?_⟩
        first
          | contradiction
          | (refine oM.of ?_ (by repeat' (first | exact frM.rf | assumption | refine frM.up0 ?_ | refine frM.up ?_ (by decide) | refine frM.upL ?_ (by decide)))
             simp (decide := true) only [carryS, noS, noTenS, thP, mnP, shelfP, stepS, wrongS, farS, farBS, carriesS, eq_true h5, eq_true h13, h33, not_true_eq_false, not_false_eq_true, true_and, and_true, false_and, and_false, true_or, or_true, false_or, or_false, cI_True, cI_False, if_true, if_false, sm0, sm1, sm2, sm3, sm4, sm5, sm6, sm7, sm8, sm9, sm10, sm11, sm12, sm13, sm14, sm15, sm16, sm17, sm18, sm19, sm20, sm21, sm22, sm23, sm24, sm25, su0, su1, su2, su3, su4, su5, su6, su7, su8, su9, su10, su11, su12, su13, su14, su15, su16, su17, su18, su19, su20, su21, su22, su23, su24, su25])
      · refine r_aload_n (pc := 36) dX5_carry_36 rfl ?_
        refine r_bipush (pc := 37) (v := (-6)) dX5_carry_37 (by decide) ?_
        refine r_o2 (pc := 39) (bc' := 0) (bs' := 0) (ct_X5_no hm _ (vp_in_lit rfl)) k_X5_136_5 dX5_carry_39 (MR_k hm) (Nat.le_of_ble_eq_true rfl) ⟨Nat.le_of_ble_eq_true rfl, Nat.le_of_ble_eq_true rfl⟩ ⟨Nat.le_of_ble_eq_true rfl, Nat.le_of_ble_eq_true rfl⟩ (r_ci fun r39 M39 p39 => ?_) nox
        obtain ⟨rfl, rfl⟩ := p39
        refine r_ireturn (pc := 42) rfl dX5_carry_42 ⟨_, rfl, ?_⟩
        first
          | contradiction
          | (refine oM.of ?_ (by repeat' (first | exact frM.rf | assumption | refine frM.up0 ?_ | refine frM.up ?_ (by decide) | refine frM.upL ?_ (by decide)))
             simp (decide := true) only [carryS, noS, noTenS, thP, mnP, shelfP, stepS, wrongS, farS, farBS, carriesS, eq_true h5, eq_true h13, h33, not_true_eq_false, not_false_eq_true, true_and, and_true, false_and, and_false, true_or, or_true, false_or, or_false, cI_True, cI_False, if_true, if_false, sm0, sm1, sm2, sm3, sm4, sm5, sm6, sm7, sm8, sm9, sm10, sm11, sm12, sm13, sm14, sm15, sm16, sm17, sm18, sm19, sm20, sm21, sm22, sm23, sm24, sm25, su0, su1, su2, su3, su4, su5, su6, su7, su8, su9, su10, su11, su12, su13, su14, su15, su16, su17, su18, su19, su20, su21, su22, su23, su24, su25])
    · rw [bI_eq0] at h13
      refine r_aload_n (pc := 16) dX5_carry_16 rfl ?_
      refine r_iconst (pc := 17) (v := (-1)) dX5_carry_17 (by decide) ?_
      refine r_o2 (pc := 18) (bc' := 0) (bs' := 0) (ct_X5_no hm _ (vp_in_lit rfl)) k_X5_136_5 dX5_carry_18 (MR_k hm) (Nat.le_of_ble_eq_true rfl) ⟨Nat.le_of_ble_eq_true rfl, Nat.le_of_ble_eq_true rfl⟩ ⟨Nat.le_of_ble_eq_true rfl, Nat.le_of_ble_eq_true rfl⟩ (r_ci fun r18 M18 p18 => ?_) nox
      obtain ⟨rfl, rfl⟩ := p18
      refine r_ireturn (pc := 21) rfl dX5_carry_21 ⟨_, rfl, ?_⟩
      first
        | contradiction
        | (refine oM.of ?_ (by repeat' (first | exact frM.rf | assumption | refine frM.up0 ?_ | refine frM.up ?_ (by decide) | refine frM.upL ?_ (by decide)))
           simp (decide := true) only [carryS, noS, noTenS, thP, mnP, shelfP, stepS, wrongS, farS, farBS, carriesS, eq_true h5, eq_false h13, not_true_eq_false, not_false_eq_true, true_and, and_true, false_and, and_false, true_or, or_true, false_or, or_false, cI_True, cI_False, if_true, if_false, sm0, sm1, sm2, sm3, sm4, sm5, sm6, sm7, sm8, sm9, sm10, sm11, sm12, sm13, sm14, sm15, sm16, sm17, sm18, sm19, sm20, sm21, sm22, sm23, sm24, sm25, su0, su1, su2, su3, su4, su5, su6, su7, su8, su9, su10, su11, su12, su13, su14, su15, su16, su17, su18, su19, su20, su21, su22, su23, su24, su25])
theorem ct_X5_says {M0 : PM} {mo : Nat} {I : Nat → Nat → Int32} {L : Nat → Nat → Int64} (hm : MR M0 mo) (x1 : Int32) (x2 : Int32) (hk : OkS (sM I mo)) : Ct (YX5_says, (2, 47, 0, 0), qi (fun r M' => oM M0 mo I L (saysS (sS I L mo) x1 x2) r M'), noX) [.ref mo, .int x1, .int x2] (wIL M0 I L) := by
  refine ct_of [some (.ref mo), some (.int x1), some (.int x2), none, none] rfl rfl rfl (Nat.le_of_ble_eq_true rfl) rfl rfl ?_
  refine r_aload_n (pc := 0) dX5_says_0 rfl ?_
  refine r_iload_n (pc := 1) dX5_says_1 rfl ?_
  refine r_o2 (pc := 2) (bc' := 0) (bs' := 0) (ct_X5_isShelf hm _) k_X5_133_5 dX5_says_2 (MR_k hm) (Nat.le_of_ble_eq_true rfl) ⟨Nat.le_of_ble_eq_true rfl, Nat.le_of_ble_eq_true rfl⟩ ⟨Nat.le_of_ble_eq_true rfl, Nat.le_of_ble_eq_true rfl⟩ (r_ci fun r2 M2 p2 => ?_) nox
  obtain ⟨rfl, rfl⟩ := p2
  refine r_if_eq (pc := 5) 18 dX5_says_5 rfl (fun h5 => ?_) (fun h5 => ?_)
  · rw [bI_eq0] at h5
    refine r_aload_n (pc := 18) dX5_says_18 rfl ?_
    refine r_iconst (pc := 19) (v := (-1)) dX5_says_19 (by decide) ?_
    refine r_o2 (pc := 20) (bc' := 0) (bs' := 0) (ct_X5_no hm _ (vp_in_lit rfl)) k_X5_136_5 dX5_says_20 (MR_k hm) (Nat.le_of_ble_eq_true rfl) ⟨Nat.le_of_ble_eq_true rfl, Nat.le_of_ble_eq_true rfl⟩ ⟨Nat.le_of_ble_eq_true rfl, Nat.le_of_ble_eq_true rfl⟩ (r_ci fun r20 M20 p20 => ?_) nox
    obtain ⟨rfl, rfl⟩ := p20
    refine r_ireturn (pc := 23) rfl dX5_says_23 ⟨_, rfl, ?_⟩
    first
      | contradiction
      | (refine oM.of ?_ (by repeat' (first | exact frM.rf | assumption | refine frM.up0 ?_ | refine frM.up ?_ (by decide) | refine frM.upL ?_ (by decide)))
         simp (decide := true) only [saysS, noS, noTenS, thP, mnP, shelfP, stepS, farBS, eq_false h5, not_true_eq_false, not_false_eq_true, true_and, and_true, false_and, and_false, true_or, or_true, false_or, or_false, cI_True, cI_False, if_true, if_false, sm0, sm1, sm2, sm3, sm4, sm5, sm6, sm7, sm8, sm9, sm10, sm11, sm12, sm13, sm14, sm15, sm16, sm17, sm18, sm19, sm20, sm21, sm22, sm23, sm24, sm25, su0, su1, su2, su3, su4, su5, su6, su7, su8, su9, su10, su11, su12, su13, su14, su15, su16, su17, su18, su19, su20, su21, su22, su23, su24, su25])
  · rw [bI_ne0] at h5
    have hx := vp_sh h5
    refine r_iload_n (pc := 8) dX5_says_8 rfl ?_
    refine r_if_lt (pc := 9) 18 dX5_says_9 rfl (fun h9 => ?_) (fun h9 => ?_)
    · refine r_aload_n (pc := 18) dX5_says_18 rfl ?_
      refine r_iconst (pc := 19) (v := (-1)) dX5_says_19 (by decide) ?_
      refine r_o2 (pc := 20) (bc' := 0) (bs' := 0) (ct_X5_no hm _ (vp_in_lit rfl)) k_X5_136_5 dX5_says_20 (MR_k hm) (Nat.le_of_ble_eq_true rfl) ⟨Nat.le_of_ble_eq_true rfl, Nat.le_of_ble_eq_true rfl⟩ ⟨Nat.le_of_ble_eq_true rfl, Nat.le_of_ble_eq_true rfl⟩ (r_ci fun r20 M20 p20 => ?_) nox
      obtain ⟨rfl, rfl⟩ := p20
      refine r_ireturn (pc := 23) rfl dX5_says_23 ⟨_, rfl, ?_⟩
      first
        | contradiction
        | (refine oM.of ?_ (by repeat' (first | exact frM.rf | assumption | refine frM.up0 ?_ | refine frM.up ?_ (by decide) | refine frM.upL ?_ (by decide)))
           simp (decide := true) only [saysS, noS, noTenS, thP, mnP, shelfP, stepS, farBS, eq_true h5, h9, not_true_eq_false, not_false_eq_true, true_and, and_true, false_and, and_false, true_or, or_true, false_or, or_false, cI_True, cI_False, if_true, if_false, sm0, sm1, sm2, sm3, sm4, sm5, sm6, sm7, sm8, sm9, sm10, sm11, sm12, sm13, sm14, sm15, sm16, sm17, sm18, sm19, sm20, sm21, sm22, sm23, sm24, sm25, su0, su1, su2, su3, su4, su5, su6, su7, su8, su9, su10, su11, su12, su13, su14, su15, su16, su17, su18, su19, su20, su21, su22, su23, su24, su25])
    · refine r_iload_n (pc := 12) dX5_says_12 rfl ?_
      refine r_bipush (pc := 13) (v := 6) dX5_says_13 (by decide) ?_
      refine r_icmp_le (pc := 15) 24 dX5_says_15 rfl (fun h15 => ?_) (fun h15 => ?_)
      · refine r_aload_n (pc := 24) dX5_says_24 rfl ?_
        refine r_getR (pc := 25) dX5_says_25 fl_X5_56_5 (MR_k hm) (fun _ _ => rfl) (MR_r22 hm) ?_
        refine r_iload_n (pc := 28) dX5_says_28 rfl ?_
        refine rm_iald (pc := 29) dX5_says_29 (MR_k22 hm) (MR_z22 hm) (by first | assumption | exact vp_in_lit rfl) ?_
        refine r_iconst (pc := 30) (v := 1) dX5_says_30 (by decide) ?_
        refine r_icmp_ne (pc := 31) 41 dX5_says_31 rfl (fun h31 => ?_) (fun h31 => ?_)
        · refine r_aload_n (pc := 41) dX5_says_41 rfl ?_
          refine r_getR (pc := 42) dX5_says_42 fl_X5_56_5 (MR_k hm) (fun _ _ => rfl) (MR_r22 hm) ?_
          refine r_iload_n (pc := 45) dX5_says_45 rfl ?_
          refine rm_iald (pc := 46) dX5_says_46 (MR_k22 hm) (MR_z22 hm) (by first | assumption | exact vp_in_lit rfl) ?_
          refine r_if_ne (pc := 47) 57 dX5_says_47 rfl (fun h47 => ?_) (fun h47 => ?_)
          · have hz : I (mo + 13) x1.toNatClampNeg = 2 := by
              rcases (hk.2.1 (Int32.toNatClampNeg x1) (vp_in_lt hx)).1 with h | h | h
              · exact absurd h h47
              · exact absurd h h31
              · exact h
            have hs := (hk.2.1 (Int32.toNatClampNeg x1) (vp_in_lt hx)).2.2 hz
            have ht : vp_in (I (mo + 16) x1.toNatClampNeg) 8 := vp_n ⟨hs.1, Int.lt_of_lt_of_le hs.2 hk.1.1.1.2⟩
            have hd := hk.1.far (t := Int32.toNatClampNeg (I (mo + 16) x1.toNatClampNeg)) (by have a := ix_toInt hs.1; have b := ix_toInt hk.1.1.1.1; have c : sM I mo 25 (Int32.toNatClampNeg x1) = I (mo + 16) x1.toNatClampNeg := rfl; rw [c] at a hs; omega)
            refine r_aload_n (pc := 57) dX5_says_57 rfl ?_
            refine r_getR (pc := 58) dX5_says_58 fl_X5_65_5 (MR_k hm) (fun _ _ => rfl) (MR_r25 hm) ?_
            refine r_iload_n (pc := 61) dX5_says_61 rfl ?_
            refine rm_iald (pc := 62) dX5_says_62 (MR_k25 hm) (MR_z25 hm) (by first | assumption | exact vp_in_lit rfl) ?_
            refine r_istore3 (pc := 63) dX5_says_63 rfl ?_
            refine r_aload_n (pc := 64) dX5_says_64 rfl ?_
            refine r_getR (pc := 65) dX5_says_65 fl_X5_23_5 (MR_k hm) (fun _ _ => rfl) (MR_r11 hm) ?_
            refine r_iload_n (pc := 68) dX5_says_68 rfl ?_
            refine rm_iald (pc := 69) dX5_says_69 (MR_k11 hm) (MR_z11 hm) (by first | assumption | exact vp_in_lit rfl) ?_
            refine r_istore4 (pc := 70) dX5_says_70 rfl ?_
            refine r_iload_n (pc := 72) dX5_says_72 rfl ?_
            refine r_if_eq (pc := 73) 118 dX5_says_73 rfl (fun h73 => ?_) (fun h73 => ?_)
            · subst h73
              refine r_iload_n (pc := 118) dX5_says_118 rfl ?_
              refine r_if_ne (pc := 119) 129 dX5_says_119 rfl (fun hno => absurd hno (by decide)) (fun _ => ?_)
              refine r_aload_n (pc := 122) dX5_says_122 rfl ?_
              refine r_getR (pc := 123) dX5_says_123 fl_X5_26_5 (MR_k hm) (fun _ _ => rfl) (MR_r12 hm) ?_
              refine r_iload_n (pc := 126) dX5_says_126 rfl ?_
              refine rm_iald (pc := 127) dX5_says_127 (MR_k12 hm) (MR_z12 hm) (by first | assumption | exact vp_in_lit rfl) ?_
              refine r_ireturn (pc := 128) rfl dX5_says_128 ⟨_, rfl, ?_⟩
              first
                | contradiction
                | (refine oM.of ?_ (by repeat' (first | exact frM.rf | assumption | refine frM.up0 ?_ | refine frM.up ?_ (by decide) | refine frM.upL ?_ (by decide)))
                   simp (decide := true) only [saysS, noS, noTenS, thP, mnP, shelfP, stepS, farBS, eq_true h5, h9, h15, h31, h47, not_true_eq_false, not_false_eq_true, true_and, and_true, false_and, and_false, true_or, or_true, false_or, or_false, cI_True, cI_False, if_true, if_false, sm0, sm1, sm2, sm3, sm4, sm5, sm6, sm7, sm8, sm9, sm10, sm11, sm12, sm13, sm14, sm15, sm16, sm17, sm18, sm19, sm20, sm21, sm22, sm23, sm24, sm25, su0, su1, su2, su3, su4, su5, su6, su7, su8, su9, su10, su11, su12, su13, su14, su15, su16, su17, su18, su19, su20, su21, su22, su23, su24, su25])
            · refine r_iload_n (pc := 76) dX5_says_76 rfl ?_
              refine r_iload (pc := 77) dX5_says_77 rfl ?_
              refine r_icmp_eq (pc := 79) 118 dX5_says_79 rfl (fun h79 => ?_) (fun h79 => ?_)
              · refine r_iload_n (pc := 118) dX5_says_118 rfl ?_
                refine r_if_ne (pc := 119) 129 dX5_says_119 rfl (fun h119 => ?_) (fun h119 => ?_)
                · refine r_iload_n (pc := 129) dX5_says_129 rfl ?_
                  refine r_iconst (pc := 130) (v := 4) dX5_says_130 (by decide) ?_
                  refine r_icmp_ne (pc := 131) 141 dX5_says_131 rfl (fun h131 => ?_) (fun h131 => ?_)
                  · refine r_iload_n (pc := 141) dX5_says_141 rfl ?_
                    refine r_iconst (pc := 142) (v := 2) dX5_says_142 (by decide) ?_
                    refine r_icmp_eq (pc := 143) 151 dX5_says_143 rfl (fun h143 => ?_) (fun h143 => ?_)
                    · subst h143
                      refine r_aload_n (pc := 151) dX5_says_151 rfl ?_
                      refine r_bipush (pc := 152) (v := 9) dX5_says_152 (by decide) ?_
                      refine r_iload_n (pc := 154) dX5_says_154 rfl ?_
                      refine r_o3 (pc := 155) (bc' := 0) (bs' := 0) (ct_X5_farBy hm _ _ ht hd.1 hd.2) k_X5_143_5 dX5_says_155 (MR_k hm) (Nat.le_of_ble_eq_true rfl) ⟨Nat.le_of_ble_eq_true rfl, Nat.le_of_ble_eq_true rfl⟩ ⟨Nat.le_of_ble_eq_true rfl, Nat.le_of_ble_eq_true rfl⟩ (r_ci fun r155 M155 p155 => ?_) nox
                      obtain ⟨rfl, rfl⟩ := p155
                      refine r_goto (pc := 158) 167 dX5_says_158 rfl ?_
                      refine r_ireturn (pc := 167) rfl dX5_says_167 ⟨_, rfl, ?_⟩
                      first
                        | contradiction
                        | (refine oM.of ?_ (by repeat' (first | exact frM.rf | assumption | refine frM.up0 ?_ | refine frM.up ?_ (by decide) | refine frM.upL ?_ (by decide)))
                           simp (decide := true) only [saysS, noS, noTenS, thP, mnP, shelfP, stepS, farBS, eq_true h5, h9, h15, h31, h47, h73, h79.symm, h119, h131, not_true_eq_false, not_false_eq_true, true_and, and_true, false_and, and_false, true_or, or_true, false_or, or_false, cI_True, cI_False, if_true, if_false, sm0, sm1, sm2, sm3, sm4, sm5, sm6, sm7, sm8, sm9, sm10, sm11, sm12, sm13, sm14, sm15, sm16, sm17, sm18, sm19, sm20, sm21, sm22, sm23, sm24, sm25, su0, su1, su2, su3, su4, su5, su6, su7, su8, su9, su10, su11, su12, su13, su14, su15, su16, su17, su18, su19, su20, su21, su22, su23, su24, su25])
                    · refine r_iload_n (pc := 146) dX5_says_146 rfl ?_
                      refine r_iconst (pc := 147) (v := 3) dX5_says_147 (by decide) ?_
                      refine r_icmp_ne (pc := 148) 161 dX5_says_148 rfl (fun h148 => ?_) (fun h148 => ?_)
                      · refine r_aload_n (pc := 161) dX5_says_161 rfl ?_
                        refine r_getR (pc := 162) dX5_says_162 fl_X5_29_5 (MR_k hm) (fun _ _ => rfl) (MR_r13 hm) ?_
                        refine r_iload_n (pc := 165) dX5_says_165 rfl ?_
                        refine rm_iald (pc := 166) dX5_says_166 (MR_k13 hm) (MR_z13 hm) (by first | assumption | exact vp_in_lit rfl) ?_
                        refine r_ireturn (pc := 167) rfl dX5_says_167 ⟨_, rfl, ?_⟩
                        first
                          | contradiction
                          | (refine oM.of ?_ (by repeat' (first | exact frM.rf | assumption | refine frM.up0 ?_ | refine frM.up ?_ (by decide) | refine frM.upL ?_ (by decide)))
                             simp (decide := true) only [saysS, noS, noTenS, thP, mnP, shelfP, stepS, farBS, eq_true h5, h9, h15, h31, h47, h73, h79.symm, h119, h131, h143, h148, not_true_eq_false, not_false_eq_true, true_and, and_true, false_and, and_false, true_or, or_true, false_or, or_false, cI_True, cI_False, if_true, if_false, sm0, sm1, sm2, sm3, sm4, sm5, sm6, sm7, sm8, sm9, sm10, sm11, sm12, sm13, sm14, sm15, sm16, sm17, sm18, sm19, sm20, sm21, sm22, sm23, sm24, sm25, su0, su1, su2, su3, su4, su5, su6, su7, su8, su9, su10, su11, su12, su13, su14, su15, su16, su17, su18, su19, su20, su21, su22, su23, su24, su25])
                      · subst h148
                        refine r_aload_n (pc := 151) dX5_says_151 rfl ?_
                        refine r_bipush (pc := 152) (v := 9) dX5_says_152 (by decide) ?_
                        refine r_iload_n (pc := 154) dX5_says_154 rfl ?_
                        refine r_o3 (pc := 155) (bc' := 0) (bs' := 0) (ct_X5_farBy hm _ _ ht hd.1 hd.2) k_X5_143_5 dX5_says_155 (MR_k hm) (Nat.le_of_ble_eq_true rfl) ⟨Nat.le_of_ble_eq_true rfl, Nat.le_of_ble_eq_true rfl⟩ ⟨Nat.le_of_ble_eq_true rfl, Nat.le_of_ble_eq_true rfl⟩ (r_ci fun r155 M155 p155 => ?_) nox
                        obtain ⟨rfl, rfl⟩ := p155
                        refine r_goto (pc := 158) 167 dX5_says_158 rfl ?_
                        refine r_ireturn (pc := 167) rfl dX5_says_167 ⟨_, rfl, ?_⟩
                        first
                          | contradiction
                          | (refine oM.of ?_ (by repeat' (first | exact frM.rf | assumption | refine frM.up0 ?_ | refine frM.up ?_ (by decide) | refine frM.upL ?_ (by decide)))
                             simp (decide := true) only [saysS, noS, noTenS, thP, mnP, shelfP, stepS, farBS, eq_true h5, h9, h15, h31, h47, h73, h79.symm, h119, h131, h143, not_true_eq_false, not_false_eq_true, true_and, and_true, false_and, and_false, true_or, or_true, false_or, or_false, cI_True, cI_False, if_true, if_false, sm0, sm1, sm2, sm3, sm4, sm5, sm6, sm7, sm8, sm9, sm10, sm11, sm12, sm13, sm14, sm15, sm16, sm17, sm18, sm19, sm20, sm21, sm22, sm23, sm24, sm25, su0, su1, su2, su3, su4, su5, su6, su7, su8, su9, su10, su11, su12, su13, su14, su15, su16, su17, su18, su19, su20, su21, su22, su23, su24, su25])
                  · subst h131
                    refine r_aload_n (pc := 134) dX5_says_134 rfl ?_
                    refine r_getR (pc := 135) dX5_says_135 fl_X5_38_5 (MR_k hm) (fun _ _ => rfl) (MR_r16 hm) ?_
                    refine r_iload_n (pc := 138) dX5_says_138 rfl ?_
                    refine rm_iald (pc := 139) dX5_says_139 (MR_k16 hm) (MR_z16 hm) (by first | assumption | exact vp_in_lit rfl) ?_
                    refine r_ireturn (pc := 140) rfl dX5_says_140 ⟨_, rfl, ?_⟩
                    first
                      | contradiction
                      | (refine oM.of ?_ (by repeat' (first | exact frM.rf | assumption | refine frM.up0 ?_ | refine frM.up ?_ (by decide) | refine frM.upL ?_ (by decide)))
                         simp (decide := true) only [saysS, noS, noTenS, thP, mnP, shelfP, stepS, farBS, eq_true h5, h9, h15, h31, h47, h73, h79.symm, h119, not_true_eq_false, not_false_eq_true, true_and, and_true, false_and, and_false, true_or, or_true, false_or, or_false, cI_True, cI_False, if_true, if_false, sm0, sm1, sm2, sm3, sm4, sm5, sm6, sm7, sm8, sm9, sm10, sm11, sm12, sm13, sm14, sm15, sm16, sm17, sm18, sm19, sm20, sm21, sm22, sm23, sm24, sm25, su0, su1, su2, su3, su4, su5, su6, su7, su8, su9, su10, su11, su12, su13, su14, su15, su16, su17, su18, su19, su20, su21, su22, su23, su24, su25])
                · subst h119
                  refine r_aload_n (pc := 122) dX5_says_122 rfl ?_
                  refine r_getR (pc := 123) dX5_says_123 fl_X5_26_5 (MR_k hm) (fun _ _ => rfl) (MR_r12 hm) ?_
                  refine r_iload_n (pc := 126) dX5_says_126 rfl ?_
                  refine rm_iald (pc := 127) dX5_says_127 (MR_k12 hm) (MR_z12 hm) (by first | assumption | exact vp_in_lit rfl) ?_
                  refine r_ireturn (pc := 128) rfl dX5_says_128 ⟨_, rfl, ?_⟩
                  first
                    | contradiction
                    | (refine oM.of ?_ (by repeat' (first | exact frM.rf | assumption | refine frM.up0 ?_ | refine frM.up ?_ (by decide) | refine frM.upL ?_ (by decide)))
                       simp (decide := true) only [saysS, noS, noTenS, thP, mnP, shelfP, stepS, farBS, eq_true h5, h9, h15, h31, h47, h73, h79.symm, not_true_eq_false, not_false_eq_true, true_and, and_true, false_and, and_false, true_or, or_true, false_or, or_false, cI_True, cI_False, if_true, if_false, sm0, sm1, sm2, sm3, sm4, sm5, sm6, sm7, sm8, sm9, sm10, sm11, sm12, sm13, sm14, sm15, sm16, sm17, sm18, sm19, sm20, sm21, sm22, sm23, sm24, sm25, su0, su1, su2, su3, su4, su5, su6, su7, su8, su9, su10, su11, su12, su13, su14, su15, su16, su17, su18, su19, su20, su21, su22, su23, su24, su25])
              · refine r_iload_n (pc := 82) dX5_says_82 rfl ?_
                refine r_iconst (pc := 83) (v := 1) dX5_says_83 (by decide) ?_
                refine r_icmp_ne (pc := 84) 100 dX5_says_84 rfl (fun h84 => ?_) (fun h84 => ?_)
                · refine r_iload_n (pc := 100) dX5_says_100 rfl ?_
                  refine r_iconst (pc := 101) (v := 2) dX5_says_101 (by decide) ?_
                  refine r_icmp_ne (pc := 102) 111 dX5_says_102 rfl (fun h102 => ?_) (fun h102 => ?_)
                  · refine r_aload_n (pc := 111) dX5_says_111 rfl ?_
                    refine r_bipush (pc := 112) (v := (-2)) dX5_says_112 (by decide) ?_
                    refine r_o2 (pc := 114) (bc' := 0) (bs' := 0) (ct_X5_no hm _ (vp_in_lit rfl)) k_X5_136_5 dX5_says_114 (MR_k hm) (Nat.le_of_ble_eq_true rfl) ⟨Nat.le_of_ble_eq_true rfl, Nat.le_of_ble_eq_true rfl⟩ ⟨Nat.le_of_ble_eq_true rfl, Nat.le_of_ble_eq_true rfl⟩ (r_ci fun r114 M114 p114 => ?_) nox
                    obtain ⟨rfl, rfl⟩ := p114
                    refine r_ireturn (pc := 117) rfl dX5_says_117 ⟨_, rfl, ?_⟩
                    first
                      | contradiction
                      | (refine oM.of ?_ (by repeat' (first | exact frM.rf | assumption | refine frM.up0 ?_ | refine frM.up ?_ (by decide) | refine frM.upL ?_ (by decide)))
                         simp (decide := true) only [saysS, noS, noTenS, thP, mnP, shelfP, stepS, farBS, eq_true h5, h9, h15, h31, h47, h73, h79, h84, h102, not_true_eq_false, not_false_eq_true, true_and, and_true, false_and, and_false, true_or, or_true, false_or, or_false, cI_True, cI_False, if_true, if_false, sm0, sm1, sm2, sm3, sm4, sm5, sm6, sm7, sm8, sm9, sm10, sm11, sm12, sm13, sm14, sm15, sm16, sm17, sm18, sm19, sm20, sm21, sm22, sm23, sm24, sm25, su0, su1, su2, su3, su4, su5, su6, su7, su8, su9, su10, su11, su12, su13, su14, su15, su16, su17, su18, su19, su20, su21, su22, su23, su24, su25])
                  · subst h102
                    refine r_iload (pc := 105) dX5_says_105 rfl ?_
                    refine r_iconst (pc := 107) (v := 3) dX5_says_107 (by decide) ?_
                    refine r_icmp_eq (pc := 108) 118 dX5_says_108 rfl (fun h108 => ?_) (fun h108 => ?_)
                    · refine r_iload_n (pc := 118) dX5_says_118 rfl ?_
                      refine r_if_ne (pc := 119) 129 dX5_says_119 rfl (fun _ => ?_) (fun hno => absurd hno (by decide))
                      refine r_iload_n (pc := 129) dX5_says_129 rfl ?_
                      refine r_iconst (pc := 130) (v := 4) dX5_says_130 (by decide) ?_
                      refine r_icmp_ne (pc := 131) 141 dX5_says_131 rfl (fun _ => ?_) (fun hno => absurd hno (by decide))
                      refine r_iload_n (pc := 141) dX5_says_141 rfl ?_
                      refine r_iconst (pc := 142) (v := 2) dX5_says_142 (by decide) ?_
                      refine r_icmp_eq (pc := 143) 151 dX5_says_143 rfl (fun _ => ?_) (fun hno => absurd hno (by decide))
                      refine r_aload_n (pc := 151) dX5_says_151 rfl ?_
                      refine r_bipush (pc := 152) (v := 9) dX5_says_152 (by decide) ?_
                      refine r_iload_n (pc := 154) dX5_says_154 rfl ?_
                      refine r_o3 (pc := 155) (bc' := 0) (bs' := 0) (ct_X5_farBy hm _ _ ht hd.1 hd.2) k_X5_143_5 dX5_says_155 (MR_k hm) (Nat.le_of_ble_eq_true rfl) ⟨Nat.le_of_ble_eq_true rfl, Nat.le_of_ble_eq_true rfl⟩ ⟨Nat.le_of_ble_eq_true rfl, Nat.le_of_ble_eq_true rfl⟩ (r_ci fun r155 M155 p155 => ?_) nox
                      obtain ⟨rfl, rfl⟩ := p155
                      refine r_goto (pc := 158) 167 dX5_says_158 rfl ?_
                      refine r_ireturn (pc := 167) rfl dX5_says_167 ⟨_, rfl, ?_⟩
                      first
                        | contradiction
                        | (refine oM.of ?_ (by repeat' (first | exact frM.rf | assumption | refine frM.up0 ?_ | refine frM.up ?_ (by decide) | refine frM.upL ?_ (by decide)))
                           simp (decide := true) only [saysS, noS, noTenS, thP, mnP, shelfP, stepS, farBS, eq_true h5, h9, h15, h31, h47, h73, h79, h84, h108, not_true_eq_false, not_false_eq_true, true_and, and_true, false_and, and_false, true_or, or_true, false_or, or_false, cI_True, cI_False, if_true, if_false, sm0, sm1, sm2, sm3, sm4, sm5, sm6, sm7, sm8, sm9, sm10, sm11, sm12, sm13, sm14, sm15, sm16, sm17, sm18, sm19, sm20, sm21, sm22, sm23, sm24, sm25, su0, su1, su2, su3, su4, su5, su6, su7, su8, su9, su10, su11, su12, su13, su14, su15, su16, su17, su18, su19, su20, su21, su22, su23, su24, su25])
                    · refine r_aload_n (pc := 111) dX5_says_111 rfl ?_
                      refine r_bipush (pc := 112) (v := (-2)) dX5_says_112 (by decide) ?_
                      refine r_o2 (pc := 114) (bc' := 0) (bs' := 0) (ct_X5_no hm _ (vp_in_lit rfl)) k_X5_136_5 dX5_says_114 (MR_k hm) (Nat.le_of_ble_eq_true rfl) ⟨Nat.le_of_ble_eq_true rfl, Nat.le_of_ble_eq_true rfl⟩ ⟨Nat.le_of_ble_eq_true rfl, Nat.le_of_ble_eq_true rfl⟩ (r_ci fun r114 M114 p114 => ?_) nox
                      obtain ⟨rfl, rfl⟩ := p114
                      refine r_ireturn (pc := 117) rfl dX5_says_117 ⟨_, rfl, ?_⟩
                      first
                        | contradiction
                        | (refine oM.of ?_ (by repeat' (first | exact frM.rf | assumption | refine frM.up0 ?_ | refine frM.up ?_ (by decide) | refine frM.upL ?_ (by decide)))
                           simp (decide := true) only [saysS, noS, noTenS, thP, mnP, shelfP, stepS, farBS, eq_true h5, h9, h15, h31, h47, h73, h79, h84, h108, not_true_eq_false, not_false_eq_true, true_and, and_true, false_and, and_false, true_or, or_true, false_or, or_false, cI_True, cI_False, if_true, if_false, sm0, sm1, sm2, sm3, sm4, sm5, sm6, sm7, sm8, sm9, sm10, sm11, sm12, sm13, sm14, sm15, sm16, sm17, sm18, sm19, sm20, sm21, sm22, sm23, sm24, sm25, su0, su1, su2, su3, su4, su5, su6, su7, su8, su9, su10, su11, su12, su13, su14, su15, su16, su17, su18, su19, su20, su21, su22, su23, su24, su25])
                · subst h84
                  refine r_iload (pc := 87) dX5_says_87 rfl ?_
                  refine r_iconst (pc := 89) (v := 5) dX5_says_89 (by decide) ?_
                  refine r_icmp_eq (pc := 90) 118 dX5_says_90 rfl (fun h90 => ?_) (fun h90 => ?_)
                  · refine r_iload_n (pc := 118) dX5_says_118 rfl ?_
                    refine r_if_ne (pc := 119) 129 dX5_says_119 rfl (fun _ => ?_) (fun hno => absurd hno (by decide))
                    refine r_iload_n (pc := 129) dX5_says_129 rfl ?_
                    refine r_iconst (pc := 130) (v := 4) dX5_says_130 (by decide) ?_
                    refine r_icmp_ne (pc := 131) 141 dX5_says_131 rfl (fun _ => ?_) (fun hno => absurd hno (by decide))
                    refine r_iload_n (pc := 141) dX5_says_141 rfl ?_
                    refine r_iconst (pc := 142) (v := 2) dX5_says_142 (by decide) ?_
                    refine r_icmp_eq (pc := 143) 151 dX5_says_143 rfl (fun hno => absurd hno (by decide)) (fun _ => ?_)
                    refine r_iload_n (pc := 146) dX5_says_146 rfl ?_
                    refine r_iconst (pc := 147) (v := 3) dX5_says_147 (by decide) ?_
                    refine r_icmp_ne (pc := 148) 161 dX5_says_148 rfl (fun _ => ?_) (fun hno => absurd hno (by decide))
                    refine r_aload_n (pc := 161) dX5_says_161 rfl ?_
                    refine r_getR (pc := 162) dX5_says_162 fl_X5_29_5 (MR_k hm) (fun _ _ => rfl) (MR_r13 hm) ?_
                    refine r_iload_n (pc := 165) dX5_says_165 rfl ?_
                    refine rm_iald (pc := 166) dX5_says_166 (MR_k13 hm) (MR_z13 hm) (by first | assumption | exact vp_in_lit rfl) ?_
                    refine r_ireturn (pc := 167) rfl dX5_says_167 ⟨_, rfl, ?_⟩
                    first
                      | contradiction
                      | (refine oM.of ?_ (by repeat' (first | exact frM.rf | assumption | refine frM.up0 ?_ | refine frM.up ?_ (by decide) | refine frM.upL ?_ (by decide)))
                         simp (decide := true) only [saysS, noS, noTenS, thP, mnP, shelfP, stepS, farBS, eq_true h5, h9, h15, h31, h47, h73, h79, h90, not_true_eq_false, not_false_eq_true, true_and, and_true, false_and, and_false, true_or, or_true, false_or, or_false, cI_True, cI_False, if_true, if_false, sm0, sm1, sm2, sm3, sm4, sm5, sm6, sm7, sm8, sm9, sm10, sm11, sm12, sm13, sm14, sm15, sm16, sm17, sm18, sm19, sm20, sm21, sm22, sm23, sm24, sm25, su0, su1, su2, su3, su4, su5, su6, su7, su8, su9, su10, su11, su12, su13, su14, su15, su16, su17, su18, su19, su20, su21, su22, su23, su24, su25])
                  · refine r_iload (pc := 93) dX5_says_93 rfl ?_
                    refine r_bipush (pc := 95) (v := 6) dX5_says_95 (by decide) ?_
                    refine r_icmp_eq (pc := 97) 118 dX5_says_97 rfl (fun h97 => ?_) (fun h97 => ?_)
                    · refine r_iload_n (pc := 118) dX5_says_118 rfl ?_
                      refine r_if_ne (pc := 119) 129 dX5_says_119 rfl (fun _ => ?_) (fun hno => absurd hno (by decide))
                      refine r_iload_n (pc := 129) dX5_says_129 rfl ?_
                      refine r_iconst (pc := 130) (v := 4) dX5_says_130 (by decide) ?_
                      refine r_icmp_ne (pc := 131) 141 dX5_says_131 rfl (fun _ => ?_) (fun hno => absurd hno (by decide))
                      refine r_iload_n (pc := 141) dX5_says_141 rfl ?_
                      refine r_iconst (pc := 142) (v := 2) dX5_says_142 (by decide) ?_
                      refine r_icmp_eq (pc := 143) 151 dX5_says_143 rfl (fun hno => absurd hno (by decide)) (fun _ => ?_)
                      refine r_iload_n (pc := 146) dX5_says_146 rfl ?_
                      refine r_iconst (pc := 147) (v := 3) dX5_says_147 (by decide) ?_
                      refine r_icmp_ne (pc := 148) 161 dX5_says_148 rfl (fun _ => ?_) (fun hno => absurd hno (by decide))
                      refine r_aload_n (pc := 161) dX5_says_161 rfl ?_
                      refine r_getR (pc := 162) dX5_says_162 fl_X5_29_5 (MR_k hm) (fun _ _ => rfl) (MR_r13 hm) ?_
                      refine r_iload_n (pc := 165) dX5_says_165 rfl ?_
                      refine rm_iald (pc := 166) dX5_says_166 (MR_k13 hm) (MR_z13 hm) (by first | assumption | exact vp_in_lit rfl) ?_
                      refine r_ireturn (pc := 167) rfl dX5_says_167 ⟨_, rfl, ?_⟩
                      first
                        | contradiction
                        | (refine oM.of ?_ (by repeat' (first | exact frM.rf | assumption | refine frM.up0 ?_ | refine frM.up ?_ (by decide) | refine frM.upL ?_ (by decide)))
                           simp (decide := true) only [saysS, noS, noTenS, thP, mnP, shelfP, stepS, farBS, eq_true h5, h9, h15, h31, h47, h73, h79, h90, h97, not_true_eq_false, not_false_eq_true, true_and, and_true, false_and, and_false, true_or, or_true, false_or, or_false, cI_True, cI_False, if_true, if_false, sm0, sm1, sm2, sm3, sm4, sm5, sm6, sm7, sm8, sm9, sm10, sm11, sm12, sm13, sm14, sm15, sm16, sm17, sm18, sm19, sm20, sm21, sm22, sm23, sm24, sm25, su0, su1, su2, su3, su4, su5, su6, su7, su8, su9, su10, su11, su12, su13, su14, su15, su16, su17, su18, su19, su20, su21, su22, su23, su24, su25])
                    · refine r_iload_n (pc := 100) dX5_says_100 rfl ?_
                      refine r_iconst (pc := 101) (v := 2) dX5_says_101 (by decide) ?_
                      refine r_icmp_ne (pc := 102) 111 dX5_says_102 rfl (fun _ => ?_) (fun hno => absurd hno (by decide))
                      refine r_aload_n (pc := 111) dX5_says_111 rfl ?_
                      refine r_bipush (pc := 112) (v := (-2)) dX5_says_112 (by decide) ?_
                      refine r_o2 (pc := 114) (bc' := 0) (bs' := 0) (ct_X5_no hm _ (vp_in_lit rfl)) k_X5_136_5 dX5_says_114 (MR_k hm) (Nat.le_of_ble_eq_true rfl) ⟨Nat.le_of_ble_eq_true rfl, Nat.le_of_ble_eq_true rfl⟩ ⟨Nat.le_of_ble_eq_true rfl, Nat.le_of_ble_eq_true rfl⟩ (r_ci fun r114 M114 p114 => ?_) nox
                      obtain ⟨rfl, rfl⟩ := p114
                      refine r_ireturn (pc := 117) rfl dX5_says_117 ⟨_, rfl, ?_⟩
                      first
                        | contradiction
                        | (refine oM.of ?_ (by repeat' (first | exact frM.rf | assumption | refine frM.up0 ?_ | refine frM.up ?_ (by decide) | refine frM.upL ?_ (by decide)))
                           simp (decide := true) only [saysS, noS, noTenS, thP, mnP, shelfP, stepS, farBS, eq_true h5, h9, h15, h31, h47, h73, h79, h90, h97, not_true_eq_false, not_false_eq_true, true_and, and_true, false_and, and_false, true_or, or_true, false_or, or_false, cI_True, cI_False, if_true, if_false, sm0, sm1, sm2, sm3, sm4, sm5, sm6, sm7, sm8, sm9, sm10, sm11, sm12, sm13, sm14, sm15, sm16, sm17, sm18, sm19, sm20, sm21, sm22, sm23, sm24, sm25, su0, su1, su2, su3, su4, su5, su6, su7, su8, su9, su10, su11, su12, su13, su14, su15, su16, su17, su18, su19, su20, su21, su22, su23, su24, su25])
          · refine r_aload_n (pc := 50) dX5_says_50 rfl ?_
            refine r_bipush (pc := 51) (v := (-3)) dX5_says_51 (by decide) ?_
            refine r_o2 (pc := 53) (bc' := 0) (bs' := 0) (ct_X5_no hm _ (vp_in_lit rfl)) k_X5_136_5 dX5_says_53 (MR_k hm) (Nat.le_of_ble_eq_true rfl) ⟨Nat.le_of_ble_eq_true rfl, Nat.le_of_ble_eq_true rfl⟩ ⟨Nat.le_of_ble_eq_true rfl, Nat.le_of_ble_eq_true rfl⟩ (r_ci fun r53 M53 p53 => ?_) nox
            obtain ⟨rfl, rfl⟩ := p53
            refine r_ireturn (pc := 56) rfl dX5_says_56 ⟨_, rfl, ?_⟩
            first
              | contradiction
              | (refine oM.of ?_ (by repeat' (first | exact frM.rf | assumption | refine frM.up0 ?_ | refine frM.up ?_ (by decide) | refine frM.upL ?_ (by decide)))
                 simp (decide := true) only [saysS, noS, noTenS, thP, mnP, shelfP, stepS, farBS, eq_true h5, h9, h15, h31, h47, not_true_eq_false, not_false_eq_true, true_and, and_true, false_and, and_false, true_or, or_true, false_or, or_false, cI_True, cI_False, if_true, if_false, sm0, sm1, sm2, sm3, sm4, sm5, sm6, sm7, sm8, sm9, sm10, sm11, sm12, sm13, sm14, sm15, sm16, sm17, sm18, sm19, sm20, sm21, sm22, sm23, sm24, sm25, su0, su1, su2, su3, su4, su5, su6, su7, su8, su9, su10, su11, su12, su13, su14, su15, su16, su17, su18, su19, su20, su21, su22, su23, su24, su25])
        · refine r_aload_n (pc := 34) dX5_says_34 rfl ?_
          refine r_bipush (pc := 35) (v := (-2)) dX5_says_35 (by decide) ?_
          refine r_o2 (pc := 37) (bc' := 0) (bs' := 0) (ct_X5_no hm _ (vp_in_lit rfl)) k_X5_136_5 dX5_says_37 (MR_k hm) (Nat.le_of_ble_eq_true rfl) ⟨Nat.le_of_ble_eq_true rfl, Nat.le_of_ble_eq_true rfl⟩ ⟨Nat.le_of_ble_eq_true rfl, Nat.le_of_ble_eq_true rfl⟩ (r_ci fun r37 M37 p37 => ?_) nox
          obtain ⟨rfl, rfl⟩ := p37
          refine r_ireturn (pc := 40) rfl dX5_says_40 ⟨_, rfl, ?_⟩
          first
            | contradiction
            | (refine oM.of ?_ (by repeat' (first | exact frM.rf | assumption | refine frM.up0 ?_ | refine frM.up ?_ (by decide) | refine frM.upL ?_ (by decide)))
               simp (decide := true) only [saysS, noS, noTenS, thP, mnP, shelfP, stepS, farBS, eq_true h5, h9, h15, h31, not_true_eq_false, not_false_eq_true, true_and, and_true, false_and, and_false, true_or, or_true, false_or, or_false, cI_True, cI_False, if_true, if_false, sm0, sm1, sm2, sm3, sm4, sm5, sm6, sm7, sm8, sm9, sm10, sm11, sm12, sm13, sm14, sm15, sm16, sm17, sm18, sm19, sm20, sm21, sm22, sm23, sm24, sm25, su0, su1, su2, su3, su4, su5, su6, su7, su8, su9, su10, su11, su12, su13, su14, su15, su16, su17, su18, su19, su20, su21, su22, su23, su24, su25])
      · refine r_aload_n (pc := 18) dX5_says_18 rfl ?_
        refine r_iconst (pc := 19) (v := (-1)) dX5_says_19 (by decide) ?_
        refine r_o2 (pc := 20) (bc' := 0) (bs' := 0) (ct_X5_no hm _ (vp_in_lit rfl)) k_X5_136_5 dX5_says_20 (MR_k hm) (Nat.le_of_ble_eq_true rfl) ⟨Nat.le_of_ble_eq_true rfl, Nat.le_of_ble_eq_true rfl⟩ ⟨Nat.le_of_ble_eq_true rfl, Nat.le_of_ble_eq_true rfl⟩ (r_ci fun r20 M20 p20 => ?_) nox
        obtain ⟨rfl, rfl⟩ := p20
        refine r_ireturn (pc := 23) rfl dX5_says_23 ⟨_, rfl, ?_⟩
        first
          | contradiction
          | (refine oM.of ?_ (by repeat' (first | exact frM.rf | assumption | refine frM.up0 ?_ | refine frM.up ?_ (by decide) | refine frM.upL ?_ (by decide)))
             simp (decide := true) only [saysS, noS, noTenS, thP, mnP, shelfP, stepS, farBS, eq_true h5, h9, h15, not_true_eq_false, not_false_eq_true, true_and, and_true, false_and, and_false, true_or, or_true, false_or, or_false, cI_True, cI_False, if_true, if_false, sm0, sm1, sm2, sm3, sm4, sm5, sm6, sm7, sm8, sm9, sm10, sm11, sm12, sm13, sm14, sm15, sm16, sm17, sm18, sm19, sm20, sm21, sm22, sm23, sm24, sm25, su0, su1, su2, su3, su4, su5, su6, su7, su8, su9, su10, su11, su12, su13, su14, su15, su16, su17, su18, su19, su20, su21, su22, su23, su24, su25])
theorem ct_X5_element {M0 : PM} {mo : Nat} {I : Nat → Nat → Int32} {L : Nat → Nat → Int64} (hm : MR M0 mo) (x1 : Int32) (x2 : Int32) (hk : OkS (sM I mo)) : Ct (YX5_element, (1, 21, 0, 0), ql (fun r M' => r = elementS (sS I L mo) x1 x2 ∧ M' = wIL M0 I L), noX) [.ref mo, .int x1, .int x2] (wIL M0 I L) := by
  refine ct_of [some (.ref mo), some (.int x1), some (.int x2)] rfl rfl rfl (Nat.le_of_ble_eq_true rfl) rfl rfl ?_
  refine r_aload_n (pc := 0) dX5_element_0 rfl ?_
  refine r_iload_n (pc := 1) dX5_element_1 rfl ?_
  refine r_o2 (pc := 2) (bc' := 0) (bs' := 0) (ct_X5_isShelf hm _) k_X5_133_5 dX5_element_2 (MR_k hm) (Nat.le_of_ble_eq_true rfl) ⟨Nat.le_of_ble_eq_true rfl, Nat.le_of_ble_eq_true rfl⟩ ⟨Nat.le_of_ble_eq_true rfl, Nat.le_of_ble_eq_true rfl⟩ (r_ci fun r2 M2 p2 => ?_) nox
  obtain ⟨rfl, rfl⟩ := p2
  refine r_if_eq (pc := 5) 47 dX5_element_5 rfl (fun h5 => ?_) (fun h5 => ?_)
  · rw [bI_eq0] at h5
    refine r_lconst (pc := 47) (v := 0) dX5_element_47 (by decide) ?_
    refine r_lreturn (pc := 48) rfl dX5_element_48 ⟨_, rfl, ?_⟩
    first
      | contradiction
      | (refine ⟨?_, rfl⟩
         simp (decide := true) only [elementS, shelfP, eq_false h5, hc.2, not_true_eq_false, not_false_eq_true, true_and, and_true, false_and, and_false, true_or, or_true, false_or, or_false, cI_True, cI_False, if_true, if_false, sm0, sm1, sm2, sm3, sm4, sm5, sm6, sm7, sm8, sm9, sm10, sm11, sm12, sm13, sm14, sm15, sm16, sm17, sm18, sm19, sm20, sm21, sm22, sm23, sm24, sm25])
      | (refine ⟨?_, rfl⟩
         simp (decide := true) only [elementS, shelfP, eq_false h5, not_true_eq_false, not_false_eq_true, true_and, and_true, false_and, and_false, true_or, or_true, false_or, or_false, cI_True, cI_False, if_true, if_false, sm0, sm1, sm2, sm3, sm4, sm5, sm6, sm7, sm8, sm9, sm10, sm11, sm12, sm13, sm14, sm15, sm16, sm17, sm18, sm19, sm20, sm21, sm22, sm23, sm24, sm25])
  · rw [bI_ne0] at h5
    have hx := vp_sh h5
    refine r_aload_n (pc := 8) dX5_element_8 rfl ?_
    refine r_getR (pc := 9) dX5_element_9 fl_X5_56_5 (MR_k hm) (fun _ _ => rfl) (MR_r22 hm) ?_
    refine r_iload_n (pc := 12) dX5_element_12 rfl ?_
    refine rm_iald (pc := 13) dX5_element_13 (MR_k22 hm) (MR_z22 hm) (by first | assumption | exact vp_in_lit rfl) ?_
    refine r_iconst (pc := 14) (v := 1) dX5_element_14 (by decide) ?_
    refine r_icmp_ne (pc := 15) 47 dX5_element_15 rfl (fun h15 => ?_) (fun h15 => ?_)
    · refine r_lconst (pc := 47) (v := 0) dX5_element_47 (by decide) ?_
      refine r_lreturn (pc := 48) rfl dX5_element_48 ⟨_, rfl, ?_⟩
      first
        | contradiction
        | (refine ⟨?_, rfl⟩
           simp (decide := true) only [elementS, shelfP, eq_true h5, h15, hc.2, not_true_eq_false, not_false_eq_true, true_and, and_true, false_and, and_false, true_or, or_true, false_or, or_false, cI_True, cI_False, if_true, if_false, sm0, sm1, sm2, sm3, sm4, sm5, sm6, sm7, sm8, sm9, sm10, sm11, sm12, sm13, sm14, sm15, sm16, sm17, sm18, sm19, sm20, sm21, sm22, sm23, sm24, sm25])
        | (refine ⟨?_, rfl⟩
           simp (decide := true) only [elementS, shelfP, eq_true h5, h15, not_true_eq_false, not_false_eq_true, true_and, and_true, false_and, and_false, true_or, or_true, false_or, or_false, cI_True, cI_False, if_true, if_false, sm0, sm1, sm2, sm3, sm4, sm5, sm6, sm7, sm8, sm9, sm10, sm11, sm12, sm13, sm14, sm15, sm16, sm17, sm18, sm19, sm20, sm21, sm22, sm23, sm24, sm25])
    · refine r_iload_n (pc := 18) dX5_element_18 rfl ?_
      refine r_if_lt (pc := 19) 47 dX5_element_19 rfl (fun h19 => ?_) (fun h19 => ?_)
      · refine r_lconst (pc := 47) (v := 0) dX5_element_47 (by decide) ?_
        refine r_lreturn (pc := 48) rfl dX5_element_48 ⟨_, rfl, ?_⟩
        first
          | contradiction
          | (refine ⟨?_, rfl⟩
             simp (decide := true) only [elementS, shelfP, eq_true h5, h15, h19, hc.2, not_true_eq_false, not_false_eq_true, true_and, and_true, false_and, and_false, true_or, or_true, false_or, or_false, cI_True, cI_False, if_true, if_false, sm0, sm1, sm2, sm3, sm4, sm5, sm6, sm7, sm8, sm9, sm10, sm11, sm12, sm13, sm14, sm15, sm16, sm17, sm18, sm19, sm20, sm21, sm22, sm23, sm24, sm25])
          | (refine ⟨?_, rfl⟩
             simp (decide := true) only [elementS, shelfP, eq_true h5, h15, h19, not_true_eq_false, not_false_eq_true, true_and, and_true, false_and, and_false, true_or, or_true, false_or, or_false, cI_True, cI_False, if_true, if_false, sm0, sm1, sm2, sm3, sm4, sm5, sm6, sm7, sm8, sm9, sm10, sm11, sm12, sm13, sm14, sm15, sm16, sm17, sm18, sm19, sm20, sm21, sm22, sm23, sm24, sm25])
      · refine r_iload_n (pc := 22) dX5_element_22 rfl ?_
        refine r_aload_n (pc := 23) dX5_element_23 rfl ?_
        refine r_getR (pc := 24) dX5_element_24 fl_X5_62_5 (MR_k hm) (fun _ _ => rfl) (MR_r24 hm) ?_
        refine r_iload_n (pc := 27) dX5_element_27 rfl ?_
        refine rm_iald (pc := 28) dX5_element_28 (MR_k24 hm) (MR_z24 hm) (by first | assumption | exact vp_in_lit rfl) ?_
        refine r_icmp_ge (pc := 29) 47 dX5_element_29 rfl (fun h29 => ?_) (fun h29 => ?_)
        · refine r_lconst (pc := 47) (v := 0) dX5_element_47 (by decide) ?_
          refine r_lreturn (pc := 48) rfl dX5_element_48 ⟨_, rfl, ?_⟩
          first
            | contradiction
            | (refine ⟨?_, rfl⟩
               simp (decide := true) only [elementS, shelfP, eq_true h5, h15, h19, h29, hc.2, not_true_eq_false, not_false_eq_true, true_and, and_true, false_and, and_false, true_or, or_true, false_or, or_false, cI_True, cI_False, if_true, if_false, sm0, sm1, sm2, sm3, sm4, sm5, sm6, sm7, sm8, sm9, sm10, sm11, sm12, sm13, sm14, sm15, sm16, sm17, sm18, sm19, sm20, sm21, sm22, sm23, sm24, sm25])
            | (refine ⟨?_, rfl⟩
               simp (decide := true) only [elementS, shelfP, eq_true h5, h15, h19, h29, not_true_eq_false, not_false_eq_true, true_and, and_true, false_and, and_false, true_or, or_true, false_or, or_false, cI_True, cI_False, if_true, if_false, sm0, sm1, sm2, sm3, sm4, sm5, sm6, sm7, sm8, sm9, sm10, sm11, sm12, sm13, sm14, sm15, sm16, sm17, sm18, sm19, sm20, sm21, sm22, sm23, sm24, sm25])
        · have hc := cix hx (vp_le (n := 160) h19 h29 ((hk.2.1 (Int32.toNatClampNeg x1) (vp_in_lt hx)).2.1 h15).2)
          refine r_aload_n (pc := 32) dX5_element_32 rfl ?_
          refine r_getR (pc := 33) dX5_element_33 fl_X5_68_5 (MR_k hm) (fun _ _ => rfl) (MR_r26 hm) ?_
          refine r_sipush (pc := 36) (v := 160) dX5_element_36 (by decide) ?_
          refine r_iload_n (pc := 39) dX5_element_39 rfl ?_
          refine r_imul (pc := 40) dX5_element_40 ?_
          refine r_iload_n (pc := 41) dX5_element_41 rfl ?_
          refine r_iadd (pc := 42) dX5_element_42 ?_
          refine rm_lald (pc := 43) dX5_element_43 (MR_k26 hm) (MR_z26 hm) hc.1 ?_
          refine r_goto (pc := 44) 48 dX5_element_44 rfl ?_
          refine r_lreturn (pc := 48) rfl dX5_element_48 ⟨_, rfl, ?_⟩
          first
            | contradiction
            | (refine ⟨?_, rfl⟩
               simp (decide := true) only [elementS, shelfP, eq_true h5, h15, h19, h29, hc.2, not_true_eq_false, not_false_eq_true, true_and, and_true, false_and, and_false, true_or, or_true, false_or, or_false, cI_True, cI_False, if_true, if_false, sm0, sm1, sm2, sm3, sm4, sm5, sm6, sm7, sm8, sm9, sm10, sm11, sm12, sm13, sm14, sm15, sm16, sm17, sm18, sm19, sm20, sm21, sm22, sm23, sm24, sm25])
            | (refine ⟨?_, rfl⟩
               simp (decide := true) only [elementS, shelfP, eq_true h5, h15, h19, h29, not_true_eq_false, not_false_eq_true, true_and, and_true, false_and, and_false, true_or, or_true, false_or, or_false, cI_True, cI_False, if_true, if_false, sm0, sm1, sm2, sm3, sm4, sm5, sm6, sm7, sm8, sm9, sm10, sm11, sm12, sm13, sm14, sm15, sm16, sm17, sm18, sm19, sm20, sm21, sm22, sm23, sm24, sm25])
theorem ct_X5_set {M0 : PM} {mo : Nat} {I : Nat → Nat → Int32} {L : Nat → Nat → Int64} (hm : MR M0 mo) (x1 : Int32) (x2 : Int32) (x3 : Int64) (hk : OkS (sM I mo)) : Ct (YX5_set, (1, 21, 0, 0), qi (fun r M' => oM M0 mo I L (setS (sS I L mo) x1 x2 x3) r M'), noX) [.ref mo, .int x1, .int x2, .long x3] (wIL M0 I L) := by
  refine ct_of [some (.ref mo), some (.int x1), some (.int x2), some (.long x3), none] rfl rfl rfl (Nat.le_of_ble_eq_true rfl) rfl rfl ?_
  refine r_aload_n (pc := 0) dX5_set_0 rfl ?_
  refine r_iload_n (pc := 1) dX5_set_1 rfl ?_
  refine r_o2 (pc := 2) (bc' := 0) (bs' := 0) (ct_X5_isShelf hm _) k_X5_133_5 dX5_set_2 (MR_k hm) (Nat.le_of_ble_eq_true rfl) ⟨Nat.le_of_ble_eq_true rfl, Nat.le_of_ble_eq_true rfl⟩ ⟨Nat.le_of_ble_eq_true rfl, Nat.le_of_ble_eq_true rfl⟩ (r_ci fun r2 M2 p2 => ?_) nox
  obtain ⟨rfl, rfl⟩ := p2
  refine r_if_ne (pc := 5) 14 dX5_set_5 rfl (fun h5 => ?_) (fun h5 => ?_)
  · rw [bI_ne0] at h5
    have hx := vp_sh h5
    refine r_aload_n (pc := 14) dX5_set_14 rfl ?_
    refine r_getR (pc := 15) dX5_set_15 fl_X5_56_5 (MR_k hm) (fun _ _ => rfl) (MR_r22 hm) ?_
    refine r_iload_n (pc := 18) dX5_set_18 rfl ?_
    refine rm_iald (pc := 19) dX5_set_19 (MR_k22 hm) (MR_z22 hm) (by first | assumption | exact vp_in_lit rfl) ?_
    refine r_iconst (pc := 20) (v := 2) dX5_set_20 (by decide) ?_
    refine r_icmp_ne (pc := 21) 31 dX5_set_21 rfl (fun h21 => ?_) (fun h21 => ?_)
    · refine r_aload_n (pc := 31) dX5_set_31 rfl ?_
      refine r_getR (pc := 32) dX5_set_32 fl_X5_56_5 (MR_k hm) (fun _ _ => rfl) (MR_r22 hm) ?_
      refine r_iload_n (pc := 35) dX5_set_35 rfl ?_
      refine rm_iald (pc := 36) dX5_set_36 (MR_k22 hm) (MR_z22 hm) (by first | assumption | exact vp_in_lit rfl) ?_
      refine r_if_ne (pc := 37) 47 dX5_set_37 rfl (fun h37 => ?_) (fun h37 => ?_)
      · have hz : I (mo + 13) x1.toNatClampNeg = 1 := by
          rcases (hk.2.1 (Int32.toNatClampNeg x1) (vp_in_lt hx)).1 with h | h | h
          · exact absurd h h37
          · exact h
          · exact absurd h h21
        refine r_iload_n (pc := 47) dX5_set_47 rfl ?_
        refine r_if_lt (pc := 48) 61 dX5_set_48 rfl (fun h48 => ?_) (fun h48 => ?_)
        · refine r_aload_n (pc := 61) dX5_set_61 rfl ?_
          refine r_bipush (pc := 62) (v := (-5)) dX5_set_62 (by decide) ?_
          refine r_o2 (pc := 64) (bc' := 0) (bs' := 0) (ct_X5_no hm _ (vp_in_lit rfl)) k_X5_136_5 dX5_set_64 (MR_k hm) (Nat.le_of_ble_eq_true rfl) ⟨Nat.le_of_ble_eq_true rfl, Nat.le_of_ble_eq_true rfl⟩ ⟨Nat.le_of_ble_eq_true rfl, Nat.le_of_ble_eq_true rfl⟩ (r_ci fun r64 M64 p64 => ?_) nox
          obtain ⟨rfl, rfl⟩ := p64
          refine r_ireturn (pc := 67) rfl dX5_set_67 ⟨_, rfl, ?_⟩
          first
            | contradiction
            | (refine oM.of ?_ (by repeat' (first | exact frM.rf | assumption | refine frM.up0 ?_ | refine frM.up ?_ (by decide) | refine frM.upL ?_ (by decide)))
               simp (decide := true) only [setS, noS, noTenS, thP, mnP, shelfP, stepS, eq_true h5, h21, h37, h48, not_true_eq_false, not_false_eq_true, true_and, and_true, false_and, and_false, true_or, or_true, false_or, or_false, cI_True, cI_False, if_true, if_false, sm0, sm1, sm2, sm3, sm4, sm5, sm6, sm7, sm8, sm9, sm10, sm11, sm12, sm13, sm14, sm15, sm16, sm17, sm18, sm19, sm20, sm21, sm22, sm23, sm24, sm25, su0, su1, su2, su3, su4, su5, su6, su7, su8, su9, su10, su11, su12, su13, su14, su15, su16, su17, su18, su19, su20, su21, su22, su23, su24, su25]; done)
            | (refine oM.of ?_ (by repeat' (first | exact frM.rf | assumption | refine frM.up0 ?_ | refine frM.up ?_ (by decide) | refine frM.upL ?_ (by decide)))
               simp (decide := true) only [setS, noS, noTenS, thP, mnP, shelfP, stepS, eq_true h5, h21, h37, h48, not_true_eq_false, not_false_eq_true, true_and, and_true, false_and, and_false, true_or, or_true, false_or, or_false, cI_True, cI_False, if_true, if_false, sm0, sm1, sm2, sm3, sm4, sm5, sm6, sm7, sm8, sm9, sm10, sm11, sm12, sm13, sm14, sm15, sm16, sm17, sm18, sm19, sm20, sm21, sm22, sm23, sm24, sm25, su0, su1, su2, su3, su4, su5, su6, su7, su8, su9, su10, su11, su12, su13, su14, su15, su16, su17, su18, su19, su20, su21, su22, su23, su24, su25, hc.2, keepC, L17])
        · refine r_iload_n (pc := 51) dX5_set_51 rfl ?_
          refine r_aload_n (pc := 52) dX5_set_52 rfl ?_
          refine r_getR (pc := 53) dX5_set_53 fl_X5_62_5 (MR_k hm) (fun _ _ => rfl) (MR_r24 hm) ?_
          refine r_iload_n (pc := 56) dX5_set_56 rfl ?_
          refine rm_iald (pc := 57) dX5_set_57 (MR_k24 hm) (MR_z24 hm) (by first | assumption | exact vp_in_lit rfl) ?_
          refine r_icmp_lt (pc := 58) 68 dX5_set_58 rfl (fun h58 => ?_) (fun h58 => ?_)
          · have hc := cix hx (vp_le (n := 160) h48 h58 ((hk.2.1 (Int32.toNatClampNeg x1) (vp_in_lt hx)).2.1 hz).2)
            refine r_aload_n (pc := 68) dX5_set_68 rfl ?_
            refine r_getR (pc := 69) dX5_set_69 fl_X5_68_5 (MR_k hm) (fun _ _ => rfl) (MR_r26 hm) ?_
            refine r_sipush (pc := 72) (v := 160) dX5_set_72 (by decide) ?_
            refine r_iload_n (pc := 75) dX5_set_75 rfl ?_
            refine r_imul (pc := 76) dX5_set_76 ?_
            refine r_iload_n (pc := 77) dX5_set_77 rfl ?_
            refine r_iadd (pc := 78) dX5_set_78 ?_
            refine r_aload_n (pc := 79) dX5_set_79 rfl ?_
            refine r_getR (pc := 80) dX5_set_80 fl_X5_59_5 (MR_k hm) (fun _ _ => rfl) (MR_r23 hm) ?_
            refine r_iload_n (pc := 83) dX5_set_83 rfl ?_
            refine rm_iald (pc := 84) dX5_set_84 (MR_k23 hm) (MR_z23 hm) (by first | assumption | exact vp_in_lit rfl) ?_
            refine r_if_ne (pc := 85) 95 dX5_set_85 rfl (fun h85 => ?_) (fun h85 => ?_)
            · refine r_aload_n (pc := 95) dX5_set_95 rfl ?_
              refine r_getR (pc := 96) dX5_set_96 fl_X5_59_5 (MR_k hm) (fun _ _ => rfl) (MR_r23 hm) ?_
              refine r_iload_n (pc := 99) dX5_set_99 rfl ?_
              refine rm_iald (pc := 100) dX5_set_100 (MR_k23 hm) (MR_z23 hm) (by first | assumption | exact vp_in_lit rfl) ?_
              refine r_iconst (pc := 101) (v := 1) dX5_set_101 (by decide) ?_
              refine r_icmp_ne (pc := 102) 112 dX5_set_102 rfl (fun h102 => ?_) (fun h102 => ?_)
              · refine r_aload_n (pc := 112) dX5_set_112 rfl ?_
                refine r_getR (pc := 113) dX5_set_113 fl_X5_59_5 (MR_k hm) (fun _ _ => rfl) (MR_r23 hm) ?_
                refine r_iload_n (pc := 116) dX5_set_116 rfl ?_
                refine rm_iald (pc := 117) dX5_set_117 (MR_k23 hm) (MR_z23 hm) (by first | assumption | exact vp_in_lit rfl) ?_
                refine r_iconst (pc := 118) (v := 2) dX5_set_118 (by decide) ?_
                refine r_icmp_ne (pc := 119) 128 dX5_set_119 rfl (fun h119 => ?_) (fun h119 => ?_)
                · refine r_lload_n (pc := 128) dX5_set_128 rfl ?_
                  refine rm_last (pc := 129) dX5_set_129 (MR_k26 hm) (MR_z26 hm) hc.1 ?_
                  refine r_iconst (pc := 130) (v := 1) dX5_set_130 (by decide) ?_
                  refine r_ireturn (pc := 131) rfl dX5_set_131 ⟨_, rfl, ?_⟩
                  first
                    | contradiction
                    | (refine oM.of ?_ (by repeat' (first | exact frM.rf | assumption | refine frM.up0 ?_ | refine frM.up ?_ (by decide) | refine frM.upL ?_ (by decide)))
                       simp (decide := true) only [setS, noS, noTenS, thP, mnP, shelfP, stepS, eq_true h5, h21, h37, h48, h58, h85, h102, h119, not_true_eq_false, not_false_eq_true, true_and, and_true, false_and, and_false, true_or, or_true, false_or, or_false, cI_True, cI_False, if_true, if_false, sm0, sm1, sm2, sm3, sm4, sm5, sm6, sm7, sm8, sm9, sm10, sm11, sm12, sm13, sm14, sm15, sm16, sm17, sm18, sm19, sm20, sm21, sm22, sm23, sm24, sm25, su0, su1, su2, su3, su4, su5, su6, su7, su8, su9, su10, su11, su12, su13, su14, su15, su16, su17, su18, su19, su20, su21, su22, su23, su24, su25]; done)
                    | (refine oM.of ?_ (by repeat' (first | exact frM.rf | assumption | refine frM.up0 ?_ | refine frM.up ?_ (by decide) | refine frM.upL ?_ (by decide)))
                       simp (decide := true) only [setS, noS, noTenS, thP, mnP, shelfP, stepS, eq_true h5, h21, h37, h48, h58, h85, h102, h119, not_true_eq_false, not_false_eq_true, true_and, and_true, false_and, and_false, true_or, or_true, false_or, or_false, cI_True, cI_False, if_true, if_false, sm0, sm1, sm2, sm3, sm4, sm5, sm6, sm7, sm8, sm9, sm10, sm11, sm12, sm13, sm14, sm15, sm16, sm17, sm18, sm19, sm20, sm21, sm22, sm23, sm24, sm25, su0, su1, su2, su3, su4, su5, su6, su7, su8, su9, su10, su11, su12, su13, su14, su15, su16, su17, su18, su19, su20, su21, su22, su23, su24, su25, hc.2, keepC, L17])
                · refine r_lload_n (pc := 122) dX5_set_122 rfl ?_
                  refine r_l2i (pc := 123) dX5_set_123 ?_
                  refine r_i2l (pc := 124) dX5_set_124 ?_
                  refine r_goto (pc := 125) 129 dX5_set_125 rfl ?_
                  refine rm_last (pc := 129) dX5_set_129 (MR_k26 hm) (MR_z26 hm) hc.1 ?_
                  refine r_iconst (pc := 130) (v := 1) dX5_set_130 (by decide) ?_
                  refine r_ireturn (pc := 131) rfl dX5_set_131 ⟨_, rfl, ?_⟩
                  first
                    | contradiction
                    | (refine oM.of ?_ (by repeat' (first | exact frM.rf | assumption | refine frM.up0 ?_ | refine frM.up ?_ (by decide) | refine frM.upL ?_ (by decide)))
                       simp (decide := true) only [setS, noS, noTenS, thP, mnP, shelfP, stepS, eq_true h5, h21, h37, h48, h58, h85, h102, h119, not_true_eq_false, not_false_eq_true, true_and, and_true, false_and, and_false, true_or, or_true, false_or, or_false, cI_True, cI_False, if_true, if_false, sm0, sm1, sm2, sm3, sm4, sm5, sm6, sm7, sm8, sm9, sm10, sm11, sm12, sm13, sm14, sm15, sm16, sm17, sm18, sm19, sm20, sm21, sm22, sm23, sm24, sm25, su0, su1, su2, su3, su4, su5, su6, su7, su8, su9, su10, su11, su12, su13, su14, su15, su16, su17, su18, su19, su20, su21, su22, su23, su24, su25]; done)
                    | (refine oM.of ?_ (by repeat' (first | exact frM.rf | assumption | refine frM.up0 ?_ | refine frM.up ?_ (by decide) | refine frM.upL ?_ (by decide)))
                       simp (decide := true) only [setS, noS, noTenS, thP, mnP, shelfP, stepS, eq_true h5, h21, h37, h48, h58, h85, h102, h119, not_true_eq_false, not_false_eq_true, true_and, and_true, false_and, and_false, true_or, or_true, false_or, or_false, cI_True, cI_False, if_true, if_false, sm0, sm1, sm2, sm3, sm4, sm5, sm6, sm7, sm8, sm9, sm10, sm11, sm12, sm13, sm14, sm15, sm16, sm17, sm18, sm19, sm20, sm21, sm22, sm23, sm24, sm25, su0, su1, su2, su3, su4, su5, su6, su7, su8, su9, su10, su11, su12, su13, su14, su15, su16, su17, su18, su19, su20, su21, su22, su23, su24, su25, hc.2, keepC, L17])
              · refine r_lload_n (pc := 105) dX5_set_105 rfl ?_
                refine r_l2i (pc := 106) dX5_set_106 ?_
                refine r_i2s (pc := 107) dX5_set_107 ?_
                refine r_i2l (pc := 108) dX5_set_108 ?_
                refine r_goto (pc := 109) 129 dX5_set_109 rfl ?_
                refine rm_last (pc := 129) dX5_set_129 (MR_k26 hm) (MR_z26 hm) hc.1 ?_
                refine r_iconst (pc := 130) (v := 1) dX5_set_130 (by decide) ?_
                refine r_ireturn (pc := 131) rfl dX5_set_131 ⟨_, rfl, ?_⟩
                first
                  | contradiction
                  | (refine oM.of ?_ (by repeat' (first | exact frM.rf | assumption | refine frM.up0 ?_ | refine frM.up ?_ (by decide) | refine frM.upL ?_ (by decide)))
                     simp (decide := true) only [setS, noS, noTenS, thP, mnP, shelfP, stepS, eq_true h5, h21, h37, h48, h58, h85, h102, not_true_eq_false, not_false_eq_true, true_and, and_true, false_and, and_false, true_or, or_true, false_or, or_false, cI_True, cI_False, if_true, if_false, sm0, sm1, sm2, sm3, sm4, sm5, sm6, sm7, sm8, sm9, sm10, sm11, sm12, sm13, sm14, sm15, sm16, sm17, sm18, sm19, sm20, sm21, sm22, sm23, sm24, sm25, su0, su1, su2, su3, su4, su5, su6, su7, su8, su9, su10, su11, su12, su13, su14, su15, su16, su17, su18, su19, su20, su21, su22, su23, su24, su25]; done)
                  | (refine oM.of ?_ (by repeat' (first | exact frM.rf | assumption | refine frM.up0 ?_ | refine frM.up ?_ (by decide) | refine frM.upL ?_ (by decide)))
                     simp (decide := true) only [setS, noS, noTenS, thP, mnP, shelfP, stepS, eq_true h5, h21, h37, h48, h58, h85, h102, not_true_eq_false, not_false_eq_true, true_and, and_true, false_and, and_false, true_or, or_true, false_or, or_false, cI_True, cI_False, if_true, if_false, sm0, sm1, sm2, sm3, sm4, sm5, sm6, sm7, sm8, sm9, sm10, sm11, sm12, sm13, sm14, sm15, sm16, sm17, sm18, sm19, sm20, sm21, sm22, sm23, sm24, sm25, su0, su1, su2, su3, su4, su5, su6, su7, su8, su9, su10, su11, su12, su13, su14, su15, su16, su17, su18, su19, su20, su21, su22, su23, su24, su25, hc.2, keepC, L17])
            · refine r_lload_n (pc := 88) dX5_set_88 rfl ?_
              refine r_l2i (pc := 89) dX5_set_89 ?_
              refine r_i2b (pc := 90) dX5_set_90 ?_
              refine r_i2l (pc := 91) dX5_set_91 ?_
              refine r_goto (pc := 92) 129 dX5_set_92 rfl ?_
              refine rm_last (pc := 129) dX5_set_129 (MR_k26 hm) (MR_z26 hm) hc.1 ?_
              refine r_iconst (pc := 130) (v := 1) dX5_set_130 (by decide) ?_
              refine r_ireturn (pc := 131) rfl dX5_set_131 ⟨_, rfl, ?_⟩
              first
                | contradiction
                | (refine oM.of ?_ (by repeat' (first | exact frM.rf | assumption | refine frM.up0 ?_ | refine frM.up ?_ (by decide) | refine frM.upL ?_ (by decide)))
                   simp (decide := true) only [setS, noS, noTenS, thP, mnP, shelfP, stepS, eq_true h5, h21, h37, h48, h58, h85, not_true_eq_false, not_false_eq_true, true_and, and_true, false_and, and_false, true_or, or_true, false_or, or_false, cI_True, cI_False, if_true, if_false, sm0, sm1, sm2, sm3, sm4, sm5, sm6, sm7, sm8, sm9, sm10, sm11, sm12, sm13, sm14, sm15, sm16, sm17, sm18, sm19, sm20, sm21, sm22, sm23, sm24, sm25, su0, su1, su2, su3, su4, su5, su6, su7, su8, su9, su10, su11, su12, su13, su14, su15, su16, su17, su18, su19, su20, su21, su22, su23, su24, su25]; done)
                | (refine oM.of ?_ (by repeat' (first | exact frM.rf | assumption | refine frM.up0 ?_ | refine frM.up ?_ (by decide) | refine frM.upL ?_ (by decide)))
                   simp (decide := true) only [setS, noS, noTenS, thP, mnP, shelfP, stepS, eq_true h5, h21, h37, h48, h58, h85, not_true_eq_false, not_false_eq_true, true_and, and_true, false_and, and_false, true_or, or_true, false_or, or_false, cI_True, cI_False, if_true, if_false, sm0, sm1, sm2, sm3, sm4, sm5, sm6, sm7, sm8, sm9, sm10, sm11, sm12, sm13, sm14, sm15, sm16, sm17, sm18, sm19, sm20, sm21, sm22, sm23, sm24, sm25, su0, su1, su2, su3, su4, su5, su6, su7, su8, su9, su10, su11, su12, su13, su14, su15, su16, su17, su18, su19, su20, su21, su22, su23, su24, su25, hc.2, keepC, L17])
          · refine r_aload_n (pc := 61) dX5_set_61 rfl ?_
            refine r_bipush (pc := 62) (v := (-5)) dX5_set_62 (by decide) ?_
            refine r_o2 (pc := 64) (bc' := 0) (bs' := 0) (ct_X5_no hm _ (vp_in_lit rfl)) k_X5_136_5 dX5_set_64 (MR_k hm) (Nat.le_of_ble_eq_true rfl) ⟨Nat.le_of_ble_eq_true rfl, Nat.le_of_ble_eq_true rfl⟩ ⟨Nat.le_of_ble_eq_true rfl, Nat.le_of_ble_eq_true rfl⟩ (r_ci fun r64 M64 p64 => ?_) nox
            obtain ⟨rfl, rfl⟩ := p64
            refine r_ireturn (pc := 67) rfl dX5_set_67 ⟨_, rfl, ?_⟩
            first
              | contradiction
              | (refine oM.of ?_ (by repeat' (first | exact frM.rf | assumption | refine frM.up0 ?_ | refine frM.up ?_ (by decide) | refine frM.upL ?_ (by decide)))
                 simp (decide := true) only [setS, noS, noTenS, thP, mnP, shelfP, stepS, eq_true h5, h21, h37, h48, h58, not_true_eq_false, not_false_eq_true, true_and, and_true, false_and, and_false, true_or, or_true, false_or, or_false, cI_True, cI_False, if_true, if_false, sm0, sm1, sm2, sm3, sm4, sm5, sm6, sm7, sm8, sm9, sm10, sm11, sm12, sm13, sm14, sm15, sm16, sm17, sm18, sm19, sm20, sm21, sm22, sm23, sm24, sm25, su0, su1, su2, su3, su4, su5, su6, su7, su8, su9, su10, su11, su12, su13, su14, su15, su16, su17, su18, su19, su20, su21, su22, su23, su24, su25]; done)
              | (refine oM.of ?_ (by repeat' (first | exact frM.rf | assumption | refine frM.up0 ?_ | refine frM.up ?_ (by decide) | refine frM.upL ?_ (by decide)))
                 simp (decide := true) only [setS, noS, noTenS, thP, mnP, shelfP, stepS, eq_true h5, h21, h37, h48, h58, not_true_eq_false, not_false_eq_true, true_and, and_true, false_and, and_false, true_or, or_true, false_or, or_false, cI_True, cI_False, if_true, if_false, sm0, sm1, sm2, sm3, sm4, sm5, sm6, sm7, sm8, sm9, sm10, sm11, sm12, sm13, sm14, sm15, sm16, sm17, sm18, sm19, sm20, sm21, sm22, sm23, sm24, sm25, su0, su1, su2, su3, su4, su5, su6, su7, su8, su9, su10, su11, su12, su13, su14, su15, su16, su17, su18, su19, su20, su21, su22, su23, su24, su25, hc.2, keepC, L17])
      · refine r_aload_n (pc := 40) dX5_set_40 rfl ?_
        refine r_bipush (pc := 41) (v := (-3)) dX5_set_41 (by decide) ?_
        refine r_o2 (pc := 43) (bc' := 0) (bs' := 0) (ct_X5_no hm _ (vp_in_lit rfl)) k_X5_136_5 dX5_set_43 (MR_k hm) (Nat.le_of_ble_eq_true rfl) ⟨Nat.le_of_ble_eq_true rfl, Nat.le_of_ble_eq_true rfl⟩ ⟨Nat.le_of_ble_eq_true rfl, Nat.le_of_ble_eq_true rfl⟩ (r_ci fun r43 M43 p43 => ?_) nox
        obtain ⟨rfl, rfl⟩ := p43
        refine r_ireturn (pc := 46) rfl dX5_set_46 ⟨_, rfl, ?_⟩
        first
          | contradiction
          | (refine oM.of ?_ (by repeat' (first | exact frM.rf | assumption | refine frM.up0 ?_ | refine frM.up ?_ (by decide) | refine frM.upL ?_ (by decide)))
             simp (decide := true) only [setS, noS, noTenS, thP, mnP, shelfP, stepS, eq_true h5, h21, h37, not_true_eq_false, not_false_eq_true, true_and, and_true, false_and, and_false, true_or, or_true, false_or, or_false, cI_True, cI_False, if_true, if_false, sm0, sm1, sm2, sm3, sm4, sm5, sm6, sm7, sm8, sm9, sm10, sm11, sm12, sm13, sm14, sm15, sm16, sm17, sm18, sm19, sm20, sm21, sm22, sm23, sm24, sm25, su0, su1, su2, su3, su4, su5, su6, su7, su8, su9, su10, su11, su12, su13, su14, su15, su16, su17, su18, su19, su20, su21, su22, su23, su24, su25]; done)
          | (refine oM.of ?_ (by repeat' (first | exact frM.rf | assumption | refine frM.up0 ?_ | refine frM.up ?_ (by decide) | refine frM.upL ?_ (by decide)))
             simp (decide := true) only [setS, noS, noTenS, thP, mnP, shelfP, stepS, eq_true h5, h21, h37, not_true_eq_false, not_false_eq_true, true_and, and_true, false_and, and_false, true_or, or_true, false_or, or_false, cI_True, cI_False, if_true, if_false, sm0, sm1, sm2, sm3, sm4, sm5, sm6, sm7, sm8, sm9, sm10, sm11, sm12, sm13, sm14, sm15, sm16, sm17, sm18, sm19, sm20, sm21, sm22, sm23, sm24, sm25, su0, su1, su2, su3, su4, su5, su6, su7, su8, su9, su10, su11, su12, su13, su14, su15, su16, su17, su18, su19, su20, su21, su22, su23, su24, su25, hc.2, keepC, L17])
    · refine r_aload_n (pc := 24) dX5_set_24 rfl ?_
      refine r_bipush (pc := 25) (v := (-2)) dX5_set_25 (by decide) ?_
      refine r_o2 (pc := 27) (bc' := 0) (bs' := 0) (ct_X5_no hm _ (vp_in_lit rfl)) k_X5_136_5 dX5_set_27 (MR_k hm) (Nat.le_of_ble_eq_true rfl) ⟨Nat.le_of_ble_eq_true rfl, Nat.le_of_ble_eq_true rfl⟩ ⟨Nat.le_of_ble_eq_true rfl, Nat.le_of_ble_eq_true rfl⟩ (r_ci fun r27 M27 p27 => ?_) nox
      obtain ⟨rfl, rfl⟩ := p27
      refine r_ireturn (pc := 30) rfl dX5_set_30 ⟨_, rfl, ?_⟩
      first
        | contradiction
        | (refine oM.of ?_ (by repeat' (first | exact frM.rf | assumption | refine frM.up0 ?_ | refine frM.up ?_ (by decide) | refine frM.upL ?_ (by decide)))
           simp (decide := true) only [setS, noS, noTenS, thP, mnP, shelfP, stepS, eq_true h5, h21, not_true_eq_false, not_false_eq_true, true_and, and_true, false_and, and_false, true_or, or_true, false_or, or_false, cI_True, cI_False, if_true, if_false, sm0, sm1, sm2, sm3, sm4, sm5, sm6, sm7, sm8, sm9, sm10, sm11, sm12, sm13, sm14, sm15, sm16, sm17, sm18, sm19, sm20, sm21, sm22, sm23, sm24, sm25, su0, su1, su2, su3, su4, su5, su6, su7, su8, su9, su10, su11, su12, su13, su14, su15, su16, su17, su18, su19, su20, su21, su22, su23, su24, su25]; done)
        | (refine oM.of ?_ (by repeat' (first | exact frM.rf | assumption | refine frM.up0 ?_ | refine frM.up ?_ (by decide) | refine frM.upL ?_ (by decide)))
           simp (decide := true) only [setS, noS, noTenS, thP, mnP, shelfP, stepS, eq_true h5, h21, not_true_eq_false, not_false_eq_true, true_and, and_true, false_and, and_false, true_or, or_true, false_or, or_false, cI_True, cI_False, if_true, if_false, sm0, sm1, sm2, sm3, sm4, sm5, sm6, sm7, sm8, sm9, sm10, sm11, sm12, sm13, sm14, sm15, sm16, sm17, sm18, sm19, sm20, sm21, sm22, sm23, sm24, sm25, su0, su1, su2, su3, su4, su5, su6, su7, su8, su9, su10, su11, su12, su13, su14, su15, su16, su17, su18, su19, su20, su21, su22, su23, su24, su25, hc.2, keepC, L17])
  · rw [bI_eq0] at h5
    refine r_aload_n (pc := 8) dX5_set_8 rfl ?_
    refine r_iconst (pc := 9) (v := (-1)) dX5_set_9 (by decide) ?_
    refine r_o2 (pc := 10) (bc' := 0) (bs' := 0) (ct_X5_no hm _ (vp_in_lit rfl)) k_X5_136_5 dX5_set_10 (MR_k hm) (Nat.le_of_ble_eq_true rfl) ⟨Nat.le_of_ble_eq_true rfl, Nat.le_of_ble_eq_true rfl⟩ ⟨Nat.le_of_ble_eq_true rfl, Nat.le_of_ble_eq_true rfl⟩ (r_ci fun r10 M10 p10 => ?_) nox
    obtain ⟨rfl, rfl⟩ := p10
    refine r_ireturn (pc := 13) rfl dX5_set_13 ⟨_, rfl, ?_⟩
    first
      | contradiction
      | (refine oM.of ?_ (by repeat' (first | exact frM.rf | assumption | refine frM.up0 ?_ | refine frM.up ?_ (by decide) | refine frM.upL ?_ (by decide)))
         simp (decide := true) only [setS, noS, noTenS, thP, mnP, shelfP, stepS, eq_false h5, not_true_eq_false, not_false_eq_true, true_and, and_true, false_and, and_false, true_or, or_true, false_or, or_false, cI_True, cI_False, if_true, if_false, sm0, sm1, sm2, sm3, sm4, sm5, sm6, sm7, sm8, sm9, sm10, sm11, sm12, sm13, sm14, sm15, sm16, sm17, sm18, sm19, sm20, sm21, sm22, sm23, sm24, sm25, su0, su1, su2, su3, su4, su5, su6, su7, su8, su9, su10, su11, su12, su13, su14, su15, su16, su17, su18, su19, su20, su21, su22, su23, su24, su25]; done)
      | (refine oM.of ?_ (by repeat' (first | exact frM.rf | assumption | refine frM.up0 ?_ | refine frM.up ?_ (by decide) | refine frM.upL ?_ (by decide)))
         simp (decide := true) only [setS, noS, noTenS, thP, mnP, shelfP, stepS, eq_false h5, not_true_eq_false, not_false_eq_true, true_and, and_true, false_and, and_false, true_or, or_true, false_or, or_false, cI_True, cI_False, if_true, if_false, sm0, sm1, sm2, sm3, sm4, sm5, sm6, sm7, sm8, sm9, sm10, sm11, sm12, sm13, sm14, sm15, sm16, sm17, sm18, sm19, sm20, sm21, sm22, sm23, sm24, sm25, su0, su1, su2, su3, su4, su5, su6, su7, su8, su9, su10, su11, su12, su13, su14, su15, su16, su17, su18, su19, su20, su21, su22, su23, su24, su25, hc.2, keepC, L17])
