/-! X: act (printed by gen/mk_x55.py) -/
set_option maxRecDepth 100000
theorem sw_2 {x : Int32} (h : x.toInt < 0 ∨ 2 < x.toInt) : x < 0 ∨ 2 < x := by
  rw [i_lt, i_lt]
  have : (0 : Int32).toInt = 0 := by decide
  have : (2 : Int32).toInt = 2 := by decide
  omega
theorem ct_X0_act {M : PM} {xo wa mo : Nat} {Z : PM} {S : ST} (hx : XO M xo wa mo Z S) (x1 x2 x3 : Int32) (hS : OkS S.1) : Ct (YX0_act, (7, 154, 0, 0), qi (fun r M' => oX xo mo Z (actS S x1 x2 x3) r M'), noX) [.ref xo, .int x1, .int x2, .int x3] M := by
  refine ct_of [some (.ref xo), some (.int x1), some (.int x2), some (.int x3), none] rfl rfl rfl (Nat.le_of_ble_eq_true rfl) rfl rfl ?_
  have hB := hS.1.t
  refine r_aload_n (pc := 0) dX0_act_0 rfl ?_
  refine r_getR (pc := 1) dX0_act_1 fl_X0_70_0 hx.1.2.1 (fun _ _ => rfl) hx.1.2.2.1.2.2.1 ?_
  refine r_iconst (pc := 4) (v := 0) dX0_act_4 (by decide) ?_
  refine r_putI (pc := 5) dX0_act_5 fl_X0_391_1 hx.1.2.2.2.2.2.1.1 rfl rfl ?_
  have hx1 := hx.tr0 (v := 0)
  have hB1 : OkT (up2 S.1 48 0 0) := hB.u (Or.inl (by decide))
  refine r_aload_n (pc := 8) dX0_act_8 rfl ?_
  refine r_iload_n (pc := 9) dX0_act_9 rfl ?_
  refine r_o2 (pc := 10) (bc' := 0) (bs' := 0) (ct_X0_isThing hx1 x1 hB1) k_X0_111_0 dX0_act_10 hx1.1.2.1 (Nat.le_of_ble_eq_true rfl) ⟨Nat.le_of_ble_eq_true rfl, Nat.le_of_ble_eq_true rfl⟩ ⟨Nat.le_of_ble_eq_true rfl, Nat.le_of_ble_eq_true rfl⟩ (r_ci fun r10 M10 p10 => ?_) nox
  obtain ⟨rfl, p10⟩ := p10
  have p10 := Eq.symm (show _ = _ from p10)
  subst p10
  refine r_if_ne (pc := 13) 18 dX0_act_13 rfl (fun h13 => ?_) (fun h13 => ?_)
  · rw [bI_ne0] at h13
    have h5 : thP S.1 x1 := h13
    refine r_aload_n (pc := 18) dX0_act_18 rfl ?_
    refine r_getR (pc := 19) dX0_act_19 fl_X0_90_0 hx1.1.2.1 (fun _ _ => rfl) hx1.2.2.1.1 ?_
    refine r_getR (pc := 22) dX0_act_22 fl_X0_119_3 hx1.2.2.1.2.2.k (fun _ _ => rfl) hx1.2.2.1.2.2.r9 ?_
    refine r_iload_n (pc := 25) dX0_act_25 rfl ?_
    obtain ⟨ta, hr, hT⟩ := hx1.2.2.1.2.2.th h13
    refine r_aaldR (pc := 26) dX0_act_26 hx1.2.2.1.2.2.k9 rfl hx1.2.2.1.2.2.z9 (hB1.vt h13) hr ?_
    have hn0 : mI (sI M (xo + 3) 1 0) (xo + 3) 1 = nI 0 := by show up2 (mI M) (xo + 3) 1 0 (xo + 3) 1 = _; rw [up2_self, va_up_self]; rfl
    have hi0 : mI (sI M (xo + 3) 1 0) ta 0 = x1 := hT.2.2.1.trans (nI_ix (hB1.vt h13) (by decide)).symm
    have hw0 : mI (sI M (xo + 3) 1 0) ta 1 = S.1 12 (Int32.toNatClampNeg x1) := hT.2.2.2.1
    refine r_astore4 (pc := 27) dX0_act_27 rfl ?_
    refine r_iload_n (pc := 29) dX0_act_29 rfl ?_
    refine r_sp_0_2 (fun h30 => ?_) (fun h30 => ?_) (fun h30 => ?_) (fun h30 => ?_)
    · refine r_swIn (pc := 30) 56 dX0_act_30 (by decide) (by decide) rfl rfl ?_
      refine r_aload (pc := 56) dX0_act_56 rfl ?_
      refine r_iload_n (pc := 58) dX0_act_58 rfl ?_
      refine r_aload_n (pc := 59) dX0_act_59 rfl ?_
      refine r_getR (pc := 60) dX0_act_60 fl_X0_70_0 hx1.1.2.1 (fun _ _ => rfl) hx1.1.2.2.1.2.2.1 ?_
      rcases kd7 (hB1.2 _ (ix_lt h13.1 h13.2)).1 with e7 | e7 | e7 | e7 | e7 | e7 | e7
      · have hK7 := hT.k e7 (c := 12) rfl
        have t0 : tsP (sI M (xo + 3) 1 0) (xo + 3) ta 12 0 (sI M (xo + 3) 1 0) := ⟨hK7, hx1.1.2.2.2.2.2.1, hn0, rfl⟩
        refine r_o3 (pc := 63) (bc' := 0) (bs' := 0) (ct_X12_going_12 x3 t0 (by decide)) k_X0_394_12 dX0_act_63 hK7 (Nat.le_of_ble_eq_true rfl) ⟨Nat.le_of_ble_eq_true rfl, Nat.le_of_ble_eq_true rfl⟩ ⟨Nat.le_of_ble_eq_true rfl, Nat.le_of_ble_eq_true rfl⟩ (r_ci fun r7 M7 p7 => ?_) nox
        obtain ⟨e8, p7⟩ := p7
        have p7 := Eq.symm (show _ = _ from p7)
        subst p7
        have hx7 := hx1.rns [10]
        have e9 : S.1 11 (Int32.toNatClampNeg x1) = 0 := e7
        refine r_ireturn (pc := 66) rfl dX0_act_66 ⟨_, rfl, ?_⟩
        exact (show oX xo mo Z (actS S x1 x2 x3) _ _ by unfold actS; rw [h30, cI_f (fun hh => hh.elim (fun q => q h5) (by decide)), cI_t rfl, e9, (go_12 0 0 0).2, (go_12 _ _ _).1]; exact ⟨by simp only [e8, hi0, hw0], wa, hx7⟩)
      · have hK7 := hT.k e7 (c := 13) rfl
        have t0 : tsP (sI M (xo + 3) 1 0) (xo + 3) ta 13 0 (sI M (xo + 3) 1 0) := ⟨hK7, hx1.1.2.2.2.2.2.1, hn0, rfl⟩
        refine r_o3 (pc := 63) (bc' := 0) (bs' := 0) (ct_X13_going_13 x3 t0 (by decide)) k_X0_394_13 dX0_act_63 hK7 (Nat.le_of_ble_eq_true rfl) ⟨Nat.le_of_ble_eq_true rfl, Nat.le_of_ble_eq_true rfl⟩ ⟨Nat.le_of_ble_eq_true rfl, Nat.le_of_ble_eq_true rfl⟩ (r_ci fun r7 M7 p7 => ?_) nox
        obtain ⟨e8, p7⟩ := p7
        have p7 := Eq.symm (show _ = _ from p7)
        subst p7
        have hx7 := hx1.rns [20, 10]
        have e9 : S.1 11 (Int32.toNatClampNeg x1) = 1 := e7
        refine r_ireturn (pc := 66) rfl dX0_act_66 ⟨_, rfl, ?_⟩
        exact (show oX xo mo Z (actS S x1 x2 x3) _ _ by unfold actS; rw [h30, cI_f (fun hh => hh.elim (fun q => q h5) (by decide)), cI_t rfl, e9, (go_13 0 0 0).2, (go_13 _ _ _).1]; exact ⟨by simp only [e8, hi0, hw0], wa, hx7⟩)
      · have hK7 := hT.k e7 (c := 14) rfl
        have t0 : tsP (sI M (xo + 3) 1 0) (xo + 3) ta 14 0 (sI M (xo + 3) 1 0) := ⟨hK7, hx1.1.2.2.2.2.2.1, hn0, rfl⟩
        refine r_o3 (pc := 63) (bc' := 0) (bs' := 0) (ct_X12_going_14 x3 t0 (by decide)) k_X0_394_14 dX0_act_63 hK7 (Nat.le_of_ble_eq_true rfl) ⟨Nat.le_of_ble_eq_true rfl, Nat.le_of_ble_eq_true rfl⟩ ⟨Nat.le_of_ble_eq_true rfl, Nat.le_of_ble_eq_true rfl⟩ (r_ci fun r7 M7 p7 => ?_) nox
        obtain ⟨e8, p7⟩ := p7
        have p7 := Eq.symm (show _ = _ from p7)
        subst p7
        have hx7 := hx1.rns [10]
        have e9 : S.1 11 (Int32.toNatClampNeg x1) = 2 := e7
        refine r_ireturn (pc := 66) rfl dX0_act_66 ⟨_, rfl, ?_⟩
        exact (show oX xo mo Z (actS S x1 x2 x3) _ _ by unfold actS; rw [h30, cI_f (fun hh => hh.elim (fun q => q h5) (by decide)), cI_t rfl, e9, (go_14 0 0 0).2, (go_14 _ _ _).1]; exact ⟨by simp only [e8, hi0, hw0], wa, hx7⟩)
      · have hK7 := hT.k e7 (c := 15) rfl
        have t0 : tsP (sI M (xo + 3) 1 0) (xo + 3) ta 15 0 (sI M (xo + 3) 1 0) := ⟨hK7, hx1.1.2.2.2.2.2.1, hn0, rfl⟩
        refine r_o3 (pc := 63) (bc' := 0) (bs' := 0) (ct_X12_going_15 x3 t0 (by decide)) k_X0_394_15 dX0_act_63 hK7 (Nat.le_of_ble_eq_true rfl) ⟨Nat.le_of_ble_eq_true rfl, Nat.le_of_ble_eq_true rfl⟩ ⟨Nat.le_of_ble_eq_true rfl, Nat.le_of_ble_eq_true rfl⟩ (r_ci fun r7 M7 p7 => ?_) nox
        obtain ⟨e8, p7⟩ := p7
        have p7 := Eq.symm (show _ = _ from p7)
        subst p7
        have hx7 := hx1.rns [10]
        have e9 : S.1 11 (Int32.toNatClampNeg x1) = 3 := e7
        refine r_ireturn (pc := 66) rfl dX0_act_66 ⟨_, rfl, ?_⟩
        exact (show oX xo mo Z (actS S x1 x2 x3) _ _ by unfold actS; rw [h30, cI_f (fun hh => hh.elim (fun q => q h5) (by decide)), cI_t rfl, e9, (go_15 0 0 0).2, (go_15 _ _ _).1]; exact ⟨by simp only [e8, hi0, hw0], wa, hx7⟩)
      · have hK7 := hT.k e7 (c := 16) rfl
        have t0 : tsP (sI M (xo + 3) 1 0) (xo + 3) ta 16 0 (sI M (xo + 3) 1 0) := ⟨hK7, hx1.1.2.2.2.2.2.1, hn0, rfl⟩
        refine r_o3 (pc := 63) (bc' := 0) (bs' := 0) (ct_X16_going_16 x3 t0 (by decide)) k_X0_394_16 dX0_act_63 hK7 (Nat.le_of_ble_eq_true rfl) ⟨Nat.le_of_ble_eq_true rfl, Nat.le_of_ble_eq_true rfl⟩ ⟨Nat.le_of_ble_eq_true rfl, Nat.le_of_ble_eq_true rfl⟩ (r_ci fun r7 M7 p7 => ?_) nox
        obtain ⟨e8, p7⟩ := p7
        have p7 := Eq.symm (show _ = _ from p7)
        subst p7
        have hx7 := hx1.rns [70, 10]
        have e9 : S.1 11 (Int32.toNatClampNeg x1) = 4 := e7
        refine r_ireturn (pc := 66) rfl dX0_act_66 ⟨_, rfl, ?_⟩
        exact (show oX xo mo Z (actS S x1 x2 x3) _ _ by unfold actS; rw [h30, cI_f (fun hh => hh.elim (fun q => q h5) (by decide)), cI_t rfl, e9, (go_16 0 0 0).2, (go_16 _ _ _).1]; exact ⟨by simp only [e8, hi0, hw0], wa, hx7⟩)
      · have hK7 := hT.k e7 (c := 17) rfl
        have t0 : tsP (sI M (xo + 3) 1 0) (xo + 3) ta 17 0 (sI M (xo + 3) 1 0) := ⟨hK7, hx1.1.2.2.2.2.2.1, hn0, rfl⟩
        refine r_o3 (pc := 63) (bc' := 0) (bs' := 0) (ct_X13_going_17 x3 t0 (by decide)) k_X0_394_17 dX0_act_63 hK7 (Nat.le_of_ble_eq_true rfl) ⟨Nat.le_of_ble_eq_true rfl, Nat.le_of_ble_eq_true rfl⟩ ⟨Nat.le_of_ble_eq_true rfl, Nat.le_of_ble_eq_true rfl⟩ (r_ci fun r7 M7 p7 => ?_) nox
        obtain ⟨e8, p7⟩ := p7
        have p7 := Eq.symm (show _ = _ from p7)
        subst p7
        have hx7 := hx1.rns [20, 10]
        have e9 : S.1 11 (Int32.toNatClampNeg x1) = 5 := e7
        refine r_ireturn (pc := 66) rfl dX0_act_66 ⟨_, rfl, ?_⟩
        exact (show oX xo mo Z (actS S x1 x2 x3) _ _ by unfold actS; rw [h30, cI_f (fun hh => hh.elim (fun q => q h5) (by decide)), cI_t rfl, e9, (go_17 0 0 0).2, (go_17 _ _ _).1]; exact ⟨by simp only [e8, hi0, hw0], wa, hx7⟩)
      · have hK7 := hT.k e7 (c := 18) rfl
        have t0 : tsP (sI M (xo + 3) 1 0) (xo + 3) ta 18 0 (sI M (xo + 3) 1 0) := ⟨hK7, hx1.1.2.2.2.2.2.1, hn0, rfl⟩
        refine r_o3 (pc := 63) (bc' := 0) (bs' := 0) (ct_X18_going_18 x3 t0 (by decide)) k_X0_394_18 dX0_act_63 hK7 (Nat.le_of_ble_eq_true rfl) ⟨Nat.le_of_ble_eq_true rfl, Nat.le_of_ble_eq_true rfl⟩ ⟨Nat.le_of_ble_eq_true rfl, Nat.le_of_ble_eq_true rfl⟩ (r_ci fun r7 M7 p7 => ?_) nox
        obtain ⟨e8, p7⟩ := p7
        have p7 := Eq.symm (show _ = _ from p7)
        subst p7
        have hx7 := hx1.rns [40, 20, 10]
        have e9 : S.1 11 (Int32.toNatClampNeg x1) = 6 := e7
        refine r_ireturn (pc := 66) rfl dX0_act_66 ⟨_, rfl, ?_⟩
        exact (show oX xo mo Z (actS S x1 x2 x3) _ _ by unfold actS; rw [h30, cI_f (fun hh => hh.elim (fun q => q h5) (by decide)), cI_t rfl, e9, (go_18 0 0 0).2, (go_18 _ _ _).1]; exact ⟨by simp only [e8, hi0, hw0], wa, hx7⟩)
    · refine r_swIn (pc := 30) 67 dX0_act_30 (by decide) (by decide) rfl rfl ?_
      refine r_aload (pc := 67) dX0_act_67 rfl ?_
      refine r_iload_n (pc := 69) dX0_act_69 rfl ?_
      refine r_aload_n (pc := 70) dX0_act_70 rfl ?_
      refine r_getR (pc := 71) dX0_act_71 fl_X0_70_0 hx1.1.2.1 (fun _ _ => rfl) hx1.1.2.2.1.2.2.1 ?_
      rcases kd7 (hB1.2 _ (ix_lt h13.1 h13.2)).1 with e7 | e7 | e7 | e7 | e7 | e7 | e7
      · have hK7 := hT.k e7 (c := 12) rfl
        have t0 : tsP (sI M (xo + 3) 1 0) (xo + 3) ta 12 0 (sI M (xo + 3) 1 0) := ⟨hK7, hx1.1.2.2.2.2.2.1, hn0, rfl⟩
        refine r_o3 (pc := 74) (bc' := 0) (bs' := 0) (ct_X12_resting_12 x3 t0 (by decide)) k_X0_398_12 dX0_act_74 hK7 (Nat.le_of_ble_eq_true rfl) ⟨Nat.le_of_ble_eq_true rfl, Nat.le_of_ble_eq_true rfl⟩ ⟨Nat.le_of_ble_eq_true rfl, Nat.le_of_ble_eq_true rfl⟩ (r_ci fun r7 M7 p7 => ?_) nox
        obtain ⟨e8, p7⟩ := p7
        have p7 := Eq.symm (show _ = _ from p7)
        subst p7
        have hx7 := hx1.rns [11, 10]
        have e9 : S.1 11 (Int32.toNatClampNeg x1) = 0 := e7
        refine r_ireturn (pc := 77) rfl dX0_act_77 ⟨_, rfl, ?_⟩
        exact (show oX xo mo Z (actS S x1 x2 x3) _ _ by unfold actS; rw [h30, cI_f (fun hh => hh.elim (fun q => q h5) (by decide)), cI_f (by decide), cI_t rfl, e9, (re_12 0 0 0).2, (re_12 _ _ _).1]; exact ⟨by simp only [e8, hi0, hw0], wa, hx7⟩)
      · have hK7 := hT.k e7 (c := 13) rfl
        have t0 : tsP (sI M (xo + 3) 1 0) (xo + 3) ta 13 0 (sI M (xo + 3) 1 0) := ⟨hK7, hx1.1.2.2.2.2.2.1, hn0, rfl⟩
        refine r_o3 (pc := 74) (bc' := 0) (bs' := 0) (ct_X12_resting_13 x3 t0 (by decide)) k_X0_398_13 dX0_act_74 hK7 (Nat.le_of_ble_eq_true rfl) ⟨Nat.le_of_ble_eq_true rfl, Nat.le_of_ble_eq_true rfl⟩ ⟨Nat.le_of_ble_eq_true rfl, Nat.le_of_ble_eq_true rfl⟩ (r_ci fun r7 M7 p7 => ?_) nox
        obtain ⟨e8, p7⟩ := p7
        have p7 := Eq.symm (show _ = _ from p7)
        subst p7
        have hx7 := hx1.rns [11, 20, 10]
        have e9 : S.1 11 (Int32.toNatClampNeg x1) = 1 := e7
        refine r_ireturn (pc := 77) rfl dX0_act_77 ⟨_, rfl, ?_⟩
        exact (show oX xo mo Z (actS S x1 x2 x3) _ _ by unfold actS; rw [h30, cI_f (fun hh => hh.elim (fun q => q h5) (by decide)), cI_f (by decide), cI_t rfl, e9, (re_13 0 0 0).2, (re_13 _ _ _).1]; exact ⟨by simp only [e8, hi0, hw0], wa, hx7⟩)
      · have hK7 := hT.k e7 (c := 14) rfl
        have t0 : tsP (sI M (xo + 3) 1 0) (xo + 3) ta 14 0 (sI M (xo + 3) 1 0) := ⟨hK7, hx1.1.2.2.2.2.2.1, hn0, rfl⟩
        refine r_o3 (pc := 74) (bc' := 0) (bs' := 0) (ct_X14_resting_14 x3 t0 (by decide)) k_X0_398_14 dX0_act_74 hK7 (Nat.le_of_ble_eq_true rfl) ⟨Nat.le_of_ble_eq_true rfl, Nat.le_of_ble_eq_true rfl⟩ ⟨Nat.le_of_ble_eq_true rfl, Nat.le_of_ble_eq_true rfl⟩ (r_ci fun r7 M7 p7 => ?_) nox
        obtain ⟨e8, p7⟩ := p7
        have p7 := Eq.symm (show _ = _ from p7)
        subst p7
        have hx7 := hx1.rns [50, 11, 10]
        have e9 : S.1 11 (Int32.toNatClampNeg x1) = 2 := e7
        refine r_ireturn (pc := 77) rfl dX0_act_77 ⟨_, rfl, ?_⟩
        exact (show oX xo mo Z (actS S x1 x2 x3) _ _ by unfold actS; rw [h30, cI_f (fun hh => hh.elim (fun q => q h5) (by decide)), cI_f (by decide), cI_t rfl, e9, (re_14 0 0 0).2, (re_14 _ _ _).1]; exact ⟨by simp only [e8, hi0, hw0], wa, hx7⟩)
      · have hK7 := hT.k e7 (c := 15) rfl
        have t0 : tsP (sI M (xo + 3) 1 0) (xo + 3) ta 15 0 (sI M (xo + 3) 1 0) := ⟨hK7, hx1.1.2.2.2.2.2.1, hn0, rfl⟩
        refine r_o3 (pc := 74) (bc' := 0) (bs' := 0) (ct_X15_resting_15 x3 t0 (by decide)) k_X0_398_15 dX0_act_74 hK7 (Nat.le_of_ble_eq_true rfl) ⟨Nat.le_of_ble_eq_true rfl, Nat.le_of_ble_eq_true rfl⟩ ⟨Nat.le_of_ble_eq_true rfl, Nat.le_of_ble_eq_true rfl⟩ (r_ci fun r7 M7 p7 => ?_) nox
        obtain ⟨e8, p7⟩ := p7
        have p7 := Eq.symm (show _ = _ from p7)
        subst p7
        have hx7 := hx1.rns [60, 50, 11, 10]
        have e9 : S.1 11 (Int32.toNatClampNeg x1) = 3 := e7
        refine r_ireturn (pc := 77) rfl dX0_act_77 ⟨_, rfl, ?_⟩
        exact (show oX xo mo Z (actS S x1 x2 x3) _ _ by unfold actS; rw [h30, cI_f (fun hh => hh.elim (fun q => q h5) (by decide)), cI_f (by decide), cI_t rfl, e9, (re_15 0 0 0).2, (re_15 _ _ _).1]; exact ⟨by simp only [e8, hi0, hw0], wa, hx7⟩)
      · have hK7 := hT.k e7 (c := 16) rfl
        have t0 : tsP (sI M (xo + 3) 1 0) (xo + 3) ta 16 0 (sI M (xo + 3) 1 0) := ⟨hK7, hx1.1.2.2.2.2.2.1, hn0, rfl⟩
        refine r_o3 (pc := 74) (bc' := 0) (bs' := 0) (ct_X12_resting_16 x3 t0 (by decide)) k_X0_398_16 dX0_act_74 hK7 (Nat.le_of_ble_eq_true rfl) ⟨Nat.le_of_ble_eq_true rfl, Nat.le_of_ble_eq_true rfl⟩ ⟨Nat.le_of_ble_eq_true rfl, Nat.le_of_ble_eq_true rfl⟩ (r_ci fun r7 M7 p7 => ?_) nox
        obtain ⟨e8, p7⟩ := p7
        have p7 := Eq.symm (show _ = _ from p7)
        subst p7
        have hx7 := hx1.rns [11, 70, 10]
        have e9 : S.1 11 (Int32.toNatClampNeg x1) = 4 := e7
        refine r_ireturn (pc := 77) rfl dX0_act_77 ⟨_, rfl, ?_⟩
        exact (show oX xo mo Z (actS S x1 x2 x3) _ _ by unfold actS; rw [h30, cI_f (fun hh => hh.elim (fun q => q h5) (by decide)), cI_f (by decide), cI_t rfl, e9, (re_16 0 0 0).2, (re_16 _ _ _).1]; exact ⟨by simp only [e8, hi0, hw0], wa, hx7⟩)
      · have hK7 := hT.k e7 (c := 17) rfl
        have t0 : tsP (sI M (xo + 3) 1 0) (xo + 3) ta 17 0 (sI M (xo + 3) 1 0) := ⟨hK7, hx1.1.2.2.2.2.2.1, hn0, rfl⟩
        refine r_o3 (pc := 74) (bc' := 0) (bs' := 0) (ct_X17_resting_17 x3 t0 (by decide)) k_X0_398_17 dX0_act_74 hK7 (Nat.le_of_ble_eq_true rfl) ⟨Nat.le_of_ble_eq_true rfl, Nat.le_of_ble_eq_true rfl⟩ ⟨Nat.le_of_ble_eq_true rfl, Nat.le_of_ble_eq_true rfl⟩ (r_ci fun r7 M7 p7 => ?_) nox
        obtain ⟨e8, p7⟩ := p7
        have p7 := Eq.symm (show _ = _ from p7)
        subst p7
        have hx7 := hx1.rns [30, 11, 20, 10]
        have e9 : S.1 11 (Int32.toNatClampNeg x1) = 5 := e7
        refine r_ireturn (pc := 77) rfl dX0_act_77 ⟨_, rfl, ?_⟩
        exact (show oX xo mo Z (actS S x1 x2 x3) _ _ by unfold actS; rw [h30, cI_f (fun hh => hh.elim (fun q => q h5) (by decide)), cI_f (by decide), cI_t rfl, e9, (re_17 0 0 0).2, (re_17 _ _ _).1]; exact ⟨by simp only [e8, hi0, hw0], wa, hx7⟩)
      · have hK7 := hT.k e7 (c := 18) rfl
        have t0 : tsP (sI M (xo + 3) 1 0) (xo + 3) ta 18 0 (sI M (xo + 3) 1 0) := ⟨hK7, hx1.1.2.2.2.2.2.1, hn0, rfl⟩
        refine r_o3 (pc := 74) (bc' := 0) (bs' := 0) (ct_X12_resting_18 x3 t0 (by decide)) k_X0_398_18 dX0_act_74 hK7 (Nat.le_of_ble_eq_true rfl) ⟨Nat.le_of_ble_eq_true rfl, Nat.le_of_ble_eq_true rfl⟩ ⟨Nat.le_of_ble_eq_true rfl, Nat.le_of_ble_eq_true rfl⟩ (r_ci fun r7 M7 p7 => ?_) nox
        obtain ⟨e8, p7⟩ := p7
        have p7 := Eq.symm (show _ = _ from p7)
        subst p7
        have hx7 := hx1.rns [11, 40, 20, 10]
        have e9 : S.1 11 (Int32.toNatClampNeg x1) = 6 := e7
        refine r_ireturn (pc := 77) rfl dX0_act_77 ⟨_, rfl, ?_⟩
        exact (show oX xo mo Z (actS S x1 x2 x3) _ _ by unfold actS; rw [h30, cI_f (fun hh => hh.elim (fun q => q h5) (by decide)), cI_f (by decide), cI_t rfl, e9, (re_18 0 0 0).2, (re_18 _ _ _).1]; exact ⟨by simp only [e8, hi0, hw0], wa, hx7⟩)
    · refine r_swIn (pc := 30) 78 dX0_act_30 (by decide) (by decide) rfl rfl ?_
      refine r_aload (pc := 78) dX0_act_78 rfl ?_
      refine r_iload_n (pc := 80) dX0_act_80 rfl ?_
      refine r_aload_n (pc := 81) dX0_act_81 rfl ?_
      refine r_getR (pc := 82) dX0_act_82 fl_X0_70_0 hx1.1.2.1 (fun _ _ => rfl) hx1.1.2.2.1.2.2.1 ?_
      rcases kd7 (hB1.2 _ (ix_lt h13.1 h13.2)).1 with e7 | e7 | e7 | e7 | e7 | e7 | e7
      · have hK7 := hT.k e7 (c := 12) rfl
        have t0 : tsP (sI M (xo + 3) 1 0) (xo + 3) ta 12 0 (sI M (xo + 3) 1 0) := ⟨hK7, hx1.1.2.2.2.2.2.1, hn0, rfl⟩
        refine r_o3 (pc := 85) (bc' := 0) (bs' := 0) (ct_X12_falling_12 x3 t0 (by decide)) k_X0_401_12 dX0_act_85 hK7 (Nat.le_of_ble_eq_true rfl) ⟨Nat.le_of_ble_eq_true rfl, Nat.le_of_ble_eq_true rfl⟩ ⟨Nat.le_of_ble_eq_true rfl, Nat.le_of_ble_eq_true rfl⟩ (r_ci fun r7 M7 p7 => ?_) nox
        obtain ⟨e8, p7⟩ := p7
        have p7 := Eq.symm (show _ = _ from p7)
        subst p7
        have hx7 := hx1.rns [12, 11, 10, 10]
        have e9 : S.1 11 (Int32.toNatClampNeg x1) = 0 := e7
        refine r_ireturn (pc := 88) rfl dX0_act_88 ⟨_, rfl, ?_⟩
        exact (show oX xo mo Z (actS S x1 x2 x3) _ _ by unfold actS; rw [h30, cI_f (fun hh => hh.elim (fun q => q h5) (by decide)), cI_f (by decide), cI_f (by decide), e9, (fa_12 0 0 0).2, (fa_12 _ _ _).1]; exact ⟨by simp only [e8, hi0, hw0], wa, hx7⟩)
      · have hK7 := hT.k e7 (c := 13) rfl
        have t0 : tsP (sI M (xo + 3) 1 0) (xo + 3) ta 13 0 (sI M (xo + 3) 1 0) := ⟨hK7, hx1.1.2.2.2.2.2.1, hn0, rfl⟩
        refine r_o3 (pc := 85) (bc' := 0) (bs' := 0) (ct_X12_falling_13 x3 t0 (by decide)) k_X0_401_13 dX0_act_85 hK7 (Nat.le_of_ble_eq_true rfl) ⟨Nat.le_of_ble_eq_true rfl, Nat.le_of_ble_eq_true rfl⟩ ⟨Nat.le_of_ble_eq_true rfl, Nat.le_of_ble_eq_true rfl⟩ (r_ci fun r7 M7 p7 => ?_) nox
        obtain ⟨e8, p7⟩ := p7
        have p7 := Eq.symm (show _ = _ from p7)
        subst p7
        have hx7 := hx1.rns [12, 11, 20, 10, 20, 10]
        have e9 : S.1 11 (Int32.toNatClampNeg x1) = 1 := e7
        refine r_ireturn (pc := 88) rfl dX0_act_88 ⟨_, rfl, ?_⟩
        exact (show oX xo mo Z (actS S x1 x2 x3) _ _ by unfold actS; rw [h30, cI_f (fun hh => hh.elim (fun q => q h5) (by decide)), cI_f (by decide), cI_f (by decide), e9, (fa_13 0 0 0).2, (fa_13 _ _ _).1]; exact ⟨by simp only [e8, hi0, hw0], wa, hx7⟩)
      · have hK7 := hT.k e7 (c := 14) rfl
        have t0 : tsP (sI M (xo + 3) 1 0) (xo + 3) ta 14 0 (sI M (xo + 3) 1 0) := ⟨hK7, hx1.1.2.2.2.2.2.1, hn0, rfl⟩
        refine r_o3 (pc := 85) (bc' := 0) (bs' := 0) (ct_X12_falling_14 x3 t0 (by decide)) k_X0_401_14 dX0_act_85 hK7 (Nat.le_of_ble_eq_true rfl) ⟨Nat.le_of_ble_eq_true rfl, Nat.le_of_ble_eq_true rfl⟩ ⟨Nat.le_of_ble_eq_true rfl, Nat.le_of_ble_eq_true rfl⟩ (r_ci fun r7 M7 p7 => ?_) nox
        obtain ⟨e8, p7⟩ := p7
        have p7 := Eq.symm (show _ = _ from p7)
        subst p7
        have hx7 := hx1.rns [12, 50, 11, 10, 10]
        have e9 : S.1 11 (Int32.toNatClampNeg x1) = 2 := e7
        refine r_ireturn (pc := 88) rfl dX0_act_88 ⟨_, rfl, ?_⟩
        exact (show oX xo mo Z (actS S x1 x2 x3) _ _ by unfold actS; rw [h30, cI_f (fun hh => hh.elim (fun q => q h5) (by decide)), cI_f (by decide), cI_f (by decide), e9, (fa_14 0 0 0).2, (fa_14 _ _ _).1]; exact ⟨by simp only [e8, hi0, hw0], wa, hx7⟩)
      · have hK7 := hT.k e7 (c := 15) rfl
        have t0 : tsP (sI M (xo + 3) 1 0) (xo + 3) ta 15 0 (sI M (xo + 3) 1 0) := ⟨hK7, hx1.1.2.2.2.2.2.1, hn0, rfl⟩
        refine r_o3 (pc := 85) (bc' := 0) (bs' := 0) (ct_X12_falling_15 x3 t0 (by decide)) k_X0_401_15 dX0_act_85 hK7 (Nat.le_of_ble_eq_true rfl) ⟨Nat.le_of_ble_eq_true rfl, Nat.le_of_ble_eq_true rfl⟩ ⟨Nat.le_of_ble_eq_true rfl, Nat.le_of_ble_eq_true rfl⟩ (r_ci fun r7 M7 p7 => ?_) nox
        obtain ⟨e8, p7⟩ := p7
        have p7 := Eq.symm (show _ = _ from p7)
        subst p7
        have hx7 := hx1.rns [12, 60, 50, 11, 10, 10]
        have e9 : S.1 11 (Int32.toNatClampNeg x1) = 3 := e7
        refine r_ireturn (pc := 88) rfl dX0_act_88 ⟨_, rfl, ?_⟩
        exact (show oX xo mo Z (actS S x1 x2 x3) _ _ by unfold actS; rw [h30, cI_f (fun hh => hh.elim (fun q => q h5) (by decide)), cI_f (by decide), cI_f (by decide), e9, (fa_15 0 0 0).2, (fa_15 _ _ _).1]; exact ⟨by simp only [e8, hi0, hw0], wa, hx7⟩)
      · have hK7 := hT.k e7 (c := 16) rfl
        have t0 : tsP (sI M (xo + 3) 1 0) (xo + 3) ta 16 0 (sI M (xo + 3) 1 0) := ⟨hK7, hx1.1.2.2.2.2.2.1, hn0, rfl⟩
        refine r_o3 (pc := 85) (bc' := 0) (bs' := 0) (ct_X16_falling_16 x3 t0 (by decide)) k_X0_401_16 dX0_act_85 hK7 (Nat.le_of_ble_eq_true rfl) ⟨Nat.le_of_ble_eq_true rfl, Nat.le_of_ble_eq_true rfl⟩ ⟨Nat.le_of_ble_eq_true rfl, Nat.le_of_ble_eq_true rfl⟩ (r_ci fun r7 M7 p7 => ?_) nox
        obtain ⟨e8, p7⟩ := p7
        have p7 := Eq.symm (show _ = _ from p7)
        subst p7
        have hx7 := hx1.rns [71, 12, 11, 70, 10, 70, 10]
        have e9 : S.1 11 (Int32.toNatClampNeg x1) = 4 := e7
        refine r_ireturn (pc := 88) rfl dX0_act_88 ⟨_, rfl, ?_⟩
        exact (show oX xo mo Z (actS S x1 x2 x3) _ _ by unfold actS; rw [h30, cI_f (fun hh => hh.elim (fun q => q h5) (by decide)), cI_f (by decide), cI_f (by decide), e9, (fa_16 0 0 0).2, (fa_16 _ _ _).1]; exact ⟨by simp only [e8, hi0, hw0], wa, hx7⟩)
      · have hK7 := hT.k e7 (c := 17) rfl
        have t0 : tsP (sI M (xo + 3) 1 0) (xo + 3) ta 17 0 (sI M (xo + 3) 1 0) := ⟨hK7, hx1.1.2.2.2.2.2.1, hn0, rfl⟩
        refine r_o3 (pc := 85) (bc' := 0) (bs' := 0) (ct_X12_falling_17 x3 t0 (by decide)) k_X0_401_17 dX0_act_85 hK7 (Nat.le_of_ble_eq_true rfl) ⟨Nat.le_of_ble_eq_true rfl, Nat.le_of_ble_eq_true rfl⟩ ⟨Nat.le_of_ble_eq_true rfl, Nat.le_of_ble_eq_true rfl⟩ (r_ci fun r7 M7 p7 => ?_) nox
        obtain ⟨e8, p7⟩ := p7
        have p7 := Eq.symm (show _ = _ from p7)
        subst p7
        have hx7 := hx1.rns [12, 30, 11, 20, 10, 20, 10]
        have e9 : S.1 11 (Int32.toNatClampNeg x1) = 5 := e7
        refine r_ireturn (pc := 88) rfl dX0_act_88 ⟨_, rfl, ?_⟩
        exact (show oX xo mo Z (actS S x1 x2 x3) _ _ by unfold actS; rw [h30, cI_f (fun hh => hh.elim (fun q => q h5) (by decide)), cI_f (by decide), cI_f (by decide), e9, (fa_17 0 0 0).2, (fa_17 _ _ _).1]; exact ⟨by simp only [e8, hi0, hw0], wa, hx7⟩)
      · have hK7 := hT.k e7 (c := 18) rfl
        have t0 : tsP (sI M (xo + 3) 1 0) (xo + 3) ta 18 0 (sI M (xo + 3) 1 0) := ⟨hK7, hx1.1.2.2.2.2.2.1, hn0, rfl⟩
        refine r_o3 (pc := 85) (bc' := 0) (bs' := 0) (ct_X18_falling_18 x3 t0 (by decide)) k_X0_401_18 dX0_act_85 hK7 (Nat.le_of_ble_eq_true rfl) ⟨Nat.le_of_ble_eq_true rfl, Nat.le_of_ble_eq_true rfl⟩ ⟨Nat.le_of_ble_eq_true rfl, Nat.le_of_ble_eq_true rfl⟩ (r_ci fun r7 M7 p7 => ?_) nox
        obtain ⟨e8, p7⟩ := p7
        have p7 := Eq.symm (show _ = _ from p7)
        subst p7
        have hx7 := hx1.rns [41, 12, 11, 40, 20, 10, 40, 20, 10]
        have e9 : S.1 11 (Int32.toNatClampNeg x1) = 6 := e7
        refine r_ireturn (pc := 88) rfl dX0_act_88 ⟨_, rfl, ?_⟩
        exact (show oX xo mo Z (actS S x1 x2 x3) _ _ by unfold actS; rw [h30, cI_f (fun hh => hh.elim (fun q => q h5) (by decide)), cI_f (by decide), cI_f (by decide), e9, (fa_18 0 0 0).2, (fa_18 _ _ _).1]; exact ⟨by simp only [e8, hi0, hw0], wa, hx7⟩)
    · refine r_swOut (pc := 30) 89 dX0_act_30 h30 rfl ?_
      refine r_iconst (pc := 89) (v := 0) dX0_act_89 (by decide) ?_
      refine r_ireturn (pc := 90) rfl dX0_act_90 ⟨_, rfl, ?_⟩
      exact (show oX xo mo Z (actS S x1 x2 x3) _ _ by unfold actS; rw [cI_t (Or.inr (sw_2 h30))]; exact ⟨rfl, wa, hx1⟩)
  · rw [bI_eq0] at h13
    refine r_iconst (pc := 16) (v := 0) dX0_act_16 (by decide) ?_
    refine r_ireturn (pc := 17) rfl dX0_act_17 ⟨_, rfl, ?_⟩
    exact (show oX xo mo Z (actS S x1 x2 x3) _ _ by unfold actS; rw [cI_t (Or.inl (show ¬ thP S.1 x1 from h13))]; exact ⟨rfl, wa, hx1⟩)
