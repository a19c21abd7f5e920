/-! X: shelf (printed by gen/mk_x60.py) -/
set_option maxRecDepth 100000
theorem sh_vp {s : Int32} (h : vp_in s 8) : shelfP s := by
  rw [vp_in_iff] at h
  have c0 : (0 : Int32).toInt = 0 := by decide
  have c8 : (8 : Int32).toInt = 8 := by decide
  exact ⟨by rw [i_lt]; omega, by rw [i_lt]; omega⟩
theorem ct_X0_shelf {M : PM} {xo wa mo : Nat} {Z : PM} {S : ST} (hx : XO M xo wa mo Z S) (x1 : Int32) : Ct (YX0_shelf, (8, 10260, 4, 229), qr (fun r M' => shelfP x1 ∧ r = xo + (27 + Int32.toNatClampNeg x1) ∧ M' = M), fun q E M' => ¬ shelfP x1 ∧ rfO xo wa mo Z S (-1) q E M') [.ref xo, .int x1] M := by
  refine ct_ofH [some (.ref xo), some (.int x1), none] rfl rfl (Nat.le_of_ble_eq_true rfl) rfl rfl ?_
  by_cases hs : shelfP x1
  · refine r_aload_n (pc := 0) dX0_shelf_0 rfl ?_
    refine r_getR (pc := 1) dX0_shelf_1 fl_X0_59_0 hx.1.2.1 (fun _ _ => rfl) hx.1.2.2.1.1 ?_
    refine r_iload_n (pc := 4) dX0_shelf_4 rfl ?_
    refine r_aaldR (pc := 5) dX0_shelf_5 hx.1.2.2.2.1.1 rfl hx.1.2.2.2.1.2 (vp_sh hs) (hx.1.2.2.2.2.2.2.2.2.2 _ (vp_in_lt (vp_sh hs))).1 ?_
    refine r_areturn (pc := 6) rfl (Or.inl ⟨_, rfl⟩) (Or.inr ⟨_, rfl⟩) dX0_shelf_6 ⟨_, rfl, ?_⟩
    exact ⟨hs, rfl, rfl⟩
  · refine r_aload_n (pc := 0) dX0_shelf_0 rfl ?_
    refine r_getR (pc := 1) dX0_shelf_1 fl_X0_59_0 hx.1.2.1 (fun _ _ => rfl) hx.1.2.2.1.1 ?_
    refine r_iload_n (pc := 4) dX0_shelf_4 rfl ?_
    refine r_aaldX (pc := 5) dX0_shelf_5 hx.1.2.2.2.1.1 hx.1.2.2.2.1.2 (by decide) (fun hv => hs (sh_vp hv)) (Nat.le_of_ble_eq_true rfl) (Nat.le_of_ble_eq_true rfl) (Nat.le_of_ble_eq_true rfl) (Nat.le_of_ble_eq_true rfl) (fun N q hN => ?_)
    have hx2 := hx.grown (frP.rf.grow hN)
    refine t_catch [] _ _ _ rfl (fun z hz => absurd hz List.not_mem_nil) rfl (by decide) q310 q363 ?_
    show Wx _ 1 7 (grow M N) 7 _ _
    refine r_astore2 (pc := 7) dX0_shelf_7 rfl ?_
    refine r_new (c := 6) (pc := 8) (RX6, TX6, 7) dX0_shelf_8 rfl q305 q388 q91 dv_6 (Nat.le_of_ble_eq_true rfl) rfl (Nat.le_of_ble_eq_true rfl) ?_
    refine r_dup (pc := 11) dX0_shelf_11 rfl ?_
    refine r_iconst (pc := 12) (v := (-1)) dX0_shelf_12 (by decide) ?_
    refine r_o2 (pc := 13) (bc' := 0) (bs' := 0) (ct_X6_init (-1) (nw_K _ _ _) (nw_R _ _ _)) k_X0_23_6 dX0_shelf_13 (nw_K _ _ _) (Nat.le_of_ble_eq_true rfl) ⟨Nat.le_of_ble_eq_true rfl, Nat.le_of_ble_eq_true rfl⟩ ⟨Nat.le_of_ble_eq_true rfl, Nat.le_of_ble_eq_true rfl⟩ (r_cv fun M13 p13 => ?_) nox
    have p13 := Eq.symm (show _ = _ from p13)
    subst p13
    refine r_athrow (pc := 16) (c := 6) dX0_shelf_16 (nw_K (grow M N) (1, 6) 0) rfl ?_
    exact t_out rfl ⟨hs, hx2.rf ⟨rfl, rfl, rfl⟩⟩
