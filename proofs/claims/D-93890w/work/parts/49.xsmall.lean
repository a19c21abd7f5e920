/-! X: small methods (printed by gen/mk_x49.py) -/
set_option maxRecDepth 100000
theorem nb {b : Int32} (hb : bd b (-7) (-1)) : vp_in (-b) 8 := by
  rw [vp_in_iff]
  have := i_sub (x := 0) (y := b) (by have := hb.1; have := hb.2; have : (0 : Int32).toInt = 0 := by decide
                                      omega) (by have := hb.1; have := hb.2; have : (0 : Int32).toInt = 0 := by decide
                                                 omega)
  rw [Int32.zero_sub] at this
  have z : (0 : Int32).toInt = 0 := by decide
  have := hb.1
  have := hb.2
  omega
theorem ct_X0_refused {M : PM} {xo wa mo : Nat} {Z : PM} {S : ST} (hx : XO M xo wa mo Z S) {q : Nat} {b : Int32} (hq : mK M q = (1, 6)) (hb : mI M q 6 = b) (h7 : bd b (-7) (-1)) : Ct (YX0_refused, (0, 0, 0, 0), qi (fun r M' => r = b ∧ XO M' xo wa mo Z (noS S b).2), noX) [.ref xo, .ref q] M := by
  refine ct_of [some (.ref xo), some (.ref q)] rfl rfl rfl (Nat.le_of_ble_eq_true rfl) rfl rfl ?_
  refine r_aload_n (pc := 0) dX0_refused_0 rfl ?_
  refine r_getR (pc := 1) dX0_refused_1 fl_X0_63_0 hx.1.2.1 (fun _ _ => rfl) hx.1.2.2.1.2.1 ?_
  refine r_aload_n (pc := 4) dX0_refused_4 rfl ?_
  refine r_getIe (pc := 5) (v := b) dX0_refused_5 fl_X0_99_6 hq (fun _ _ => rfl) hb ?_
  refine r_ineg (pc := 8) dX0_refused_8 ?_
  refine r_dup2 (pc := 9) dX0_refused_9 rfl rfl ?_
  refine r_ialdv (pc := 10) (v := S.1 10 (Int32.toNatClampNeg (-b))) dX0_refused_10 hx.1.2.2.2.2.1.1 hx.1.2.2.2.2.1.2 (nb h7) (hx.2.2.2.2.1.1 _ (vp_in_lt (nb h7))) ?_
  refine r_iconst (pc := 11) (v := 1) dX0_refused_11 (by decide) ?_
  refine r_iadd (pc := 12) dX0_refused_12 ?_
  refine r_iast (pc := 13) dX0_refused_13 hx.1.2.2.2.2.1.1 hx.1.2.2.2.2.1.2 (nb h7) ?_
  have hb2 : mI (sI M (xo + 2) (Int32.toNatClampNeg (-b)) (S.1 10 (Int32.toNatClampNeg (-b)) + 1)) q 6 = b := (congrFun (up2_ne (fun e => by rw [e, hx.1.2.2.2.2.1.1] at hq; cases hq)) 6).trans hb
  refine r_aload_n (pc := 14) dX0_refused_14 rfl ?_
  refine r_getIe (pc := 15) (v := b) dX0_refused_15 fl_X0_99_6 hq (fun _ _ => rfl) hb2 ?_
  refine r_ireturn (pc := 18) rfl dX0_refused_18 ⟨_, rfl, ?_⟩
  exact ⟨rfl, hx.rfs⟩
theorem ct_X0_beyond {M : PM} {xo wa mo : Nat} {Z : PM} {S : ST} (hx : XO M xo wa mo Z S) : Ct (YX0_beyond, (0, 0, 0, 0), qi (fun r M' => r = -5 ∧ XO M' xo wa mo Z (noS S (-5)).2), noX) [.ref xo] M := by
  refine ct_of [some (.ref xo)] rfl rfl rfl (Nat.le_of_ble_eq_true rfl) rfl rfl ?_
  refine r_aload_n (pc := 0) dX0_beyond_0 rfl ?_
  refine r_getR (pc := 1) dX0_beyond_1 fl_X0_63_0 hx.1.2.1 (fun _ _ => rfl) hx.1.2.2.1.2.1 ?_
  refine r_iconst (pc := 4) (v := 5) dX0_beyond_4 (by decide) ?_
  refine r_dup2 (pc := 5) dX0_beyond_5 rfl rfl ?_
  refine r_ialdv (pc := 6) (v := S.1 10 5) dX0_beyond_6 hx.1.2.2.2.2.1.1 hx.1.2.2.2.2.1.2 (vp_in_lit rfl) (hx.2.2.2.2.1.1 5 (by decide)) ?_
  refine r_iconst (pc := 7) (v := 1) dX0_beyond_7 (by decide) ?_
  refine r_iadd (pc := 8) dX0_beyond_8 ?_
  refine r_iast (pc := 9) dX0_beyond_9 hx.1.2.2.2.2.1.1 hx.1.2.2.2.2.1.2 (vp_in_lit rfl) ?_
  refine r_bipush (pc := 10) (v := (-5)) dX0_beyond_10 (by decide) ?_
  refine r_ireturn (pc := 12) rfl dX0_beyond_12 ⟨_, rfl, ?_⟩
  exact ⟨rfl, hx.rfs⟩
theorem in_c {x n : Int32} {m : Nat} (h : bd n 0 m) (hm : m < 100) : (¬ x < 0 ∧ ¬ n - 1 < x) ↔ (¬ x < 0 ∧ x < n) := by
  have c1 : (1 : Int32).toInt = 1 := by decide
  have e : (n - 1).toInt = n.toInt - 1 := by
    rw [i_sub (by have := h.1; have := h.2; omega) (by have := h.1; have := h.2; omega), c1]
  rw [i_lt (x := n - 1), e, i_lt (x := x) (y := n)]
  constructor <;> rintro ⟨a, b⟩ <;> exact ⟨a, by omega⟩
theorem ct_X0_isThing {M : PM} {xo wa mo : Nat} {Z : PM} {S : ST} (hx : XO M xo wa mo Z S) (x1 : Int32) (hB : OkT S.1) : Ct (YX0_isThing, (1, 25, 0, 0), qi (fun r M' => r = bI (thP S.1 x1) ∧ M' = M), noX) [.ref xo, .int x1] M := by
  refine ct_of [some (.ref xo), some (.int x1)] rfl rfl rfl (Nat.le_of_ble_eq_true rfl) rfl rfl ?_
  refine r_iload_n (pc := 0) dX0_isThing_0 rfl ?_
  refine r_i2l (pc := 1) dX0_isThing_1 ?_
  refine r_lconst (pc := 2) (v := 0) dX0_isThing_2 (by decide) ?_
  refine r_aload_n (pc := 3) dX0_isThing_3 rfl ?_
  refine r_getR (pc := 4) dX0_isThing_4 fl_X0_90_0 hx.1.2.1 (fun _ _ => rfl) hx.2.2.1.1 ?_
  refine r_getIe (pc := 7) (v := S.1 0 0) dX0_isThing_7 fl_X0_104_3 hx.2.2.1.2.2.k (fun _ _ => rfl) hx.2.2.1.2.2.i4 ?_
  refine r_iconst (pc := 10) (v := 1) dX0_isThing_10 (by decide) ?_
  refine r_isub (pc := 11) dX0_isThing_11 ?_
  refine r_i2l (pc := 12) dX0_isThing_12 ?_
  refine r_s3 (pc := 13) (bc' := 0) (bs' := 0) (ct_X0_in _ 0 _ rfl (by decide) rfl) k_X0_107 dX0_isThing_13 (Nat.le_of_ble_eq_true rfl) ⟨Nat.le_of_ble_eq_true rfl, Nat.le_of_ble_eq_true rfl⟩ ⟨Nat.le_of_ble_eq_true rfl, Nat.le_of_ble_eq_true rfl⟩ (r_ci fun r13 M13 p13 => ?_) nox
  obtain ⟨rfl, p13⟩ := p13
  have p13 := Eq.symm (show _ = _ from p13)
  subst p13
  refine r_zreturn (pc := 16) rfl nar_b dX0_isThing_16 ⟨_, rfl, ?_⟩
  exact ⟨bI_congr (in_c hB.1.1 (by decide)), rfl⟩
theorem ct_X0_isMan {M : PM} {xo wa mo : Nat} {Z : PM} {S : ST} (hx : XO M xo wa mo Z S) (x1 : Int32) (hB : OkT S.1) : Ct (YX0_isMan, (1, 25, 0, 0), qi (fun r M' => r = bI (mnP S.1 x1) ∧ M' = M), noX) [.ref xo, .int x1] M := by
  refine ct_of [some (.ref xo), some (.int x1)] rfl rfl rfl (Nat.le_of_ble_eq_true rfl) rfl rfl ?_
  refine r_iload_n (pc := 0) dX0_isMan_0 rfl ?_
  refine r_i2l (pc := 1) dX0_isMan_1 ?_
  refine r_lconst (pc := 2) (v := 0) dX0_isMan_2 (by decide) ?_
  refine r_aload_n (pc := 3) dX0_isMan_3 rfl ?_
  refine r_getR (pc := 4) dX0_isMan_4 fl_X0_90_0 hx.1.2.1 (fun _ _ => rfl) hx.2.2.1.1 ?_
  refine r_getIe (pc := 7) (v := S.1 1 0) dX0_isMan_7 fl_X0_123_3 hx.2.2.1.2.2.k (fun _ _ => rfl) hx.2.2.1.2.2.i5 ?_
  refine r_iconst (pc := 10) (v := 1) dX0_isMan_10 (by decide) ?_
  refine r_isub (pc := 11) dX0_isMan_11 ?_
  refine r_i2l (pc := 12) dX0_isMan_12 ?_
  refine r_s3 (pc := 13) (bc' := 0) (bs' := 0) (ct_X0_in _ 0 _ rfl (by decide) rfl) k_X0_107 dX0_isMan_13 (Nat.le_of_ble_eq_true rfl) ⟨Nat.le_of_ble_eq_true rfl, Nat.le_of_ble_eq_true rfl⟩ ⟨Nat.le_of_ble_eq_true rfl, Nat.le_of_ble_eq_true rfl⟩ (r_ci fun r13 M13 p13 => ?_) nox
  obtain ⟨rfl, p13⟩ := p13
  have p13 := Eq.symm (show _ = _ from p13)
  subst p13
  refine r_zreturn (pc := 16) rfl nar_b dX0_isMan_16 ⟨_, rfl, ?_⟩
  exact ⟨bI_congr (in_c hB.1.2.1 (by decide)), rfl⟩
theorem ct_X0_thingAt {M : PM} {xo wa mo : Nat} {Z : PM} {S : ST} (hx : XO M xo wa mo Z S) (x1 : Int32) (hB : OkT S.1) : Ct (YX0_thingAt, (5, 113, 1, 7), qr (fun r M' => thP S.1 x1 ∧ (mR M (wa + 1) (Int32.toNatClampNeg x1) = some r ∧ TH M S.1 (Int32.toNatClampNeg x1) r) ∧ M' = M), fun q E M' => ¬ thP S.1 x1 ∧ rfO xo wa mo Z S (-1) q E M') [.ref xo, .int x1] M := by
  refine ct_of [some (.ref xo), some (.int x1)] rfl rfl rfl (Nat.le_of_ble_eq_true rfl) rfl rfl ?_
  refine r_aload_n (pc := 0) dX0_thingAt_0 rfl ?_
  refine r_iload_n (pc := 1) dX0_thingAt_1 rfl ?_
  refine r_o2 (pc := 2) (bc' := 1) (bs' := 7) (ct_X0_isThing hx x1 hB) k_X0_111_0 dX0_thingAt_2 hx.1.2.1 (Nat.le_of_ble_eq_true rfl) ⟨Nat.le_of_ble_eq_true rfl, Nat.le_of_ble_eq_true rfl⟩ ⟨Nat.le_of_ble_eq_true rfl, Nat.le_of_ble_eq_true rfl⟩ (r_ci fun r2 M2 p2 => ?_) nox
  obtain ⟨rfl, p2⟩ := p2
  have p2 := Eq.symm (show _ = _ from p2)
  subst p2
  refine r_iconst (pc := 5) (v := (-1)) dX0_thingAt_5 (by decide) ?_
  refine r_s2 (pc := 6) (bc' := 0) (bs' := 0) (ct_X0_need _ _) k_X0_115 dX0_thingAt_6 (Nat.le_of_ble_eq_true rfl) ⟨Nat.le_of_ble_eq_true rfl, Nat.le_of_ble_eq_true rfl⟩ ⟨Nat.le_of_ble_eq_true rfl, Nat.le_of_ble_eq_true rfl⟩ (r_cv fun M6 p6 => ?_) (fun q E M9 h9 => t_out rfl ⟨bI_eq0.mp h9.1, hx.rf h9.2⟩)
  obtain ⟨hy, p6⟩ := p6
  have p6 := Eq.symm (show _ = _ from p6)
  subst p6
  rw [bI_ne0] at hy
  refine r_aload_n (pc := 9) dX0_thingAt_9 rfl ?_
  refine r_getR (pc := 10) dX0_thingAt_10 fl_X0_90_0 hx.1.2.1 (fun _ _ => rfl) hx.2.2.1.1 ?_
  refine r_getR (pc := 13) dX0_thingAt_13 fl_X0_119_3 hx.2.2.1.2.2.k (fun _ _ => rfl) hx.2.2.1.2.2.r9 ?_
  refine r_iload_n (pc := 16) dX0_thingAt_16 rfl ?_
  obtain ⟨ta, hr, hT⟩ := hx.2.2.1.2.2.th hy
  refine r_aaldR (pc := 17) dX0_thingAt_17 hx.2.2.1.2.2.k9 rfl hx.2.2.1.2.2.z9 (hB.vt hy) hr ?_
  refine r_areturn (pc := 18) rfl (Or.inl ⟨_, rfl⟩) (Or.inr ⟨_, rfl⟩) dX0_thingAt_18 ⟨_, rfl, ?_⟩
  exact ⟨hy, ⟨hr, hT⟩, rfl⟩
theorem ct_X0_must {M : PM} {xo wa mo : Nat} {Z : PM} {S : ST} (hx : XO M xo wa mo Z S) (x1 x2 : Int32) (hB : OkT S.1) : Ct (YX0_must, (5, 113, 1, 7), qv (fun M' => (mnP S.1 x1 ∧ thP S.1 x2) ∧ M' = M), fun q E M' => ¬ (mnP S.1 x1 ∧ thP S.1 x2) ∧ rfO xo wa mo Z S (-1) q E M') [.ref xo, .int x1, .int x2] M := by
  refine ct_of [some (.ref xo), some (.int x1), some (.int x2)] rfl rfl rfl (Nat.le_of_ble_eq_true rfl) rfl rfl ?_
  refine r_aload_n (pc := 0) dX0_must_0 rfl ?_
  refine r_iload_n (pc := 1) dX0_must_1 rfl ?_
  refine r_o2 (pc := 2) (bc' := 1) (bs' := 7) (ct_X0_isMan hx x1 hB) k_X0_126_0 dX0_must_2 hx.1.2.1 (Nat.le_of_ble_eq_true rfl) ⟨Nat.le_of_ble_eq_true rfl, Nat.le_of_ble_eq_true rfl⟩ ⟨Nat.le_of_ble_eq_true rfl, Nat.le_of_ble_eq_true rfl⟩ (r_ci fun r2 M2 p2 => ?_) nox
  obtain ⟨rfl, p2⟩ := p2
  have p2 := Eq.symm (show _ = _ from p2)
  subst p2
  refine r_if_eq (pc := 5) 20 dX0_must_5 rfl (fun h5 => ?_) (fun h5 => ?_)
  · rw [bI_eq0] at h5
    refine r_iconst (pc := 20) (v := 0) dX0_must_20 (by decide) ?_
    refine r_eqi (bI (mnP S.1 x1 ∧ thP S.1 x2)) (by first | exact bI_t' ⟨h5, h13⟩ | exact bI_f' (fun hh => h5 hh.1) | exact bI_f' (fun hh => h13 hh.2)) ?_
    refine r_iconst (pc := 21) (v := (-1)) dX0_must_21 (by decide) ?_
    refine r_s2 (pc := 22) (bc' := 0) (bs' := 0) (ct_X0_need _ _) k_X0_115 dX0_must_22 (Nat.le_of_ble_eq_true rfl) ⟨Nat.le_of_ble_eq_true rfl, Nat.le_of_ble_eq_true rfl⟩ ⟨Nat.le_of_ble_eq_true rfl, Nat.le_of_ble_eq_true rfl⟩ (r_cv fun M22 p22 => ?_) (fun q E M9 h9 => t_out rfl ⟨bI_eq0.mp h9.1, hx.rf h9.2⟩)
    obtain ⟨hy, p22⟩ := p22
    have p22 := Eq.symm (show _ = _ from p22)
    subst p22
    rw [bI_ne0] at hy
    refine r_return (pc := 25) rfl dX0_must_25 ⟨rfl, ?_⟩
    exact ⟨hy, rfl⟩
  · rw [bI_ne0] at h5
    refine r_aload_n (pc := 8) dX0_must_8 rfl ?_
    refine r_iload_n (pc := 9) dX0_must_9 rfl ?_
    refine r_o2 (pc := 10) (bc' := 1) (bs' := 7) (ct_X0_isThing hx x2 hB) k_X0_111_0 dX0_must_10 hx.1.2.1 (Nat.le_of_ble_eq_true rfl) ⟨Nat.le_of_ble_eq_true rfl, Nat.le_of_ble_eq_true rfl⟩ ⟨Nat.le_of_ble_eq_true rfl, Nat.le_of_ble_eq_true rfl⟩ (r_ci fun r10 M10 p10 => ?_) nox
    obtain ⟨rfl, p10⟩ := p10
    have p10 := Eq.symm (show _ = _ from p10)
    subst p10
    refine r_if_eq (pc := 13) 20 dX0_must_13 rfl (fun h13 => ?_) (fun h13 => ?_)
    · rw [bI_eq0] at h13
      refine r_iconst (pc := 20) (v := 0) dX0_must_20 (by decide) ?_
      refine r_eqi (bI (mnP S.1 x1 ∧ thP S.1 x2)) (by first | exact bI_t' ⟨h5, h13⟩ | exact bI_f' (fun hh => h5 hh.1) | exact bI_f' (fun hh => h13 hh.2)) ?_
      refine r_iconst (pc := 21) (v := (-1)) dX0_must_21 (by decide) ?_
      refine r_s2 (pc := 22) (bc' := 0) (bs' := 0) (ct_X0_need _ _) k_X0_115 dX0_must_22 (Nat.le_of_ble_eq_true rfl) ⟨Nat.le_of_ble_eq_true rfl, Nat.le_of_ble_eq_true rfl⟩ ⟨Nat.le_of_ble_eq_true rfl, Nat.le_of_ble_eq_true rfl⟩ (r_cv fun M22 p22 => ?_) (fun q E M9 h9 => t_out rfl ⟨bI_eq0.mp h9.1, hx.rf h9.2⟩)
      obtain ⟨hy, p22⟩ := p22
      have p22 := Eq.symm (show _ = _ from p22)
      subst p22
      rw [bI_ne0] at hy
      refine r_return (pc := 25) rfl dX0_must_25 ⟨rfl, ?_⟩
      exact ⟨hy, rfl⟩
    · rw [bI_ne0] at h13
      refine r_iconst (pc := 16) (v := 1) dX0_must_16 (by decide) ?_
      refine r_goto (pc := 17) 21 dX0_must_17 rfl ?_
      refine r_eqi (bI (mnP S.1 x1 ∧ thP S.1 x2)) (by first | exact bI_t' ⟨h5, h13⟩ | exact bI_f' (fun hh => h5 hh.1) | exact bI_f' (fun hh => h13 hh.2)) ?_
      refine r_iconst (pc := 21) (v := (-1)) dX0_must_21 (by decide) ?_
      refine r_s2 (pc := 22) (bc' := 0) (bs' := 0) (ct_X0_need _ _) k_X0_115 dX0_must_22 (Nat.le_of_ble_eq_true rfl) ⟨Nat.le_of_ble_eq_true rfl, Nat.le_of_ble_eq_true rfl⟩ ⟨Nat.le_of_ble_eq_true rfl, Nat.le_of_ble_eq_true rfl⟩ (r_cv fun M22 p22 => ?_) (fun q E M9 h9 => t_out rfl ⟨bI_eq0.mp h9.1, hx.rf h9.2⟩)
      obtain ⟨hy, p22⟩ := p22
      have p22 := Eq.symm (show _ = _ from p22)
      subst p22
      rw [bI_ne0] at hy
      refine r_return (pc := 25) rfl dX0_must_25 ⟨rfl, ?_⟩
      exact ⟨hy, rfl⟩
theorem ct_X0_mustEnd {M : PM} {xo wa mo : Nat} {Z : PM} {S : ST} (hx : XO M xo wa mo Z S) (x1 x2 : Int32) (hB : OkT S.1) (ht : thP S.1 x1) : Ct (YX0_mustEnd, (5, 113, 1, 7), qv (fun M' => (stepS S.1 x2 ∧ S.1 14 (Int32.toNatClampNeg x1) < x2) ∧ M' = M), fun q E M' => ¬ (stepS S.1 x2 ∧ S.1 14 (Int32.toNatClampNeg x1) < x2) ∧ rfO xo wa mo Z S (-6) q E M') [.ref xo, .int x1, .int x2] M := by
  refine ct_of [some (.ref xo), some (.int x1), some (.int x2)] rfl rfl rfl (Nat.le_of_ble_eq_true rfl) rfl rfl ?_
  refine r_aload_n (pc := 0) dX0_mustEnd_0 rfl ?_
  refine r_getR (pc := 1) dX0_mustEnd_1 fl_X0_90_0 hx.1.2.1 (fun _ _ => rfl) hx.2.2.1.1 ?_
  refine r_iload_n (pc := 4) dX0_mustEnd_4 rfl ?_
  refine r_o2 (pc := 5) (bc' := 1) (bs' := 7) (ct_X3_isStep hx.2.2.1.2.2 x2) k_X0_129_3 dX0_mustEnd_5 hx.2.2.1.2.2.k (Nat.le_of_ble_eq_true rfl) ⟨Nat.le_of_ble_eq_true rfl, Nat.le_of_ble_eq_true rfl⟩ ⟨Nat.le_of_ble_eq_true rfl, Nat.le_of_ble_eq_true rfl⟩ (r_ci fun r5 M5 p5 => ?_) nox
  obtain ⟨rfl, p5⟩ := p5
  have p5 := Eq.symm (show _ = _ from p5)
  subst p5
  refine r_if_eq (pc := 8) 28 dX0_mustEnd_8 rfl (fun h8 => ?_) (fun h8 => ?_)
  · rw [bI_eq0] at h8
    refine r_iconst (pc := 28) (v := 0) dX0_mustEnd_28 (by decide) ?_
    refine r_eqi (bI (stepS S.1 x2 ∧ S.1 14 (Int32.toNatClampNeg x1) < x2)) (by first | exact bI_t' ⟨h8, h21⟩ | exact bI_f' (fun hh => h8 hh.1) | exact bI_f' (fun hh => h21 hh.2)) ?_
    refine r_bipush (pc := 29) (v := (-6)) dX0_mustEnd_29 (by decide) ?_
    refine r_s2 (pc := 31) (bc' := 0) (bs' := 0) (ct_X0_need _ _) k_X0_115 dX0_mustEnd_31 (Nat.le_of_ble_eq_true rfl) ⟨Nat.le_of_ble_eq_true rfl, Nat.le_of_ble_eq_true rfl⟩ ⟨Nat.le_of_ble_eq_true rfl, Nat.le_of_ble_eq_true rfl⟩ (r_cv fun M31 p31 => ?_) (fun q E M9 h9 => t_out rfl ⟨bI_eq0.mp h9.1, hx.rf h9.2⟩)
    obtain ⟨hy, p31⟩ := p31
    have p31 := Eq.symm (show _ = _ from p31)
    subst p31
    rw [bI_ne0] at hy
    refine r_return (pc := 34) rfl dX0_mustEnd_34 ⟨rfl, ?_⟩
    exact ⟨hy, rfl⟩
  · rw [bI_ne0] at h8
    refine r_iload_n (pc := 11) dX0_mustEnd_11 rfl ?_
    refine r_aload_n (pc := 12) dX0_mustEnd_12 rfl ?_
    refine r_getR (pc := 13) dX0_mustEnd_13 fl_X0_90_0 hx.1.2.1 (fun _ _ => rfl) hx.2.2.1.1 ?_
    refine r_getR (pc := 16) dX0_mustEnd_16 fl_X0_132_3 hx.2.2.1.2.2.k (fun _ _ => rfl) hx.2.2.1.2.2.r10 ?_
    refine r_iload_n (pc := 19) dX0_mustEnd_19 rfl ?_
    refine r_ialdv (pc := 20) (v := S.1 14 (Int32.toNatClampNeg x1)) dX0_mustEnd_20 hx.2.2.1.2.2.k10 hx.2.2.1.2.2.z10 (hB.vt ht) (hx.2.2.1.2.2.a14 ht) ?_
    refine r_icmp_le (pc := 21) 28 dX0_mustEnd_21 rfl (fun h21 => ?_) (fun h21 => ?_)
    · refine r_iconst (pc := 28) (v := 0) dX0_mustEnd_28 (by decide) ?_
      refine r_eqi (bI (stepS S.1 x2 ∧ S.1 14 (Int32.toNatClampNeg x1) < x2)) (by first | exact bI_t' ⟨h8, h21⟩ | exact bI_f' (fun hh => h8 hh.1) | exact bI_f' (fun hh => h21 hh.2)) ?_
      refine r_bipush (pc := 29) (v := (-6)) dX0_mustEnd_29 (by decide) ?_
      refine r_s2 (pc := 31) (bc' := 0) (bs' := 0) (ct_X0_need _ _) k_X0_115 dX0_mustEnd_31 (Nat.le_of_ble_eq_true rfl) ⟨Nat.le_of_ble_eq_true rfl, Nat.le_of_ble_eq_true rfl⟩ ⟨Nat.le_of_ble_eq_true rfl, Nat.le_of_ble_eq_true rfl⟩ (r_cv fun M31 p31 => ?_) (fun q E M9 h9 => t_out rfl ⟨bI_eq0.mp h9.1, hx.rf h9.2⟩)
      obtain ⟨hy, p31⟩ := p31
      have p31 := Eq.symm (show _ = _ from p31)
      subst p31
      rw [bI_ne0] at hy
      refine r_return (pc := 34) rfl dX0_mustEnd_34 ⟨rfl, ?_⟩
      exact ⟨hy, rfl⟩
    · refine r_iconst (pc := 24) (v := 1) dX0_mustEnd_24 (by decide) ?_
      refine r_goto (pc := 25) 29 dX0_mustEnd_25 rfl ?_
      refine r_eqi (bI (stepS S.1 x2 ∧ S.1 14 (Int32.toNatClampNeg x1) < x2)) (by first | exact bI_t' ⟨h8, h21⟩ | exact bI_f' (fun hh => h8 hh.1) | exact bI_f' (fun hh => h21 hh.2)) ?_
      refine r_bipush (pc := 29) (v := (-6)) dX0_mustEnd_29 (by decide) ?_
      refine r_s2 (pc := 31) (bc' := 0) (bs' := 0) (ct_X0_need _ _) k_X0_115 dX0_mustEnd_31 (Nat.le_of_ble_eq_true rfl) ⟨Nat.le_of_ble_eq_true rfl, Nat.le_of_ble_eq_true rfl⟩ ⟨Nat.le_of_ble_eq_true rfl, Nat.le_of_ble_eq_true rfl⟩ (r_cv fun M31 p31 => ?_) (fun q E M9 h9 => t_out rfl ⟨bI_eq0.mp h9.1, hx.rf h9.2⟩)
      obtain ⟨hy, p31⟩ := p31
      have p31 := Eq.symm (show _ = _ from p31)
      subst p31
      rw [bI_ne0] at hy
      refine r_return (pc := 34) rfl dX0_mustEnd_34 ⟨rfl, ?_⟩
      exact ⟨hy, rfl⟩
