/-! X: mill (printed by gen/mk_x56.py) -/
set_option maxRecDepth 100000
/-- X's way of bringing is the Model's, from a dry step to a dry end -/
theorem br_go {rf rt p f e : Int32} (hp : 0 ≤ p.toInt) (h99 : p.toInt ≤ 99) (hf : bd f 0 60) (hw : ¬ wetP rf rt p) (hw2 : ¬ wetP rf rt e) : brC rf rt p f e = goesC rf rt p f e := by
  have ha := i_add (x := p) (y := f) (by have := hf.1; omega) (by have := hf.2; omega)
  have h1 := hf.1
  unfold brC goesC lowC
  unfold wetP at *
  rw [i_lt, i_lt] at hw hw2
  by_cases c : rf < p + f ∧ p + f < rt
  · rw [if_pos c]
    rw [i_lt, i_lt, ha] at c
    have hpr : p.toInt ≤ rf.toInt := by omega
    have em : (if p < rf then rf else p) = rf := by
      by_cases c2 : p < rf
      · rw [if_pos c2]
      · rw [if_neg c2, i_eq]; rw [i_lt] at c2; omega
    rw [em]
    by_cases c3 : p + f < e
    · rw [if_pos c3, if_pos (show rf < p + f ∧ p + f < rt by rw [i_lt, i_lt, ha]; exact c), if_neg (by rw [i_lt] at c3 ⊢; omega)]
    · rw [if_neg c3, if_neg (show ¬ (rf < e ∧ e < rt) by rw [i_lt, i_lt]; exact hw2)]
      rw [i_lt, ha] at c3
      by_cases c4 : e < rf
      · rw [if_pos c4]
      · rw [if_neg c4, i_eq]; rw [i_lt] at c4; omega
  · rw [if_neg c]
    by_cases c3 : p + f < e
    · rw [if_pos c3, if_neg c, if_neg (by rw [i_lt] at c3 ⊢; omega)]
    · rw [if_neg c3, if_neg (show ¬ (rf < e ∧ e < rt) by rw [i_lt, i_lt]; exact hw2)]
      by_cases c4 : e < p + f
      · rw [if_pos c4]
      · rw [if_neg c4, i_eq]; rw [i_lt] at c3 c4; omega
theorem bd_199 {x : Int32} (h : ¬ x < 1 ∧ ¬ 99 < x) : bd x (-200) 200 := by
  rw [i_lt, i_lt] at h
  have c1 : (1 : Int32).toInt = 1 := by decide
  have c2 : (99 : Int32).toInt = 99 := by decide
  constructor <;> omega
theorem st_0 {x : Int32} (h : ¬ x < 0) : 0 ≤ x.toInt := by
  rw [i_lt] at h
  have : (0 : Int32).toInt = 0 := by decide
  omega
theorem ct_X0_mill {M : PM} {xo wa mo : Nat} {Z : PM} {S : ST} (hx : XO M xo wa mo Z S) (x1 x2 x3 : Int32) (hS : OkS S.1) : Ct (YX0_mill, (6, 135, 3, 21), qi (fun r M' => oX xo mo Z (millS S x1 x2 x3) r M'), noX) [.ref xo, .int x1, .int x2, .int x3] M := by
  refine ct_ofH [some (.ref xo), some (.int x1), some (.int x2), some (.int x3), none, none, none, none, none] rfl rfl (Nat.le_of_ble_eq_true rfl) rfl rfl ?_
  have hB := hS.1.t
  have hC : ∀ (M9 : PM) (q : Nat) (b : Int32) (o4 o5 o6 o7 o8 : Option Value), mK M9 q = (1, 6) → mI M9 q 6 = b → bd b (-7) (-1) → XO M9 xo wa mo Z S → millS S x1 x2 x3 = noTenS S b → Wx (YX0_mill, (6, 135, 3, 21), qi (fun r M' => oX xo mo Z (millS S x1 x2 x3) r M'), noX) 0 0 M9 98 [some (.ref xo), some (.int x1), some (.int x2), some (.int x3), o4, o5, o6, o7, o8] [.ref q] := by
    intro M9 q b o4 o5 o6 o7 o8 h1 h2 h3 h4 h5
    refine r_astore4 (pc := 98) dX0_mill_98 rfl ?_
    refine r_aload_n (pc := 100) dX0_mill_100 rfl ?_
    refine r_aload (pc := 101) dX0_mill_101 rfl ?_
    refine r_o2 (pc := 103) (bc' := 0) (bs' := 0) (ct_X0_refused h4 h1 h2 h3) k_X0_173_0 dX0_mill_103 h4.1.2.1 (Nat.le_of_ble_eq_true rfl) ⟨Nat.le_of_ble_eq_true rfl, Nat.le_of_ble_eq_true rfl⟩ ⟨Nat.le_of_ble_eq_true rfl, Nat.le_of_ble_eq_true rfl⟩ (r_ci fun r103 M103 p103 => ?_) nox
    obtain ⟨rfl, h6⟩ := p103
    refine r_bipush (pc := 106) (v := 10) dX0_mill_106 (by decide) ?_
    refine r_isub (pc := 108) dX0_mill_108 ?_
    refine r_ireturn (pc := 109) rfl dX0_mill_109 ⟨_, rfl, ?_⟩
    exact (show oX xo mo Z (millS S x1 x2 x3) _ _ by rw [h5]; exact ⟨rfl, wa, h6⟩)
  have L : stepS S.1 x2 → ∀ (n : Nat) (f q c : Int32) (o4 o8 : Option Value), bd f 0 49 → x2.toInt - q.toInt < n → 0 ≤ q.toInt → q.toInt ≤ x2.toInt → ¬ wetP (S.1 4 0) (S.1 5 0) q → millS S x1 x2 x3 = (millL (S.1 4 0) (S.1 5 0) f x2 n q c, S) → Wx (YX0_mill, (6, 135, 3, 21), qi (fun r M' => oX xo mo Z (millS S x1 x2 x3) r M'), noX) 0 0 M 56 [some (.ref xo), some (.int x1), some (.int x2), some (.int x3), o4, some (.int f), some (.int q), some (.int c), o8] [] := by
    intro a2 n
    have h99 : x2.toInt ≤ 99 := by have g := a2.2.1; rw [i_lt] at g; have := hS.1.2.1.1.2; omega
    induction n with
    | zero => intro f q c o4 o8 b1 b2 b3 b4; omega
    | succ n ih =>
      intro f q c o4 o8 b1 b2 b3 b4 b5 hw
      rw [millL] at hw
      have hb6 : bd f 0 60 := by unfold bd at b1 ⊢; omega
      have hg := goes_ok (f := f) b3 b4 h99 hb6 b5 a2.2.2
      have hbg := br_go (f := f) b3 (by omega) hb6 b5 a2.2.2
      refine r_iload (pc := 56) dX0_mill_56 rfl ?_
      refine r_iload_n (pc := 58) dX0_mill_58 rfl ?_
      refine r_icmp_ge (pc := 59) 95 dX0_mill_59 rfl (fun h59 => ?_) (fun h59 => ?_)
      · rw [if_neg h59] at hw
        refine r_iload (pc := 95) dX0_mill_95 rfl ?_
        refine r_ireturn (pc := 97) rfl dX0_mill_97 ⟨_, rfl, ?_⟩
        exact (show oX xo mo Z (millS S x1 x2 x3) _ _ by rw [hw]; exact ⟨rfl, wa, hx⟩)
      · rw [if_pos h59] at hw
        refine r_aload_n (pc := 62) dX0_mill_62 rfl ?_
        refine r_getR (pc := 63) dX0_mill_63 fl_X0_90_0 hx.1.2.1 (fun _ _ => rfl) hx.2.2.1.1 ?_
        refine r_iload (pc := 66) dX0_mill_66 rfl ?_
        refine r_iload (pc := 68) dX0_mill_68 rfl ?_
        refine r_iload_n (pc := 70) dX0_mill_70 rfl ?_
        refine r_o4 (pc := 71) (bc' := 0) (bs' := 0) (ct_X3_brings hx.2.2.1.2.2 q f x2) k_X0_340_3 dX0_mill_71 hx.2.2.1.2.2.k (Nat.le_of_ble_eq_true rfl) ⟨Nat.le_of_ble_eq_true rfl, Nat.le_of_ble_eq_true rfl⟩ ⟨Nat.le_of_ble_eq_true rfl, Nat.le_of_ble_eq_true rfl⟩ (r_ci fun r71 M71 p71 => ?_) nox
        obtain ⟨rfl, p71⟩ := p71
        have p71 := Eq.symm (show _ = _ from p71)
        subst p71
        rw [hbg]
        refine r_istore8 (pc := 74) dX0_mill_74 rfl ?_
        refine r_iload (pc := 76) dX0_mill_76 rfl ?_
        refine r_iload (pc := 78) dX0_mill_78 rfl ?_
        refine r_icmp_ne (pc := 80) 85 dX0_mill_80 rfl (fun h80 => ?_) (fun h80 => ?_)
        · rw [if_neg h80] at hw
          refine r_iload (pc := 85) dX0_mill_85 rfl ?_
          refine r_istore6 (pc := 87) dX0_mill_87 rfl ?_
          refine r_iinc7 (pc := 89) dX0_mill_89 rfl rfl ?_
          refine r_goto (pc := 92) 56 dX0_mill_92 rfl ?_
          refine ih f _ _ _ _ b1 ?_ (by omega) hg.2.1 hg.2.2 hw
          have : (goesC (S.1 4 0) (S.1 5 0) q f x2).toInt ≠ q.toInt := fun e => h80 (i_eq.mpr e)
          omega
        · rw [if_pos h80] at hw
          refine r_iconst (pc := 83) (v := (-1)) dX0_mill_83 (by decide) ?_
          refine r_ireturn (pc := 84) rfl dX0_mill_84 ⟨_, rfl, ?_⟩
          exact (show oX xo mo Z (millS S x1 x2 x3) _ _ by rw [hw]; exact ⟨rfl, wa, hx⟩)
  refine r_aload_n (pc := 0) dX0_mill_0 rfl ?_
  refine r_iload_n (pc := 1) dX0_mill_1 rfl ?_
  refine r_o2 (pc := 2) (bc' := 2) (bs' := 14) (ct_X0_thingAt hx x1 hB) k_X0_193_0 dX0_mill_2 hx.1.2.1 (Nat.le_of_ble_eq_true rfl) ⟨Nat.le_of_ble_eq_true rfl, Nat.le_of_ble_eq_true rfl⟩ ⟨Nat.le_of_ble_eq_true rfl, Nat.le_of_ble_eq_true rfl⟩ (r_cr fun r2 M2 p2 => ?_) (fun q E M9 h9 => by obtain ⟨hn9, rfl, k9, w9, o9⟩ := h9; exact t_catch [] _ _ _ rfl (fun z hz => absurd hz List.not_mem_nil) rfl (by decide) q305 q389 ((hC M9 q _ _ _ _ _ _ k9 w9 (by decide) o9 (by unfold millS; rw [cI_t hn9])).loose (Nat.zero_le _) (Nat.zero_le _)))
  obtain ⟨hy, ⟨hr, hT⟩, p2⟩ := p2
  have p2 := Eq.symm (show _ = _ from p2)
  subst p2
  refine r_astore4 (pc := 5) dX0_mill_5 rfl ?_
  refine r_aload_n (pc := 7) dX0_mill_7 rfl ?_
  refine r_iload_n (pc := 8) dX0_mill_8 rfl ?_
  refine r_iload_n (pc := 9) dX0_mill_9 rfl ?_
  refine r_o3 (pc := 10) (bc' := 1) (bs' := 7) (ct_X0_mustEnd hx x1 x2 hB hy) k_X0_324_0 dX0_mill_10 hx.1.2.1 (Nat.le_of_ble_eq_true rfl) ⟨Nat.le_of_ble_eq_true rfl, Nat.le_of_ble_eq_true rfl⟩ ⟨Nat.le_of_ble_eq_true rfl, Nat.le_of_ble_eq_true rfl⟩ (r_cv fun M10 p10 => ?_) (fun q E M9 h9 => by obtain ⟨hn9, rfl, k9, w9, o9⟩ := h9; exact t_catch [] _ _ _ rfl (fun z hz => absurd hz List.not_mem_nil) rfl (by decide) q305 q389 ((hC M9 q _ _ _ _ _ _ k9 w9 (by decide) o9 (by unfold millS; rw [cI_f (fun hh => hh hy), cI_t (Or.inl hn9)])).loose (Nat.zero_le _) (Nat.zero_le _)))
  obtain ⟨h2, p10⟩ := p10
  have p10 := Eq.symm (show _ = _ from p10)
  subst p10
  refine r_iload_n (pc := 13) dX0_mill_13 rfl ?_
  refine r_i2l (pc := 14) dX0_mill_14 ?_
  refine r_lconst (pc := 15) (v := 1) dX0_mill_15 (by decide) ?_
  refine r_ldc2 (pc := 16) dX0_mill_16 q703 ?_
  refine r_s3 (pc := 19) (bc' := 1) (bs' := 7) (ct_X0_in x3 1 99 rfl (by decide) (by decide)) k_X0_107 dX0_mill_19 (Nat.le_of_ble_eq_true rfl) ⟨Nat.le_of_ble_eq_true rfl, Nat.le_of_ble_eq_true rfl⟩ ⟨Nat.le_of_ble_eq_true rfl, Nat.le_of_ble_eq_true rfl⟩ (r_ci fun r19 M19 p19 => ?_) nox
  obtain ⟨rfl, p19⟩ := p19
  have p19 := Eq.symm (show _ = _ from p19)
  subst p19
  refine r_bipush (pc := 22) (v := (-6)) dX0_mill_22 (by decide) ?_
  refine r_s2 (pc := 24) (bc' := 0) (bs' := 0) (ct_X0_need _ _) k_X0_115 dX0_mill_24 (Nat.le_of_ble_eq_true rfl) ⟨Nat.le_of_ble_eq_true rfl, Nat.le_of_ble_eq_true rfl⟩ ⟨Nat.le_of_ble_eq_true rfl, Nat.le_of_ble_eq_true rfl⟩ (r_cv fun M24 p24 => ?_) (fun q E M9 h8 => by have h9 := And.intro (bI_eq0.mp h8.1) (hx.rf h8.2); obtain ⟨hn9, rfl, k9, w9, o9⟩ := h9; exact t_catch [] _ _ _ rfl (fun z hz => absurd hz List.not_mem_nil) rfl (by decide) q305 q389 ((hC M9 q _ _ _ _ _ _ k9 w9 (by decide) o9 (by unfold millS; rw [cI_f (fun hh => hh hy), cI_t (Or.inr (n_in hn9))])).loose (Nat.zero_le _) (Nat.zero_le _)))
  obtain ⟨hz, p24⟩ := p24
  have p24 := Eq.symm (show _ = _ from p24)
  subst p24
  rw [bI_ne0] at hz
  refine r_aload (pc := 27) dX0_mill_27 rfl ?_
  refine r_iload_n (pc := 29) dX0_mill_29 rfl ?_
  refine r_aload_n (pc := 30) dX0_mill_30 rfl ?_
  refine r_getR (pc := 31) dX0_mill_31 fl_X0_90_0 hx.1.2.1 (fun _ _ => rfl) hx.2.2.1.1 ?_
  refine r_getIe (pc := 34) (v := S.1 6 0) dX0_mill_34 fl_X0_237_3 hx.2.2.1.2.2.k (fun _ _ => rfl) hx.2.2.1.2.2.i3 ?_
  have hst := (hS.1.2.2.1 _ (ix_lt hy.1 hy.2)).2.2.2.1
  have hfb : bd (farBS S.1 x3 (Int32.toNatClampNeg x1)) 0 49 := hS.1.farb (ix_lt hy.1 hy.2) (bd_199 hz)
  have hs0 : 0 ≤ (S.1 14 (Int32.toNatClampNeg x1)).toInt := st_0 hst.1
  have hs1 : (S.1 14 (Int32.toNatClampNeg x1)).toInt < x2.toInt := i_lt.mp h2.2
  have h99 : x2.toInt ≤ 99 := by have g := h2.1.2.1; rw [i_lt] at g; have := hS.1.2.1.1.2; omega
  have hw0 : millS S x1 x2 x3 = (millL (S.1 4 0) (S.1 5 0) (farBS S.1 x3 (Int32.toNatClampNeg x1)) x2 101 (S.1 14 (Int32.toNatClampNeg x1)) 0, S) := by unfold millS; rw [cI_f (fun hh => hh hy), cI_f (fun hh => hh.elim (fun q => q h2) (fun q => q.elim hz.1 hz.2))]
  have K : Wx (YX0_mill, (6, 135, 3, 21), qi (fun r M' => oX xo mo Z (millS S x1 x2 x3) r M'), noX) 0 0 M 40 [some (.ref xo), some (.int x1), some (.int x2), some (.int x3), some (.ref r2), none, none, none, none] [.int (farBS S.1 x3 (Int32.toNatClampNeg x1))] := by
    refine r_istore5 (pc := 40) dX0_mill_40 rfl ?_
    refine r_aload_n (pc := 42) dX0_mill_42 rfl ?_
    refine r_getR (pc := 43) dX0_mill_43 fl_X0_90_0 hx.1.2.1 (fun _ _ => rfl) hx.2.2.1.1 ?_
    refine r_getR (pc := 46) dX0_mill_46 fl_X0_132_3 hx.2.2.1.2.2.k (fun _ _ => rfl) hx.2.2.1.2.2.r10 ?_
    refine r_iload_n (pc := 49) dX0_mill_49 rfl ?_
    refine r_ialdv (pc := 50) (v := S.1 14 (Int32.toNatClampNeg x1)) dX0_mill_50 hx.2.2.1.2.2.k10 hx.2.2.1.2.2.z10 (hB.vt hy) (hx.2.2.1.2.2.a14 hy) ?_
    refine r_istore6 (pc := 51) dX0_mill_51 rfl ?_
    refine r_iconst (pc := 53) (v := 0) dX0_mill_53 (by decide) ?_
    refine r_istore7 (pc := 54) dX0_mill_54 rfl ?_
    refine L h2.1 101 _ _ _ _ _ hfb ?_ ?_ ?_ hst.2.2 hw0
    · omega
    · exact hs0
    · exact Int.le_of_lt hs1
  rcases kd7 (hB.2 _ (ix_lt hy.1 hy.2)).1 with e7 | e7 | e7 | e7 | e7 | e7 | e7
  · have hK7 := hT.k e7 (c := 12) rfl
    refine r_o3 (pc := 37) (bc' := 0) (bs' := 0) (ct_X12_far_12 _ _ hK7 (hT.dv hB (ix_lt hy.1 hy.2)).1) k_X0_357_12 dX0_mill_37 hK7 (Nat.le_of_ble_eq_true rfl) ⟨Nat.le_of_ble_eq_true rfl, Nat.le_of_ble_eq_true rfl⟩ ⟨Nat.le_of_ble_eq_true rfl, Nat.le_of_ble_eq_true rfl⟩ (r_ci fun r7 M7 p7 => ?_) nox
    obtain ⟨e8, p7⟩ := p7
    have p7 := Eq.symm (show _ = _ from p7)
    subst p7
    have e9 : r7 = farBS S.1 x3 (Int32.toNatClampNeg x1) := by rw [e8]; show _ = farC _ _ _ _ _; rw [e7, fr_12, hT.2.2.2.1, hT.2.2.2.2]
    rw [e9]
    exact K
  · have hK7 := hT.k e7 (c := 13) rfl
    refine r_o3 (pc := 37) (bc' := 0) (bs' := 0) (ct_X13_far_13 _ _ hK7 (hT.dv hB (ix_lt hy.1 hy.2)).1) k_X0_357_13 dX0_mill_37 hK7 (Nat.le_of_ble_eq_true rfl) ⟨Nat.le_of_ble_eq_true rfl, Nat.le_of_ble_eq_true rfl⟩ ⟨Nat.le_of_ble_eq_true rfl, Nat.le_of_ble_eq_true rfl⟩ (r_ci fun r7 M7 p7 => ?_) nox
    obtain ⟨e8, p7⟩ := p7
    have p7 := Eq.symm (show _ = _ from p7)
    subst p7
    have e9 : r7 = farBS S.1 x3 (Int32.toNatClampNeg x1) := by rw [e8]; show _ = farC _ _ _ _ _; rw [e7, fr_13, hT.2.2.2.1, hT.2.2.2.2]
    rw [e9]
    exact K
  · have hK7 := hT.k e7 (c := 14) rfl
    refine r_o3 (pc := 37) (bc' := 0) (bs' := 0) (ct_X14_far_14 _ _ hK7 (hT.dv hB (ix_lt hy.1 hy.2)).1) k_X0_357_14 dX0_mill_37 hK7 (Nat.le_of_ble_eq_true rfl) ⟨Nat.le_of_ble_eq_true rfl, Nat.le_of_ble_eq_true rfl⟩ ⟨Nat.le_of_ble_eq_true rfl, Nat.le_of_ble_eq_true rfl⟩ (r_ci fun r7 M7 p7 => ?_) nox
    obtain ⟨e8, p7⟩ := p7
    have p7 := Eq.symm (show _ = _ from p7)
    subst p7
    have e9 : r7 = farBS S.1 x3 (Int32.toNatClampNeg x1) := by rw [e8]; show _ = farC _ _ _ _ _; rw [e7, fr_14, hT.2.2.2.1, hT.2.2.2.2]
    rw [e9]
    exact K
  · have hK7 := hT.k e7 (c := 15) rfl
    refine r_o3 (pc := 37) (bc' := 0) (bs' := 0) (ct_X15_far_15 _ _ hK7 (hT.dv hB (ix_lt hy.1 hy.2)).1) k_X0_357_15 dX0_mill_37 hK7 (Nat.le_of_ble_eq_true rfl) ⟨Nat.le_of_ble_eq_true rfl, Nat.le_of_ble_eq_true rfl⟩ ⟨Nat.le_of_ble_eq_true rfl, Nat.le_of_ble_eq_true rfl⟩ (r_ci fun r7 M7 p7 => ?_) nox
    obtain ⟨e8, p7⟩ := p7
    have p7 := Eq.symm (show _ = _ from p7)
    subst p7
    have e9 : r7 = farBS S.1 x3 (Int32.toNatClampNeg x1) := by rw [e8]; show _ = farC _ _ _ _ _; rw [e7, fr_15, hT.2.2.2.1, hT.2.2.2.2]
    rw [e9]
    exact K
  · have hK7 := hT.k e7 (c := 16) rfl
    refine r_o3 (pc := 37) (bc' := 0) (bs' := 0) (ct_X16_far_16 _ _ hK7 (hT.dv hB (ix_lt hy.1 hy.2)).1) k_X0_357_16 dX0_mill_37 hK7 (Nat.le_of_ble_eq_true rfl) ⟨Nat.le_of_ble_eq_true rfl, Nat.le_of_ble_eq_true rfl⟩ ⟨Nat.le_of_ble_eq_true rfl, Nat.le_of_ble_eq_true rfl⟩ (r_ci fun r7 M7 p7 => ?_) nox
    obtain ⟨e8, p7⟩ := p7
    have p7 := Eq.symm (show _ = _ from p7)
    subst p7
    have e9 : r7 = farBS S.1 x3 (Int32.toNatClampNeg x1) := by rw [e8]; show _ = farC _ _ _ _ _; rw [e7, fr_16, hT.2.2.2.1, hT.2.2.2.2]
    rw [e9]
    exact K
  · have hK7 := hT.k e7 (c := 17) rfl
    refine r_o3 (pc := 37) (bc' := 0) (bs' := 0) (ct_X13_far_17 _ _ hK7 ((hT.dv hB (ix_lt hy.1 hy.2)).2 e7)) k_X0_357_17 dX0_mill_37 hK7 (Nat.le_of_ble_eq_true rfl) ⟨Nat.le_of_ble_eq_true rfl, Nat.le_of_ble_eq_true rfl⟩ ⟨Nat.le_of_ble_eq_true rfl, Nat.le_of_ble_eq_true rfl⟩ (r_ci fun r7 M7 p7 => ?_) nox
    obtain ⟨e8, p7⟩ := p7
    have p7 := Eq.symm (show _ = _ from p7)
    subst p7
    have e9 : r7 = farBS S.1 x3 (Int32.toNatClampNeg x1) := by rw [e8]; show _ = farC _ _ _ _ _; rw [e7, fr_17, hT.2.2.2.1, hT.2.2.2.2]
    rw [e9]
    exact K
  · have hK7 := hT.k e7 (c := 18) rfl
    refine r_o3 (pc := 37) (bc' := 0) (bs' := 0) (ct_X18_far_18 _ _ hK7 (hT.dv hB (ix_lt hy.1 hy.2)).1) k_X0_357_18 dX0_mill_37 hK7 (Nat.le_of_ble_eq_true rfl) ⟨Nat.le_of_ble_eq_true rfl, Nat.le_of_ble_eq_true rfl⟩ ⟨Nat.le_of_ble_eq_true rfl, Nat.le_of_ble_eq_true rfl⟩ (r_ci fun r7 M7 p7 => ?_) nox
    obtain ⟨e8, p7⟩ := p7
    have p7 := Eq.symm (show _ = _ from p7)
    subst p7
    have e9 : r7 = farBS S.1 x3 (Int32.toNatClampNeg x1) := by rw [e8]; show _ = farC _ _ _ _ _; rw [e7, fr_18, hT.2.2.2.1, hT.2.2.2.2]
    rw [e9]
    exact K
