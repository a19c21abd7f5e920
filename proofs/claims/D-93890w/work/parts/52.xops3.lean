/-! X: mean, cast, trace (printed by gen/mk_x52.py) -/
set_option maxRecDepth 100000
theorem mk_cl {a : Nat} (ha : a < 100) : Int32.toNatClampNeg (nI a) = a := nI_clamp (by omega)
theorem ct_X0_meanOf {M : PM} {xo wa mo : Nat} {Z : PM} {S : ST} (hx : XO M xo wa mo Z S) (x1 x2 x3 : Int32) (hB : OkT S.1) (hm : mnP S.1 x1) (ht : thP S.1 x2) : Ct (YX0_meanOf, (7, 166, 0, 0), qi (fun r M' => r = meanV S.1 x1 x2 x3 ∧ M' = M), noX) [.ref xo, .int x1, .int x2, .int x3] M := by
  refine ct_of [some (.ref xo), some (.int x1), some (.int x2), some (.int x3), none, none] rfl rfl rfl (Nat.le_of_ble_eq_true rfl) rfl rfl ?_
  obtain ⟨N2, hN2, e2⟩ := bd_nI (n := 4) hB.1.2.2
  have n2 : Int32.toNatClampNeg (S.1 2 0) = N2 := by rw [e2]; exact mk_cl (by omega)
  have L : throwP S.1 x1 x2 x3 → ∀ (n j : Nat) (s : Int32), j + n = N2 → meanL S.1 x2 x3 N2 0 0 = meanL S.1 x2 x3 n j s → Wx (YX0_meanOf, (7, 166, 0, 0), qi (fun r M' => r = meanV S.1 x1 x2 x3 ∧ M' = M), noX) 0 0 M 21 [some (.ref xo), some (.int x1), some (.int x2), some (.int x3), some (.int s), some (.int (nI j))] [] := by
    intro hthr n
    induction n with
    | zero =>
      intro j s hj hI
      refine r_iload (pc := 21) dX0_meanOf_21 rfl ?_
      refine r_aload_n (pc := 23) dX0_meanOf_23 rfl ?_
      refine r_getR (pc := 24) dX0_meanOf_24 fl_X0_90_0 hx.1.2.1 (fun _ _ => rfl) hx.2.2.1.1 ?_
      refine r_getIe (pc := 27) (v := S.1 2 0) dX0_meanOf_27 fl_X0_219_3 hx.2.2.1.2.2.k (fun _ _ => rfl) hx.2.2.1.2.2.i6 ?_
      refine r_icmp_ge (pc := 30) 96 dX0_meanOf_30 rfl (fun _ => ?_) (fun hno => False.elim (by rw [e2, lt_nI (by omega) (by omega)] at hno; omega))
      refine r_iload_n (pc := 96) dX0_meanOf_96 rfl ?_
      refine r_s1 (pc := 97) (bc' := 0) (bs' := 0) (ct_X0_caughtBy x3) k_X0_360 dX0_meanOf_97 (Nat.le_of_ble_eq_true rfl) ⟨Nat.le_of_ble_eq_true rfl, Nat.le_of_ble_eq_true rfl⟩ ⟨Nat.le_of_ble_eq_true rfl, Nat.le_of_ble_eq_true rfl⟩ (r_ci fun r97 M97 p97 => ?_) nox
      obtain ⟨rfl, p97⟩ := p97
      have p97 := Eq.symm (show _ = _ from p97)
      subst p97
      refine r_iload (pc := 100) dX0_meanOf_100 rfl ?_
      refine r_imul (pc := 102) dX0_meanOf_102 ?_
      refine r_bipush (pc := 103) (v := 10) dX0_meanOf_103 (by decide) ?_
      refine r_idiv (pc := 105) dX0_meanOf_105 (by decide) ?_
      refine r_ireturn (pc := 106) rfl dX0_meanOf_106 ⟨_, rfl, ?_⟩
      refine ⟨?_, rfl⟩
      unfold meanV
      rw [cI_t hthr, n2, hI]
      unfold caughtC
      rw [if_neg hthr.1]
      rfl
    | succ n ih =>
      intro j s hj hI
      have hw5 : wnP S.1 (nI j) := ⟨nn_nI (by omega), by rw [e2, lt_nI (by omega) (by omega)]; omega⟩
      refine r_iload (pc := 21) dX0_meanOf_21 rfl ?_
      refine r_aload_n (pc := 23) dX0_meanOf_23 rfl ?_
      refine r_getR (pc := 24) dX0_meanOf_24 fl_X0_90_0 hx.1.2.1 (fun _ _ => rfl) hx.2.2.1.1 ?_
      refine r_getIe (pc := 27) (v := S.1 2 0) dX0_meanOf_27 fl_X0_219_3 hx.2.2.1.2.2.k (fun _ _ => rfl) hx.2.2.1.2.2.i6 ?_
      refine r_icmp_ge (pc := 30) 96 dX0_meanOf_30 rfl (fun hno => False.elim (hno hw5.2)) (fun _ => ?_)
      refine r_iload (pc := 33) dX0_meanOf_33 rfl ?_
      refine r_aload_n (pc := 35) dX0_meanOf_35 rfl ?_
      refine r_getR (pc := 36) dX0_meanOf_36 fl_X0_90_0 hx.1.2.1 (fun _ _ => rfl) hx.2.2.1.1 ?_
      refine r_getR (pc := 39) dX0_meanOf_39 fl_X0_275_3 hx.2.2.1.2.2.k (fun _ _ => rfl) hx.2.2.1.2.2.r15 ?_
      refine r_iload (pc := 42) dX0_meanOf_42 rfl ?_
      refine r_ialdv (pc := 44) (v := S.1 19 (Int32.toNatClampNeg (nI j))) dX0_meanOf_44 hx.2.2.1.2.2.k15 hx.2.2.1.2.2.z15 (hB.vw hw5) (hx.2.2.1.2.2.a19 hw5) ?_
      refine r_iload_n (pc := 45) dX0_meanOf_45 rfl ?_
      refine r_icmp_ne (pc := 46) 86 dX0_meanOf_46 rfl (fun h46 => ?_) (fun h46 => ?_)
      · refine r_iconst (pc := 86) (v := 0) dX0_meanOf_86 (by decide) ?_
        refine r_iadd (pc := 87) dX0_meanOf_87 ?_
        refine r_istore4 (pc := 88) dX0_meanOf_88 rfl ?_
        refine r_iinc5 (pc := 90) dX0_meanOf_90 (nI_1 _) rfl ?_
        refine r_goto (pc := 93) 21 dX0_meanOf_93 rfl ?_
        refine ih (j + 1) _ (by omega) ?_
        rw [hI]
        show meanL S.1 x2 x3 n (j + 1) (if S.1 19 j = x2 ∧ S.1 20 j = S.1 14 (Int32.toNatClampNeg x2) + x3 then s + S.1 21 j else s) = _
        first | (rw [mk_cl (by omega)] at h46 h70 ⊢; rw [if_pos ⟨h46, h70⟩]) | (rw [mk_cl (by omega)] at h46; rw [if_neg (fun hh => h46 hh.1), Int32.add_zero]) | (rw [mk_cl (by omega)] at h70; rw [if_neg (fun hh => h70 hh.2), Int32.add_zero])
      · refine r_aload_n (pc := 49) dX0_meanOf_49 rfl ?_
        refine r_getR (pc := 50) dX0_meanOf_50 fl_X0_90_0 hx.1.2.1 (fun _ _ => rfl) hx.2.2.1.1 ?_
        refine r_getR (pc := 53) dX0_meanOf_53 fl_X0_278_3 hx.2.2.1.2.2.k (fun _ _ => rfl) hx.2.2.1.2.2.r16 ?_
        refine r_iload (pc := 56) dX0_meanOf_56 rfl ?_
        refine r_ialdv (pc := 58) (v := S.1 20 (Int32.toNatClampNeg (nI j))) dX0_meanOf_58 hx.2.2.1.2.2.k16 hx.2.2.1.2.2.z16 (hB.vw hw5) (hx.2.2.1.2.2.a20 hw5) ?_
        refine r_aload_n (pc := 59) dX0_meanOf_59 rfl ?_
        refine r_getR (pc := 60) dX0_meanOf_60 fl_X0_90_0 hx.1.2.1 (fun _ _ => rfl) hx.2.2.1.1 ?_
        refine r_getR (pc := 63) dX0_meanOf_63 fl_X0_132_3 hx.2.2.1.2.2.k (fun _ _ => rfl) hx.2.2.1.2.2.r10 ?_
        refine r_iload_n (pc := 66) dX0_meanOf_66 rfl ?_
        refine r_ialdv (pc := 67) (v := S.1 14 (Int32.toNatClampNeg x2)) dX0_meanOf_67 hx.2.2.1.2.2.k10 hx.2.2.1.2.2.z10 (hB.vt ht) (hx.2.2.1.2.2.a14 ht) ?_
        refine r_iload_n (pc := 68) dX0_meanOf_68 rfl ?_
        refine r_iadd (pc := 69) dX0_meanOf_69 ?_
        refine r_icmp_ne (pc := 70) 86 dX0_meanOf_70 rfl (fun h70 => ?_) (fun h70 => ?_)
        · refine r_iconst (pc := 86) (v := 0) dX0_meanOf_86 (by decide) ?_
          refine r_iadd (pc := 87) dX0_meanOf_87 ?_
          refine r_istore4 (pc := 88) dX0_meanOf_88 rfl ?_
          refine r_iinc5 (pc := 90) dX0_meanOf_90 (nI_1 _) rfl ?_
          refine r_goto (pc := 93) 21 dX0_meanOf_93 rfl ?_
          refine ih (j + 1) _ (by omega) ?_
          rw [hI]
          show meanL S.1 x2 x3 n (j + 1) (if S.1 19 j = x2 ∧ S.1 20 j = S.1 14 (Int32.toNatClampNeg x2) + x3 then s + S.1 21 j else s) = _
          first | (rw [mk_cl (by omega)] at h46 h70 ⊢; rw [if_pos ⟨h46, h70⟩]) | (rw [mk_cl (by omega)] at h46; rw [if_neg (fun hh => h46 hh.1), Int32.add_zero]) | (rw [mk_cl (by omega)] at h70; rw [if_neg (fun hh => h70 hh.2), Int32.add_zero])
        · refine r_aload_n (pc := 73) dX0_meanOf_73 rfl ?_
          refine r_getR (pc := 74) dX0_meanOf_74 fl_X0_90_0 hx.1.2.1 (fun _ _ => rfl) hx.2.2.1.1 ?_
          refine r_getR (pc := 77) dX0_meanOf_77 fl_X0_281_3 hx.2.2.1.2.2.k (fun _ _ => rfl) hx.2.2.1.2.2.r17 ?_
          refine r_iload (pc := 80) dX0_meanOf_80 rfl ?_
          refine r_ialdv (pc := 82) (v := S.1 21 (Int32.toNatClampNeg (nI j))) dX0_meanOf_82 hx.2.2.1.2.2.k17 hx.2.2.1.2.2.z17 (hB.vw hw5) (hx.2.2.1.2.2.a21 hw5) ?_
          refine r_goto (pc := 83) 87 dX0_meanOf_83 rfl ?_
          refine r_iadd (pc := 87) dX0_meanOf_87 ?_
          refine r_istore4 (pc := 88) dX0_meanOf_88 rfl ?_
          refine r_iinc5 (pc := 90) dX0_meanOf_90 (nI_1 _) rfl ?_
          refine r_goto (pc := 93) 21 dX0_meanOf_93 rfl ?_
          refine ih (j + 1) _ (by omega) ?_
          rw [hI]
          show meanL S.1 x2 x3 n (j + 1) (if S.1 19 j = x2 ∧ S.1 20 j = S.1 14 (Int32.toNatClampNeg x2) + x3 then s + S.1 21 j else s) = _
          first | (rw [mk_cl (by omega)] at h46 h70 ⊢; rw [if_pos ⟨h46, h70⟩]) | (rw [mk_cl (by omega)] at h46; rw [if_neg (fun hh => h46 hh.1), Int32.add_zero]) | (rw [mk_cl (by omega)] at h70; rw [if_neg (fun hh => h70 hh.2), Int32.add_zero])
  refine r_aload_n (pc := 0) dX0_meanOf_0 rfl ?_
  refine r_getR (pc := 1) dX0_meanOf_1 fl_X0_90_0 hx.1.2.1 (fun _ _ => rfl) hx.2.2.1.1 ?_
  refine r_iload_n (pc := 4) dX0_meanOf_4 rfl ?_
  refine r_iload_n (pc := 5) dX0_meanOf_5 rfl ?_
  refine r_iload_n (pc := 6) dX0_meanOf_6 rfl ?_
  refine r_o4 (pc := 7) (bc' := 0) (bs' := 0) (ct_X3_mayThrow hx.2.2.1.2.2 x1 x2 x3 hB hm ht) k_X0_363_3 dX0_meanOf_7 hx.2.2.1.2.2.k (Nat.le_of_ble_eq_true rfl) ⟨Nat.le_of_ble_eq_true rfl, Nat.le_of_ble_eq_true rfl⟩ ⟨Nat.le_of_ble_eq_true rfl, Nat.le_of_ble_eq_true rfl⟩ (r_ci fun r7 M7 p7 => ?_) nox
  obtain ⟨rfl, p7⟩ := p7
  have p7 := Eq.symm (show _ = _ from p7)
  subst p7
  refine r_if_ne (pc := 10) 15 dX0_meanOf_10 rfl (fun h10 => ?_) (fun h10 => ?_)
  · rw [bI_ne0] at h10
    refine r_iconst (pc := 15) (v := 0) dX0_meanOf_15 (by decide) ?_
    refine r_istore4 (pc := 16) dX0_meanOf_16 rfl ?_
    refine r_iconst (pc := 18) (v := 0) dX0_meanOf_18 (by decide) ?_
    refine r_istore5 (pc := 19) dX0_meanOf_19 rfl ?_
    exact L h10 N2 0 0 (by omega) rfl
  · rw [bI_eq0] at h10
    refine r_iconst (pc := 13) (v := 0) dX0_meanOf_13 (by decide) ?_
    refine r_ireturn (pc := 14) rfl dX0_meanOf_14 ⟨_, rfl, ?_⟩
    exact ⟨by unfold meanV; rw [cI_f h10], rfl⟩
theorem ct_X0_mean {M : PM} {xo wa mo : Nat} {Z : PM} {S : ST} (hx : XO M xo wa mo Z S) (x1 x2 x3 : Int32) (hS : OkS S.1) : Ct (YX0_mean, (8, 191, 2, 14), qi (fun r M' => oX xo mo Z (meanS S x1 x2 x3) r M'), noX) [.ref xo, .int x1, .int x2, .int x3] M := by
  refine ct_ofH [some (.ref xo), some (.int x1), some (.int x2), some (.int x3), none] rfl rfl (Nat.le_of_ble_eq_true rfl) rfl rfl ?_
  have hB := hS.1.t
  have hC : ∀ (M9 : PM) (q : Nat) (b : Int32) (o4 : Option Value), mK M9 q = (1, 6) → mI M9 q 6 = b → bd b (-7) (-1) → XO M9 xo wa mo Z S → meanS S x1 x2 x3 = noS S b → Wx (YX0_mean, (8, 191, 2, 14), qi (fun r M' => oX xo mo Z (meanS S x1 x2 x3) r M'), noX) 0 0 M9 28 [some (.ref xo), some (.int x1), some (.int x2), some (.int x3), o4] [.ref q] := by
    intro M9 q b o4 h1 h2 h3 h4 h5
    refine r_astore4 (pc := 28) dX0_mean_28 rfl ?_
    refine r_aload_n (pc := 30) dX0_mean_30 rfl ?_
    refine r_aload (pc := 31) dX0_mean_31 rfl ?_
    refine r_o2 (pc := 33) (bc' := 0) (bs' := 0) (ct_X0_refused h4 h1 h2 h3) k_X0_173_0 dX0_mean_33 h4.1.2.1 (Nat.le_of_ble_eq_true rfl) ⟨Nat.le_of_ble_eq_true rfl, Nat.le_of_ble_eq_true rfl⟩ ⟨Nat.le_of_ble_eq_true rfl, Nat.le_of_ble_eq_true rfl⟩ (r_ci fun r33 M33 p33 => ?_) nox
    obtain ⟨rfl, h6⟩ := p33
    refine r_ireturn (pc := 36) rfl dX0_mean_36 ⟨_, rfl, ?_⟩
    exact (show oX xo mo Z (meanS S x1 x2 x3) _ _ by rw [h5]; exact ⟨rfl, wa, h6⟩)
  refine r_aload_n (pc := 0) dX0_mean_0 rfl ?_
  refine r_iload_n (pc := 1) dX0_mean_1 rfl ?_
  refine r_iload_n (pc := 2) dX0_mean_2 rfl ?_
  refine r_o3 (pc := 3) (bc' := 1) (bs' := 7) (ct_X0_must hx x1 x2 hB) k_X0_300_0 dX0_mean_3 hx.1.2.1 (Nat.le_of_ble_eq_true rfl) ⟨Nat.le_of_ble_eq_true rfl, Nat.le_of_ble_eq_true rfl⟩ ⟨Nat.le_of_ble_eq_true rfl, Nat.le_of_ble_eq_true rfl⟩ (r_cv fun M3 p3 => ?_) (fun q E M9 h9 => by obtain ⟨hn9, rfl, k9, w9, o9⟩ := h9; exact t_catch [] _ _ _ rfl (fun z hz => absurd hz List.not_mem_nil) rfl (by decide) q305 q389 ((hC M9 q _ _ k9 w9 (by decide) o9 (by unfold meanS; rw [cI_t (n_and hn9)])).loose (Nat.zero_le _) (Nat.zero_le _)))
  obtain ⟨hy, p3⟩ := p3
  have p3 := Eq.symm (show _ = _ from p3)
  subst p3
  refine r_iload_n (pc := 6) dX0_mean_6 rfl ?_
  refine r_i2l (pc := 7) dX0_mean_7 ?_
  refine r_lconst (pc := 8) (v := 1) dX0_mean_8 (by decide) ?_
  refine r_ldc2 (pc := 9) dX0_mean_9 q1241 ?_
  refine r_s3 (pc := 12) (bc' := 1) (bs' := 7) (ct_X0_in x3 1 40 rfl (by decide) (by decide)) k_X0_107 dX0_mean_12 (Nat.le_of_ble_eq_true rfl) ⟨Nat.le_of_ble_eq_true rfl, Nat.le_of_ble_eq_true rfl⟩ ⟨Nat.le_of_ble_eq_true rfl, Nat.le_of_ble_eq_true rfl⟩ (r_ci fun r12 M12 p12 => ?_) nox
  obtain ⟨rfl, p12⟩ := p12
  have p12 := Eq.symm (show _ = _ from p12)
  subst p12
  refine r_bipush (pc := 15) (v := (-6)) dX0_mean_15 (by decide) ?_
  refine r_s2 (pc := 17) (bc' := 0) (bs' := 0) (ct_X0_need _ _) k_X0_115 dX0_mean_17 (Nat.le_of_ble_eq_true rfl) ⟨Nat.le_of_ble_eq_true rfl, Nat.le_of_ble_eq_true rfl⟩ ⟨Nat.le_of_ble_eq_true rfl, Nat.le_of_ble_eq_true rfl⟩ (r_cv fun M17 p17 => ?_) (fun q E M9 h8 => by have h9 := And.intro (bI_eq0.mp h8.1) (hx.rf h8.2); obtain ⟨hn9, rfl, k9, w9, o9⟩ := h9; exact t_catch [] _ _ _ rfl (fun z hz => absurd hz List.not_mem_nil) rfl (by decide) q305 q389 ((hC M9 q _ _ k9 w9 (by decide) o9 (by unfold meanS; rw [cI_f (n_or hy), cI_f hn9])).loose (Nat.zero_le _) (Nat.zero_le _)))
  obtain ⟨hz, p17⟩ := p17
  have p17 := Eq.symm (show _ = _ from p17)
  subst p17
  rw [bI_ne0] at hz
  refine r_aload_n (pc := 20) dX0_mean_20 rfl ?_
  refine r_iload_n (pc := 21) dX0_mean_21 rfl ?_
  refine r_iload_n (pc := 22) dX0_mean_22 rfl ?_
  refine r_iload_n (pc := 23) dX0_mean_23 rfl ?_
  refine r_o4 (pc := 24) (bc' := 0) (bs' := 0) (ct_X0_meanOf hx x1 x2 x3 hB hy.1 hy.2) k_X0_366_0 dX0_mean_24 hx.1.2.1 (Nat.le_of_ble_eq_true rfl) ⟨Nat.le_of_ble_eq_true rfl, Nat.le_of_ble_eq_true rfl⟩ ⟨Nat.le_of_ble_eq_true rfl, Nat.le_of_ble_eq_true rfl⟩ (r_ci fun r24 M24 p24 => ?_) nox
  obtain ⟨rfl, p24⟩ := p24
  have p24 := Eq.symm (show _ = _ from p24)
  subst p24
  refine r_ireturn (pc := 27) rfl dX0_mean_27 ⟨_, rfl, ?_⟩
  exact (show oX xo mo Z (meanS S x1 x2 x3) _ _ by rw [show meanS S x1 x2 x3 = (meanV S.1 x1 x2 x3, S) by unfold meanS; rw [cI_f (n_or hy), cI_t hz]]; exact ⟨rfl, wa, hx⟩)
theorem ct_X0_cast {M : PM} {xo wa mo : Nat} {Z : PM} {S : ST} (hx : XO M xo wa mo Z S) (x1 x2 : Int32) (hS : OkS S.1) : Ct (YX0_cast, (8, 191, 1, 7), qi (fun r M' => oX xo mo Z (castS S x1 x2) r M'), noX) [.ref xo, .int x1, .int x2] M := by
  refine ct_ofH [some (.ref xo), some (.int x1), some (.int x2), none, none, none, none] rfl rfl (Nat.le_of_ble_eq_true rfl) rfl rfl ?_
  have hB := hS.1.t
  have hC : ∀ (M9 : PM) (q : Nat) (b : Int32) (o3 o4 o5 o6 : Option Value), mK M9 q = (1, 6) → mI M9 q 6 = b → bd b (-7) (-1) → XO M9 xo wa mo Z S → castS S x1 x2 = noTenS S b → Wx (YX0_cast, (8, 191, 1, 7), qi (fun r M' => oX xo mo Z (castS S x1 x2) r M'), noX) 0 0 M9 53 [some (.ref xo), some (.int x1), some (.int x2), o3, o4, o5, o6] [.ref q] := by
    intro M9 q b o3 o4 o5 o6 h1 h2 h3 h4 h5
    refine r_astore3 (pc := 53) dX0_cast_53 rfl ?_
    refine r_aload_n (pc := 54) dX0_cast_54 rfl ?_
    refine r_aload_n (pc := 55) dX0_cast_55 rfl ?_
    refine r_o2 (pc := 56) (bc' := 0) (bs' := 0) (ct_X0_refused h4 h1 h2 h3) k_X0_173_0 dX0_cast_56 h4.1.2.1 (Nat.le_of_ble_eq_true rfl) ⟨Nat.le_of_ble_eq_true rfl, Nat.le_of_ble_eq_true rfl⟩ ⟨Nat.le_of_ble_eq_true rfl, Nat.le_of_ble_eq_true rfl⟩ (r_ci fun r56 M56 p56 => ?_) nox
    obtain ⟨rfl, h6⟩ := p56
    refine r_bipush (pc := 59) (v := 10) dX0_cast_59 (by decide) ?_
    refine r_isub (pc := 61) dX0_cast_61 ?_
    refine r_ireturn (pc := 62) rfl dX0_cast_62 ⟨_, rfl, ?_⟩
    exact (show oX xo mo Z (castS S x1 x2) _ _ by rw [h5]; exact ⟨rfl, wa, h6⟩)
  have L : mnP S.1 x1 ∧ thP S.1 x2 → ∀ (n d : Nat) (b w : Int32) (o6 : Option Value), d + n = 41 → castL S.1 x1 x2 40 1 (-1) 0 = castL S.1 x1 x2 n d b w → Wx (YX0_cast, (8, 191, 1, 7), qi (fun r M' => oX xo mo Z (castS S x1 x2) r M'), noX) 0 0 M 14 [some (.ref xo), some (.int x1), some (.int x2), some (.int b), some (.int w), some (.int (nI d)), o6] [] := by
    intro hy n
    induction n with
    | zero =>
      intro d b w o6 hd hI
      refine r_iload (pc := 14) dX0_cast_14 rfl ?_
      refine r_bipush (pc := 16) (v := 40) dX0_cast_16 (by decide) ?_
      refine r_icmp_gt (pc := 18) 51 dX0_cast_18 rfl (fun _ => ?_) (fun hno => False.elim (by rw [show (40 : Int32) = nI 40 from rfl, lt_nI (by omega) (by omega)] at hno; omega))
      refine r_iload_n (pc := 51) dX0_cast_51 rfl ?_
      refine r_ireturn (pc := 52) rfl dX0_cast_52 ⟨_, rfl, ?_⟩
      exact (show oX xo mo Z (castS S x1 x2) _ _ by unfold castS; rw [cI_f (n_or hy), hI]; exact ⟨rfl, wa, hx⟩)
    | succ n ih =>
      intro d b w o6 hd hI
      refine r_iload (pc := 14) dX0_cast_14 rfl ?_
      refine r_bipush (pc := 16) (v := 40) dX0_cast_16 (by decide) ?_
      refine r_icmp_gt (pc := 18) 51 dX0_cast_18 rfl (fun hno => False.elim (by rw [show (40 : Int32) = nI 40 from rfl, lt_nI (by omega) (by omega)] at hno; omega)) (fun _ => ?_)
      refine r_aload_n (pc := 21) dX0_cast_21 rfl ?_
      refine r_iload_n (pc := 22) dX0_cast_22 rfl ?_
      refine r_iload_n (pc := 23) dX0_cast_23 rfl ?_
      refine r_iload (pc := 24) dX0_cast_24 rfl ?_
      refine r_o4 (pc := 26) (bc' := 0) (bs' := 0) (ct_X0_meanOf hx x1 x2 (nI d) hB hy.1 hy.2) k_X0_366_0 dX0_cast_26 hx.1.2.1 (Nat.le_of_ble_eq_true rfl) ⟨Nat.le_of_ble_eq_true rfl, Nat.le_of_ble_eq_true rfl⟩ ⟨Nat.le_of_ble_eq_true rfl, Nat.le_of_ble_eq_true rfl⟩ (r_ci fun r26 M26 p26 => ?_) nox
      obtain ⟨rfl, p26⟩ := p26
      have p26 := Eq.symm (show _ = _ from p26)
      subst p26
      refine r_istore6 (pc := 29) dX0_cast_29 rfl ?_
      refine r_iload (pc := 31) dX0_cast_31 rfl ?_
      refine r_iload (pc := 33) dX0_cast_33 rfl ?_
      refine r_icmp_le (pc := 35) 45 dX0_cast_35 rfl (fun h35 => ?_) (fun h35 => ?_)
      · refine r_iinc5 (pc := 45) dX0_cast_45 (nI_1 _) rfl ?_
        refine r_goto (pc := 48) 14 dX0_cast_48 rfl ?_
        refine ih (d + 1) _ _ _ (by omega) ?_
        rw [hI]
        show (if w < meanV S.1 x1 x2 (nI d) then castL S.1 x1 x2 n (d + 1) (nI d) (meanV S.1 x1 x2 (nI d)) else castL S.1 x1 x2 n (d + 1) b w) = _
        first | rw [if_pos h35] | rw [if_neg h35]
      · refine r_iload (pc := 38) dX0_cast_38 rfl ?_
        refine r_istore3 (pc := 40) dX0_cast_40 rfl ?_
        refine r_iload (pc := 41) dX0_cast_41 rfl ?_
        refine r_istore4 (pc := 43) dX0_cast_43 rfl ?_
        refine r_iinc5 (pc := 45) dX0_cast_45 (nI_1 _) rfl ?_
        refine r_goto (pc := 48) 14 dX0_cast_48 rfl ?_
        refine ih (d + 1) _ _ _ (by omega) ?_
        rw [hI]
        show (if w < meanV S.1 x1 x2 (nI d) then castL S.1 x1 x2 n (d + 1) (nI d) (meanV S.1 x1 x2 (nI d)) else castL S.1 x1 x2 n (d + 1) b w) = _
        first | rw [if_pos h35] | rw [if_neg h35]
  refine r_aload_n (pc := 0) dX0_cast_0 rfl ?_
  refine r_iload_n (pc := 1) dX0_cast_1 rfl ?_
  refine r_iload_n (pc := 2) dX0_cast_2 rfl ?_
  refine r_o3 (pc := 3) (bc' := 0) (bs' := 0) (ct_X0_must hx x1 x2 hB) k_X0_300_0 dX0_cast_3 hx.1.2.1 (Nat.le_of_ble_eq_true rfl) ⟨Nat.le_of_ble_eq_true rfl, Nat.le_of_ble_eq_true rfl⟩ ⟨Nat.le_of_ble_eq_true rfl, Nat.le_of_ble_eq_true rfl⟩ (r_cv fun M3 p3 => ?_) (fun q E M9 h9 => by obtain ⟨hn9, rfl, k9, w9, o9⟩ := h9; exact t_catch [] _ _ _ rfl (fun z hz => absurd hz List.not_mem_nil) rfl (by decide) q305 q389 ((hC M9 q _ _ _ _ _ k9 w9 (by decide) o9 (by unfold castS; rw [cI_t (n_and hn9)])).loose (Nat.zero_le _) (Nat.zero_le _)))
  obtain ⟨hy, p3⟩ := p3
  have p3 := Eq.symm (show _ = _ from p3)
  subst p3
  refine r_iconst (pc := 6) (v := (-1)) dX0_cast_6 (by decide) ?_
  refine r_istore3 (pc := 7) dX0_cast_7 rfl ?_
  refine r_iconst (pc := 8) (v := 0) dX0_cast_8 (by decide) ?_
  refine r_istore4 (pc := 9) dX0_cast_9 rfl ?_
  refine r_iconst (pc := 11) (v := 1) dX0_cast_11 (by decide) ?_
  refine r_istore5 (pc := 12) dX0_cast_12 rfl ?_
  exact L hy 40 1 (-1) 0 _ (by omega) rfl
theorem tr_in {x m : Int32} (h : bd m 0 20) : (¬ x < 0 ∧ ¬ (if 20 < m then 20 else m) - 1 < x) ↔ (¬ x < 0 ∧ x < 20 ∧ x < m) := by
  have c2 : (20 : Int32).toInt = 20 := by decide
  have hn : ¬ (20 : Int32) < m := by rw [i_lt, c2]; have := h.2; omega
  rw [if_neg hn]
  constructor
  · rintro ⟨a, b⟩
    have := (in_c (n := m) h (by decide)).mp ⟨a, b⟩
    refine ⟨a, ?_, this.2⟩
    have h3 := this.2
    rw [i_lt] at h3 ⊢
    have := h.2
    omega
  · rintro ⟨a, b, c⟩
    exact (in_c (n := m) h (by decide)).mpr ⟨a, c⟩
theorem tr_vp {x m : Int32} (h : ¬ x < 0 ∧ x < 20 ∧ x < m) : vp_in x 20 := vp_b h.1 h.2.1 (by decide)
theorem ct_X0_trace {M : PM} {xo wa mo : Nat} {Z : PM} {S : ST} (hx : XO M xo wa mo Z S) (x1 : Int32) (hS : OkS S.1) : Ct (YX0_trace, (1, 25, 0, 0), qi (fun r M' => oX xo mo Z ((traceS S x1, S)) r M'), noX) [.ref xo, .int x1] M := by
  refine ct_of [some (.ref xo), some (.int x1)] rfl rfl rfl (Nat.le_of_ble_eq_true rfl) rfl rfl ?_
  have hB := hS.1.t
  refine r_iload_n (pc := 0) dX0_trace_0 rfl ?_
  refine r_i2l (pc := 1) dX0_trace_1 ?_
  refine r_lconst (pc := 2) (v := 0) dX0_trace_2 (by decide) ?_
  refine r_aload_n (pc := 3) dX0_trace_3 rfl ?_
  refine r_getR (pc := 4) dX0_trace_4 fl_X0_70_0 hx.1.2.1 (fun _ _ => rfl) hx.1.2.2.1.2.2.1 ?_
  refine r_getIe (pc := 7) (v := S.1 48 0) dX0_trace_7 fl_X0_391_1 hx.1.2.2.2.2.2.1.1 (fun _ _ => rfl) hx.2.2.2.2.1.2.1 ?_
  refine r_bipush (pc := 10) (v := 20) dX0_trace_10 (by decide) ?_
  refine r_mmin (pc := 12) dX0_trace_12 q1385 (Nat.le_of_ble_eq_true rfl) (Nat.le_of_ble_eq_true rfl) ?_
  refine r_iconst (pc := 15) (v := 1) dX0_trace_15 (by decide) ?_
  refine r_isub (pc := 16) dX0_trace_16 ?_
  refine r_i2l (pc := 17) dX0_trace_17 ?_
  refine r_s3 (pc := 18) (bc' := 0) (bs' := 0) (ct_X0_in x1 0 _ rfl (by decide) rfl) k_X0_107 dX0_trace_18 (Nat.le_of_ble_eq_true rfl) ⟨Nat.le_of_ble_eq_true rfl, Nat.le_of_ble_eq_true rfl⟩ ⟨Nat.le_of_ble_eq_true rfl, Nat.le_of_ble_eq_true rfl⟩ (r_ci fun r18 M18 p18 => ?_) nox
  obtain ⟨rfl, p18⟩ := p18
  have p18 := Eq.symm (show _ = _ from p18)
  subst p18
  refine r_if_eq (pc := 21) 36 dX0_trace_21 rfl (fun h21 => ?_) (fun h21 => ?_)
  · rw [bI_eq0] at h21
    rw [tr_in hS.2.2.2.1] at h21
    refine r_iconst (pc := 36) (v := (-1)) dX0_trace_36 (by decide) ?_
    refine r_ireturn (pc := 37) rfl dX0_trace_37 ⟨_, rfl, ?_⟩
    exact (show oX xo mo Z (traceS S x1, S) _ _ by unfold traceS; first | (rw [cI_t h21]; exact ⟨rfl, wa, hx⟩) | (rw [cI_f h21]; exact ⟨rfl, wa, hx⟩))
  · rw [bI_ne0] at h21
    rw [tr_in hS.2.2.2.1] at h21
    refine r_aload_n (pc := 24) dX0_trace_24 rfl ?_
    refine r_getR (pc := 25) dX0_trace_25 fl_X0_70_0 hx.1.2.1 (fun _ _ => rfl) hx.1.2.2.1.2.2.1 ?_
    refine r_getR (pc := 28) dX0_trace_28 fl_X0_407_1 hx.1.2.2.2.2.2.1.1 (fun _ _ => rfl) hx.1.2.2.2.2.2.1.2.1 ?_
    refine r_iload_n (pc := 31) dX0_trace_31 rfl ?_
    refine r_ialdv (pc := 32) (v := S.1 47 (Int32.toNatClampNeg x1)) dX0_trace_32 hx.1.2.2.2.2.2.1.2.2.1 hx.1.2.2.2.2.2.1.2.2.2 (tr_vp h21) (hx.2.2.2.2.1.2.2.1 _ (vp_in_lt (tr_vp h21))) ?_
    refine r_goto (pc := 33) 37 dX0_trace_33 rfl ?_
    refine r_ireturn (pc := 37) rfl dX0_trace_37 ⟨_, rfl, ?_⟩
    exact (show oX xo mo Z (traceS S x1, S) _ _ by unfold traceS; first | (rw [cI_t h21]; exact ⟨rfl, wa, hx⟩) | (rw [cI_f h21]; exact ⟨rfl, wa, hx⟩))
