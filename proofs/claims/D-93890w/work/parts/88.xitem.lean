/-! THE READER: withW, item, items (printed by gen/mk_x88.py) -/
set_option maxRecDepth 100000
theorem wx_no : ∀ k, k < 6 → ¬ k = 2 → ¬ k = 5 → ¬ (119 : Int32) = wrdC (offW k) := by decide +kernel
theorem ct_X19_withW {M : PM} {ra ta wn en a : Nat} {o : Int32} {c : Nat → Int32} {σ : cS} (hd : RD M ra ta wn o en c σ a) (hs : seP c en a 119) : Ct (YX19_withW, (8, 192, 14, 98), qv (fun M' => itQ M ra ta wn o en c σ a M'), fun q E M' => itX M ra wn en c σ a q E M') [.ref ra, .int (nI a)] M := by
  refine ct_of [some (.ref ra), some (.int (nI a)), none, none] rfl rfl rfl (Nat.le_of_ble_eq_true rfl) rfl rfl ?_
  have h160 := hd.2.2.1.2.2
  have hae := hd.2.2.2.2.2.2
  refine r_aload_n (pc := 0) dX19_withW_0 rfl ?_
  refine r_bipush (pc := 1) (v := 119) dX19_withW_1 (by decide) ?_
  refine r_o2 (pc := 3) (bc' := 13) (bs' := 91) (ct_X19_must hd 119) k_X19_53_19 dX19_withW_3 hd.1.1 (Nat.le_of_ble_eq_true rfl) ⟨Nat.le_of_ble_eq_true rfl, Nat.le_of_ble_eq_true rfl⟩ ⟨Nat.le_of_ble_eq_true rfl, Nat.le_of_ble_eq_true rfl⟩ (r_cv fun M3 p3 => ?_) (fun q E M8 h8 => absurd hs h8.1)
  obtain ⟨-, rfl⟩ := p3
  have hd1 := hd.at (b := a + 1) hs.1
  refine r_aload_n (pc := 6) dX19_withW_6 rfl ?_
  refine r_bipush (pc := 7) (v := 105) dX19_withW_7 (by decide) ?_
  refine r_o2 (pc := 9) (bc' := 13) (bs' := 91) (ct_X19_sees hd1 105) k_X19_37_19 dX19_withW_9 hd1.1.1 (Nat.le_of_ble_eq_true rfl) ⟨Nat.le_of_ble_eq_true rfl, Nat.le_of_ble_eq_true rfl⟩ ⟨Nat.le_of_ble_eq_true rfl, Nat.le_of_ble_eq_true rfl⟩ (r_ci fun r9 M9 p9 => ?_) nox
  obtain ⟨rfl, p9⟩ := p9
  have p9 := Eq.symm (show _ = _ from p9)
  subst p9
  refine r_if_eq (pc := 12) 36 dX19_withW_12 rfl (fun h12 => ?_) (fun h12 => ?_)
  · rw [bI_eq0] at h12
    have hkA : ∀ j k, k < 6 → k ≠ 2 → m0 c en a k ≤ 1 ∧ m0 c en a k ≤ j + 1 := fun j k h6 hk2 => by
      by_cases k5 : k = 5
      · subst k5
        have := m0_s (c := c) (en := en) (a := a) (k := 5) h12
        omega
      · rw [m0_f (c := c) (en := en) (a := a) (k := k) (fun q => wx_no k h6 hk2 k5 (hs.2.symm.trans q.2))]
        omega
    refine r_aload_n (pc := 36) dX19_withW_36 rfl ?_
    refine r_ldcS (i := 5) (pc := 37) "ant" rfl (by decide) rfl dX19_withW_37 (fun s37 k37 => ?_)
    refine r_o2 (pc := 39) (bc' := 8) (bs' := 56) (ct_X19_word hd1 k37 (by decide) (3) (offW 2 + 1) rfl (by decide) (by decide)) k_X19_84_19 dX19_withW_39 hd1.1.1 (Nat.le_of_ble_eq_true rfl) ⟨Nat.le_of_ble_eq_true rfl, Nat.le_of_ble_eq_true rfl⟩ ⟨Nat.le_of_ble_eq_true rfl, Nat.le_of_ble_eq_true rfl⟩ (r_cv fun M39 p39 => ?_) (fun q E M8 h8 => by obtain ⟨j, j1, j2, j3, j4⟩ := h8; exact t_out rfl (fx1 (it_no (w := 2) (j := j + 1) (by decide) (show j + 1 < 4 by omega) (mt_sh hs j2) (by rw [show a + (j + 1) = a + 1 + j by omega, show offW 2 + (j + 1) = offW 2 + 1 + j by omega]; exact j3) (hkA j)) (show faO _ _ (a + (j + 1)) q E M8 by rw [show a + (j + 1) = a + 1 + j by omega]; exact j4) (fun _ h => h)))
    obtain ⟨hm', rfl⟩ := p39
    rw [sI_sI]
    have hm : mtP c en a (offW 2) (lnW 2) := mt_sh hs hm'
    have hd2 : RD (sI M ra 2 (nI (a + 1 + 3))) ra ta wn o en c σ (a + lnW 2) := hd.at (b := a + lnW 2) (show a + lnW 2 ≤ en from by have := (hm (3) (by decide)).1; show a + 4 ≤ en; omega)
    refine r_aload_n (pc := 42) dX19_withW_42 rfl ?_
    refine r_aload_n (pc := 43) dX19_withW_43 rfl ?_
    refine r_getR (pc := 44) dX19_withW_44 fl_X19_15_19 hd2.1.1 (fun _ _ => rfl) hd2.1.2.2.1 ?_
    refine r_getIe (pc := 47) (v := σ 2 0) dX19_withW_47 fl_X19_138_3 hd2.2.2.2.2.1.k (fun _ _ => rfl) hd2.2.2.2.2.1.i6 ?_
    refine r_iconst (pc := 50) (v := 4) dX19_withW_50 (by decide) ?_
    refine r_icmp_ge (pc := 51) 58 dX19_withW_51 rfl (fun h51 => ?_) (fun h51 => ?_)
    · refine r_iconst (pc := 58) (v := 0) dX19_withW_58 (by decide) ?_
      refine r_iload_n (pc := 59) dX19_withW_59 rfl ?_
      refine r_o3 (pc := 60) (bc' := 0) (bs' := 0) (ct_X19_hasRoom (ra := ra) 0 a) k_X19_63_19 dX19_withW_60 hd2.1.1 (Nat.le_of_ble_eq_true rfl) ⟨Nat.le_of_ble_eq_true rfl, Nat.le_of_ble_eq_true rfl⟩ ⟨Nat.le_of_ble_eq_true rfl, Nat.le_of_ble_eq_true rfl⟩ (r_cv fun M9 p9 => absurd rfl p9.1) (fun q E M8 h8 => t_out rfl (fx1 (it_full (w := 2) (by decide) hm (Or.inr (Or.inr ⟨rfl, nlt4 hd.2.2.2.2.2.1.1.2.2 h51⟩))) h8.2 (fun _ h => h.elim)))
    · refine r_iconst (pc := 54) (v := 1) dX19_withW_54 (by decide) ?_
      refine r_goto (pc := 55) 59 dX19_withW_55 rfl ?_
      refine r_iload_n (pc := 59) dX19_withW_59 rfl ?_
      refine r_o3 (pc := 60) (bc' := 7) (bs' := 49) (ct_X19_hasRoom (ra := ra) 1 a) k_X19_63_19 dX19_withW_60 hd2.1.1 (Nat.le_of_ble_eq_true rfl) ⟨Nat.le_of_ble_eq_true rfl, Nat.le_of_ble_eq_true rfl⟩ ⟨Nat.le_of_ble_eq_true rfl, Nat.le_of_ble_eq_true rfl⟩ (r_cv fun M60 p60 => ?_) (fun q E M8 h8 => absurd h8.1 (by decide))
      obtain ⟨-, p60⟩ := p60
      have p60 := Eq.symm (show _ = _ from p60)
      subst p60
      have hnf := nf2 h51
      refine r_aload_n (pc := 63) dX19_withW_63 rfl ?_
      refine r_iconst (pc := 64) (v := 0) dX19_withW_64 (by decide) ?_
      refine r_aload_n (pc := 65) dX19_withW_65 rfl ?_
      refine r_getR (pc := 66) dX19_withW_66 fl_X19_15_19 hd2.1.1 (fun _ _ => rfl) hd2.1.2.2.1 ?_
      refine r_getIe (pc := 69) (v := σ 0 0) dX19_withW_69 fl_X19_88_3 hd2.2.2.2.2.1.k (fun _ _ => rfl) hd2.2.2.2.2.1.i4 ?_
      refine r_iconst (pc := 72) (v := 1) dX19_withW_72 (by decide) ?_
      refine r_isub (pc := 73) dX19_withW_73 ?_
      refine r_o3 (pc := 74) (bc' := 5) (bs' := 35) (ct_X19_number hd2 0 (σ 0 0 - 1) (fitP σ (nI 2) (nI 0) 0) (ft20 0 hd.2.2.2.2.2.1.1.1)) k_X19_72_19 dX19_withW_74 hd2.1.1 (Nat.le_of_ble_eq_true rfl) ⟨Nat.le_of_ble_eq_true rfl, Nat.le_of_ble_eq_true rfl⟩ ⟨Nat.le_of_ble_eq_true rfl, Nat.le_of_ble_eq_true rfl⟩ (r_ci fun r74 M74 p74 => ?_) (fun q E M8 h8 => by obtain ⟨pl, h1, h2⟩ := h8; exact t_out rfl (fx1 (ch0x (w := 2) (n := 2) (by decide) hm hnf rfl h1) h2 (fun _ h => h)))
      obtain ⟨n0, rfl, rfl⟩ := p74
      rw [sI_sI]
      have b0 := num_ok n0.2.1
      have hd3 := hd.at b0.2.2
      have c0 := ch0 (w := 2) (n := 2) (by decide) hm hnf rfl n0
      refine r_istore2 (pc := 77) dX19_withW_77 rfl ?_
      refine r_aload_n (pc := 78) dX19_withW_78 rfl ?_
      refine r_o1 (pc := 79) (bc' := 2) (bs' := 14) (ct_X19_step hd3) k_X19_91_19 dX19_withW_79 hd3.1.1 (Nat.le_of_ble_eq_true rfl) ⟨Nat.le_of_ble_eq_true rfl, Nat.le_of_ble_eq_true rfl⟩ ⟨Nat.le_of_ble_eq_true rfl, Nat.le_of_ble_eq_true rfl⟩ (r_ci fun r79 M79 p79 => ?_) (fun q E M8 h8 => by obtain ⟨pl, h1, h2⟩ := h8; exact t_out rfl (fx1 (chX c0 (by decide) (by rw [ft21]; exact h1)) h2 (fun _ h => h)))
      obtain ⟨n1, rfl, rfl⟩ := p79
      rw [sI_sI]
      have b1 := num_ok n1.2.1
      have hd4 := hd.at b1.2.2
      have c1 := chS c0 (by decide) (by rw [ft21]; exact n1)
      refine r_istore3 (pc := 82) dX19_withW_82 rfl ?_
      refine r_aload_n (pc := 83) dX19_withW_83 rfl ?_
      refine r_getR (pc := 84) dX19_withW_84 fl_X19_15_19 hd4.1.1 (fun _ _ => rfl) hd4.1.2.2.1 ?_
      refine r_iload_n (pc := 87) dX19_withW_87 rfl ?_
      refine r_iload_n (pc := 88) dX19_withW_88 rfl ?_
      refine r_aload_n (pc := 89) dX19_withW_89 rfl ?_
      refine r_iconst (pc := 90) (v := 0) dX19_withW_90 (by decide) ?_
      refine r_bipush (pc := 91) (v := 99) dX19_withW_91 (by decide) ?_
      refine r_o3 (pc := 93) (bc' := 0) (bs' := 0) (ct_X19_number hd4 0 99 (fitP σ (nI 2) (nI 2) ((va_up (va_up (fun _ => 0) 0 (numC c en (a + lnW 2 + 1)).1) 1 (numC c en ((numC c en (a + lnW 2 + 1)).2 + 1)).1) 0)) (ft22 _)) k_X19_72_19 dX19_withW_93 hd4.1.1 (Nat.le_of_ble_eq_true rfl) ⟨Nat.le_of_ble_eq_true rfl, Nat.le_of_ble_eq_true rfl⟩ ⟨Nat.le_of_ble_eq_true rfl, Nat.le_of_ble_eq_true rfl⟩ (r_ci fun r93 M93 p93 => ?_) (fun q E M8 h8 => by obtain ⟨pl, h1, h2⟩ := h8; exact t_out rfl (fx1 (chX c1 (by decide) h1) h2 (fun _ h => h)))
      obtain ⟨n2, rfl, rfl⟩ := p93
      rw [sI_sI]
      have b2 := num_ok n2.2.1
      have hd5 := hd.at b2.2.2
      have c2 := chS c1 (by decide) n2
      refine r_o4 (pc := 96) (bc' := 0) (bs' := 0) (ct_X3_addWant hd5.2.2.2.2.1 _ _ _ hd5.2.2.2.2.2.1.t (lt4 h51)) k_X19_141_3 dX19_withW_96 hd5.2.2.2.2.1.k (Nat.le_of_ble_eq_true rfl) ⟨Nat.le_of_ble_eq_true rfl, Nat.le_of_ble_eq_true rfl⟩ ⟨Nat.le_of_ble_eq_true rfl, Nat.le_of_ble_eq_true rfl⟩ (r_cv fun M96 p96 => ?_) nox
      obtain ⟨hw6, f6, g6⟩ := p96
      have fin : itQ M ra ta wn o en c σ a M96 := itW (chF c2) ⟨hd.2.2.2.2.2.1, hd.2.2.2.2.2.2⟩ hd5 hw6 f6 (fun i _ => by rw [g6]; rfl)
      refine r_return (pc := 99) rfl dX19_withW_99 ⟨rfl, ?_⟩
      exact fin
  · rw [bI_ne0] at h12
    have hkI : ∀ j k, k < 6 → k ≠ 5 → m0 c en a k ≤ 1 ∧ m0 c en a k ≤ j + 1 := fun j k h6 hk5 => by
      by_cases k2 : k = 2
      · subst k2
        have := m0_s (c := c) (en := en) (a := a) (k := 2) (fun q => absurd (h12.2.symm.trans q.2) (by decide))
        omega
      · rw [m0_f (c := c) (en := en) (a := a) (k := k) (fun q => wx_no k h6 k2 hk5 (hs.2.symm.trans q.2))]
        omega
    refine r_aload_n (pc := 15) dX19_withW_15 rfl ?_
    refine r_ldcS (i := 4) (pc := 16) "ind" rfl (by decide) rfl dX19_withW_16 (fun s16 k16 => ?_)
    refine r_o2 (pc := 18) (bc' := 8) (bs' := 56) (ct_X19_word hd1 k16 (by decide) (3) (offW 5 + 1) rfl (by decide) (by decide)) k_X19_84_19 dX19_withW_18 hd1.1.1 (Nat.le_of_ble_eq_true rfl) ⟨Nat.le_of_ble_eq_true rfl, Nat.le_of_ble_eq_true rfl⟩ ⟨Nat.le_of_ble_eq_true rfl, Nat.le_of_ble_eq_true rfl⟩ (r_cv fun M18 p18 => ?_) (fun q E M8 h8 => by obtain ⟨j, j1, j2, j3, j4⟩ := h8; exact t_out rfl (fx1 (it_no (w := 5) (j := j + 1) (by decide) (show j + 1 < 4 by omega) (mt_sh hs j2) (by rw [show a + (j + 1) = a + 1 + j by omega, show offW 5 + (j + 1) = offW 5 + 1 + j by omega]; exact j3) (hkI j)) (show faO _ _ (a + (j + 1)) q E M8 by rw [show a + (j + 1) = a + 1 + j by omega]; exact j4) (fun _ h => h)))
    obtain ⟨hm', rfl⟩ := p18
    rw [sI_sI]
    have hm : mtP c en a (offW 5) (lnW 5) := mt_sh hs hm'
    have hd2 : RD (sI M ra 2 (nI (a + 1 + 3))) ra ta wn o en c σ (a + lnW 5) := hd.at (b := a + lnW 5) (show a + lnW 5 ≤ en from by have := (hm (3) (by decide)).1; show a + 4 ≤ en; omega)
    refine r_aload_n (pc := 21) dX19_withW_21 rfl ?_
    refine r_getR (pc := 22) dX19_withW_22 fl_X19_15_19 hd2.1.1 (fun _ _ => rfl) hd2.1.2.2.1 ?_
    refine r_aload_n (pc := 25) dX19_withW_25 rfl ?_
    refine r_iconst (pc := 26) (v := 0) dX19_withW_26 (by decide) ?_
    refine r_bipush (pc := 27) (v := 9) dX19_withW_27 (by decide) ?_
    refine r_o3 (pc := 29) (bc' := 6) (bs' := 42) (ct_X19_number hd2 0 9 (fitP σ (nI 5) (nI 0) 0) (ft50 0)) k_X19_72_19 dX19_withW_29 hd2.1.1 (Nat.le_of_ble_eq_true rfl) ⟨Nat.le_of_ble_eq_true rfl, Nat.le_of_ble_eq_true rfl⟩ ⟨Nat.le_of_ble_eq_true rfl, Nat.le_of_ble_eq_true rfl⟩ (r_ci fun r29 M29 p29 => ?_) (fun q E M8 h8 => by obtain ⟨pl, h1, h2⟩ := h8; exact t_out rfl (fx1 (ch0x (w := 5) (n := 0) (by decide) hm (nf345 (by decide) (by decide)) rfl h1) h2 (fun _ h => h)))
    obtain ⟨n0, rfl, rfl⟩ := p29
    rw [sI_sI]
    have b0 := num_ok n0.2.1
    have hd3 := hd.at b0.2.2
    have c0 := ch0 (w := 5) (n := 0) (by decide) hm (nf345 (by decide) (by decide)) rfl n0
    refine r_putI (pc := 32) dX19_withW_32 fl_X19_133_3 hd3.2.2.2.2.1.k rfl rfl ?_
    have fin : itQ M ra ta wn o en c σ a _ := itW (chF c0) ⟨hd.2.2.2.2.2.1, hd.2.2.2.2.2.2⟩ hd3 hd3.2.2.2.2.1.s6 (frP.rf.sI fun _ => inW_0) (fun _ _ => rfl)
    refine r_return (pc := 35) rfl dX19_withW_35 ⟨rfl, ?_⟩
    exact fin
theorem ct_X19_item {M : PM} {ra ta wn en a : Nat} {o : Int32} {c : Nat → Int32} {σ : cS} (hd : RD M ra ta wn o en c σ a) : Ct (YX19_item, (9, 215, 16, 108), qv (fun M' => itQ M ra ta wn o en c σ a M'), fun q E M' => itX M ra wn en c σ a q E M') [.ref ra] M := by
  refine ct_of [some (.ref ra), none, none, none, none] rfl rfl rfl (Nat.le_of_ble_eq_true rfl) rfl rfl ?_
  have h160 := hd.2.2.1.2.2
  have hae := hd.2.2.2.2.2.2
  refine r_aload_n (pc := 0) dX19_item_0 rfl ?_
  refine r_getIe (pc := 1) (v := nI a) dX19_item_1 fl_X19_19_19 hd.1.1 (fun _ _ => rfl) hd.1.2.2.2 ?_
  refine r_istore1 (pc := 4) dX19_item_4 rfl ?_
  refine r_aload_n (pc := 5) dX19_item_5 rfl ?_
  refine r_bipush (pc := 6) (v := 116) dX19_item_6 (by decide) ?_
  refine r_o2 (pc := 8) (bc' := 16) (bs' := 108) (ct_X19_sees hd 116) k_X19_37_19 dX19_item_8 hd.1.1 (Nat.le_of_ble_eq_true rfl) ⟨Nat.le_of_ble_eq_true rfl, Nat.le_of_ble_eq_true rfl⟩ ⟨Nat.le_of_ble_eq_true rfl, Nat.le_of_ble_eq_true rfl⟩ (r_ci fun r8 M8 p8 => ?_) nox
  obtain ⟨rfl, p8⟩ := p8
  have p8 := Eq.symm (show _ = _ from p8)
  subst p8
  refine r_if_eq (pc := 11) 86 dX19_item_11 rfl (fun h11 => ?_) (fun h11 => ?_)
  · rw [bI_eq0] at h11
    refine r_aload_n (pc := 86) dX19_item_86 rfl ?_
    refine r_bipush (pc := 87) (v := 109) dX19_item_87 (by decide) ?_
    refine r_o2 (pc := 89) (bc' := 16) (bs' := 108) (ct_X19_sees hd 109) k_X19_37_19 dX19_item_89 hd.1.1 (Nat.le_of_ble_eq_true rfl) ⟨Nat.le_of_ble_eq_true rfl, Nat.le_of_ble_eq_true rfl⟩ ⟨Nat.le_of_ble_eq_true rfl, Nat.le_of_ble_eq_true rfl⟩ (r_ci fun r89 M89 p89 => ?_) nox
    obtain ⟨rfl, p89⟩ := p89
    have p89 := Eq.symm (show _ = _ from p89)
    subst p89
    refine r_if_eq (pc := 92) 140 dX19_item_92 rfl (fun h92 => ?_) (fun h92 => ?_)
    · rw [bI_eq0] at h92
      refine r_aload_n (pc := 140) dX19_item_140 rfl ?_
      refine r_bipush (pc := 141) (v := 119) dX19_item_141 (by decide) ?_
      refine r_o2 (pc := 143) (bc' := 16) (bs' := 108) (ct_X19_sees hd 119) k_X19_37_19 dX19_item_143 hd.1.1 (Nat.le_of_ble_eq_true rfl) ⟨Nat.le_of_ble_eq_true rfl, Nat.le_of_ble_eq_true rfl⟩ ⟨Nat.le_of_ble_eq_true rfl, Nat.le_of_ble_eq_true rfl⟩ (r_ci fun r143 M143 p143 => ?_) nox
      obtain ⟨rfl, p143⟩ := p143
      have p143 := Eq.symm (show _ = _ from p143)
      subst p143
      refine r_if_eq (pc := 146) 157 dX19_item_146 rfl (fun h146 => ?_) (fun h146 => ?_)
      · rw [bI_eq0] at h146
        refine r_aload_n (pc := 157) dX19_item_157 rfl ?_
        refine r_bipush (pc := 158) (v := 108) dX19_item_158 (by decide) ?_
        refine r_o2 (pc := 160) (bc' := 16) (bs' := 108) (ct_X19_sees hd 108) k_X19_37_19 dX19_item_160 hd.1.1 (Nat.le_of_ble_eq_true rfl) ⟨Nat.le_of_ble_eq_true rfl, Nat.le_of_ble_eq_true rfl⟩ ⟨Nat.le_of_ble_eq_true rfl, Nat.le_of_ble_eq_true rfl⟩ (r_ci fun r160 M160 p160 => ?_) nox
        obtain ⟨rfl, p160⟩ := p160
        have p160 := Eq.symm (show _ = _ from p160)
        subst p160
        refine r_if_eq (pc := 163) 199 dX19_item_163 rfl (fun h163 => ?_) (fun h163 => ?_)
        · rw [bI_eq0] at h163
          have hkR : ∀ j k, k < 6 → k ≠ 4 → m0 c en a k ≤ 1 ∧ m0 c en a k ≤ j := by
            intro j k h6 h4
            have e : m0 c en a k = 0 := by
              have : k = 0 ∨ k = 1 ∨ k = 2 ∨ k = 3 ∨ k = 5 := by omega
              rcases this with rfl | rfl | rfl | rfl | rfl
              · exact m0_f h11
              · exact m0_f h92
              · exact m0_f h146
              · exact m0_f h163
              · exact m0_f h146
            rw [e]; exact ⟨Nat.zero_le _, Nat.zero_le _⟩
          refine r_aload_n (pc := 199) dX19_item_199 rfl ?_
          refine r_ldcS (i := 3) (pc := 200) "river" rfl (by decide) rfl dX19_item_200 (fun s200 k200 => ?_)
          refine r_o2 (pc := 202) (bc' := 11) (bs' := 73) (ct_X19_word hd k200 (by decide) (lnW 4) (offW 4) rfl (by decide) (by decide)) k_X19_84_19 dX19_item_202 hd.1.1 (Nat.le_of_ble_eq_true rfl) ⟨Nat.le_of_ble_eq_true rfl, Nat.le_of_ble_eq_true rfl⟩ ⟨Nat.le_of_ble_eq_true rfl, Nat.le_of_ble_eq_true rfl⟩ (r_cv fun M202 p202 => ?_) (fun q E M8 h8 => by obtain ⟨j, j1, j2, j3, j4⟩ := h8; exact t_out rfl (fx0 (it_no (w := 4) (by decide) j1 j2 j3 (hkR j)) j4 (fun _ h => h)))
          obtain ⟨hm, rfl⟩ := p202
          have hd1 := hd.at (b := a + lnW 4) (show a + lnW 4 ≤ en from by have := (hm (4) (by decide)).1; show a + 5 ≤ en; omega)
          refine r_aload_n (pc := 205) dX19_item_205 rfl ?_
          refine r_iconst (pc := 206) (v := 0) dX19_item_206 (by decide) ?_
          refine r_bipush (pc := 207) (v := 99) dX19_item_207 (by decide) ?_
          refine r_o3 (pc := 209) (bc' := 9) (bs' := 59) (ct_X19_number hd1 0 99 (fitP σ (nI 4) (nI 0) 0) (ft40 0)) k_X19_72_19 dX19_item_209 hd1.1.1 (Nat.le_of_ble_eq_true rfl) ⟨Nat.le_of_ble_eq_true rfl, Nat.le_of_ble_eq_true rfl⟩ ⟨Nat.le_of_ble_eq_true rfl, Nat.le_of_ble_eq_true rfl⟩ (r_ci fun r209 M209 p209 => ?_) (fun q E M8 h8 => by obtain ⟨pl, h1, h2⟩ := h8; exact t_out rfl (fx1 (ch0x (w := 4) (n := 1) (by decide) hm (nf345 (by decide) (by decide)) rfl h1) h2 (fun _ h => h)))
          obtain ⟨n0, rfl, rfl⟩ := p209
          rw [sI_sI]
          have b0 := num_ok n0.2.1
          have hd2 := hd.at b0.2.2
          have c0 := ch0 (w := 4) (n := 1) (by decide) hm (nf345 (by decide) (by decide)) rfl n0
          refine r_istore2 (pc := 212) dX19_item_212 rfl ?_
          refine r_aload_n (pc := 213) dX19_item_213 rfl ?_
          refine r_getIe (pc := 214) (v := nI ((numC c en (a + lnW 4 + 1)).2)) dX19_item_214 fl_X19_19_19 hd2.1.1 (fun _ _ => rfl) hd2.1.2.2.2 ?_
          refine r_iconst (pc := 217) (v := 1) dX19_item_217 (by decide) ?_
          refine r_iadd (pc := 218) dX19_item_218 ?_
          rw [nI_1]
          refine r_istore3 (pc := 219) dX19_item_219 rfl ?_
          refine r_aload_n (pc := 220) dX19_item_220 rfl ?_
          refine r_iconst (pc := 221) (v := 0) dX19_item_221 (by decide) ?_
          refine r_bipush (pc := 222) (v := 99) dX19_item_222 (by decide) ?_
          refine r_o3 (pc := 224) (bc' := 7) (bs' := 45) (ct_X19_number hd2 0 99 (fun _ => True) (ftT)) k_X19_72_19 dX19_item_224 hd2.1.1 (Nat.le_of_ble_eq_true rfl) ⟨Nat.le_of_ble_eq_true rfl, Nat.le_of_ble_eq_true rfl⟩ ⟨Nat.le_of_ble_eq_true rfl, Nat.le_of_ble_eq_true rfl⟩ (r_ci fun r224 M224 p224 => ?_) (fun q E M8 h8 => by obtain ⟨pl, h1, h2⟩ := h8; exact t_out rfl (fx1 (chX c0 (by decide) (by rw [ft41]; exact h1.mono (fun _ _ => trivial))) h2 (fun _ h => h)))
          obtain ⟨n1, rfl, rfl⟩ := p224
          rw [sI_sI]
          have b1 := num_ok n1.2.1
          have hd3 := hd.at b1.2.2
          skip
          refine r_istore4 (pc := 227) dX19_item_227 rfl ?_
          refine r_aload_n (pc := 229) dX19_item_229 rfl ?_
          refine r_aload_n (pc := 230) dX19_item_230 rfl ?_
          refine r_getR (pc := 231) dX19_item_231 fl_X19_15_19 hd3.1.1 (fun _ _ => rfl) hd3.1.2.2.1 ?_
          refine r_iload_n (pc := 234) dX19_item_234 rfl ?_
          refine r_iload (pc := 235) dX19_item_235 rfl ?_
          refine r_o3 (pc := 237) (bc' := 7) (bs' := 45) (ct_X3_mayFlow hd3.2.2.2.2.1 _ _ hd3.2.2.2.2.2.1.t) k_X19_121_3 dX19_item_237 hd3.2.2.2.2.1.k (Nat.le_of_ble_eq_true rfl) ⟨Nat.le_of_ble_eq_true rfl, Nat.le_of_ble_eq_true rfl⟩ ⟨Nat.le_of_ble_eq_true rfl, Nat.le_of_ble_eq_true rfl⟩ (r_ci fun r237 M237 p237 => ?_) nox
          obtain ⟨rfl, p237⟩ := p237
          have p237 := Eq.symm (show _ = _ from p237)
          subst p237
          refine r_iload_n (pc := 240) dX19_item_240 rfl ?_
          refine r_o3 (pc := 241) (bc' := 6) (bs' := 38) (ct_X19_hasRoom (ra := ra) _ ((numC c en (a + lnW 4 + 1)).2 + 1)) k_X19_63_19 dX19_item_241 hd3.1.1 (Nat.le_of_ble_eq_true rfl) ⟨Nat.le_of_ble_eq_true rfl, Nat.le_of_ble_eq_true rfl⟩ ⟨Nat.le_of_ble_eq_true rfl, Nat.le_of_ble_eq_true rfl⟩ (r_cv fun M241 p241 => ?_) (fun q E M8 h8 => t_out rfl (fx1 (chX c0 (by decide) (by rw [ft41]; exact Or.inr ⟨n1.1, fun z => (bI_eq0.mp h8.1) z.2, rfl⟩)) h8.2 (fun _ h => h.elim)))
          obtain ⟨hz, p241⟩ := p241
          have p241 := Eq.symm (show _ = _ from p241)
          subst p241
          have hz := bI_ne0.mp hz
          have c1 := chS c0 (by decide) (by rw [ft41]; exact ⟨n1.1, n1.2.1, hz⟩)
          refine r_aload_n (pc := 244) dX19_item_244 rfl ?_
          refine r_getR (pc := 245) dX19_item_245 fl_X19_15_19 hd3.1.1 (fun _ _ => rfl) hd3.1.2.2.1 ?_
          refine r_iload_n (pc := 248) dX19_item_248 rfl ?_
          refine r_putI (pc := 249) dX19_item_249 fl_X19_125_3 hd3.2.2.2.2.1.k rfl rfl ?_
          refine r_aload_n (pc := 252) dX19_item_252 rfl ?_
          refine r_getR (pc := 253) dX19_item_253 fl_X19_15_19 hd3.1.1 (fun _ _ => rfl) hd3.1.2.2.1 ?_
          refine r_iload (pc := 256) dX19_item_256 rfl ?_
          refine r_putI (pc := 258) dX19_item_258 fl_X19_128_3 hd3.2.2.2.2.1.k rfl rfl ?_
          have fin : itQ M ra ta wn o en c σ a _ := itW (chF c1) ⟨hd.2.2.2.2.2.1, hd.2.2.2.2.2.2⟩ hd3 hd3.2.2.2.2.1.s4.s5 ((frP.rf.sI fun _ => inW_0).sI fun _ => inW_0) (fun _ _ => rfl)
          refine r_return (pc := 261) rfl dX19_item_261 ⟨rfl, ?_⟩
          exact fin
        · rw [bI_ne0] at h163
          refine r_aload_n (pc := 166) dX19_item_166 rfl ?_
          refine r_ldcS (i := 2) (pc := 167) "long" rfl (by decide) rfl dX19_item_167 (fun s167 k167 => ?_)
          refine r_o2 (pc := 169) (bc' := 11) (bs' := 73) (ct_X19_word hd k167 (by decide) (lnW 3) (offW 3) rfl (by decide) (by decide)) k_X19_84_19 dX19_item_169 hd.1.1 (Nat.le_of_ble_eq_true rfl) ⟨Nat.le_of_ble_eq_true rfl, Nat.le_of_ble_eq_true rfl⟩ ⟨Nat.le_of_ble_eq_true rfl, Nat.le_of_ble_eq_true rfl⟩ (r_cv fun M169 p169 => ?_) (fun q E M8 h8 => by obtain ⟨j, j1, j2, j3, j4⟩ := h8; exact t_out rfl (fx0 (it_no (w := 3) (by decide) j1 j2 j3 (hk_x h163.2 (by decide +kernel) j)) j4 (fun _ h => h)))
          obtain ⟨hm, rfl⟩ := p169
          have hd1 := hd.at (b := a + lnW 3) (show a + lnW 3 ≤ en from by have := (hm (3) (by decide)).1; show a + 4 ≤ en; omega)
          refine r_aload_n (pc := 172) dX19_item_172 rfl ?_
          refine r_getR (pc := 173) dX19_item_173 fl_X19_15_19 hd1.1.1 (fun _ _ => rfl) hd1.1.2.2.1 ?_
          refine r_aload_n (pc := 176) dX19_item_176 rfl ?_
          refine r_iconst (pc := 177) (v := 1) dX19_item_177 (by decide) ?_
          refine r_aload_n (pc := 178) dX19_item_178 rfl ?_
          refine r_getR (pc := 179) dX19_item_179 fl_X19_15_19 hd1.1.1 (fun _ _ => rfl) hd1.1.2.2.1 ?_
          refine r_o1 (pc := 182) (bc' := 11) (bs' := 73) (ct_X3_farthest hd1.2.2.2.2.1 hd1.2.2.2.2.2.1.t) k_X19_111_3 dX19_item_182 hd1.2.2.2.2.1.k (Nat.le_of_ble_eq_true rfl) ⟨Nat.le_of_ble_eq_true rfl, Nat.le_of_ble_eq_true rfl⟩ ⟨Nat.le_of_ble_eq_true rfl, Nat.le_of_ble_eq_true rfl⟩ (r_ci fun r182 M182 p182 => ?_) nox
          obtain ⟨hr, p182⟩ := p182
          have p182 := Eq.symm (show _ = _ from p182)
          subst p182
          refine r_mmax (pc := 185) dX19_item_185 q1075 (Nat.le_of_ble_eq_true rfl) (Nat.le_of_ble_eq_true rfl) ?_
          refine r_bipush (pc := 188) (v := 99) dX19_item_188 (by decide) ?_
          refine r_o3 (pc := 190) (bc' := 9) (bs' := 59) (ct_X19_number hd1 _ 99 (fitP σ (nI 3) (nI 0) 0) (ft30 0 rfl hr)) k_X19_72_19 dX19_item_190 hd1.1.1 (Nat.le_of_ble_eq_true rfl) ⟨Nat.le_of_ble_eq_true rfl, Nat.le_of_ble_eq_true rfl⟩ ⟨Nat.le_of_ble_eq_true rfl, Nat.le_of_ble_eq_true rfl⟩ (r_ci fun r190 M190 p190 => ?_) (fun q E M8 h8 => by obtain ⟨pl, h1, h2⟩ := h8; exact t_out rfl (fx1 (ch0x (w := 3) (n := 0) (by decide) hm (nf345 (by decide) (by decide)) rfl h1) h2 (fun _ h => h)))
          obtain ⟨n0, rfl, rfl⟩ := p190
          rw [sI_sI]
          have b0 := num_ok n0.2.1
          have hd2 := hd.at b0.2.2
          have c0 := ch0 (w := 3) (n := 0) (by decide) hm (nf345 (by decide) (by decide)) rfl n0
          refine r_putI (pc := 193) dX19_item_193 fl_X19_67_3 hd2.2.2.2.2.1.k rfl rfl ?_
          have fin : itQ M ra ta wn o en c σ a _ := itW (chF c0) ⟨hd.2.2.2.2.2.1, hd.2.2.2.2.2.2⟩ hd2 hd2.2.2.2.2.1.s3 (frP.rf.sI fun _ => inW_0) (fun _ _ => rfl)
          refine r_goto (pc := 196) 261 dX19_item_196 rfl ?_
          refine r_return (pc := 261) rfl dX19_item_261 ⟨rfl, ?_⟩
          exact fin
      · rw [bI_ne0] at h146
        refine r_aload_n (pc := 149) dX19_item_149 rfl ?_
        refine r_iload_n (pc := 150) dX19_item_150 rfl ?_
        refine r_o2 (pc := 151) (bc' := 2) (bs' := 10) (ct_X19_withW hd h146) k_X19_106_19 dX19_item_151 hd.1.1 (Nat.le_of_ble_eq_true rfl) ⟨Nat.le_of_ble_eq_true rfl, Nat.le_of_ble_eq_true rfl⟩ ⟨Nat.le_of_ble_eq_true rfl, Nat.le_of_ble_eq_true rfl⟩ (r_cv fun M151 p151 => ?_) (fun q E M8 h8 => t_out rfl h8)
        have fin := p151
        refine r_goto (pc := 154) 261 dX19_item_154 rfl ?_
        refine r_return (pc := 261) rfl dX19_item_261 ⟨rfl, ?_⟩
        exact fin
    · rw [bI_ne0] at h92
      refine r_aload_n (pc := 95) dX19_item_95 rfl ?_
      refine r_ldcS (i := 1) (pc := 96) "man" rfl (by decide) rfl dX19_item_96 (fun s96 k96 => ?_)
      refine r_o2 (pc := 98) (bc' := 11) (bs' := 73) (ct_X19_word hd k96 (by decide) (lnW 1) (offW 1) rfl (by decide) (by decide)) k_X19_84_19 dX19_item_98 hd.1.1 (Nat.le_of_ble_eq_true rfl) ⟨Nat.le_of_ble_eq_true rfl, Nat.le_of_ble_eq_true rfl⟩ ⟨Nat.le_of_ble_eq_true rfl, Nat.le_of_ble_eq_true rfl⟩ (r_cv fun M98 p98 => ?_) (fun q E M8 h8 => by obtain ⟨j, j1, j2, j3, j4⟩ := h8; exact t_out rfl (fx0 (it_no (w := 1) (by decide) j1 j2 j3 (hk_x h92.2 (by decide +kernel) j)) j4 (fun _ h => h)))
      obtain ⟨hm, rfl⟩ := p98
      have hd1 := hd.at (b := a + lnW 1) (show a + lnW 1 ≤ en from by have := (hm (2) (by decide)).1; show a + 3 ≤ en; omega)
      refine r_aload_n (pc := 101) dX19_item_101 rfl ?_
      refine r_aload_n (pc := 102) dX19_item_102 rfl ?_
      refine r_getR (pc := 103) dX19_item_103 fl_X19_15_19 hd1.1.1 (fun _ _ => rfl) hd1.1.2.2.1 ?_
      refine r_getIe (pc := 106) (v := σ 1 0) dX19_item_106 fl_X19_100_3 hd1.2.2.2.2.1.k (fun _ _ => rfl) hd1.2.2.2.2.1.i5 ?_
      refine r_bipush (pc := 109) (v := 8) dX19_item_109 (by decide) ?_
      refine r_icmp_ge (pc := 111) 118 dX19_item_111 rfl (fun h111 => ?_) (fun h111 => ?_)
      · refine r_iconst (pc := 118) (v := 0) dX19_item_118 (by decide) ?_
        refine r_iload_n (pc := 119) dX19_item_119 rfl ?_
        refine r_o3 (pc := 120) (bc' := 0) (bs' := 0) (ct_X19_hasRoom (ra := ra) 0 a) k_X19_63_19 dX19_item_120 hd1.1.1 (Nat.le_of_ble_eq_true rfl) ⟨Nat.le_of_ble_eq_true rfl, Nat.le_of_ble_eq_true rfl⟩ ⟨Nat.le_of_ble_eq_true rfl, Nat.le_of_ble_eq_true rfl⟩ (r_cv fun M9 p9 => absurd rfl p9.1) (fun q E M8 h8 => t_out rfl (fx1 (it_full (w := 1) (by decide) hm (Or.inr (Or.inl ⟨rfl, nlt8 hd.2.2.2.2.2.1.1.2.1 h111⟩))) h8.2 (fun _ h => h.elim)))
      · refine r_iconst (pc := 114) (v := 1) dX19_item_114 (by decide) ?_
        refine r_goto (pc := 115) 119 dX19_item_115 rfl ?_
        refine r_iload_n (pc := 119) dX19_item_119 rfl ?_
        refine r_o3 (pc := 120) (bc' := 10) (bs' := 66) (ct_X19_hasRoom (ra := ra) 1 a) k_X19_63_19 dX19_item_120 hd1.1.1 (Nat.le_of_ble_eq_true rfl) ⟨Nat.le_of_ble_eq_true rfl, Nat.le_of_ble_eq_true rfl⟩ ⟨Nat.le_of_ble_eq_true rfl, Nat.le_of_ble_eq_true rfl⟩ (r_cv fun M120 p120 => ?_) (fun q E M8 h8 => absurd h8.1 (by decide))
        obtain ⟨-, p120⟩ := p120
        have p120 := Eq.symm (show _ = _ from p120)
        subst p120
        have hnf := nf1 h111
        refine r_aload_n (pc := 123) dX19_item_123 rfl ?_
        refine r_getR (pc := 124) dX19_item_124 fl_X19_15_19 hd1.1.1 (fun _ _ => rfl) hd1.1.2.2.1 ?_
        refine r_aload_n (pc := 127) dX19_item_127 rfl ?_
        refine r_iconst (pc := 128) (v := 1) dX19_item_128 (by decide) ?_
        refine r_bipush (pc := 129) (v := 99) dX19_item_129 (by decide) ?_
        refine r_o3 (pc := 131) (bc' := 8) (bs' := 52) (ct_X19_number hd1 1 99 (fitP σ (nI 1) (nI 0) 0) (ft10 0)) k_X19_72_19 dX19_item_131 hd1.1.1 (Nat.le_of_ble_eq_true rfl) ⟨Nat.le_of_ble_eq_true rfl, Nat.le_of_ble_eq_true rfl⟩ ⟨Nat.le_of_ble_eq_true rfl, Nat.le_of_ble_eq_true rfl⟩ (r_ci fun r131 M131 p131 => ?_) (fun q E M8 h8 => by obtain ⟨pl, h1, h2⟩ := h8; exact t_out rfl (fx1 (ch0x (w := 1) (n := 0) (by decide) hm hnf rfl h1) h2 (fun _ h => h)))
        obtain ⟨n0, rfl, rfl⟩ := p131
        rw [sI_sI]
        have b0 := num_ok n0.2.1
        have hd2 := hd.at b0.2.2
        have c0 := ch0 (w := 1) (n := 0) (by decide) hm hnf rfl n0
        refine r_o2 (pc := 134) (bc' := 8) (bs' := 52) (ct_X3_addMan hd2.2.2.2.2.1 _ hd2.2.2.2.2.2.1.t (lt8 h111)) k_X19_103_3 dX19_item_134 hd2.2.2.2.2.1.k (Nat.le_of_ble_eq_true rfl) ⟨Nat.le_of_ble_eq_true rfl, Nat.le_of_ble_eq_true rfl⟩ ⟨Nat.le_of_ble_eq_true rfl, Nat.le_of_ble_eq_true rfl⟩ (r_cv fun M134 p134 => ?_) nox
        obtain ⟨hw6, f6, g6⟩ := p134
        have fin : itQ M ra ta wn o en c σ a M134 := itW (chF c0) ⟨hd.2.2.2.2.2.1, hd.2.2.2.2.2.2⟩ hd2 hw6 f6 (fun i _ => by rw [g6]; rfl)
        refine r_goto (pc := 137) 261 dX19_item_137 rfl ?_
        refine r_return (pc := 261) rfl dX19_item_261 ⟨rfl, ?_⟩
        exact fin
  · rw [bI_ne0] at h11
    refine r_aload_n (pc := 14) dX19_item_14 rfl ?_
    refine r_ldcS (i := 0) (pc := 15) "thing" rfl (by decide) rfl dX19_item_15 (fun s15 k15 => ?_)
    refine r_o2 (pc := 17) (bc' := 11) (bs' := 73) (ct_X19_word hd k15 (by decide) (lnW 0) (offW 0) rfl (by decide) (by decide)) k_X19_84_19 dX19_item_17 hd.1.1 (Nat.le_of_ble_eq_true rfl) ⟨Nat.le_of_ble_eq_true rfl, Nat.le_of_ble_eq_true rfl⟩ ⟨Nat.le_of_ble_eq_true rfl, Nat.le_of_ble_eq_true rfl⟩ (r_cv fun M17 p17 => ?_) (fun q E M8 h8 => by obtain ⟨j, j1, j2, j3, j4⟩ := h8; exact t_out rfl (fx0 (it_no (w := 0) (by decide) j1 j2 j3 (hk_x h11.2 (by decide +kernel) j)) j4 (fun _ h => h)))
    obtain ⟨hm, rfl⟩ := p17
    have hd1 := hd.at (b := a + lnW 0) (show a + lnW 0 ≤ en from by have := (hm (4) (by decide)).1; show a + 5 ≤ en; omega)
    refine r_aload_n (pc := 20) dX19_item_20 rfl ?_
    refine r_aload_n (pc := 21) dX19_item_21 rfl ?_
    refine r_getR (pc := 22) dX19_item_22 fl_X19_15_19 hd1.1.1 (fun _ _ => rfl) hd1.1.2.2.1 ?_
    refine r_getIe (pc := 25) (v := σ 0 0) dX19_item_25 fl_X19_88_3 hd1.2.2.2.2.1.k (fun _ _ => rfl) hd1.2.2.2.2.1.i4 ?_
    refine r_bipush (pc := 28) (v := 8) dX19_item_28 (by decide) ?_
    refine r_icmp_ge (pc := 30) 37 dX19_item_30 rfl (fun h30 => ?_) (fun h30 => ?_)
    · refine r_iconst (pc := 37) (v := 0) dX19_item_37 (by decide) ?_
      refine r_iload_n (pc := 38) dX19_item_38 rfl ?_
      refine r_o3 (pc := 39) (bc' := 0) (bs' := 0) (ct_X19_hasRoom (ra := ra) 0 a) k_X19_63_19 dX19_item_39 hd1.1.1 (Nat.le_of_ble_eq_true rfl) ⟨Nat.le_of_ble_eq_true rfl, Nat.le_of_ble_eq_true rfl⟩ ⟨Nat.le_of_ble_eq_true rfl, Nat.le_of_ble_eq_true rfl⟩ (r_cv fun M9 p9 => absurd rfl p9.1) (fun q E M8 h8 => t_out rfl (fx1 (it_full (w := 0) (by decide) hm (Or.inl ⟨rfl, nlt8 hd.2.2.2.2.2.1.1.1 h30⟩)) h8.2 (fun _ h => h.elim)))
    · refine r_iconst (pc := 33) (v := 1) dX19_item_33 (by decide) ?_
      refine r_goto (pc := 34) 38 dX19_item_34 rfl ?_
      refine r_iload_n (pc := 38) dX19_item_38 rfl ?_
      refine r_o3 (pc := 39) (bc' := 10) (bs' := 66) (ct_X19_hasRoom (ra := ra) 1 a) k_X19_63_19 dX19_item_39 hd1.1.1 (Nat.le_of_ble_eq_true rfl) ⟨Nat.le_of_ble_eq_true rfl, Nat.le_of_ble_eq_true rfl⟩ ⟨Nat.le_of_ble_eq_true rfl, Nat.le_of_ble_eq_true rfl⟩ (r_cv fun M39 p39 => ?_) (fun q E M8 h8 => absurd h8.1 (by decide))
      obtain ⟨-, p39⟩ := p39
      have p39 := Eq.symm (show _ = _ from p39)
      subst p39
      have hnf := nf0 h30
      refine r_aload_n (pc := 42) dX19_item_42 rfl ?_
      refine r_iconst (pc := 43) (v := 0) dX19_item_43 (by decide) ?_
      refine r_bipush (pc := 44) (v := 6) dX19_item_44 (by decide) ?_
      refine r_o3 (pc := 46) (bc' := 8) (bs' := 52) (ct_X19_number hd1 0 6 (fitP σ (nI 0) (nI 0) 0) (ft00 0)) k_X19_72_19 dX19_item_46 hd1.1.1 (Nat.le_of_ble_eq_true rfl) ⟨Nat.le_of_ble_eq_true rfl, Nat.le_of_ble_eq_true rfl⟩ ⟨Nat.le_of_ble_eq_true rfl, Nat.le_of_ble_eq_true rfl⟩ (r_ci fun r46 M46 p46 => ?_) (fun q E M8 h8 => by obtain ⟨pl, h1, h2⟩ := h8; exact t_out rfl (fx1 (ch0x (w := 0) (n := 3) (by decide) hm hnf rfl h1) h2 (fun _ h => h)))
      obtain ⟨n0, rfl, rfl⟩ := p46
      rw [sI_sI]
      have b0 := num_ok n0.2.1
      have hd2 := hd.at b0.2.2
      have c0 := ch0 (w := 0) (n := 3) (by decide) hm hnf rfl n0
      refine r_istore2 (pc := 49) dX19_item_49 rfl ?_
      refine r_aload_n (pc := 50) dX19_item_50 rfl ?_
      refine r_iconst (pc := 51) (v := 1) dX19_item_51 (by decide) ?_
      refine r_bipush (pc := 52) (v := 99) dX19_item_52 (by decide) ?_
      refine r_o3 (pc := 54) (bc' := 6) (bs' := 38) (ct_X19_number hd2 1 99 (fitP σ (nI 0) (nI 1) ((va_up (fun _ => 0) 0 (numC c en (a + lnW 0 + 1)).1) 0)) (ft01 _)) k_X19_72_19 dX19_item_54 hd2.1.1 (Nat.le_of_ble_eq_true rfl) ⟨Nat.le_of_ble_eq_true rfl, Nat.le_of_ble_eq_true rfl⟩ ⟨Nat.le_of_ble_eq_true rfl, Nat.le_of_ble_eq_true rfl⟩ (r_ci fun r54 M54 p54 => ?_) (fun q E M8 h8 => by obtain ⟨pl, h1, h2⟩ := h8; exact t_out rfl (fx1 (chX c0 (by decide) h1) h2 (fun _ h => h)))
      obtain ⟨n1, rfl, rfl⟩ := p54
      rw [sI_sI]
      have b1 := num_ok n1.2.1
      have hd3 := hd.at b1.2.2
      have c1 := chS c0 (by decide) n1
      refine r_istore3 (pc := 57) dX19_item_57 rfl ?_
      refine r_aload_n (pc := 58) dX19_item_58 rfl ?_
      refine r_iconst (pc := 59) (v := 1) dX19_item_59 (by decide) ?_
      refine r_bipush (pc := 60) (v := 9) dX19_item_60 (by decide) ?_
      refine r_o3 (pc := 62) (bc' := 4) (bs' := 24) (ct_X19_number hd3 1 9 (fitP σ (nI 0) (nI 2) ((va_up (va_up (fun _ => 0) 0 (numC c en (a + lnW 0 + 1)).1) 1 (numC c en ((numC c en (a + lnW 0 + 1)).2 + 1)).1) 0)) (ft02 _)) k_X19_72_19 dX19_item_62 hd3.1.1 (Nat.le_of_ble_eq_true rfl) ⟨Nat.le_of_ble_eq_true rfl, Nat.le_of_ble_eq_true rfl⟩ ⟨Nat.le_of_ble_eq_true rfl, Nat.le_of_ble_eq_true rfl⟩ (r_ci fun r62 M62 p62 => ?_) (fun q E M8 h8 => by obtain ⟨pl, h1, h2⟩ := h8; exact t_out rfl (fx1 (chX c1 (by decide) h1) h2 (fun _ h => h)))
      obtain ⟨n2, rfl, rfl⟩ := p62
      rw [sI_sI]
      have b2 := num_ok n2.2.1
      have hd4 := hd.at b2.2.2
      have c2 := chS c1 (by decide) n2
      refine r_istore4 (pc := 65) dX19_item_65 rfl ?_
      refine r_aload_n (pc := 67) dX19_item_67 rfl ?_
      refine r_getR (pc := 68) dX19_item_68 fl_X19_15_19 hd4.1.1 (fun _ _ => rfl) hd4.1.2.2.1 ?_
      refine r_iload_n (pc := 71) dX19_item_71 rfl ?_
      refine r_iload_n (pc := 72) dX19_item_72 rfl ?_
      refine r_iload (pc := 73) dX19_item_73 rfl ?_
      refine r_aload_n (pc := 75) dX19_item_75 rfl ?_
      refine r_o1 (pc := 76) (bc' := 1) (bs' := 3) (ct_X19_step hd4) k_X19_91_19 dX19_item_76 hd4.1.1 (Nat.le_of_ble_eq_true rfl) ⟨Nat.le_of_ble_eq_true rfl, Nat.le_of_ble_eq_true rfl⟩ ⟨Nat.le_of_ble_eq_true rfl, Nat.le_of_ble_eq_true rfl⟩ (r_ci fun r76 M76 p76 => ?_) (fun q E M8 h8 => by obtain ⟨pl, h1, h2⟩ := h8; exact t_out rfl (fx1 (chX c2 (by decide) (by rw [ft03]; exact h1)) h2 (fun _ h => h)))
      obtain ⟨n3, rfl, rfl⟩ := p76
      rw [sI_sI]
      have b3 := num_ok n3.2.1
      have hd5 := hd.at b3.2.2
      have c3 := chS c2 (by decide) (by rw [ft03]; exact n3)
      refine r_iconst (pc := 79) (v := (-1)) dX19_item_79 (by decide) ?_
      refine r_o6 (pc := 80) (bc' := 0) (bs' := 0) (ct_X3_addThing hd5.2.2.2.2.1 _ _ _ _ (-1) hd5.2.2.2.2.2.1.t (lt8 h30) ⟨b0.1.1, by have := (ft00 0 _ b0.1).mpr n0.2.2; have := this.2; rw [i_lt, c_6] at this; omega⟩) k_X19_94_3 dX19_item_80 hd5.2.2.2.2.1.k (Nat.le_of_ble_eq_true rfl) ⟨Nat.le_of_ble_eq_true rfl, Nat.le_of_ble_eq_true rfl⟩ ⟨Nat.le_of_ble_eq_true rfl, Nat.le_of_ble_eq_true rfl⟩ (r_cv fun M80 p80 => ?_) nox
      obtain ⟨hw6, f6, g6⟩ := p80
      have fin : itQ M ra ta wn o en c σ a M80 := itW (chF c3) ⟨hd.2.2.2.2.2.1, hd.2.2.2.2.2.2⟩ hd5 hw6 f6 (fun i hi => (g6 i (by omega)).trans rfl)
      refine r_goto (pc := 83) 261 dX19_item_83 rfl ?_
      refine r_return (pc := 261) rfl dX19_item_261 ⟨rfl, ?_⟩
      exact fin
