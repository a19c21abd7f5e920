/-! THE READER: word, number, step (printed by gen/mk_x86.py) -/
set_option maxRecDepth 100000
theorem r_les {G : GT} {bc bs bc' bs' : Nat} {M : PM} {pc : Nat} {ls : List (Option Value)} {st : List Value} (h1 : bc' ≤ bc) (h2 : bs' ≤ bs) (k : Wx G bc' bs' M pc ls st) : Wx G bc bs M pc ls st := fun Ω l p e s m args below meth c F H locs cells slots lsr hR hS hl g1 g2 => k Ω l p e s m args below meth c F H locs cells slots lsr hR hS hl (by omega) (by omega)
theorem ct_X19_word {M : PM} {ra ta wn en a : Nat} {o : Int32} {c : Nat → Int32} {σ : cS} (hd : RD M ra ta wn o en c σ a) {sa i : Nat} (hK : mK M sa = (3, i)) (hi : i < 6) (L p0 : Nat) (hL : lenX.getD i 0 = L) (hL5 : L ≤ 5) (hT : ∀ t, t < L → (bytX.getD i []).getD t 0 = wrdC (p0 + t)) : Ct (YX19_word, (7, 170, 5, 35), qv (fun M' => mtP c en a p0 L ∧ M' = sI M ra 2 (nI (a + L))), fun q E M' => ∃ j, j < L ∧ mtP c en a p0 j ∧ ¬ (a + j < en ∧ c (a + j) = wrdC (p0 + j)) ∧ faO (fun q => q = ra) M (a + j) q E M') [.ref ra, .ref sa] M := by
  refine ct_of [some (.ref ra), some (.ref sa), none] rfl rfl rfl (Nat.le_of_ble_eq_true rfl) rfl rfl ?_
  have h160 := hd.2.2.1.2.2
  have L9 : ∀ n j : Nat, j + n = L → mtP c en a p0 j → Wx (YX19_word, (7, 170, 5, 35), qv (fun M' => mtP c en a p0 L ∧ M' = sI M ra 2 (nI (a + L))), fun q E M' => ∃ j, j < L ∧ mtP c en a p0 j ∧ ¬ (a + j < en ∧ c (a + j) = wrdC (p0 + j)) ∧ faO (fun q => q = ra) M (a + j) q E M') n (7 * n) (sI M ra 2 (nI (a + j))) 2 [some (.ref ra), some (.ref sa), some (.int (nI j))] [] := by
    intro n
    induction n with
    | zero =>
      intro j hj hm
      have e9 : j = L := by omega
      subst e9
      refine r_iload_n (pc := 2) dX19_word_2 rfl ?_
      refine r_aload_n (pc := 3) dX19_word_3 rfl ?_
      refine r_callK (As := []) (pc := 4) (bc' := 0) (bs' := 7 * 0) (ct_J5_length (M := sI M ra 2 (nI (a + j))) hK hi) kS_X19_46 dX19_word_4 rfl rfl hK (Nat.le_of_ble_eq_true rfl) ⟨Nat.le_of_ble_eq_true rfl, Nat.le_of_ble_eq_true rfl⟩ ⟨Nat.le_refl _, Nat.le_refl _⟩ (r_ci fun r4 M4 p4 => ?_) nox
      obtain ⟨rfl, rfl⟩ := p4
      rw [hL]
      refine r_icmp_ge (pc := 7) 25 dX19_word_7 rfl (fun _ => ?_) (fun hno => False.elim (absurd hno (show ¬ nI j < nI j by rw [lt_nI (by omega) (by omega)]; omega)))
      refine r_return (pc := 25) rfl dX19_word_25 ⟨rfl, ?_⟩
      exact ⟨hm, rfl⟩
    | succ n ih =>
      intro j hj hm
      have hjl : nI j < nI L := by rw [lt_nI (by omega) (by omega)]; omega
      have hj5 : a + j ≤ en := by
        cases j with
        | zero => exact hd.2.2.2.2.2.2
        | succ j => have := (hm j (by omega)).1; omega
      have hd1 := hd.at hj5
      have hin : vp_in (nI j) (lenX.getD i 0) := by rw [hL]; exact vp_n (by rw [nI_toInt (by omega)]; omega)
      have hby : (bytX.getD i []).getD (Int32.toNatClampNeg (nI j)) 0 = wrdC (p0 + j) := by rw [cl160 (by omega)]; exact hT j (by omega)
      refine r_iload_n (pc := 2) dX19_word_2 rfl ?_
      refine r_aload_n (pc := 3) dX19_word_3 rfl ?_
      refine r_callK (As := []) (pc := 4) (bc' := n + 1) (bs' := 7 * (n + 1)) (ct_J5_length (M := sI M ra 2 (nI (a + j))) hK hi) kS_X19_46 dX19_word_4 rfl rfl hK (Nat.le_of_ble_eq_true rfl) ⟨Nat.le_of_ble_eq_true rfl, Nat.le_of_ble_eq_true rfl⟩ ⟨Nat.le_refl _, Nat.le_refl _⟩ (r_ci fun r4 M4 p4 => ?_) nox
      obtain ⟨rfl, rfl⟩ := p4
      rw [hL]
      refine r_icmp_ge (pc := 7) 25 dX19_word_7 rfl (fun hno => False.elim (hno hjl)) (fun _ => ?_)
      refine r_aload_n (pc := 10) dX19_word_10 rfl ?_
      refine r_aload_n (pc := 11) dX19_word_11 rfl ?_
      refine r_iload_n (pc := 12) dX19_word_12 rfl ?_
      refine r_callK (As := [.int (nI j)]) (pc := 13) (bc' := n + 1) (bs' := 7 * (n + 1)) (ct_J5_charAt (M := sI M ra 2 (nI (a + j))) hK hi (nI j) hin) kS_X19_49 dX19_word_13 rfl rfl hK (Nat.le_of_ble_eq_true rfl) ⟨Nat.le_of_ble_eq_true rfl, Nat.le_of_ble_eq_true rfl⟩ ⟨Nat.le_refl _, Nat.le_refl _⟩ (r_ci fun r13 M13 p13 => ?_) nox
      obtain ⟨rfl, rfl⟩ := p13
      rw [hby]
      refine r_o2 (pc := 16) (bc' := n) (bs' := 7 * n) (ct_X19_must hd1 (wrdC (p0 + j))) k_X19_53_19 dX19_word_16 hd1.1.1 (Nat.le_of_ble_eq_true rfl) ⟨Nat.le_of_ble_eq_true rfl, Nat.le_of_ble_eq_true rfl⟩ ⟨Nat.le_refl _, by show 7 * n + 7 ≤ 7 * (n + 1); omega⟩ (r_cv fun M16 p16 => ?_) (fun q E M8 h8 => t_out rfl ⟨j, by omega, hm, h8.1, h8.2.mono (frP.rf.sI fun _ => rfl) (fun _ _ h => h.elim)⟩)
      obtain ⟨hs, rfl⟩ := p16
      rw [sI_sI, show a + j + 1 = a + (j + 1) by omega]
      refine r_iinc2 (pc := 19) dX19_word_19 (nI_1 _) rfl ?_
      refine r_goto (pc := 22) 2 dX19_word_22 rfl ?_
      exact ih (j + 1) (by omega) (fun t ht => by by_cases e : t = j
                                                  · rw [e]; exact hs
                                                  · exact hm t (by omega))
  refine r_iconst (pc := 0) (v := 0) dX19_word_0 (by decide) ?_
  refine r_istore2 (pc := 1) dX19_word_1 rfl ?_
  have h0 := L9 L 0 (by omega) (fun t ht => absurd ht (Nat.not_lt_zero _))
  rw [Nat.add_zero, hd.id] at h0
  exact r_les hL5 (by show 7 * L ≤ 35; omega) h0
theorem ct_X19_number {M : PM} {ra ta wn en a : Nat} {o : Int32} {c : Nat → Int32} {σ : cS} (hd : RD M ra ta wn o en c σ a) (x1 x2 : Int32) (P : Int32 → Prop) (hP : ∀ v, bd v 0 99 → ((¬ v < x1 ∧ ¬ x2 < v) ↔ P v)) : Ct (YX19_number, (5, 122, 2, 14), qi (fun r M' => nbP c en a P ∧ r = (numC c en (a + 1)).1 ∧ M' = sI M ra 2 (nI (numC c en (a + 1)).2)), fun q E M' => ∃ pl, nbX c en a P pl ∧ faO (fun q => q = ra) M pl q E M') [.ref ra, .int x1, .int x2] M := by
  refine ct_of [some (.ref ra), some (.int x1), some (.int x2), none, none] rfl rfl rfl (Nat.le_of_ble_eq_true rfl) rfl rfl ?_
  have h160 := hd.2.2.1.2.2
  have hae := hd.2.2.2.2.2.2
  refine r_aload_n (pc := 0) dX19_number_0 rfl ?_
  refine r_bipush (pc := 1) (v := 32) dX19_number_1 (by decide) ?_
  refine r_o2 (pc := 3) (bc' := 1) (bs' := 7) (ct_X19_must hd 32) k_X19_53_19 dX19_number_3 hd.1.1 (Nat.le_of_ble_eq_true rfl) ⟨Nat.le_of_ble_eq_true rfl, Nat.le_of_ble_eq_true rfl⟩ ⟨Nat.le_of_ble_eq_true rfl, Nat.le_of_ble_eq_true rfl⟩ (r_cv fun M3 p3 => ?_) (fun q E M8 h8 => t_out rfl ⟨a, Or.inl ⟨h8.1, rfl⟩, h8.2.mono frP.rf (fun _ _ h => h.elim)⟩)
  obtain ⟨hs, rfl⟩ := p3
  have hs9 := hs.1
  have hd1 := hd.at (b := a + 1) hs9
  refine r_aload_n (pc := 6) dX19_number_6 rfl ?_
  refine r_getIe (pc := 7) (v := nI (a + 1)) dX19_number_7 fl_X19_19_19 hd1.1.1 (fun _ _ => rfl) hd1.1.2.2.2 ?_
  refine r_istore3 (pc := 10) dX19_number_10 rfl ?_
  refine r_aload_n (pc := 11) dX19_number_11 rfl ?_
  refine r_o1 (pc := 12) (bc' := 1) (bs' := 7) (ct_X19_digit hd1) k_X19_56_19 dX19_number_12 hd1.1.1 (Nat.le_of_ble_eq_true rfl) ⟨Nat.le_of_ble_eq_true rfl, Nat.le_of_ble_eq_true rfl⟩ ⟨Nat.le_of_ble_eq_true rfl, Nat.le_of_ble_eq_true rfl⟩ (r_ci fun r12 M12 p12 => ?_) nox
  obtain ⟨rfl, p12⟩ := p12
  have p12 := Eq.symm (show _ = _ from p12)
  subst p12
  refine r_if_ne (pc := 15) 30 dX19_number_15 rfl (fun h15 => ?_) (fun h15 => ?_)
  · rw [bI_ne0] at h15
    refine r_aload_n (pc := 30) dX19_number_30 rfl ?_
    refine r_getR (pc := 31) dX19_number_31 fl_X19_9_19 hd1.1.1 (fun _ _ => rfl) hd1.1.2.1 ?_
    refine r_aload_n (pc := 34) dX19_number_34 rfl ?_
    refine r_dup (pc := 35) dX19_number_35 rfl ?_
    refine r_getIe (pc := 36) (v := nI (a + 1)) dX19_number_36 fl_X19_19_19 hd1.1.1 (fun _ _ => rfl) hd1.1.2.2.2 ?_
    refine r_dup_x1 (pc := 39) dX19_number_39 rfl rfl ?_
    refine r_iconst (pc := 40) (v := 1) dX19_number_40 (by decide) ?_
    refine r_iadd (pc := 41) dX19_number_41 ?_
    refine r_putI (pc := 42) dX19_number_42 fl_X19_19_19 hd1.1.1 rfl rfl ?_
    rw [nI_1, sI_sI]
    have hd2 := hd.at (b := a + 1 + 1) h15.1
    refine r_X19_asInt (pc := 45) (nI (a + 1)) hd2.2.2.1.1 hd2.2.2.1.2.1 (hd2.vp h15.1) dX19_number_45 rfl (Nat.le_of_ble_eq_true rfl) (Nat.le_of_ble_eq_true rfl) (Nat.le_of_ble_eq_true rfl) ?_
    rw [hd2.el h15.1]
    refine r_bipush (pc := 48) (v := 48) dX19_number_48 (by decide) ?_
    refine r_isub (pc := 50) dX19_number_50 ?_
    refine r_istore4 (pc := 51) dX19_number_51 rfl ?_
    refine r_aload_n (pc := 53) dX19_number_53 rfl ?_
    refine r_o1 (pc := 54) (bc' := 1) (bs' := 7) (ct_X19_digit hd2) k_X19_56_19 dX19_number_54 hd2.1.1 (Nat.le_of_ble_eq_true rfl) ⟨Nat.le_of_ble_eq_true rfl, Nat.le_of_ble_eq_true rfl⟩ ⟨Nat.le_of_ble_eq_true rfl, Nat.le_of_ble_eq_true rfl⟩ (r_ci fun r54 M54 p54 => ?_) nox
    obtain ⟨rfl, p54⟩ := p54
    have p54 := Eq.symm (show _ = _ from p54)
    subst p54
    refine r_if_eq (pc := 57) 89 dX19_number_57 rfl (fun h57 => ?_) (fun h57 => ?_)
    · rw [bI_eq0] at h57
      have hN : numC c en (a + 1) = (c (a + 1) - 48, a + 1 + 1) := cI_f h57
      have hbd := (num_ok h15).1
      have hP9 := hP (numC c en (a + 1)).1 hbd
      rw [hN] at hP9
      refine r_aload_n (pc := 89) dX19_number_89 rfl ?_
      refine r_iload (pc := 90) dX19_number_90 rfl ?_
      refine r_i2l (pc := 92) dX19_number_92 ?_
      refine r_iload_n (pc := 93) dX19_number_93 rfl ?_
      refine r_i2l (pc := 94) dX19_number_94 ?_
      refine r_iload_n (pc := 95) dX19_number_95 rfl ?_
      refine r_i2l (pc := 96) dX19_number_96 ?_
      refine r_s3 (pc := 97) (bc' := 1) (bs' := 7) (ct_X0_in _ x1 x2 rfl rfl rfl) k_X19_59 dX19_number_97 (Nat.le_of_ble_eq_true rfl) ⟨Nat.le_of_ble_eq_true rfl, Nat.le_of_ble_eq_true rfl⟩ ⟨Nat.le_of_ble_eq_true rfl, Nat.le_of_ble_eq_true rfl⟩ (r_ci fun r97 M97 p97 => ?_) nox
      obtain ⟨rfl, p97⟩ := p97
      have p97 := Eq.symm (show _ = _ from p97)
      subst p97
      refine r_iload_n (pc := 100) dX19_number_100 rfl ?_
      refine r_o3 (pc := 101) (bc' := 0) (bs' := 0) (ct_X19_hasRoom (ra := ra) _ (a + 1)) k_X19_63_19 dX19_number_101 hd2.1.1 (Nat.le_of_ble_eq_true rfl) ⟨Nat.le_of_ble_eq_true rfl, Nat.le_of_ble_eq_true rfl⟩ ⟨Nat.le_of_ble_eq_true rfl, Nat.le_of_ble_eq_true rfl⟩ (r_cv fun M101 p101 => ?_) (fun q E M8 h8 => t_out rfl ⟨a + 1, Or.inr ⟨hs, fun z => (bI_eq0.mp h8.1) (hP9.mpr (by have := z.2; rw [hN] at this; exact this)), rfl⟩, h8.2.mono (frP.rf.sI fun _ => rfl) (fun _ _ h => h.elim)⟩)
      obtain ⟨hz, p101⟩ := p101
      have p101 := Eq.symm (show _ = _ from p101)
      subst p101
      have hz := bI_ne0.mp hz
      refine r_iload (pc := 104) dX19_number_104 rfl ?_
      refine r_ireturn (pc := 106) rfl dX19_number_106 ⟨_, rfl, ?_⟩
      refine ⟨⟨hs, h15, ?_⟩, ?_, ?_⟩ <;> rw [hN]
      exact hP9.mp hz
    · rw [bI_ne0] at h57
      have hN : numC c en (a + 1) = (10 * (c (a + 1) - 48) + c (a + 1 + 1) - 48, a + 1 + 1 + 1) := cI_t h57
      refine r_bipush (pc := 60) (v := 10) dX19_number_60 (by decide) ?_
      refine r_iload (pc := 62) dX19_number_62 rfl ?_
      refine r_imul (pc := 64) dX19_number_64 ?_
      refine r_aload_n (pc := 65) dX19_number_65 rfl ?_
      refine r_getR (pc := 66) dX19_number_66 fl_X19_9_19 hd2.1.1 (fun _ _ => rfl) hd2.1.2.1 ?_
      refine r_aload_n (pc := 69) dX19_number_69 rfl ?_
      refine r_dup (pc := 70) dX19_number_70 rfl ?_
      refine r_getIe (pc := 71) (v := nI (a + 1 + 1)) dX19_number_71 fl_X19_19_19 hd2.1.1 (fun _ _ => rfl) hd2.1.2.2.2 ?_
      refine r_dup_x1 (pc := 74) dX19_number_74 rfl rfl ?_
      refine r_iconst (pc := 75) (v := 1) dX19_number_75 (by decide) ?_
      refine r_iadd (pc := 76) dX19_number_76 ?_
      refine r_putI (pc := 77) dX19_number_77 fl_X19_19_19 hd2.1.1 rfl rfl ?_
      rw [nI_1, sI_sI]
      have hd3 := hd.at (b := a + 1 + 1 + 1) h57.1
      refine r_X19_asInt (pc := 80) (nI (a + 1 + 1)) hd3.2.2.1.1 hd3.2.2.1.2.1 (hd3.vp h57.1) dX19_number_80 rfl (Nat.le_of_ble_eq_true rfl) (Nat.le_of_ble_eq_true rfl) (Nat.le_of_ble_eq_true rfl) ?_
      rw [hd3.el h57.1]
      refine r_iadd (pc := 83) dX19_number_83 ?_
      refine r_bipush (pc := 84) (v := 48) dX19_number_84 (by decide) ?_
      refine r_isub (pc := 86) dX19_number_86 ?_
      refine r_istore4 (pc := 87) dX19_number_87 rfl ?_
      have hbd := (num_ok h15).1
      have hP9 := hP (numC c en (a + 1)).1 hbd
      rw [hN] at hP9
      refine r_aload_n (pc := 89) dX19_number_89 rfl ?_
      refine r_iload (pc := 90) dX19_number_90 rfl ?_
      refine r_i2l (pc := 92) dX19_number_92 ?_
      refine r_iload_n (pc := 93) dX19_number_93 rfl ?_
      refine r_i2l (pc := 94) dX19_number_94 ?_
      refine r_iload_n (pc := 95) dX19_number_95 rfl ?_
      refine r_i2l (pc := 96) dX19_number_96 ?_
      refine r_s3 (pc := 97) (bc' := 1) (bs' := 7) (ct_X0_in _ x1 x2 rfl rfl rfl) k_X19_59 dX19_number_97 (Nat.le_of_ble_eq_true rfl) ⟨Nat.le_of_ble_eq_true rfl, Nat.le_of_ble_eq_true rfl⟩ ⟨Nat.le_of_ble_eq_true rfl, Nat.le_of_ble_eq_true rfl⟩ (r_ci fun r97 M97 p97 => ?_) nox
      obtain ⟨rfl, p97⟩ := p97
      have p97 := Eq.symm (show _ = _ from p97)
      subst p97
      refine r_iload_n (pc := 100) dX19_number_100 rfl ?_
      refine r_o3 (pc := 101) (bc' := 0) (bs' := 0) (ct_X19_hasRoom (ra := ra) _ (a + 1)) k_X19_63_19 dX19_number_101 hd3.1.1 (Nat.le_of_ble_eq_true rfl) ⟨Nat.le_of_ble_eq_true rfl, Nat.le_of_ble_eq_true rfl⟩ ⟨Nat.le_of_ble_eq_true rfl, Nat.le_of_ble_eq_true rfl⟩ (r_cv fun M101 p101 => ?_) (fun q E M8 h8 => t_out rfl ⟨a + 1, Or.inr ⟨hs, fun z => (bI_eq0.mp h8.1) (hP9.mpr (by have := z.2; rw [hN] at this; exact this)), rfl⟩, h8.2.mono (frP.rf.sI fun _ => rfl) (fun _ _ h => h.elim)⟩)
      obtain ⟨hz, p101⟩ := p101
      have p101 := Eq.symm (show _ = _ from p101)
      subst p101
      have hz := bI_ne0.mp hz
      refine r_iload (pc := 104) dX19_number_104 rfl ?_
      refine r_ireturn (pc := 106) rfl dX19_number_106 ⟨_, rfl, ?_⟩
      refine ⟨⟨hs, h15, ?_⟩, ?_, ?_⟩ <;> rw [hN]
      exact hP9.mp hz
  · rw [bI_eq0] at h15
    refine r_new (c := 20) (pc := 18) (RX20, TX20, 7) dX19_number_18 rfl q1026 q1027 q112 dv_20 (Nat.le_of_ble_eq_true rfl) rfl (Nat.le_of_ble_eq_true rfl) ?_
    have hd9 := hd1.grown (frP.rf.nw (κ := (1, 20)) (n := 0))
    refine r_dup (pc := 21) dX19_number_21 rfl ?_
    refine r_aload_n (pc := 22) dX19_number_22 rfl ?_
    refine r_getIe (pc := 23) (v := nI (a + 1)) dX19_number_23 fl_X19_19_19 hd9.1.1 (fun _ _ => rfl) hd9.1.2.2.2 ?_
    refine r_o2 (pc := 26) (bc' := 0) (bs' := 0) (ct_X20_init (nI (a + 1)) (nw_K _ _ _) (nw_R _ _ _)) k_X19_43_20 dX19_number_26 (nw_K _ _ _) (Nat.le_of_ble_eq_true rfl) ⟨Nat.le_of_ble_eq_true rfl, Nat.le_of_ble_eq_true rfl⟩ ⟨Nat.le_of_ble_eq_true rfl, Nat.le_of_ble_eq_true rfl⟩ (r_cv fun M26 p26 => ?_) nox
    have p26 := Eq.symm (show _ = _ from p26)
    subst p26
    refine r_athrow (pc := 29) (c := 20) dX19_number_29 (nw_K (sI M ra 2 (nI (a + 1))) (1, 20) 0) rfl ?_
    exact t_out rfl ⟨a + 1, Or.inr ⟨hs, fun q => h15 q.1, rfl⟩, rfl, nw_K (sI M ra 2 (nI (a + 1))) (1, 20) 0, congrFun (up2_self (mI (nw (sI M ra 2 (nI (a + 1))) (1, 20) 0)) (sI M ra 2 (nI (a + 1))).1 6 _) 6, (((frP.rf (P := fun q => q = ra) (M := M)).sI (fun _ => rfl)).nw).sI fun hq => absurd hq (Nat.lt_irrefl M.1)⟩
theorem nbX.mono {c : Nat → Int32} {en a pl : Nat} {P Q : Int32 → Prop} (h : nbX c en a P pl) (hq : ∀ v, Q v → P v) : nbX c en a Q pl := by
  rcases h with h | ⟨h1, h2, h3⟩
  · exact Or.inl h
  · exact Or.inr ⟨h1, fun z => h2 ⟨z.1, hq _ z.2⟩, h3⟩
theorem ct_X19_step {M : PM} {ra ta wn en a : Nat} {o : Int32} {c : Nat → Int32} {σ : cS} (hd : RD M ra ta wn o en c σ a) : Ct (YX19_step, (6, 146, 3, 21), qi (fun r M' => nbP c en a (stepS σ) ∧ r = (numC c en (a + 1)).1 ∧ M' = sI M ra 2 (nI (numC c en (a + 1)).2)), fun q E M' => ∃ pl, nbX c en a (stepS σ) pl ∧ faO (fun q => q = ra) M pl q E M') [.ref ra] M := by
  refine ct_of [some (.ref ra), none, none] rfl rfl rfl (Nat.le_of_ble_eq_true rfl) rfl rfl ?_
  have h160 := hd.2.2.1.2.2
  have hae := hd.2.2.2.2.2.2
  refine r_aload_n (pc := 0) dX19_step_0 rfl ?_
  refine r_getIe (pc := 1) (v := nI a) dX19_step_1 fl_X19_19_19 hd.1.1 (fun _ _ => rfl) hd.1.2.2.2 ?_
  refine r_iconst (pc := 4) (v := 1) dX19_step_4 (by decide) ?_
  refine r_iadd (pc := 5) dX19_step_5 ?_
  rw [nI_1]
  refine r_istore1 (pc := 6) dX19_step_6 rfl ?_
  refine r_aload_n (pc := 7) dX19_step_7 rfl ?_
  refine r_iconst (pc := 8) (v := 0) dX19_step_8 (by decide) ?_
  refine r_aload_n (pc := 9) dX19_step_9 rfl ?_
  refine r_getR (pc := 10) dX19_step_10 fl_X19_15_19 hd.1.1 (fun _ _ => rfl) hd.1.2.2.1 ?_
  refine r_getIe (pc := 13) (v := σ 3 0) dX19_step_13 fl_X19_67_3 hd.2.2.2.2.1.k (fun _ _ => rfl) hd.2.2.2.2.1.i0 ?_
  refine r_o3 (pc := 16) (bc' := 1) (bs' := 7) (ct_X19_number hd 0 (σ 3 0) (fun v => ¬ v < 0 ∧ ¬ σ 3 0 < v) (fun v _ => Iff.rfl)) k_X19_72_19 dX19_step_16 hd.1.1 (Nat.le_of_ble_eq_true rfl) ⟨Nat.le_of_ble_eq_true rfl, Nat.le_of_ble_eq_true rfl⟩ ⟨Nat.le_of_ble_eq_true rfl, Nat.le_of_ble_eq_true rfl⟩ (r_ci fun r16 M16 p16 => ?_) (fun q E M8 h8 => by obtain ⟨pl, h1, h2⟩ := h8; exact t_out rfl ⟨pl, h1.mono (fun v hv => ⟨hv.1, hv.2.1⟩), h2⟩)
  obtain ⟨hp, rfl, rfl⟩ := p16
  have hno := num_ok hp.2.1
  have hd1 := hd.at hno.2.2
  refine r_istore2 (pc := 19) dX19_step_19 rfl ?_
  refine r_aload_n (pc := 20) dX19_step_20 rfl ?_
  refine r_aload_n (pc := 21) dX19_step_21 rfl ?_
  refine r_getR (pc := 22) dX19_step_22 fl_X19_15_19 hd1.1.1 (fun _ _ => rfl) hd1.1.2.2.1 ?_
  refine r_iload_n (pc := 25) dX19_step_25 rfl ?_
  refine r_o2 (pc := 26) (bc' := 1) (bs' := 7) (ct_X3_isStep hd1.2.2.2.2.1 _) k_X19_76_3 dX19_step_26 hd1.2.2.2.2.1.k (Nat.le_of_ble_eq_true rfl) ⟨Nat.le_of_ble_eq_true rfl, Nat.le_of_ble_eq_true rfl⟩ ⟨Nat.le_of_ble_eq_true rfl, Nat.le_of_ble_eq_true rfl⟩ (r_ci fun r26 M26 p26 => ?_) nox
  obtain ⟨rfl, p26⟩ := p26
  have p26 := Eq.symm (show _ = _ from p26)
  subst p26
  refine r_iload_n (pc := 29) dX19_step_29 rfl ?_
  refine r_o3 (pc := 30) (bc' := 0) (bs' := 0) (ct_X19_hasRoom (ra := ra) _ (a + 1)) k_X19_63_19 dX19_step_30 hd1.1.1 (Nat.le_of_ble_eq_true rfl) ⟨Nat.le_of_ble_eq_true rfl, Nat.le_of_ble_eq_true rfl⟩ ⟨Nat.le_of_ble_eq_true rfl, Nat.le_of_ble_eq_true rfl⟩ (r_cv fun M30 p30 => ?_) (fun q E M8 h8 => t_out rfl ⟨a + 1, Or.inr ⟨hp.1, fun z => (bI_eq0.mp h8.1) z.2, rfl⟩, h8.2.mono (frP.rf.sI fun _ => rfl) (fun _ _ h => h.elim)⟩)
  obtain ⟨hz, p30⟩ := p30
  have p30 := Eq.symm (show _ = _ from p30)
  subst p30
  have hz := bI_ne0.mp hz
  refine r_iload_n (pc := 33) dX19_step_33 rfl ?_
  refine r_ireturn (pc := 34) rfl dX19_step_34 ⟨_, rfl, ?_⟩
  exact ⟨⟨hp.1, hp.2.1, hz⟩, rfl, rfl⟩
