/-! X: find and what rests on it (printed by gen/mk_x71.py) -/
set_option maxRecDepth 100000
theorem sI_ne {M : PM} {A j i : Nat} {v : Int32} (h : i ≠ j) : mI (sI M A j v) A i = mI M A i := by
  show up2 (mI M) A j v A i = _
  rw [up2_self, va_up_ne _ _ h]
theorem sI_at {M : PM} {A j : Nat} {v : Int32} : mI (sI M A j v) A j = v := by
  show up2 (mI M) A j v A j = _
  rw [up2_self, va_up_self]
theorem ct_X2_find {M : PM} {a wa row : Nat} {σ : cS} (hk : skP M a) (hw : WX M wa σ) (x2 x3 x4 : Int32) (hB : OkT σ) (ht : thP σ x2) (hr : row < 5) (hd : ¬ inW wa (a + (2 + row))) (hlt : a + (2 + row) < M.1) : Ct (YX2_find, (6, 143, 0, 0), qr (fun r M' => r = (a + (2 + row)) ∧ frP (fun q => q = (a + (2 + row))) M M' ∧ mR M' = mR M ∧ ∀ s, s < 2 ^ ppN σ → mI M' (a + (2 + row)) s = enX (σ 4 0) (σ 5 0) x4 (fun m => farS σ m (Int32.toNatClampNeg x2)) (mnC x3 x4) (ppN σ) s), noX) [.ref a, .ref wa, .int x2, .int x3, .int x4, .int (nI row)] M := by
  refine ct_of [some (.ref a), some (.ref wa), some (.int x2), some (.int x3), some (.int x4), some (.int (nI row)), none, none, none] rfl rfl rfl (Nat.le_of_ble_eq_true rfl) rfl rfl ?_
  obtain ⟨N1, hN1, e1⟩ := bd_nI (n := 8) hB.1.2.1
  have n1 : ppN σ = N1 := by show Int32.toNatClampNeg (σ 1 0) = N1; rw [e1]; exact ix_nI (by omega)
  have hp8 := pow8 hN1
  obtain ⟨hA0, hAk, hAz⟩ := hk.2.2.2.1 row hr
  have L : ∀ (n j : Nat) (M9 : PM) (o8 : Option Value), j + n = 2 ^ N1 → frP (fun q => q = (a + (2 + row))) M M9 → mR M9 = mR M → (∀ i, i < j → mI M9 (a + (2 + row)) i = enX (σ 4 0) (σ 5 0) x4 (fun m => farS σ m (Int32.toNatClampNeg x2)) (mnC x3 x4) (ppN σ) i) → Wx (YX2_find, (6, 143, 0, 0), qr (fun r M' => r = (a + (2 + row)) ∧ frP (fun q => q = (a + (2 + row))) M M' ∧ mR M' = mR M ∧ ∀ s, s < 2 ^ ppN σ → mI M' (a + (2 + row)) s = enX (σ 4 0) (σ 5 0) x4 (fun m => farS σ m (Int32.toNatClampNeg x2)) (mnC x3 x4) (ppN σ) s), noX) 0 0 M9 12 [some (.ref a), some (.ref wa), some (.int x2), some (.int x3), some (.int x4), some (.int (nI row)), some (.ref (a + (2 + row))), some (.int (nI j)), o8] [] := by
    intro n
    induction n with
    | zero =>
      intro j M9 o8 hj f9 hR9 hI
      have hw9 := hw.fr f9 (fun q h1 h2 => hd (h2 ▸ h1)) (fun q c hK hp => by rw [hp, hAk] at hK; exact absurd (Prod.mk.inj hK).1 (by decide))
      refine r_iload (pc := 12) dX2_find_12 rfl ?_
      refine r_iconst (pc := 14) (v := 1) dX2_find_14 (by decide) ?_
      refine r_aload_n (pc := 15) dX2_find_15 rfl ?_
      refine r_getIe (pc := 16) (v := σ 1 0) dX2_find_16 fl_X2_26_3 hw9.k (fun _ _ => rfl) hw9.i5 ?_
      refine r_ishl (pc := 19) dX2_find_19 ?_
      rw [e1, bt_shl N1 (by omega)]
      refine r_icmp_ge (pc := 20) 106 dX2_find_20 rfl (fun _ => ?_) (fun hno => False.elim (by rw [ltI (by omega) (by omega)] at hno; omega))
      refine r_aload (pc := 106) dX2_find_106 rfl ?_
      refine r_areturn (pc := 108) rfl (Or.inr ⟨_, rfl⟩) (Or.inr ⟨_, rfl⟩) dX2_find_108 ⟨_, rfl, ?_⟩
      exact ⟨rfl, f9, hR9, fun s hs => hI s (by rw [n1] at hs; omega)⟩
    | succ n ih =>
      intro j M9 o8 hj f9 hR9 hI
      have hj256 : j < 256 := by omega
      have ixj : Int32.toNatClampNeg (nI j) = j := ix_nI (by omega)
      have vj : vp_in (nI j) 256 := vp_in_nI (by omega) (by decide)
      have fA : ∀ {M8 : PM}, frP (fun q => q = (a + (2 + row))) M M8 → mK M8 (a + (2 + row)) = (2, 0) ∧ mZ M8 (a + (2 + row)) = 256 := fun f8 => ⟨(f8.2 _ hlt).1.trans hAk, (f8.2 _ hlt).2.1.trans hAz⟩
      have fW : ∀ {M8 : PM}, frP (fun q => q = (a + (2 + row))) M M8 → WX M8 wa σ := fun f8 => hw.fr f8 (fun q h1 h2 => hd (h2 ▸ h1)) (fun q c hK hp => by rw [hp, hAk] at hK; exact absurd (Prod.mk.inj hK).1 (by decide))
      have L2 : ∀ (k m : Nat) (M8 : PM), m + k = N1 → frP (fun q => q = (a + (2 + row))) M M8 → mR M8 = mR M → (∀ i, i < j → mI M8 (a + (2 + row)) i = enX (σ 4 0) (σ 5 0) x4 (fun m => farS σ m (Int32.toNatClampNeg x2)) (mnC x3 x4) (ppN σ) i) → mI M8 (a + (2 + row)) j = bsX (σ 4 0) (σ 5 0) x4 (fun m => farS σ m (Int32.toNatClampNeg x2)) (enX (σ 4 0) (σ 5 0) x4 (fun m => farS σ m (Int32.toNatClampNeg x2)) (mnC x3 x4) (ppN σ)) (mnC x3 x4) j m → Wx (YX2_find, (6, 143, 0, 0), qr (fun r M' => r = (a + (2 + row)) ∧ frP (fun q => q = (a + (2 + row))) M M' ∧ mR M' = mR M ∧ ∀ s, s < 2 ^ ppN σ → mI M' (a + (2 + row)) s = enX (σ 4 0) (σ 5 0) x4 (fun m => farS σ m (Int32.toNatClampNeg x2)) (mnC x3 x4) (ppN σ) s), noX) 0 0 M8 37 [some (.ref a), some (.ref wa), some (.int x2), some (.int x3), some (.int x4), some (.int (nI row)), some (.ref (a + (2 + row))), some (.int (nI j)), some (.int (nI m))] [] := by
        intro k
        induction k with
        | zero =>
          intro m M8 hm f8 hR8 hI8 hv8
          obtain ⟨kA9, zA9⟩ := fA f8
          have hw9 := fW f8
          obtain rfl : m = N1 := by omega
          refine r_iload (pc := 37) dX2_find_37 rfl ?_
          refine r_aload_n (pc := 39) dX2_find_39 rfl ?_
          refine r_getIe (pc := 40) (v := σ 1 0) dX2_find_40 fl_X2_26_3 hw9.k (fun _ _ => rfl) hw9.i5 ?_
          refine r_icmp_ge (pc := 43) 100 dX2_find_43 rfl (fun _ => ?_) (fun hno => False.elim (by rw [e1, ltI (by omega) (by omega)] at hno; omega))
          refine r_iinc7 (pc := 100) dX2_find_100 (nI_1 _) rfl ?_
          refine r_goto (pc := 103) 12 dX2_find_103 rfl ?_
          refine ih (j + 1) M8 _ (by omega) f8 hR8 (fun i hi => ?_)
          by_cases c : i = j
          · rw [c, hv8, enX_eq, n1]
          · exact hI8 i (by omega)
        | succ k ih2 =>
          intro m M8 hm f8 hR8 hI8 hv8
          obtain ⟨kA9, zA9⟩ := fA f8
          have hw9 := fW f8
          have hmn : mnP σ (nI m) := ⟨nn_nI (by omega), by rw [e1, ltI (by omega) (by omega)]; omega⟩
          have ixm : Int32.toNatClampNeg (nI m) = m := ix_nI (by omega)
          refine r_iload (pc := 37) dX2_find_37 rfl ?_
          refine r_aload_n (pc := 39) dX2_find_39 rfl ?_
          refine r_getIe (pc := 40) (v := σ 1 0) dX2_find_40 fl_X2_26_3 hw9.k (fun _ _ => rfl) hw9.i5 ?_
          refine r_icmp_ge (pc := 43) 100 dX2_find_43 rfl (fun hno => False.elim (hno hmn.2)) (fun _ => ?_)
          refine r_iload (pc := 46) dX2_find_46 rfl ?_
          refine r_iload (pc := 48) dX2_find_48 rfl ?_
          refine r_ishr (pc := 50) dX2_find_50 ?_
          refine r_iconst (pc := 51) (v := 1) dX2_find_51 (by decide) ?_
          refine r_iand (pc := 52) dX2_find_52 ?_
          refine r_if_eq (pc := 53) 94 dX2_find_53 rfl (fun h53 => ?_) (fun h53 => ?_)
          · have hb : j.testBit m = false := (bt_0 j hj256 m (by omega)).mp h53
            refine r_iinc8 (pc := 94) dX2_find_94 (nI_1 _) rfl ?_
            refine r_goto (pc := 97) 37 dX2_find_97 rfl ?_
            first | exact ih2 (m + 1) _ (by omega) (f8.sI fun _ => rfl) hR8 (fun i hi => (sI_ne (by omega)).trans (hI8 i hi)) (sI_at.trans (by rw [bsX, if_pos hb]; rfl)) | exact ih2 (m + 1) M8 (by omega) f8 hR8 hI8 (by rw [hv8, bsX, if_neg (by rw [hb]; decide)])
          · have hb : j.testBit m = true := by cases c : j.testBit m with | false => exact absurd ((bt_0 j hj256 m (by omega)).mpr c) h53 | true => rfl
            have hlt2 := bit_lt hb
            refine r_aload (pc := 56) dX2_find_56 rfl ?_
            refine r_iload (pc := 58) dX2_find_58 rfl ?_
            refine r_aload (pc := 60) dX2_find_60 rfl ?_
            refine r_iload (pc := 62) dX2_find_62 rfl ?_
            refine r_ialdv (pc := 64) (v := bsX (σ 4 0) (σ 5 0) x4 (fun m => farS σ m (Int32.toNatClampNeg x2)) (enX (σ 4 0) (σ 5 0) x4 (fun m => farS σ m (Int32.toNatClampNeg x2)) (mnC x3 x4) (ppN σ)) (mnC x3 x4) j m) dX2_find_64 kA9 zA9 vj (by rw [ixj]; exact hv8) ?_
            refine r_aload_n (pc := 65) dX2_find_65 rfl ?_
            refine r_aload (pc := 66) dX2_find_66 rfl ?_
            refine r_iload (pc := 68) dX2_find_68 rfl ?_
            refine r_iconst (pc := 70) (v := 1) dX2_find_70 (by decide) ?_
            refine r_iload (pc := 71) dX2_find_71 rfl ?_
            refine r_ishl (pc := 73) dX2_find_73 ?_
            refine r_iconst (pc := 74) (v := (-1)) dX2_find_74 (by decide) ?_
            refine r_ixor (pc := 75) dX2_find_75 ?_
            refine r_iand (pc := 76) dX2_find_76 ?_
            rw [bt_clr j hj256 m (by omega), if_pos hb]
            refine r_ialdv (pc := 77) (v := enX (σ 4 0) (σ 5 0) x4 (fun m => farS σ m (Int32.toNatClampNeg x2)) (mnC x3 x4) (ppN σ) (j - 2 ^ m)) dX2_find_77 kA9 zA9 (vp_in_nI (by omega) (by decide)) (by rw [ix_nI (by omega)]; exact hI8 _ hlt2) ?_
            refine r_aload_n (pc := 78) dX2_find_78 rfl ?_
            refine r_iload (pc := 79) dX2_find_79 rfl ?_
            refine r_iload_n (pc := 81) dX2_find_81 rfl ?_
            refine r_o3 (pc := 82) (bc' := 0) (bs' := 0) (ct_X3_far hw9 (nI m) x2 hB hmn ht) k_X2_38_3 dX2_find_82 hw9.k (Nat.le_of_ble_eq_true rfl) ⟨Nat.le_of_ble_eq_true rfl, Nat.le_of_ble_eq_true rfl⟩ ⟨Nat.le_of_ble_eq_true rfl, Nat.le_of_ble_eq_true rfl⟩ (r_ci fun r82 M82 p82 => ?_) nox
            obtain ⟨rfl, p82⟩ := p82
            have p82 := Eq.symm (show _ = _ from p82)
            subst p82
            rw [ixm]
            refine r_iload (pc := 85) dX2_find_85 rfl ?_
            refine r_o4 (pc := 87) (bc' := 0) (bs' := 0) (ct_X3_brings hw9 (enX (σ 4 0) (σ 5 0) x4 (fun m => farS σ m (Int32.toNatClampNeg x2)) (mnC x3 x4) (ppN σ) (j - 2 ^ m)) (farS σ m (Int32.toNatClampNeg x2)) x4) k_X2_41_3 dX2_find_87 hw9.k (Nat.le_of_ble_eq_true rfl) ⟨Nat.le_of_ble_eq_true rfl, Nat.le_of_ble_eq_true rfl⟩ ⟨Nat.le_of_ble_eq_true rfl, Nat.le_of_ble_eq_true rfl⟩ (r_ci fun r87 M87 p87 => ?_) nox
            obtain ⟨rfl, p87⟩ := p87
            have p87 := Eq.symm (show _ = _ from p87)
            subst p87
            refine r_mmax (pc := 90) dX2_find_90 q1162 (Nat.le_of_ble_eq_true rfl) (Nat.le_of_ble_eq_true rfl) ?_
            refine r_iast (pc := 93) dX2_find_93 kA9 zA9 vj ?_
            rw [ixj]
            refine r_iinc8 (pc := 94) dX2_find_94 (nI_1 _) rfl ?_
            refine r_goto (pc := 97) 37 dX2_find_97 rfl ?_
            first | exact ih2 (m + 1) _ (by omega) (f8.sI fun _ => rfl) hR8 (fun i hi => (sI_ne (by omega)).trans (hI8 i hi)) (sI_at.trans (by rw [bsX, if_pos hb]; rfl)) | exact ih2 (m + 1) M8 (by omega) f8 hR8 hI8 (by rw [hv8, bsX, if_neg (by rw [hb]; decide)])
      have hw9 := fW f9
      obtain ⟨kA9, zA9⟩ := fA f9
      refine r_iload (pc := 12) dX2_find_12 rfl ?_
      refine r_iconst (pc := 14) (v := 1) dX2_find_14 (by decide) ?_
      refine r_aload_n (pc := 15) dX2_find_15 rfl ?_
      refine r_getIe (pc := 16) (v := σ 1 0) dX2_find_16 fl_X2_26_3 hw9.k (fun _ _ => rfl) hw9.i5 ?_
      refine r_ishl (pc := 19) dX2_find_19 ?_
      rw [e1, bt_shl N1 (by omega)]
      refine r_icmp_ge (pc := 20) 106 dX2_find_20 rfl (fun hno => False.elim (by rw [ltI (by omega) (by omega)] at hno; omega)) (fun _ => ?_)
      refine r_aload (pc := 23) dX2_find_23 rfl ?_
      refine r_iload (pc := 25) dX2_find_25 rfl ?_
      refine r_iload_n (pc := 27) dX2_find_27 rfl ?_
      refine r_iload (pc := 28) dX2_find_28 rfl ?_
      refine r_mmin (pc := 30) dX2_find_30 q1156 (Nat.le_of_ble_eq_true rfl) (Nat.le_of_ble_eq_true rfl) ?_
      refine r_iast (pc := 33) dX2_find_33 kA9 zA9 vj ?_
      rw [ixj]
      refine r_iconst (pc := 34) (v := 0) dX2_find_34 (by decide) ?_
      refine r_istore8 (pc := 35) dX2_find_35 rfl ?_
      refine L2 N1 0 _ (by omega) (f9.sI fun _ => rfl) hR9 (fun i hi => ?_) ?_
      · show up2 (mI M9) (a + (2 + row)) j _ (a + (2 + row)) i = _
        rw [up2_self, va_up_ne _ _ (by omega)]; exact hI i hi
      · show up2 (mI M9) (a + (2 + row)) j _ (a + (2 + row)) j = _
        rw [up2_self, va_up_self]; rfl
  refine r_aload_n (pc := 0) dX2_find_0 rfl ?_
  refine r_getR (pc := 1) dX2_find_1 fl_X2_11_2 hk.1 (fun _ _ => rfl) hk.2.1.1 ?_
  refine r_iload (pc := 4) dX2_find_4 rfl ?_
  refine r_aaldR (pc := 6) dX2_find_6 hk.2.2.1.1 rfl hk.2.2.1.2 (vp_in_nI (by omega) (by decide)) (by rw [ix_nI (by omega)]; exact hA0) ?_
  refine r_astore6 (pc := 7) dX2_find_7 rfl ?_
  refine r_iconst (pc := 9) (v := 0) dX2_find_9 (by decide) ?_
  refine r_istore7 (pc := 10) dX2_find_10 rfl ?_
  exact L (2 ^ N1) 0 M _ (by omega) frP.rf rfl (fun i hi => absurd hi (by omega))
