/-! THE MODEL IS MADE (printed by gen/mk_x80.py) -/
set_option maxRecDepth 100000
def mF (i : Nat) : Nat := if i < 20 then 10 + i else if i < 31 then 15 + i else 47
def mTy (i : Nat) : Nat := if i = 16 ∨ i = 17 then 4 else 0
def mSz (i : Nat) : Nat := [8, 8, 8, 8, 8, 8, 8, 8, 8, 4, 4, 4, 8, 8, 8, 8, 1280, 160, 37, 4, 90, 90, 90, 256, 8, 9, 9, 1024, 4, 8, 8, 20].getD i 0
def IPm (i : Nat) (f : Nat → Int32) : Prop := if i = 18 then (∀ k, k < 37 → f k = wrdC k) else f = fun _ => 0
/-- the Model at mo with its first j arrays made -/
def MPart (M0 M : PM) (mo j : Nat) : Prop := M.1 = mo + 1 + j ∧ mK M mo = (1, 5) ∧ (∀ i, i < j → mR M mo (mF i) = some (mo + (1 + i)) ∧ mK M (mo + (1 + i)) = (2, mTy i) ∧ mZ M (mo + (1 + i)) = mSz i ∧ IPm i (mI M (mo + (1 + i))) ∧ mL M (mo + (1 + i)) = fun _ => 0) ∧ mI M mo = va_up (va_up (va_up (fun _ => 0) 3 60) 7 1) 9 (-1) ∧ frP (fun a => mo ≤ a) M0 M
/-- B is M with a new array t, n, filled or not -/
def NAr (M B : PM) (t n : Nat) : Prop := B.1 = M.1 + 1 ∧ mK B = mK (nw M (2, t) n) ∧ mZ B = mZ (nw M (2, t) n) ∧ mR B = mR (nw M (2, t) n) ∧ mL B = mL (nw M (2, t) n) ∧ ∀ q, q ≠ M.1 → mI B q = mI (nw M (2, t) n) q
theorem NAr.rf (M : PM) (t n : Nat) : NAr M (nw M (2, t) n) t n := ⟨rfl, rfl, rfl, rfl, rfl, fun _ _ => rfl⟩
theorem NAr.sI {M B : PM} {t n k : Nat} {v : Int32} (h : NAr M B t n) : NAr M (sI B M.1 k v) t n := ⟨h.1, h.2.1, h.2.2.1, h.2.2.2.1, h.2.2.2.2.1, fun q hq => (up2_ne hq).trans (h.2.2.2.2.2 q hq)⟩
theorem NAr.fr {P : Nat → Prop} {M B M0 : PM} {t n : Nat} (h : NAr M B t n) (f : frP P M0 M) : frP P M0 B := by
  obtain ⟨h1, h2, h3, h4, h5, h6⟩ := h
  obtain ⟨f1, f2⟩ := f.nw (κ := (2, t)) (n := n)
  refine ⟨by rw [h1]; exact f1, fun a ha => ?_⟩
  obtain ⟨a1, a2, a3⟩ := f2 a ha
  have hne : a ≠ M.1 := by have := f.1; omega
  refine ⟨by rw [h2]; exact a1, by rw [h3]; exact a2, fun hp => ?_⟩
  obtain ⟨b1, b2, b3⟩ := a3 hp
  exact ⟨(h6 a hne).trans b1, by rw [h5]; exact b2, by rw [h4]; exact b3⟩
theorem mF_inj {i j : Nat} (h : i < j) (hj : j < 32) : mF i ≠ mF j := by
  unfold mF
  split <;> split <;> (try split) <;> (try split) <;> omega
theorem MPart.step {M0 M B : PM} {mo j : Nat} (h : MPart M0 M mo j) (h0 : M0.1 = mo + 1) (hj : j < 32) (hB : NAr M B (mTy j) (mSz j)) (hI : IPm j (mI B M.1)) : MPart M0 (sR B mo (mF j) (some M.1)) mo (j + 1) := by
  obtain ⟨h1, h2, h3, h4, h5⟩ := h
  have hf := hB.fr h5
  obtain ⟨b1, b2, b3, b4, b5, b6⟩ := hB
  have hne : mo ≠ M.1 := by omega
  refine ⟨by show B.1 = _; omega, ?_, fun i hi => ?_, ?_, hf.sR fun _ => Nat.le_refl _⟩
  · show mK B mo = _
    rw [b2, nwK hne]; exact h2
  · show up2 (mR B) mo (mF j) (some M.1) mo (mF i) = _ ∧ mK B (mo + (1 + i)) = _ ∧ mZ B (mo + (1 + i)) = _ ∧ IPm i (mI B (mo + (1 + i))) ∧ mL B (mo + (1 + i)) = _
    by_cases c : i = j
    · subst c
      have e : mo + (1 + i) = M.1 := by omega
      refine ⟨by rw [up2_self, va_up_self, e], ?_, ?_, ?_, ?_⟩
      · rw [e, b2]; exact nw_K M _ _
      · rw [e, b3]; exact nw_Z M _ _
      · rw [e]; exact hI
      · rw [e, b5]; exact if_pos rfl
    · obtain ⟨a1, a2, a3, a4, a5⟩ := h3 i (by omega)
      have hn2 : mo + (1 + i) ≠ M.1 := by omega
      refine ⟨?_, ?_, ?_, ?_, ?_⟩
      · rw [up2_self, va_up_ne _ _ (mF_inj (by omega) hj), b4, nwR hne]; exact a1
      · rw [b2, nwK hn2]; exact a2
      · rw [b3, nwZ hn2]; exact a3
      · rw [b6 _ hn2, nwI hn2]; exact a4
      · rw [b5]; exact (if_neg hn2).trans a5
  · show mI B mo = _
    rw [b6 _ hne, nwI hne]; exact h4
theorem MPart.ne {M0 M : PM} {mo j : Nat} (h : MPart M0 M mo j) : mo ≠ M.1 := by
  have := h.1
  omega
theorem MPart.k {M0 M B : PM} {mo j t n : Nat} (h : MPart M0 M mo j) (hB : NAr M B t n) : mK B mo = (1, 5) := by
  rw [hB.2.1, nwK h.ne]; exact h.2.1
/-- the first j words are written -/
def WPm (M B : PM) (j : Nat) : Prop := NAr M B 0 37 ∧ ∀ k, k < j → mI B M.1 k = wrdC k
theorem WPm.k {M B : PM} {j : Nat} (h : WPm M B j) : mK B M.1 = (2, 0) := by
  rw [h.1.2.1]; exact nw_K M _ _
theorem WPm.z {M B : PM} {j : Nat} (h : WPm M B j) : mZ B M.1 = 37 := by
  rw [h.1.2.2.1]; exact nw_Z M _ _
theorem WPm.step {M B : PM} {j i : Nat} {v : Int32} (h : WPm M B j) (hi : i = j) (hv : wrdC j = v) : WPm M (sI B M.1 i v) (j + 1) := by
  subst hi
  refine ⟨h.1.sI, fun k hk => ?_⟩
  show up2 (mI B) M.1 i v M.1 k = _
  rw [up2_self]
  by_cases c : k = i
  · subst c; rw [va_up_self]; exact hv.symm
  · rw [va_up_ne _ _ c]; exact h.2 k (by omega)
theorem ct_X5_init {M : PM} {mo : Nat} (hK : mK M mo = (1, 5)) (h0 : M.1 = mo + 1) (hz : mI M mo = fun _ => 0) : Ct (YX5_init, (1, 24, 32, 3213), qv (fun M' => MPart M M' mo 32), noX) [.ref mo] M := by
  refine ct_of [some (.ref mo)] rfl rfl rfl (Nat.le_of_ble_eq_true rfl) rfl rfl ?_
  refine r_aload_n (pc := 0) dX5_init_0 rfl ?_
  refine r_objInit (pc := 1) dX5_init_1 q1405 q120 q121 (Nat.le_of_ble_eq_true rfl) (Nat.le_of_ble_eq_true rfl) ?_
  refine r_aload_n (pc := 4) dX5_init_4 rfl ?_
  refine r_bipush (pc := 5) (v := 60) dX5_init_5 (by decide) ?_
  refine r_putI (pc := 7) dX5_init_7 fl_X5_7_5 hK rfl rfl ?_
  refine r_aload_n (pc := 10) dX5_init_10 rfl ?_
  refine r_iconst (pc := 11) (v := 1) dX5_init_11 (by decide) ?_
  refine r_putI (pc := 12) dX5_init_12 fl_X5_13_5 hK rfl rfl ?_
  refine r_aload_n (pc := 15) dX5_init_15 rfl ?_
  refine r_iconst (pc := 16) (v := (-1)) dX5_init_16 (by decide) ?_
  refine r_putI (pc := 17) dX5_init_17 fl_X5_16_5 hK rfl rfl ?_
  refine r_gen (P := fun M' => MPart M M' mo 0) ⟨h0, hK, fun i hi => absurd hi (Nat.not_lt_zero _), by rw [← hz]; show up2 (up2 (up2 (mI M) mo 3 60) mo 7 1) mo 9 (-1) mo = _; rw [up2_self, up2_self, up2_self], ((frP.rf.sI fun _ => Nat.le_refl _).sI fun _ => Nat.le_refl _).sI fun _ => Nat.le_refl _⟩ (fun N0 w0 => ?_)
  refine r_aload_n (pc := 20) dX5_init_20 rfl ?_
  refine r_bipush (pc := 21) (v := 8) dX5_init_21 (by decide) ?_
  refine r_newa (t := 0) (n := 8) (pc := 23) dX5_init_23 rfl rfl q139 rfl (by decide) rfl (Nat.le_of_ble_eq_true rfl) arN0 (Nat.le_of_ble_eq_true rfl) (Nat.le_of_ble_eq_true rfl) ?_
  refine r_putFR (pc := 25) dX5_init_25 fl_X5_19_5 (w0.k (NAr.rf N0 0 8)) rfl rfl rfl ?_
  refine r_gen (P := fun M' => MPart M M' mo 1) (w0.step h0 (by decide) (NAr.rf N0 0 8) (nw_I _ _ _)) (fun N1 w1 => ?_)
  refine r_aload_n (pc := 28) dX5_init_28 rfl ?_
  refine r_bipush (pc := 29) (v := 8) dX5_init_29 (by decide) ?_
  refine r_newa (t := 0) (n := 8) (pc := 31) dX5_init_31 rfl rfl q139 rfl (by decide) rfl (Nat.le_of_ble_eq_true rfl) arN0 (Nat.le_of_ble_eq_true rfl) (Nat.le_of_ble_eq_true rfl) ?_
  refine r_putFR (pc := 33) dX5_init_33 fl_X5_23_5 (w1.k (NAr.rf N1 0 8)) rfl rfl rfl ?_
  refine r_gen (P := fun M' => MPart M M' mo 2) (w1.step h0 (by decide) (NAr.rf N1 0 8) (nw_I _ _ _)) (fun N2 w2 => ?_)
  refine r_aload_n (pc := 36) dX5_init_36 rfl ?_
  refine r_bipush (pc := 37) (v := 8) dX5_init_37 (by decide) ?_
  refine r_newa (t := 0) (n := 8) (pc := 39) dX5_init_39 rfl rfl q139 rfl (by decide) rfl (Nat.le_of_ble_eq_true rfl) arN0 (Nat.le_of_ble_eq_true rfl) (Nat.le_of_ble_eq_true rfl) ?_
  refine r_putFR (pc := 41) dX5_init_41 fl_X5_26_5 (w2.k (NAr.rf N2 0 8)) rfl rfl rfl ?_
  refine r_gen (P := fun M' => MPart M M' mo 3) (w2.step h0 (by decide) (NAr.rf N2 0 8) (nw_I _ _ _)) (fun N3 w3 => ?_)
  refine r_aload_n (pc := 44) dX5_init_44 rfl ?_
  refine r_bipush (pc := 45) (v := 8) dX5_init_45 (by decide) ?_
  refine r_newa (t := 0) (n := 8) (pc := 47) dX5_init_47 rfl rfl q139 rfl (by decide) rfl (Nat.le_of_ble_eq_true rfl) arN0 (Nat.le_of_ble_eq_true rfl) (Nat.le_of_ble_eq_true rfl) ?_
  refine r_putFR (pc := 49) dX5_init_49 fl_X5_29_5 (w3.k (NAr.rf N3 0 8)) rfl rfl rfl ?_
  refine r_gen (P := fun M' => MPart M M' mo 4) (w3.step h0 (by decide) (NAr.rf N3 0 8) (nw_I _ _ _)) (fun N4 w4 => ?_)
  refine r_aload_n (pc := 52) dX5_init_52 rfl ?_
  refine r_bipush (pc := 53) (v := 8) dX5_init_53 (by decide) ?_
  refine r_newa (t := 0) (n := 8) (pc := 55) dX5_init_55 rfl rfl q139 rfl (by decide) rfl (Nat.le_of_ble_eq_true rfl) arN0 (Nat.le_of_ble_eq_true rfl) (Nat.le_of_ble_eq_true rfl) ?_
  refine r_putFR (pc := 57) dX5_init_57 fl_X5_32_5 (w4.k (NAr.rf N4 0 8)) rfl rfl rfl ?_
  refine r_gen (P := fun M' => MPart M M' mo 5) (w4.step h0 (by decide) (NAr.rf N4 0 8) (nw_I _ _ _)) (fun N5 w5 => ?_)
  refine r_aload_n (pc := 60) dX5_init_60 rfl ?_
  refine r_bipush (pc := 61) (v := 8) dX5_init_61 (by decide) ?_
  refine r_newa (t := 0) (n := 8) (pc := 63) dX5_init_63 rfl rfl q139 rfl (by decide) rfl (Nat.le_of_ble_eq_true rfl) arN0 (Nat.le_of_ble_eq_true rfl) (Nat.le_of_ble_eq_true rfl) ?_
  refine r_putFR (pc := 65) dX5_init_65 fl_X5_35_5 (w5.k (NAr.rf N5 0 8)) rfl rfl rfl ?_
  refine r_gen (P := fun M' => MPart M M' mo 6) (w5.step h0 (by decide) (NAr.rf N5 0 8) (nw_I _ _ _)) (fun N6 w6 => ?_)
  refine r_aload_n (pc := 68) dX5_init_68 rfl ?_
  refine r_bipush (pc := 69) (v := 8) dX5_init_69 (by decide) ?_
  refine r_newa (t := 0) (n := 8) (pc := 71) dX5_init_71 rfl rfl q139 rfl (by decide) rfl (Nat.le_of_ble_eq_true rfl) arN0 (Nat.le_of_ble_eq_true rfl) (Nat.le_of_ble_eq_true rfl) ?_
  refine r_putFR (pc := 73) dX5_init_73 fl_X5_38_5 (w6.k (NAr.rf N6 0 8)) rfl rfl rfl ?_
  refine r_gen (P := fun M' => MPart M M' mo 7) (w6.step h0 (by decide) (NAr.rf N6 0 8) (nw_I _ _ _)) (fun N7 w7 => ?_)
  refine r_aload_n (pc := 76) dX5_init_76 rfl ?_
  refine r_bipush (pc := 77) (v := 8) dX5_init_77 (by decide) ?_
  refine r_newa (t := 0) (n := 8) (pc := 79) dX5_init_79 rfl rfl q139 rfl (by decide) rfl (Nat.le_of_ble_eq_true rfl) arN0 (Nat.le_of_ble_eq_true rfl) (Nat.le_of_ble_eq_true rfl) ?_
  refine r_putFR (pc := 81) dX5_init_81 fl_X5_41_5 (w7.k (NAr.rf N7 0 8)) rfl rfl rfl ?_
  refine r_gen (P := fun M' => MPart M M' mo 8) (w7.step h0 (by decide) (NAr.rf N7 0 8) (nw_I _ _ _)) (fun N8 w8 => ?_)
  refine r_aload_n (pc := 84) dX5_init_84 rfl ?_
  refine r_bipush (pc := 85) (v := 8) dX5_init_85 (by decide) ?_
  refine r_newa (t := 0) (n := 8) (pc := 87) dX5_init_87 rfl rfl q139 rfl (by decide) rfl (Nat.le_of_ble_eq_true rfl) arN0 (Nat.le_of_ble_eq_true rfl) (Nat.le_of_ble_eq_true rfl) ?_
  refine r_putFR (pc := 89) dX5_init_89 fl_X5_44_5 (w8.k (NAr.rf N8 0 8)) rfl rfl rfl ?_
  refine r_gen (P := fun M' => MPart M M' mo 9) (w8.step h0 (by decide) (NAr.rf N8 0 8) (nw_I _ _ _)) (fun N9 w9 => ?_)
  refine r_aload_n (pc := 92) dX5_init_92 rfl ?_
  refine r_iconst (pc := 93) (v := 4) dX5_init_93 (by decide) ?_
  refine r_newa (t := 0) (n := 4) (pc := 94) dX5_init_94 rfl rfl q139 rfl (by decide) rfl (Nat.le_of_ble_eq_true rfl) arN0 (Nat.le_of_ble_eq_true rfl) (Nat.le_of_ble_eq_true rfl) ?_
  refine r_putFR (pc := 96) dX5_init_96 fl_X5_47_5 (w9.k (NAr.rf N9 0 4)) rfl rfl rfl ?_
  refine r_gen (P := fun M' => MPart M M' mo 10) (w9.step h0 (by decide) (NAr.rf N9 0 4) (nw_I _ _ _)) (fun N10 w10 => ?_)
  refine r_aload_n (pc := 99) dX5_init_99 rfl ?_
  refine r_iconst (pc := 100) (v := 4) dX5_init_100 (by decide) ?_
  refine r_newa (t := 0) (n := 4) (pc := 101) dX5_init_101 rfl rfl q139 rfl (by decide) rfl (Nat.le_of_ble_eq_true rfl) arN0 (Nat.le_of_ble_eq_true rfl) (Nat.le_of_ble_eq_true rfl) ?_
  refine r_putFR (pc := 103) dX5_init_103 fl_X5_50_5 (w10.k (NAr.rf N10 0 4)) rfl rfl rfl ?_
  refine r_gen (P := fun M' => MPart M M' mo 11) (w10.step h0 (by decide) (NAr.rf N10 0 4) (nw_I _ _ _)) (fun N11 w11 => ?_)
  refine r_aload_n (pc := 106) dX5_init_106 rfl ?_
  refine r_iconst (pc := 107) (v := 4) dX5_init_107 (by decide) ?_
  refine r_newa (t := 0) (n := 4) (pc := 108) dX5_init_108 rfl rfl q139 rfl (by decide) rfl (Nat.le_of_ble_eq_true rfl) arN0 (Nat.le_of_ble_eq_true rfl) (Nat.le_of_ble_eq_true rfl) ?_
  refine r_putFR (pc := 110) dX5_init_110 fl_X5_53_5 (w11.k (NAr.rf N11 0 4)) rfl rfl rfl ?_
  refine r_gen (P := fun M' => MPart M M' mo 12) (w11.step h0 (by decide) (NAr.rf N11 0 4) (nw_I _ _ _)) (fun N12 w12 => ?_)
  refine r_aload_n (pc := 113) dX5_init_113 rfl ?_
  refine r_bipush (pc := 114) (v := 8) dX5_init_114 (by decide) ?_
  refine r_newa (t := 0) (n := 8) (pc := 116) dX5_init_116 rfl rfl q139 rfl (by decide) rfl (Nat.le_of_ble_eq_true rfl) arN0 (Nat.le_of_ble_eq_true rfl) (Nat.le_of_ble_eq_true rfl) ?_
  refine r_putFR (pc := 118) dX5_init_118 fl_X5_56_5 (w12.k (NAr.rf N12 0 8)) rfl rfl rfl ?_
  refine r_gen (P := fun M' => MPart M M' mo 13) (w12.step h0 (by decide) (NAr.rf N12 0 8) (nw_I _ _ _)) (fun N13 w13 => ?_)
  refine r_aload_n (pc := 121) dX5_init_121 rfl ?_
  refine r_bipush (pc := 122) (v := 8) dX5_init_122 (by decide) ?_
  refine r_newa (t := 0) (n := 8) (pc := 124) dX5_init_124 rfl rfl q139 rfl (by decide) rfl (Nat.le_of_ble_eq_true rfl) arN0 (Nat.le_of_ble_eq_true rfl) (Nat.le_of_ble_eq_true rfl) ?_
  refine r_putFR (pc := 126) dX5_init_126 fl_X5_59_5 (w13.k (NAr.rf N13 0 8)) rfl rfl rfl ?_
  refine r_gen (P := fun M' => MPart M M' mo 14) (w13.step h0 (by decide) (NAr.rf N13 0 8) (nw_I _ _ _)) (fun N14 w14 => ?_)
  refine r_aload_n (pc := 129) dX5_init_129 rfl ?_
  refine r_bipush (pc := 130) (v := 8) dX5_init_130 (by decide) ?_
  refine r_newa (t := 0) (n := 8) (pc := 132) dX5_init_132 rfl rfl q139 rfl (by decide) rfl (Nat.le_of_ble_eq_true rfl) arN0 (Nat.le_of_ble_eq_true rfl) (Nat.le_of_ble_eq_true rfl) ?_
  refine r_putFR (pc := 134) dX5_init_134 fl_X5_62_5 (w14.k (NAr.rf N14 0 8)) rfl rfl rfl ?_
  refine r_gen (P := fun M' => MPart M M' mo 15) (w14.step h0 (by decide) (NAr.rf N14 0 8) (nw_I _ _ _)) (fun N15 w15 => ?_)
  refine r_aload_n (pc := 137) dX5_init_137 rfl ?_
  refine r_bipush (pc := 138) (v := 8) dX5_init_138 (by decide) ?_
  refine r_newa (t := 0) (n := 8) (pc := 140) dX5_init_140 rfl rfl q139 rfl (by decide) rfl (Nat.le_of_ble_eq_true rfl) arN0 (Nat.le_of_ble_eq_true rfl) (Nat.le_of_ble_eq_true rfl) ?_
  refine r_putFR (pc := 142) dX5_init_142 fl_X5_65_5 (w15.k (NAr.rf N15 0 8)) rfl rfl rfl ?_
  refine r_gen (P := fun M' => MPart M M' mo 16) (w15.step h0 (by decide) (NAr.rf N15 0 8) (nw_I _ _ _)) (fun N16 w16 => ?_)
  refine r_aload_n (pc := 145) dX5_init_145 rfl ?_
  refine r_sipush (pc := 146) (v := 1280) dX5_init_146 (by decide) ?_
  refine r_newa (t := 4) (n := 1280) (pc := 149) dX5_init_149 rfl rfl q479 rfl (by decide) rfl (Nat.le_of_ble_eq_true rfl) arN4 (Nat.le_of_ble_eq_true rfl) (Nat.le_of_ble_eq_true rfl) ?_
  refine r_putFR (pc := 151) dX5_init_151 fl_X5_68_5 (w16.k (NAr.rf N16 4 1280)) rfl rfl rfl ?_
  refine r_gen (P := fun M' => MPart M M' mo 17) (w16.step h0 (by decide) (NAr.rf N16 4 1280) (nw_I _ _ _)) (fun N17 w17 => ?_)
  refine r_aload_n (pc := 154) dX5_init_154 rfl ?_
  refine r_sipush (pc := 155) (v := 160) dX5_init_155 (by decide) ?_
  refine r_newa (t := 4) (n := 160) (pc := 158) dX5_init_158 rfl rfl q479 rfl (by decide) rfl (Nat.le_of_ble_eq_true rfl) arN4 (Nat.le_of_ble_eq_true rfl) (Nat.le_of_ble_eq_true rfl) ?_
  refine r_putFR (pc := 160) dX5_init_160 fl_X5_72_5 (w17.k (NAr.rf N17 4 160)) rfl rfl rfl ?_
  refine r_gen (P := fun M' => MPart M M' mo 18) (w17.step h0 (by decide) (NAr.rf N17 4 160) (nw_I _ _ _)) (fun N18 w18 => ?_)
  refine r_aload_n (pc := 163) dX5_init_163 rfl ?_
  refine r_bipush (pc := 164) (v := 37) dX5_init_164 (by decide) ?_
  refine r_newa (t := 0) (n := 37) (pc := 166) dX5_init_166 rfl rfl q139 rfl (by decide) rfl (Nat.le_of_ble_eq_true rfl) arN0 (Nat.le_of_ble_eq_true rfl) (Nat.le_of_ble_eq_true rfl) ?_
  refine r_gen (P := fun B => WPm N18 B 0) ⟨NAr.rf N18 0 37, fun k hk => absurd hk (Nat.not_lt_zero _)⟩ (fun B0 v0 => ?_)
  refine r_dup (pc := 168) dX5_init_168 rfl ?_
  refine r_iconst (pc := 169) (v := 0) dX5_init_169 (by decide) ?_
  refine r_bipush (pc := 170) (v := 116) dX5_init_170 (by decide) ?_
  refine r_iast (pc := 172) dX5_init_172 v0.k v0.z (vp_in_lit rfl) ?_
  refine r_gen (P := fun B => WPm N18 B 1) (v0.step rfl rfl) (fun B1 v1 => ?_)
  refine r_dup (pc := 173) dX5_init_173 rfl ?_
  refine r_iconst (pc := 174) (v := 1) dX5_init_174 (by decide) ?_
  refine r_bipush (pc := 175) (v := 104) dX5_init_175 (by decide) ?_
  refine r_iast (pc := 177) dX5_init_177 v1.k v1.z (vp_in_lit rfl) ?_
  refine r_gen (P := fun B => WPm N18 B 2) (v1.step rfl rfl) (fun B2 v2 => ?_)
  refine r_dup (pc := 178) dX5_init_178 rfl ?_
  refine r_iconst (pc := 179) (v := 2) dX5_init_179 (by decide) ?_
  refine r_bipush (pc := 180) (v := 105) dX5_init_180 (by decide) ?_
  refine r_iast (pc := 182) dX5_init_182 v2.k v2.z (vp_in_lit rfl) ?_
  refine r_gen (P := fun B => WPm N18 B 3) (v2.step rfl rfl) (fun B3 v3 => ?_)
  refine r_dup (pc := 183) dX5_init_183 rfl ?_
  refine r_iconst (pc := 184) (v := 3) dX5_init_184 (by decide) ?_
  refine r_bipush (pc := 185) (v := 110) dX5_init_185 (by decide) ?_
  refine r_iast (pc := 187) dX5_init_187 v3.k v3.z (vp_in_lit rfl) ?_
  refine r_gen (P := fun B => WPm N18 B 4) (v3.step rfl rfl) (fun B4 v4 => ?_)
  refine r_dup (pc := 188) dX5_init_188 rfl ?_
  refine r_iconst (pc := 189) (v := 4) dX5_init_189 (by decide) ?_
  refine r_bipush (pc := 190) (v := 103) dX5_init_190 (by decide) ?_
  refine r_iast (pc := 192) dX5_init_192 v4.k v4.z (vp_in_lit rfl) ?_
  refine r_gen (P := fun B => WPm N18 B 5) (v4.step rfl rfl) (fun B5 v5 => ?_)
  refine r_dup (pc := 193) dX5_init_193 rfl ?_
  refine r_iconst (pc := 194) (v := 5) dX5_init_194 (by decide) ?_
  refine r_bipush (pc := 195) (v := 32) dX5_init_195 (by decide) ?_
  refine r_iast (pc := 197) dX5_init_197 v5.k v5.z (vp_in_lit rfl) ?_
  refine r_gen (P := fun B => WPm N18 B 6) (v5.step rfl rfl) (fun B6 v6 => ?_)
  refine r_dup (pc := 198) dX5_init_198 rfl ?_
  refine r_bipush (pc := 199) (v := 6) dX5_init_199 (by decide) ?_
  refine r_iconst (pc := 201) (v := 0) dX5_init_201 (by decide) ?_
  refine r_iast (pc := 202) dX5_init_202 v6.k v6.z (vp_in_lit rfl) ?_
  refine r_gen (P := fun B => WPm N18 B 7) (v6.step rfl rfl) (fun B7 v7 => ?_)
  refine r_dup (pc := 203) dX5_init_203 rfl ?_
  refine r_bipush (pc := 204) (v := 7) dX5_init_204 (by decide) ?_
  refine r_bipush (pc := 206) (v := 109) dX5_init_206 (by decide) ?_
  refine r_iast (pc := 208) dX5_init_208 v7.k v7.z (vp_in_lit rfl) ?_
  refine r_gen (P := fun B => WPm N18 B 8) (v7.step rfl rfl) (fun B8 v8 => ?_)
  refine r_dup (pc := 209) dX5_init_209 rfl ?_
  refine r_bipush (pc := 210) (v := 8) dX5_init_210 (by decide) ?_
  refine r_bipush (pc := 212) (v := 97) dX5_init_212 (by decide) ?_
  refine r_iast (pc := 214) dX5_init_214 v8.k v8.z (vp_in_lit rfl) ?_
  refine r_gen (P := fun B => WPm N18 B 9) (v8.step rfl rfl) (fun B9 v9 => ?_)
  refine r_dup (pc := 215) dX5_init_215 rfl ?_
  refine r_bipush (pc := 216) (v := 9) dX5_init_216 (by decide) ?_
  refine r_bipush (pc := 218) (v := 110) dX5_init_218 (by decide) ?_
  refine r_iast (pc := 220) dX5_init_220 v9.k v9.z (vp_in_lit rfl) ?_
  refine r_gen (P := fun B => WPm N18 B 10) (v9.step rfl rfl) (fun B10 v10 => ?_)
  refine r_dup (pc := 221) dX5_init_221 rfl ?_
  refine r_bipush (pc := 222) (v := 10) dX5_init_222 (by decide) ?_
  refine r_bipush (pc := 224) (v := 32) dX5_init_224 (by decide) ?_
  refine r_iast (pc := 226) dX5_init_226 v10.k v10.z (vp_in_lit rfl) ?_
  refine r_gen (P := fun B => WPm N18 B 11) (v10.step rfl rfl) (fun B11 v11 => ?_)
  refine r_dup (pc := 227) dX5_init_227 rfl ?_
  refine r_bipush (pc := 228) (v := 11) dX5_init_228 (by decide) ?_
  refine r_iconst (pc := 230) (v := 0) dX5_init_230 (by decide) ?_
  refine r_iast (pc := 231) dX5_init_231 v11.k v11.z (vp_in_lit rfl) ?_
  refine r_gen (P := fun B => WPm N18 B 12) (v11.step rfl rfl) (fun B12 v12 => ?_)
  refine r_dup (pc := 232) dX5_init_232 rfl ?_
  refine r_bipush (pc := 233) (v := 12) dX5_init_233 (by decide) ?_
  refine r_bipush (pc := 235) (v := 119) dX5_init_235 (by decide) ?_
  refine r_iast (pc := 237) dX5_init_237 v12.k v12.z (vp_in_lit rfl) ?_
  refine r_gen (P := fun B => WPm N18 B 13) (v12.step rfl rfl) (fun B13 v13 => ?_)
  refine r_dup (pc := 238) dX5_init_238 rfl ?_
  refine r_bipush (pc := 239) (v := 13) dX5_init_239 (by decide) ?_
  refine r_bipush (pc := 241) (v := 97) dX5_init_241 (by decide) ?_
  refine r_iast (pc := 243) dX5_init_243 v13.k v13.z (vp_in_lit rfl) ?_
  refine r_gen (P := fun B => WPm N18 B 14) (v13.step rfl rfl) (fun B14 v14 => ?_)
  refine r_dup (pc := 244) dX5_init_244 rfl ?_
  refine r_bipush (pc := 245) (v := 14) dX5_init_245 (by decide) ?_
  refine r_bipush (pc := 247) (v := 110) dX5_init_247 (by decide) ?_
  refine r_iast (pc := 249) dX5_init_249 v14.k v14.z (vp_in_lit rfl) ?_
  refine r_gen (P := fun B => WPm N18 B 15) (v14.step rfl rfl) (fun B15 v15 => ?_)
  refine r_dup (pc := 250) dX5_init_250 rfl ?_
  refine r_bipush (pc := 251) (v := 15) dX5_init_251 (by decide) ?_
  refine r_bipush (pc := 253) (v := 116) dX5_init_253 (by decide) ?_
  refine r_iast (pc := 255) dX5_init_255 v15.k v15.z (vp_in_lit rfl) ?_
  refine r_gen (P := fun B => WPm N18 B 16) (v15.step rfl rfl) (fun B16 v16 => ?_)
  refine r_dup (pc := 256) dX5_init_256 rfl ?_
  refine r_bipush (pc := 257) (v := 16) dX5_init_257 (by decide) ?_
  refine r_bipush (pc := 259) (v := 32) dX5_init_259 (by decide) ?_
  refine r_iast (pc := 261) dX5_init_261 v16.k v16.z (vp_in_lit rfl) ?_
  refine r_gen (P := fun B => WPm N18 B 17) (v16.step rfl rfl) (fun B17 v17 => ?_)
  refine r_dup (pc := 262) dX5_init_262 rfl ?_
  refine r_bipush (pc := 263) (v := 17) dX5_init_263 (by decide) ?_
  refine r_iconst (pc := 265) (v := 0) dX5_init_265 (by decide) ?_
  refine r_iast (pc := 266) dX5_init_266 v17.k v17.z (vp_in_lit rfl) ?_
  refine r_gen (P := fun B => WPm N18 B 18) (v17.step rfl rfl) (fun B18 v18 => ?_)
  refine r_dup (pc := 267) dX5_init_267 rfl ?_
  refine r_bipush (pc := 268) (v := 18) dX5_init_268 (by decide) ?_
  refine r_bipush (pc := 270) (v := 108) dX5_init_270 (by decide) ?_
  refine r_iast (pc := 272) dX5_init_272 v18.k v18.z (vp_in_lit rfl) ?_
  refine r_gen (P := fun B => WPm N18 B 19) (v18.step rfl rfl) (fun B19 v19 => ?_)
  refine r_dup (pc := 273) dX5_init_273 rfl ?_
  refine r_bipush (pc := 274) (v := 19) dX5_init_274 (by decide) ?_
  refine r_bipush (pc := 276) (v := 111) dX5_init_276 (by decide) ?_
  refine r_iast (pc := 278) dX5_init_278 v19.k v19.z (vp_in_lit rfl) ?_
  refine r_gen (P := fun B => WPm N18 B 20) (v19.step rfl rfl) (fun B20 v20 => ?_)
  refine r_dup (pc := 279) dX5_init_279 rfl ?_
  refine r_bipush (pc := 280) (v := 20) dX5_init_280 (by decide) ?_
  refine r_bipush (pc := 282) (v := 110) dX5_init_282 (by decide) ?_
  refine r_iast (pc := 284) dX5_init_284 v20.k v20.z (vp_in_lit rfl) ?_
  refine r_gen (P := fun B => WPm N18 B 21) (v20.step rfl rfl) (fun B21 v21 => ?_)
  refine r_dup (pc := 285) dX5_init_285 rfl ?_
  refine r_bipush (pc := 286) (v := 21) dX5_init_286 (by decide) ?_
  refine r_bipush (pc := 288) (v := 103) dX5_init_288 (by decide) ?_
  refine r_iast (pc := 290) dX5_init_290 v21.k v21.z (vp_in_lit rfl) ?_
  refine r_gen (P := fun B => WPm N18 B 22) (v21.step rfl rfl) (fun B22 v22 => ?_)
  refine r_dup (pc := 291) dX5_init_291 rfl ?_
  refine r_bipush (pc := 292) (v := 22) dX5_init_292 (by decide) ?_
  refine r_bipush (pc := 294) (v := 32) dX5_init_294 (by decide) ?_
  refine r_iast (pc := 296) dX5_init_296 v22.k v22.z (vp_in_lit rfl) ?_
  refine r_gen (P := fun B => WPm N18 B 23) (v22.step rfl rfl) (fun B23 v23 => ?_)
  refine r_dup (pc := 297) dX5_init_297 rfl ?_
  refine r_bipush (pc := 298) (v := 23) dX5_init_298 (by decide) ?_
  refine r_iconst (pc := 300) (v := 0) dX5_init_300 (by decide) ?_
  refine r_iast (pc := 301) dX5_init_301 v23.k v23.z (vp_in_lit rfl) ?_
  refine r_gen (P := fun B => WPm N18 B 24) (v23.step rfl rfl) (fun B24 v24 => ?_)
  refine r_dup (pc := 302) dX5_init_302 rfl ?_
  refine r_bipush (pc := 303) (v := 24) dX5_init_303 (by decide) ?_
  refine r_bipush (pc := 305) (v := 114) dX5_init_305 (by decide) ?_
  refine r_iast (pc := 307) dX5_init_307 v24.k v24.z (vp_in_lit rfl) ?_
  refine r_gen (P := fun B => WPm N18 B 25) (v24.step rfl rfl) (fun B25 v25 => ?_)
  refine r_dup (pc := 308) dX5_init_308 rfl ?_
  refine r_bipush (pc := 309) (v := 25) dX5_init_309 (by decide) ?_
  refine r_bipush (pc := 311) (v := 105) dX5_init_311 (by decide) ?_
  refine r_iast (pc := 313) dX5_init_313 v25.k v25.z (vp_in_lit rfl) ?_
  refine r_gen (P := fun B => WPm N18 B 26) (v25.step rfl rfl) (fun B26 v26 => ?_)
  refine r_dup (pc := 314) dX5_init_314 rfl ?_
  refine r_bipush (pc := 315) (v := 26) dX5_init_315 (by decide) ?_
  refine r_bipush (pc := 317) (v := 118) dX5_init_317 (by decide) ?_
  refine r_iast (pc := 319) dX5_init_319 v26.k v26.z (vp_in_lit rfl) ?_
  refine r_gen (P := fun B => WPm N18 B 27) (v26.step rfl rfl) (fun B27 v27 => ?_)
  refine r_dup (pc := 320) dX5_init_320 rfl ?_
  refine r_bipush (pc := 321) (v := 27) dX5_init_321 (by decide) ?_
  refine r_bipush (pc := 323) (v := 101) dX5_init_323 (by decide) ?_
  refine r_iast (pc := 325) dX5_init_325 v27.k v27.z (vp_in_lit rfl) ?_
  refine r_gen (P := fun B => WPm N18 B 28) (v27.step rfl rfl) (fun B28 v28 => ?_)
  refine r_dup (pc := 326) dX5_init_326 rfl ?_
  refine r_bipush (pc := 327) (v := 28) dX5_init_327 (by decide) ?_
  refine r_bipush (pc := 329) (v := 114) dX5_init_329 (by decide) ?_
  refine r_iast (pc := 331) dX5_init_331 v28.k v28.z (vp_in_lit rfl) ?_
  refine r_gen (P := fun B => WPm N18 B 29) (v28.step rfl rfl) (fun B29 v29 => ?_)
  refine r_dup (pc := 332) dX5_init_332 rfl ?_
  refine r_bipush (pc := 333) (v := 29) dX5_init_333 (by decide) ?_
  refine r_bipush (pc := 335) (v := 32) dX5_init_335 (by decide) ?_
  refine r_iast (pc := 337) dX5_init_337 v29.k v29.z (vp_in_lit rfl) ?_
  refine r_gen (P := fun B => WPm N18 B 30) (v29.step rfl rfl) (fun B30 v30 => ?_)
  refine r_dup (pc := 338) dX5_init_338 rfl ?_
  refine r_bipush (pc := 339) (v := 30) dX5_init_339 (by decide) ?_
  refine r_iconst (pc := 341) (v := 0) dX5_init_341 (by decide) ?_
  refine r_iast (pc := 342) dX5_init_342 v30.k v30.z (vp_in_lit rfl) ?_
  refine r_gen (P := fun B => WPm N18 B 31) (v30.step rfl rfl) (fun B31 v31 => ?_)
  refine r_dup (pc := 343) dX5_init_343 rfl ?_
  refine r_bipush (pc := 344) (v := 31) dX5_init_344 (by decide) ?_
  refine r_bipush (pc := 346) (v := 119) dX5_init_346 (by decide) ?_
  refine r_iast (pc := 348) dX5_init_348 v31.k v31.z (vp_in_lit rfl) ?_
  refine r_gen (P := fun B => WPm N18 B 32) (v31.step rfl rfl) (fun B32 v32 => ?_)
  refine r_dup (pc := 349) dX5_init_349 rfl ?_
  refine r_bipush (pc := 350) (v := 32) dX5_init_350 (by decide) ?_
  refine r_bipush (pc := 352) (v := 105) dX5_init_352 (by decide) ?_
  refine r_iast (pc := 354) dX5_init_354 v32.k v32.z (vp_in_lit rfl) ?_
  refine r_gen (P := fun B => WPm N18 B 33) (v32.step rfl rfl) (fun B33 v33 => ?_)
  refine r_dup (pc := 355) dX5_init_355 rfl ?_
  refine r_bipush (pc := 356) (v := 33) dX5_init_356 (by decide) ?_
  refine r_bipush (pc := 358) (v := 110) dX5_init_358 (by decide) ?_
  refine r_iast (pc := 360) dX5_init_360 v33.k v33.z (vp_in_lit rfl) ?_
  refine r_gen (P := fun B => WPm N18 B 34) (v33.step rfl rfl) (fun B34 v34 => ?_)
  refine r_dup (pc := 361) dX5_init_361 rfl ?_
  refine r_bipush (pc := 362) (v := 34) dX5_init_362 (by decide) ?_
  refine r_bipush (pc := 364) (v := 100) dX5_init_364 (by decide) ?_
  refine r_iast (pc := 366) dX5_init_366 v34.k v34.z (vp_in_lit rfl) ?_
  refine r_gen (P := fun B => WPm N18 B 35) (v34.step rfl rfl) (fun B35 v35 => ?_)
  refine r_dup (pc := 367) dX5_init_367 rfl ?_
  refine r_bipush (pc := 368) (v := 35) dX5_init_368 (by decide) ?_
  refine r_bipush (pc := 370) (v := 32) dX5_init_370 (by decide) ?_
  refine r_iast (pc := 372) dX5_init_372 v35.k v35.z (vp_in_lit rfl) ?_
  refine r_gen (P := fun B => WPm N18 B 36) (v35.step rfl rfl) (fun B36 v36 => ?_)
  refine r_dup (pc := 373) dX5_init_373 rfl ?_
  refine r_bipush (pc := 374) (v := 36) dX5_init_374 (by decide) ?_
  refine r_iconst (pc := 376) (v := 0) dX5_init_376 (by decide) ?_
  refine r_iast (pc := 377) dX5_init_377 v36.k v36.z (vp_in_lit rfl) ?_
  refine r_gen (P := fun B => WPm N18 B 37) (v36.step rfl rfl) (fun B37 v37 => ?_)
  refine r_putFR (pc := 378) dX5_init_378 fl_X5_75_5 (w18.k (v37.1)) rfl rfl rfl ?_
  refine r_gen (P := fun M' => MPart M M' mo 19) (w18.step h0 (by decide) (v37.1) (v37.2)) (fun N19 w19 => ?_)
  refine r_aload_n (pc := 381) dX5_init_381 rfl ?_
  refine r_iconst (pc := 382) (v := 4) dX5_init_382 (by decide) ?_
  refine r_newa (t := 0) (n := 4) (pc := 383) dX5_init_383 rfl rfl q139 rfl (by decide) rfl (Nat.le_of_ble_eq_true rfl) arN0 (Nat.le_of_ble_eq_true rfl) (Nat.le_of_ble_eq_true rfl) ?_
  refine r_putFR (pc := 385) dX5_init_385 fl_X5_78_5 (w19.k (NAr.rf N19 0 4)) rfl rfl rfl ?_
  refine r_gen (P := fun M' => MPart M M' mo 20) (w19.step h0 (by decide) (NAr.rf N19 0 4) (nw_I _ _ _)) (fun N20 w20 => ?_)
  refine r_aload_n (pc := 388) dX5_init_388 rfl ?_
  refine r_bipush (pc := 389) (v := 90) dX5_init_389 (by decide) ?_
  refine r_newa (t := 0) (n := 90) (pc := 391) dX5_init_391 rfl rfl q139 rfl (by decide) rfl (Nat.le_of_ble_eq_true rfl) arN0 (Nat.le_of_ble_eq_true rfl) (Nat.le_of_ble_eq_true rfl) ?_
  refine r_putFR (pc := 393) dX5_init_393 fl_X5_81_5 (w20.k (NAr.rf N20 0 90)) rfl rfl rfl ?_
  refine r_gen (P := fun M' => MPart M M' mo 21) (w20.step h0 (by decide) (NAr.rf N20 0 90) (nw_I _ _ _)) (fun N21 w21 => ?_)
  refine r_aload_n (pc := 396) dX5_init_396 rfl ?_
  refine r_bipush (pc := 397) (v := 90) dX5_init_397 (by decide) ?_
  refine r_newa (t := 0) (n := 90) (pc := 399) dX5_init_399 rfl rfl q139 rfl (by decide) rfl (Nat.le_of_ble_eq_true rfl) arN0 (Nat.le_of_ble_eq_true rfl) (Nat.le_of_ble_eq_true rfl) ?_
  refine r_putFR (pc := 401) dX5_init_401 fl_X5_84_5 (w21.k (NAr.rf N21 0 90)) rfl rfl rfl ?_
  refine r_gen (P := fun M' => MPart M M' mo 22) (w21.step h0 (by decide) (NAr.rf N21 0 90) (nw_I _ _ _)) (fun N22 w22 => ?_)
  refine r_aload_n (pc := 404) dX5_init_404 rfl ?_
  refine r_bipush (pc := 405) (v := 90) dX5_init_405 (by decide) ?_
  refine r_newa (t := 0) (n := 90) (pc := 407) dX5_init_407 rfl rfl q139 rfl (by decide) rfl (Nat.le_of_ble_eq_true rfl) arN0 (Nat.le_of_ble_eq_true rfl) (Nat.le_of_ble_eq_true rfl) ?_
  refine r_putFR (pc := 409) dX5_init_409 fl_X5_87_5 (w22.k (NAr.rf N22 0 90)) rfl rfl rfl ?_
  refine r_gen (P := fun M' => MPart M M' mo 23) (w22.step h0 (by decide) (NAr.rf N22 0 90) (nw_I _ _ _)) (fun N23 w23 => ?_)
  refine r_aload_n (pc := 412) dX5_init_412 rfl ?_
  refine r_sipush (pc := 413) (v := 256) dX5_init_413 (by decide) ?_
  refine r_newa (t := 0) (n := 256) (pc := 416) dX5_init_416 rfl rfl q139 rfl (by decide) rfl (Nat.le_of_ble_eq_true rfl) arN0 (Nat.le_of_ble_eq_true rfl) (Nat.le_of_ble_eq_true rfl) ?_
  refine r_putFR (pc := 418) dX5_init_418 fl_X5_90_5 (w23.k (NAr.rf N23 0 256)) rfl rfl rfl ?_
  refine r_gen (P := fun M' => MPart M M' mo 24) (w23.step h0 (by decide) (NAr.rf N23 0 256) (nw_I _ _ _)) (fun N24 w24 => ?_)
  refine r_aload_n (pc := 421) dX5_init_421 rfl ?_
  refine r_bipush (pc := 422) (v := 8) dX5_init_422 (by decide) ?_
  refine r_newa (t := 0) (n := 8) (pc := 424) dX5_init_424 rfl rfl q139 rfl (by decide) rfl (Nat.le_of_ble_eq_true rfl) arN0 (Nat.le_of_ble_eq_true rfl) (Nat.le_of_ble_eq_true rfl) ?_
  refine r_putFR (pc := 426) dX5_init_426 fl_X5_93_5 (w24.k (NAr.rf N24 0 8)) rfl rfl rfl ?_
  refine r_gen (P := fun M' => MPart M M' mo 25) (w24.step h0 (by decide) (NAr.rf N24 0 8) (nw_I _ _ _)) (fun N25 w25 => ?_)
  refine r_aload_n (pc := 429) dX5_init_429 rfl ?_
  refine r_bipush (pc := 430) (v := 9) dX5_init_430 (by decide) ?_
  refine r_newa (t := 0) (n := 9) (pc := 432) dX5_init_432 rfl rfl q139 rfl (by decide) rfl (Nat.le_of_ble_eq_true rfl) arN0 (Nat.le_of_ble_eq_true rfl) (Nat.le_of_ble_eq_true rfl) ?_
  refine r_putFR (pc := 434) dX5_init_434 fl_X5_96_5 (w25.k (NAr.rf N25 0 9)) rfl rfl rfl ?_
  refine r_gen (P := fun M' => MPart M M' mo 26) (w25.step h0 (by decide) (NAr.rf N25 0 9) (nw_I _ _ _)) (fun N26 w26 => ?_)
  refine r_aload_n (pc := 437) dX5_init_437 rfl ?_
  refine r_bipush (pc := 438) (v := 9) dX5_init_438 (by decide) ?_
  refine r_newa (t := 0) (n := 9) (pc := 440) dX5_init_440 rfl rfl q139 rfl (by decide) rfl (Nat.le_of_ble_eq_true rfl) arN0 (Nat.le_of_ble_eq_true rfl) (Nat.le_of_ble_eq_true rfl) ?_
  refine r_putFR (pc := 442) dX5_init_442 fl_X5_99_5 (w26.k (NAr.rf N26 0 9)) rfl rfl rfl ?_
  refine r_gen (P := fun M' => MPart M M' mo 27) (w26.step h0 (by decide) (NAr.rf N26 0 9) (nw_I _ _ _)) (fun N27 w27 => ?_)
  refine r_aload_n (pc := 445) dX5_init_445 rfl ?_
  refine r_sipush (pc := 446) (v := 1024) dX5_init_446 (by decide) ?_
  refine r_newa (t := 0) (n := 1024) (pc := 449) dX5_init_449 rfl rfl q139 rfl (by decide) rfl (Nat.le_of_ble_eq_true rfl) arN0 (Nat.le_of_ble_eq_true rfl) (Nat.le_of_ble_eq_true rfl) ?_
  refine r_putFR (pc := 451) dX5_init_451 fl_X5_102_5 (w27.k (NAr.rf N27 0 1024)) rfl rfl rfl ?_
  refine r_gen (P := fun M' => MPart M M' mo 28) (w27.step h0 (by decide) (NAr.rf N27 0 1024) (nw_I _ _ _)) (fun N28 w28 => ?_)
  refine r_aload_n (pc := 454) dX5_init_454 rfl ?_
  refine r_iconst (pc := 455) (v := 4) dX5_init_455 (by decide) ?_
  refine r_newa (t := 0) (n := 4) (pc := 456) dX5_init_456 rfl rfl q139 rfl (by decide) rfl (Nat.le_of_ble_eq_true rfl) arN0 (Nat.le_of_ble_eq_true rfl) (Nat.le_of_ble_eq_true rfl) ?_
  refine r_putFR (pc := 458) dX5_init_458 fl_X5_105_5 (w28.k (NAr.rf N28 0 4)) rfl rfl rfl ?_
  refine r_gen (P := fun M' => MPart M M' mo 29) (w28.step h0 (by decide) (NAr.rf N28 0 4) (nw_I _ _ _)) (fun N29 w29 => ?_)
  refine r_aload_n (pc := 461) dX5_init_461 rfl ?_
  refine r_bipush (pc := 462) (v := 8) dX5_init_462 (by decide) ?_
  refine r_newa (t := 0) (n := 8) (pc := 464) dX5_init_464 rfl rfl q139 rfl (by decide) rfl (Nat.le_of_ble_eq_true rfl) arN0 (Nat.le_of_ble_eq_true rfl) (Nat.le_of_ble_eq_true rfl) ?_
  refine r_putFR (pc := 466) dX5_init_466 fl_X5_108_5 (w29.k (NAr.rf N29 0 8)) rfl rfl rfl ?_
  refine r_gen (P := fun M' => MPart M M' mo 30) (w29.step h0 (by decide) (NAr.rf N29 0 8) (nw_I _ _ _)) (fun N30 w30 => ?_)
  refine r_aload_n (pc := 469) dX5_init_469 rfl ?_
  refine r_bipush (pc := 470) (v := 8) dX5_init_470 (by decide) ?_
  refine r_newa (t := 0) (n := 8) (pc := 472) dX5_init_472 rfl rfl q139 rfl (by decide) rfl (Nat.le_of_ble_eq_true rfl) arN0 (Nat.le_of_ble_eq_true rfl) (Nat.le_of_ble_eq_true rfl) ?_
  refine r_putFR (pc := 474) dX5_init_474 fl_X5_111_5 (w30.k (NAr.rf N30 0 8)) rfl rfl rfl ?_
  refine r_gen (P := fun M' => MPart M M' mo 31) (w30.step h0 (by decide) (NAr.rf N30 0 8) (nw_I _ _ _)) (fun N31 w31 => ?_)
  refine r_aload_n (pc := 477) dX5_init_477 rfl ?_
  refine r_bipush (pc := 478) (v := 20) dX5_init_478 (by decide) ?_
  refine r_newa (t := 0) (n := 20) (pc := 480) dX5_init_480 rfl rfl q139 rfl (by decide) rfl (Nat.le_of_ble_eq_true rfl) arN0 (Nat.le_of_ble_eq_true rfl) (Nat.le_of_ble_eq_true rfl) ?_
  refine r_putFR (pc := 482) dX5_init_482 fl_X5_114_5 (w31.k (NAr.rf N31 0 20)) rfl rfl rfl ?_
  refine r_gen (P := fun M' => MPart M M' mo 32) (w31.step h0 (by decide) (NAr.rf N31 0 20) (nw_I _ _ _)) (fun N32 w32 => ?_)
  refine r_return (pc := 485) rfl dX5_init_485 ⟨rfl, ?_⟩
  exact w32
theorem MPart.mr {M0 M : PM} {mo : Nat} (h : MPart M0 M mo 32) : MR M mo := by
  obtain ⟨-, h2, h3, -, -⟩ := h
  have g : ∀ i, i < 32 → mR M mo (mF i) = some (mo + (1 + i)) ∧ mK M (mo + (1 + i)) = (2, mTy i) ∧ mZ M (mo + (1 + i)) = mSz i := fun i hi => ⟨(h3 i hi).1, (h3 i hi).2.1, (h3 i hi).2.2.1⟩
  exact ⟨h2, g 0 (by decide), g 1 (by decide), g 2 (by decide), g 3 (by decide), g 4 (by decide), g 5 (by decide), g 6 (by decide), g 7 (by decide), g 8 (by decide), g 9 (by decide), g 10 (by decide), g 11 (by decide), g 12 (by decide), g 13 (by decide), g 14 (by decide), g 15 (by decide), g 16 (by decide), g 17 (by decide), g 18 (by decide), g 19 (by decide), g 20 (by decide), g 21 (by decide), g 22 (by decide), g 23 (by decide), g 24 (by decide), g 25 (by decide), g 26 (by decide), g 27 (by decide), g 28 (by decide), g 29 (by decide), g 30 (by decide), g 31 (by decide)⟩
theorem MPart.sc {M0 M : PM} {mo k : Nat} (h : MPart M0 M mo 32) (hk : isSc k) : sM (mI M) mo k 0 = if k = 9 then -1 else if k = 7 then 1 else if k = 3 then 60 else 0 := by
  rw [sM_s0 hk, h.2.2.2.1]
  rfl
theorem MPart.ar {M0 M : PM} {mo k o : Nat} (h : MPart M0 M mo 32) (hk : isAd k o) (h28 : k ≠ 28) (i : Nat) : sM (mI M) mo k i = 0 := by
  rw [sM_ar hk]
  have ho : 1 ≤ o ∧ o ≤ 32 ∧ o ≠ 19 := by rcases hk with ⟨h1, h2, h3⟩ | ⟨h1, h2, h3⟩ | ⟨h1, h3⟩ <;> omega
  obtain ⟨-, -, -, a, -⟩ := h.2.2.1 (o - 1) (by omega)
  unfold IPm at a
  rw [if_neg (by omega), show mo + (1 + (o - 1)) = mo + o by omega] at a
  rw [a]
theorem MPart.wd {M0 M : PM} {mo : Nat} (h : MPart M0 M mo 32) : ∀ i, i < 37 → sM (mI M) mo 28 i = wrdC i := (h.2.2.1 18 (by decide)).2.2.2.1
theorem MPart.ok {M0 M : PM} {mo : Nat} (h : MPart M0 M mo 32) : OkS (sM (mI M) mo) := by
  have s0 : sM (mI M) mo 0 0 = 0 := h.sc (Or.inl (by decide))
  have s1 : sM (mI M) mo 1 0 = 0 := h.sc (Or.inl (by decide))
  have s2 : sM (mI M) mo 2 0 = 0 := h.sc (Or.inl (by decide))
  have s3 : sM (mI M) mo 3 0 = 60 := h.sc (Or.inl (by decide))
  have s4 : sM (mI M) mo 4 0 = 0 := h.sc (Or.inl (by decide))
  have s5 : sM (mI M) mo 5 0 = 0 := h.sc (Or.inl (by decide))
  have s6 : sM (mI M) mo 6 0 = 0 := h.sc (Or.inl (by decide))
  have s48 : sM (mI M) mo 48 0 = 0 := h.sc (Or.inr (Or.inr (Or.inr (Or.inl rfl))))
  have s49 : sM (mI M) mo 49 0 = 0 := h.sc (Or.inr (Or.inr (Or.inr (Or.inr rfl))))
  refine ⟨⟨⟨?_, ?_, ?_⟩, ⟨?_, ?_, ?_, ?_, ?_⟩, fun i hi => ?_, fun i hi => ?_, fun i hi => ?_⟩, fun s hs => ⟨Or.inl (h.ar (Or.inl ⟨by decide, by decide, rfl⟩) (by decide) s), fun e => ?_, fun e => ?_⟩, Or.inl s49, ?_, h.wd⟩
  · rw [s0]; decide
  · rw [s1]; decide
  · rw [s2]; decide
  · rw [s3]; decide
  · rw [s4]; decide
  · rw [s4, s5]; decide
  · rw [s5, s3]; decide
  · rw [s6]; decide
  · rw [s0] at hi; exact absurd hi (Nat.not_lt_zero _)
  · rw [s1] at hi; exact absurd hi (Nat.not_lt_zero _)
  · rw [s2] at hi; exact absurd hi (Nat.not_lt_zero _)
  · rw [h.ar (k := 22) (Or.inl ⟨by decide, by decide, rfl⟩) (by decide) s] at e; exact absurd e (by decide)
  · rw [h.ar (k := 22) (Or.inl ⟨by decide, by decide, rfl⟩) (by decide) s] at e; exact absurd e (by decide)
  · rw [s48]; decide
