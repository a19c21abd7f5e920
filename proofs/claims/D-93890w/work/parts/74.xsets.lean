/-! X: weakest, nextOf, order, helps (printed by gen/mk_x74.py) -/
set_option maxRecDepth 100000
theorem ct_X0_weakest {M : PM} {xo wa mo : Nat} {Z : PM} {S : ST} (hx : XO M xo wa mo Z S) (x1 x2 : Int32) (hS : OkS S.1) : Ct (YX0_weakest, (8, 193, 3, 21), qi (fun r M' => oX xo mo Z (weakestS S x1 x2) r M'), noX) [.ref xo, .int x1, .int x2] M := by
  refine ct_ofH [some (.ref xo), some (.int x1), some (.int x2), none, none, none, none] rfl rfl (Nat.le_of_ble_eq_true rfl) rfl rfl ?_
  have hB := hS.1.t
  have hC : ∀ (M9 : PM) (q : Nat) (b : Int32) (o3 o4 o5 o6 : Option Value), mK M9 q = (1, 6) → mI M9 q 6 = b → bd b (-7) (-1) → XO M9 xo wa mo Z S → weakestS S x1 x2 = noS S b → Wx (YX0_weakest, (8, 193, 3, 21), qi (fun r M' => oX xo mo Z (weakestS S x1 x2) r M'), noX) 0 0 M9 128 [some (.ref xo), some (.int x1), some (.int x2), o3, o4, o5, o6] [.ref q] := by
    intro M9 q b o3 o4 o5 o6 h1 h2 h3 h4 h5
    refine r_astore3 (pc := 128) dX0_weakest_128 rfl ?_
    refine r_aload_n (pc := 129) dX0_weakest_129 rfl ?_
    refine r_aload_n (pc := 130) dX0_weakest_130 rfl ?_
    refine r_o2 (pc := 131) (bc' := 0) (bs' := 0) (ct_X0_refused h4 h1 h2 h3) k_X0_173_0 dX0_weakest_131 h4.1.2.1 (Nat.le_of_ble_eq_true rfl) ⟨Nat.le_of_ble_eq_true rfl, Nat.le_of_ble_eq_true rfl⟩ ⟨Nat.le_of_ble_eq_true rfl, Nat.le_of_ble_eq_true rfl⟩ (r_ci fun r131 M131 p131 => ?_) nox
    obtain ⟨rfl, h6⟩ := p131
    refine r_ireturn (pc := 134) rfl dX0_weakest_134 ⟨_, rfl, ?_⟩
    exact (show oX xo mo Z (weakestS S x1 x2) _ _ by rw [h5]; exact ⟨rfl, wa, h6⟩)
  obtain ⟨N1, hN1, e1⟩ := bd_nI (n := 8) hB.1.2.1
  have n1 : ppN S.1 = N1 := by show Int32.toNatClampNeg (S.1 1 0) = N1; rw [e1]; exact ix_nI (by omega)
  have hp8 := pow8 hN1
  have L : ∀ (sN : Nat) (M1 : PM), x2 = nI sN → sN < 2 ^ N1 → XO M1 xo wa mo Z S → (∀ s, s < 2 ^ ppN S.1 → mI M1 (xo + 5 + (2 + 4)) s = endF S.1 (Int32.toNatClampNeg x1) (S.1 3 0) s) → ∀ (n m : Nat) (b w : Int32) (o6 : Option Value), m + n = N1 → (b = -1 ∨ ∃ k, k < N1 ∧ sN.testBit k = true ∧ b = nI k ∧ w = endF S.1 (Int32.toNatClampNeg x1) (S.1 3 0) (sN - 2 ^ k)) → weakestS S x1 x2 = (weakL (endF S.1 (Int32.toNatClampNeg x1) (S.1 3 0)) sN n m b w, S) → Wx (YX0_weakest, (8, 193, 3, 21), qi (fun r M' => oX xo mo Z (weakestS S x1 x2) r M'), noX) 0 0 M1 48 [some (.ref xo), some (.int x1), some (.int x2), some (.ref (xo + 5 + (2 + 4))), some (.int b), some (.int (nI m)), o6] [] := by
    intro sN M1 e2 hsN hx1 hE n
    subst e2
    have hs256 : sN < 256 := by omega
    induction n with
    | zero =>
      intro m b w o6 hm hb hI
      refine r_iload (pc := 48) dX0_weakest_48 rfl ?_
      refine r_aload_n (pc := 50) dX0_weakest_50 rfl ?_
      refine r_getR (pc := 51) dX0_weakest_51 fl_X0_90_0 hx1.1.2.1 (fun _ _ => rfl) hx1.2.2.1.1 ?_
      refine r_getIe (pc := 54) (v := S.1 1 0) dX0_weakest_54 fl_X0_123_3 hx1.2.2.1.2.2.k (fun _ _ => rfl) hx1.2.2.1.2.2.i5 ?_
      refine r_icmp_ge (pc := 57) 125 dX0_weakest_57 rfl (fun _ => ?_) (fun hno => False.elim (by rw [e1, ltI (by omega) (by omega)] at hno; omega))
      refine r_iload (pc := 125) dX0_weakest_125 rfl ?_
      refine r_ireturn (pc := 127) rfl dX0_weakest_127 ⟨_, rfl, ?_⟩
      exact (show oX xo mo Z (weakestS S x1 (nI sN)) _ _ by rw [hI]; exact ⟨rfl, wa, hx1⟩)
    | succ n ih =>
      intro m b w o6 hm hb hI
      rw [weakL] at hI
      rcases hb with rfl | ⟨k, hk, hkb, rfl, rfl⟩
      · refine r_iload (pc := 48) dX0_weakest_48 rfl ?_
        refine r_aload_n (pc := 50) dX0_weakest_50 rfl ?_
        refine r_getR (pc := 51) dX0_weakest_51 fl_X0_90_0 hx1.1.2.1 (fun _ _ => rfl) hx1.2.2.1.1 ?_
        refine r_getIe (pc := 54) (v := S.1 1 0) dX0_weakest_54 fl_X0_123_3 hx1.2.2.1.2.2.k (fun _ _ => rfl) hx1.2.2.1.2.2.i5 ?_
        refine r_icmp_ge (pc := 57) 125 dX0_weakest_57 rfl (fun hno => False.elim (by rw [e1, ltI (by omega) (by omega)] at hno; omega)) (fun _ => ?_)
        refine r_iload_n (pc := 60) dX0_weakest_60 rfl ?_
        refine r_iload (pc := 61) dX0_weakest_61 rfl ?_
        refine r_ishr (pc := 63) dX0_weakest_63 ?_
        refine r_iconst (pc := 64) (v := 1) dX0_weakest_64 (by decide) ?_
        refine r_iand (pc := 65) dX0_weakest_65 ?_
        refine r_if_eq (pc := 66) 73 dX0_weakest_66 rfl (fun h66 => ?_) (fun h66 => ?_)
        · have hbt : sN.testBit m = false := (bt_0 sN hs256 m (by omega)).mp h66
          refine r_iconst (pc := 73) (v := 0) dX0_weakest_73 (by decide) ?_
          refine r_istore6 (pc := 74) dX0_weakest_74 rfl ?_
          refine r_iload (pc := 76) dX0_weakest_76 rfl ?_
          refine r_if_eq (pc := 78) 115 dX0_weakest_78 rfl (fun _ => ?_) (fun hno => absurd hno (by decide))
          refine r_iload (pc := 115) dX0_weakest_115 rfl ?_
          refine r_istore4 (pc := 117) dX0_weakest_117 rfl ?_
          refine r_iinc5 (pc := 119) dX0_weakest_119 (nI_1 _) rfl ?_
          refine r_goto (pc := 122) 48 dX0_weakest_122 rfl ?_
          first | (rw [cI_t ⟨hbt, Or.inl rfl⟩] at hI; exact ih (m + 1) _ _ _ (by omega) (Or.inr ⟨m, by omega, hbt, rfl, rfl⟩) hI) | (rw [cI_f (fun q => by rw [hbt] at q; exact absurd q.1 (by decide))] at hI; exact ih (m + 1) _ _ _ (by omega) (Or.inl rfl) hI)
        · have hbt : sN.testBit m = true := by cases c : sN.testBit m with | false => exact absurd ((bt_0 sN hs256 m (by omega)).mpr c) h66 | true => rfl
          refine r_iconst (pc := 69) (v := 1) dX0_weakest_69 (by decide) ?_
          refine r_goto (pc := 70) 74 dX0_weakest_70 rfl ?_
          refine r_istore6 (pc := 74) dX0_weakest_74 rfl ?_
          refine r_iload (pc := 76) dX0_weakest_76 rfl ?_
          refine r_if_eq (pc := 78) 115 dX0_weakest_78 rfl (fun hno => absurd hno (by decide)) (fun _ => ?_)
          refine r_iload (pc := 81) dX0_weakest_81 rfl ?_
          refine r_iconst (pc := 83) (v := (-1)) dX0_weakest_83 (by decide) ?_
          refine r_icmp_eq (pc := 84) 110 dX0_weakest_84 rfl (fun _ => ?_) (fun hno => absurd hno (by decide))
          refine r_iload (pc := 110) dX0_weakest_110 rfl ?_
          refine r_goto (pc := 112) 117 dX0_weakest_112 rfl ?_
          refine r_istore4 (pc := 117) dX0_weakest_117 rfl ?_
          refine r_iinc5 (pc := 119) dX0_weakest_119 (nI_1 _) rfl ?_
          refine r_goto (pc := 122) 48 dX0_weakest_122 rfl ?_
          first | (rw [cI_t ⟨hbt, Or.inl rfl⟩] at hI; exact ih (m + 1) _ _ _ (by omega) (Or.inr ⟨m, by omega, hbt, rfl, rfl⟩) hI) | (rw [cI_f (fun q => by rw [hbt] at q; exact absurd q.1 (by decide))] at hI; exact ih (m + 1) _ _ _ (by omega) (Or.inl rfl) hI)
      · have hk1 : ¬ nI k = -1 := fun q => by have := congrArg Int32.toInt q; rw [nI_toInt (by omega)] at this; exact absurd this (by show ¬ (k : Int) = -1; omega)
        refine r_iload (pc := 48) dX0_weakest_48 rfl ?_
        refine r_aload_n (pc := 50) dX0_weakest_50 rfl ?_
        refine r_getR (pc := 51) dX0_weakest_51 fl_X0_90_0 hx1.1.2.1 (fun _ _ => rfl) hx1.2.2.1.1 ?_
        refine r_getIe (pc := 54) (v := S.1 1 0) dX0_weakest_54 fl_X0_123_3 hx1.2.2.1.2.2.k (fun _ _ => rfl) hx1.2.2.1.2.2.i5 ?_
        refine r_icmp_ge (pc := 57) 125 dX0_weakest_57 rfl (fun hno => False.elim (by rw [e1, ltI (by omega) (by omega)] at hno; omega)) (fun _ => ?_)
        refine r_iload_n (pc := 60) dX0_weakest_60 rfl ?_
        refine r_iload (pc := 61) dX0_weakest_61 rfl ?_
        refine r_ishr (pc := 63) dX0_weakest_63 ?_
        refine r_iconst (pc := 64) (v := 1) dX0_weakest_64 (by decide) ?_
        refine r_iand (pc := 65) dX0_weakest_65 ?_
        refine r_if_eq (pc := 66) 73 dX0_weakest_66 rfl (fun h66 => ?_) (fun h66 => ?_)
        · have hbt : sN.testBit m = false := (bt_0 sN hs256 m (by omega)).mp h66
          refine r_iconst (pc := 73) (v := 0) dX0_weakest_73 (by decide) ?_
          refine r_istore6 (pc := 74) dX0_weakest_74 rfl ?_
          refine r_iload (pc := 76) dX0_weakest_76 rfl ?_
          refine r_if_eq (pc := 78) 115 dX0_weakest_78 rfl (fun _ => ?_) (fun hno => absurd hno (by decide))
          refine r_iload (pc := 115) dX0_weakest_115 rfl ?_
          refine r_istore4 (pc := 117) dX0_weakest_117 rfl ?_
          refine r_iinc5 (pc := 119) dX0_weakest_119 (nI_1 _) rfl ?_
          refine r_goto (pc := 122) 48 dX0_weakest_122 rfl ?_
          first | (rw [cI_t ⟨hbt, Or.inr h107⟩] at hI; exact ih (m + 1) _ _ _ (by omega) (Or.inr ⟨m, by omega, hbt, rfl, rfl⟩) hI) | (rw [cI_f (fun q => by rw [hbt] at q; exact absurd q.1 (by decide))] at hI; exact ih (m + 1) _ _ _ (by omega) (Or.inr ⟨k, hk, hkb, rfl, rfl⟩) hI) | (rw [cI_f (fun q => q.2.elim hk1 h107)] at hI; exact ih (m + 1) _ _ _ (by omega) (Or.inr ⟨k, hk, hkb, rfl, rfl⟩) hI)
        · have hbt : sN.testBit m = true := by cases c : sN.testBit m with | false => exact absurd ((bt_0 sN hs256 m (by omega)).mpr c) h66 | true => rfl
          refine r_iconst (pc := 69) (v := 1) dX0_weakest_69 (by decide) ?_
          refine r_goto (pc := 70) 74 dX0_weakest_70 rfl ?_
          refine r_istore6 (pc := 74) dX0_weakest_74 rfl ?_
          refine r_iload (pc := 76) dX0_weakest_76 rfl ?_
          refine r_if_eq (pc := 78) 115 dX0_weakest_78 rfl (fun hno => absurd hno (by decide)) (fun _ => ?_)
          refine r_iload (pc := 81) dX0_weakest_81 rfl ?_
          refine r_iconst (pc := 83) (v := (-1)) dX0_weakest_83 (by decide) ?_
          refine r_icmp_eq (pc := 84) 110 dX0_weakest_84 rfl (fun hno => False.elim (hk1 hno)) (fun _ => ?_)
          refine r_aload_n (pc := 87) dX0_weakest_87 rfl ?_
          refine r_iload_n (pc := 88) dX0_weakest_88 rfl ?_
          refine r_iconst (pc := 89) (v := 1) dX0_weakest_89 (by decide) ?_
          refine r_iload (pc := 90) dX0_weakest_90 rfl ?_
          refine r_ishl (pc := 92) dX0_weakest_92 ?_
          refine r_iconst (pc := 93) (v := (-1)) dX0_weakest_93 (by decide) ?_
          refine r_ixor (pc := 94) dX0_weakest_94 ?_
          refine r_iand (pc := 95) dX0_weakest_95 ?_
          rw [bt_clr sN hs256 m (by omega), if_pos hbt]
          refine r_ialdv (pc := 96) (v := endF S.1 (Int32.toNatClampNeg x1) (S.1 3 0) (sN - 2 ^ m)) dX0_weakest_96 (hx1.1.2.2.2.2.2.2.1.2.2.2.1 4 (by decide)).2.1 (hx1.1.2.2.2.2.2.2.1.2.2.2.1 4 (by decide)).2.2 (vp_in_nI (Nat.lt_trans (bit_lt hbt) hs256) (by decide)) (by have h5 := bit_lt hbt; rw [ix_nI (by omega)]; exact hE _ (by rw [n1]; omega)) ?_
          refine r_aload_n (pc := 97) dX0_weakest_97 rfl ?_
          refine r_iload_n (pc := 98) dX0_weakest_98 rfl ?_
          refine r_iconst (pc := 99) (v := 1) dX0_weakest_99 (by decide) ?_
          refine r_iload (pc := 100) dX0_weakest_100 rfl ?_
          refine r_ishl (pc := 102) dX0_weakest_102 ?_
          refine r_iconst (pc := 103) (v := (-1)) dX0_weakest_103 (by decide) ?_
          refine r_ixor (pc := 104) dX0_weakest_104 ?_
          refine r_iand (pc := 105) dX0_weakest_105 ?_
          rw [bt_clr sN hs256 k (by omega), if_pos hkb]
          refine r_ialdv (pc := 106) (v := endF S.1 (Int32.toNatClampNeg x1) (S.1 3 0) (sN - 2 ^ k)) dX0_weakest_106 (hx1.1.2.2.2.2.2.2.1.2.2.2.1 4 (by decide)).2.1 (hx1.1.2.2.2.2.2.2.1.2.2.2.1 4 (by decide)).2.2 (vp_in_nI (Nat.lt_trans (bit_lt hkb) hs256) (by decide)) (by have h5 := bit_lt hkb; rw [ix_nI (by omega)]; exact hE _ (by rw [n1]; omega)) ?_
          refine r_icmp_le (pc := 107) 115 dX0_weakest_107 rfl (fun h107 => ?_) (fun h107 => ?_)
          · refine r_iload (pc := 115) dX0_weakest_115 rfl ?_
            refine r_istore4 (pc := 117) dX0_weakest_117 rfl ?_
            refine r_iinc5 (pc := 119) dX0_weakest_119 (nI_1 _) rfl ?_
            refine r_goto (pc := 122) 48 dX0_weakest_122 rfl ?_
            first | (rw [cI_t ⟨hbt, Or.inr h107⟩] at hI; exact ih (m + 1) _ _ _ (by omega) (Or.inr ⟨m, by omega, hbt, rfl, rfl⟩) hI) | (rw [cI_f (fun q => by rw [hbt] at q; exact absurd q.1 (by decide))] at hI; exact ih (m + 1) _ _ _ (by omega) (Or.inr ⟨k, hk, hkb, rfl, rfl⟩) hI) | (rw [cI_f (fun q => q.2.elim hk1 h107)] at hI; exact ih (m + 1) _ _ _ (by omega) (Or.inr ⟨k, hk, hkb, rfl, rfl⟩) hI)
          · refine r_iload (pc := 110) dX0_weakest_110 rfl ?_
            refine r_goto (pc := 112) 117 dX0_weakest_112 rfl ?_
            refine r_istore4 (pc := 117) dX0_weakest_117 rfl ?_
            refine r_iinc5 (pc := 119) dX0_weakest_119 (nI_1 _) rfl ?_
            refine r_goto (pc := 122) 48 dX0_weakest_122 rfl ?_
            first | (rw [cI_t ⟨hbt, Or.inr h107⟩] at hI; exact ih (m + 1) _ _ _ (by omega) (Or.inr ⟨m, by omega, hbt, rfl, rfl⟩) hI) | (rw [cI_f (fun q => by rw [hbt] at q; exact absurd q.1 (by decide))] at hI; exact ih (m + 1) _ _ _ (by omega) (Or.inr ⟨k, hk, hkb, rfl, rfl⟩) hI) | (rw [cI_f (fun q => q.2.elim hk1 h107)] at hI; exact ih (m + 1) _ _ _ (by omega) (Or.inr ⟨k, hk, hkb, rfl, rfl⟩) hI)
  refine r_aload_n (pc := 0) dX0_weakest_0 rfl ?_
  refine r_iload_n (pc := 1) dX0_weakest_1 rfl ?_
  refine r_o2 (pc := 2) (bc' := 2) (bs' := 14) (ct_X0_thingAt hx x1 hB) k_X0_193_0 dX0_weakest_2 hx.1.2.1 (Nat.le_of_ble_eq_true rfl) ⟨Nat.le_of_ble_eq_true rfl, Nat.le_of_ble_eq_true rfl⟩ ⟨Nat.le_of_ble_eq_true rfl, Nat.le_of_ble_eq_true rfl⟩ (r_cr fun r2 M2 p2 => ?_) (fun q E M9 h9 => by obtain ⟨hn9, rfl, k9, w9, o9⟩ := h9; exact t_catch [] _ _ _ rfl (fun z hz => absurd hz List.not_mem_nil) rfl (by decide) q305 q389 ((hC M9 q _ _ _ _ _ k9 w9 (by decide) o9 (by unfold weakestS; rw [cI_t (Or.inl hn9)])).loose (Nat.zero_le _) (Nat.zero_le _)))
  obtain ⟨hy, -, p2⟩ := p2
  have p2 := Eq.symm (show _ = _ from p2)
  subst p2
  refine r_pop (pc := 5) dX0_weakest_5 rfl ?_
  refine r_aload_n (pc := 6) dX0_weakest_6 rfl ?_
  refine r_iload_n (pc := 7) dX0_weakest_7 rfl ?_
  refine r_o2 (pc := 8) (bc' := 2) (bs' := 14) (ct_X0_isSet hx x2 hB) k_X0_317_0 dX0_weakest_8 hx.1.2.1 (Nat.le_of_ble_eq_true rfl) ⟨Nat.le_of_ble_eq_true rfl, Nat.le_of_ble_eq_true rfl⟩ ⟨Nat.le_of_ble_eq_true rfl, Nat.le_of_ble_eq_true rfl⟩ (r_ci fun r8 M8 p8 => ?_) nox
  obtain ⟨rfl, p8⟩ := p8
  have p8 := Eq.symm (show _ = _ from p8)
  subst p8
  refine r_iconst (pc := 11) (v := (-1)) dX0_weakest_11 (by decide) ?_
  refine r_s2 (pc := 12) (bc' := 1) (bs' := 7) (ct_X0_need _ _) k_X0_115 dX0_weakest_12 (Nat.le_of_ble_eq_true rfl) ⟨Nat.le_of_ble_eq_true rfl, Nat.le_of_ble_eq_true rfl⟩ ⟨Nat.le_of_ble_eq_true rfl, Nat.le_of_ble_eq_true rfl⟩ (r_cv fun M12 p12 => ?_) (fun q E M9 h8 => by have h9 := And.intro (bI_eq0.mp h8.1) (hx.rf h8.2); obtain ⟨hn9, rfl, k9, w9, o9⟩ := h9; exact t_catch [] _ _ _ rfl (fun z hz => absurd hz List.not_mem_nil) rfl (by decide) q305 q389 ((hC M9 q _ _ _ _ _ k9 w9 (by decide) o9 (by unfold weakestS; rw [cI_t (Or.inr hn9)])).loose (Nat.zero_le _) (Nat.zero_le _)))
  obtain ⟨hz, p12⟩ := p12
  have p12 := Eq.symm (show _ = _ from p12)
  subst p12
  rw [bI_ne0] at hz
  refine r_iload_n (pc := 15) dX0_weakest_15 rfl ?_
  refine r_if_eq (pc := 16) 23 dX0_weakest_16 rfl (fun h16 => ?_) (fun h16 => ?_)
  · refine r_iconst (pc := 23) (v := 0) dX0_weakest_23 (by decide) ?_
    refine r_eqi (bI (¬ x2 = 0)) (by first | exact bI_t' h16 | exact bI_f' (fun h => h h16)) ?_
    refine r_bipush (pc := 24) (v := (-5)) dX0_weakest_24 (by decide) ?_
    refine r_s2 (pc := 26) (bc' := 0) (bs' := 0) (ct_X0_need _ _) k_X0_115 dX0_weakest_26 (Nat.le_of_ble_eq_true rfl) ⟨Nat.le_of_ble_eq_true rfl, Nat.le_of_ble_eq_true rfl⟩ ⟨Nat.le_of_ble_eq_true rfl, Nat.le_of_ble_eq_true rfl⟩ (r_cv fun M26 p26 => ?_) (fun q E M9 h8 => by have h9 := And.intro (bI_eq0.mp h8.1) (hx.rf h8.2); obtain ⟨hn9, rfl, k9, w9, o9⟩ := h9; exact t_catch [] _ _ _ rfl (fun z hz => absurd hz List.not_mem_nil) rfl (by decide) q305 q389 ((hC M9 q _ _ _ _ _ k9 w9 (by decide) o9 (by unfold weakestS; rw [cI_f (fun q => q.elim (fun z => z hy) (fun z => z hz)), cI_t (Classical.not_not.mp hn9)])).loose (Nat.zero_le _) (Nat.zero_le _)))
    obtain ⟨h0, p26⟩ := p26
    have p26 := Eq.symm (show _ = _ from p26)
    subst p26
    rw [bI_ne0] at h0
    refine r_aload_n (pc := 29) dX0_weakest_29 rfl ?_
    refine r_iload_n (pc := 30) dX0_weakest_30 rfl ?_
    refine r_aload_n (pc := 31) dX0_weakest_31 rfl ?_
    refine r_getR (pc := 32) dX0_weakest_32 fl_X0_90_0 hx.1.2.1 (fun _ _ => rfl) hx.2.2.1.1 ?_
    refine r_getIe (pc := 35) (v := S.1 3 0) dX0_weakest_35 fl_X0_234_3 hx.2.2.1.2.2.k (fun _ _ => rfl) hx.2.2.1.2.2.i0 ?_
    refine r_o3 (pc := 38) (bc' := 0) (bs' := 0) (ct_X0_reachOf hx x1 (S.1 3 0) hB hy) k_X0_320_0 dX0_weakest_38 hx.1.2.1 (Nat.le_of_ble_eq_true rfl) ⟨Nat.le_of_ble_eq_true rfl, Nat.le_of_ble_eq_true rfl⟩ ⟨Nat.le_of_ble_eq_true rfl, Nat.le_of_ble_eq_true rfl⟩ (r_cr fun r38 M38 p38 => ?_) nox
    obtain ⟨rfl, hx1, hR1, hE⟩ := p38
    refine r_astore3 (pc := 41) dX0_weakest_41 rfl ?_
    refine r_iconst (pc := 42) (v := (-1)) dX0_weakest_42 (by decide) ?_
    refine r_istore4 (pc := 43) dX0_weakest_43 rfl ?_
    refine r_iconst (pc := 45) (v := 0) dX0_weakest_45 (by decide) ?_
    refine r_istore5 (pc := 46) dX0_weakest_46 rfl ?_
    obtain ⟨sN, e2, hsl, hs8⟩ := set_lt hB hz
    obtain ⟨hl1, hl2⟩ := long_on hS.1 (ix_lt hy.1 hy.2)
    exact (L sN _ e2 (by rw [← n1]; exact hsl) hx1 (fun s hs => (hE s hs).trans (enX_F hS.1 (ix_lt hy.1 hy.2) hl1 hl2 s)) N1 0 (-1) 0 _ (by omega) (Or.inl rfl) (by unfold weakestS; rw [cI_f (fun q => q.elim (fun z => z hy) (fun z => z hz)), cI_f h0, n1, show Int32.toNatClampNeg x2 = sN by rw [e2, ix_nI (by omega)]])).loose (by omega) (by omega)
  · refine r_iconst (pc := 19) (v := 1) dX0_weakest_19 (by decide) ?_
    refine r_goto (pc := 20) 24 dX0_weakest_20 rfl ?_
    refine r_eqi (bI (¬ x2 = 0)) (by first | exact bI_t' h16 | exact bI_f' (fun h => h h16)) ?_
    refine r_bipush (pc := 24) (v := (-5)) dX0_weakest_24 (by decide) ?_
    refine r_s2 (pc := 26) (bc' := 0) (bs' := 0) (ct_X0_need _ _) k_X0_115 dX0_weakest_26 (Nat.le_of_ble_eq_true rfl) ⟨Nat.le_of_ble_eq_true rfl, Nat.le_of_ble_eq_true rfl⟩ ⟨Nat.le_of_ble_eq_true rfl, Nat.le_of_ble_eq_true rfl⟩ (r_cv fun M26 p26 => ?_) (fun q E M9 h8 => by have h9 := And.intro (bI_eq0.mp h8.1) (hx.rf h8.2); obtain ⟨hn9, rfl, k9, w9, o9⟩ := h9; exact t_catch [] _ _ _ rfl (fun z hz => absurd hz List.not_mem_nil) rfl (by decide) q305 q389 ((hC M9 q _ _ _ _ _ k9 w9 (by decide) o9 (by unfold weakestS; rw [cI_f (fun q => q.elim (fun z => z hy) (fun z => z hz)), cI_t (Classical.not_not.mp hn9)])).loose (Nat.zero_le _) (Nat.zero_le _)))
    obtain ⟨h0, p26⟩ := p26
    have p26 := Eq.symm (show _ = _ from p26)
    subst p26
    rw [bI_ne0] at h0
    refine r_aload_n (pc := 29) dX0_weakest_29 rfl ?_
    refine r_iload_n (pc := 30) dX0_weakest_30 rfl ?_
    refine r_aload_n (pc := 31) dX0_weakest_31 rfl ?_
    refine r_getR (pc := 32) dX0_weakest_32 fl_X0_90_0 hx.1.2.1 (fun _ _ => rfl) hx.2.2.1.1 ?_
    refine r_getIe (pc := 35) (v := S.1 3 0) dX0_weakest_35 fl_X0_234_3 hx.2.2.1.2.2.k (fun _ _ => rfl) hx.2.2.1.2.2.i0 ?_
    refine r_o3 (pc := 38) (bc' := 0) (bs' := 0) (ct_X0_reachOf hx x1 (S.1 3 0) hB hy) k_X0_320_0 dX0_weakest_38 hx.1.2.1 (Nat.le_of_ble_eq_true rfl) ⟨Nat.le_of_ble_eq_true rfl, Nat.le_of_ble_eq_true rfl⟩ ⟨Nat.le_of_ble_eq_true rfl, Nat.le_of_ble_eq_true rfl⟩ (r_cr fun r38 M38 p38 => ?_) nox
    obtain ⟨rfl, hx1, hR1, hE⟩ := p38
    refine r_astore3 (pc := 41) dX0_weakest_41 rfl ?_
    refine r_iconst (pc := 42) (v := (-1)) dX0_weakest_42 (by decide) ?_
    refine r_istore4 (pc := 43) dX0_weakest_43 rfl ?_
    refine r_iconst (pc := 45) (v := 0) dX0_weakest_45 (by decide) ?_
    refine r_istore5 (pc := 46) dX0_weakest_46 rfl ?_
    obtain ⟨sN, e2, hsl, hs8⟩ := set_lt hB hz
    obtain ⟨hl1, hl2⟩ := long_on hS.1 (ix_lt hy.1 hy.2)
    exact (L sN _ e2 (by rw [← n1]; exact hsl) hx1 (fun s hs => (hE s hs).trans (enX_F hS.1 (ix_lt hy.1 hy.2) hl1 hl2 s)) N1 0 (-1) 0 _ (by omega) (Or.inl rfl) (by unfold weakestS; rw [cI_f (fun q => q.elim (fun z => z hy) (fun z => z hz)), cI_f h0, n1, show Int32.toNatClampNeg x2 = sN by rw [e2, ix_nI (by omega)]])).loose (by omega) (by omega)
theorem no_suc {g : Nat → Bool} {m : Nat} (h : ∀ j, j < m → g j = false) (hm : g m = false) : ∀ j, j < m + 1 → g j = false := fun j hj => by
  by_cases c : j = m
  · rw [c]; exact hm
  · exact h j (by omega)
theorem ct_X0_nextOf {M : PM} {xo wa mo : Nat} {Z : PM} {S : ST} (hx : XO M xo wa mo Z S) (x1 : Int32) {sN : Nat} (x3 x4 : Int32) (hS : OkW S.1) (ht : thP S.1 x1) (hq : onD (S.1 4 0) (S.1 5 0) x4 x3) (h99 : x4.toInt ≤ 99) (hto : ¬ wetP (S.1 4 0) (S.1 5 0) x4) (hsN : sN < 2 ^ ppN S.1) (h0 : sN ≠ 0) (he : endC (S.1 4 0) (S.1 5 0) x4 (fun m => farS S.1 m (Int32.toNatClampNeg x1)) x3 (ppN S.1) sN = x4) : Ct (YX0_nextOf, (7, 171, 0, 0), qi (fun r M' => r = nI (nxtC (goodC (S.1 4 0) (S.1 5 0) x4 (fun m => farS S.1 m (Int32.toNatClampNeg x1)) (ppN S.1) x3 sN) 8 0) ∧ XO M' xo wa mo Z S), noX) [.ref xo, .int x1, .int (nI sN), .int x3, .int x4] M := by
  refine ct_of [some (.ref xo), some (.int x1), some (.int (nI sN)), some (.int x3), some (.int x4), none, none] rfl rfl rfl (Nat.le_of_ble_eq_true rfl) rfl rfl ?_
  have hB := hS.t
  obtain ⟨N1, hN1, e1⟩ := bd_nI (n := 8) hB.1.2.1
  have n1 : ppN S.1 = N1 := by show Int32.toNatClampNeg (S.1 1 0) = N1; rw [e1]; exact ix_nI (by omega)
  have hp8 := pow8 hN1
  have hsN' : sN < 2 ^ N1 := by rw [← n1]; exact hsN
  have hs256 : sN < 256 := by omega
  have hfr := hS.frs (ix_lt ht.1 ht.2)
  obtain ⟨g1, g2, g3⟩ := nxt_good (fr := (fun m => farS S.1 m (Int32.toNatClampNeg x1))) (n := ppN S.1) (by omega) hq h99 hto hfr hsN h0 he
  have L : ∀ (n m : Nat) (M9 : PM) (o6 : Option Value), m + n = N1 → XO M9 xo wa mo Z S → (∀ j, j < m → goodC (S.1 4 0) (S.1 5 0) x4 (fun m => farS S.1 m (Int32.toNatClampNeg x1)) (ppN S.1) x3 sN j = false) → Wx (YX0_nextOf, (7, 171, 0, 0), qi (fun r M' => r = nI (nxtC (goodC (S.1 4 0) (S.1 5 0) x4 (fun m => farS S.1 m (Int32.toNatClampNeg x1)) (ppN S.1) x3 sN) 8 0) ∧ XO M' xo wa mo Z S), noX) 0 0 M9 3 [some (.ref xo), some (.int x1), some (.int (nI sN)), some (.int x3), some (.int x4), some (.int (nI m)), o6] [] := by
    intro n
    induction n with
    | zero =>
      intro m M9 o6 hm hx9 hno9
      have := hno9 (nxtC (goodC (S.1 4 0) (S.1 5 0) x4 (fun m => farS S.1 m (Int32.toNatClampNeg x1)) (ppN S.1) x3 sN) 8 0) (by omega)
      rw [g1] at this
      cases this
    | succ n ih =>
      intro m M9 o6 hm hx9 hno9
      have hmn : mnP S.1 (nI m) := ⟨nn_nI (by omega), by rw [e1, ltI (by omega) (by omega)]; omega⟩
      have ixm : Int32.toNatClampNeg (nI m) = m := ix_nI (by omega)
      have hfm := hfr m (by omega)
      have hbg := br_go (f := (fun m => farS S.1 m (Int32.toNatClampNeg x1)) m) hq.1 (by have := hq.2.1; omega) hfm hq.2.2 hto
      have hgo := goes_ok (f := (fun m => farS S.1 m (Int32.toNatClampNeg x1)) m) hq.1 hq.2.1 h99 hfm hq.2.2 hto
      refine r_iload (pc := 3) dX0_nextOf_3 rfl ?_
      refine r_aload_n (pc := 5) dX0_nextOf_5 rfl ?_
      refine r_getR (pc := 6) dX0_nextOf_6 fl_X0_90_0 hx9.1.2.1 (fun _ _ => rfl) hx9.2.2.1.1 ?_
      refine r_getIe (pc := 9) (v := S.1 1 0) dX0_nextOf_9 fl_X0_123_3 hx9.2.2.1.2.2.k (fun _ _ => rfl) hx9.2.2.1.2.2.i5 ?_
      refine r_icmp_ge (pc := 12) 86 dX0_nextOf_12 rfl (fun hno => False.elim (hno hmn.2)) (fun _ => ?_)
      refine r_iload_n (pc := 15) dX0_nextOf_15 rfl ?_
      refine r_iload (pc := 16) dX0_nextOf_16 rfl ?_
      refine r_ishr (pc := 18) dX0_nextOf_18 ?_
      refine r_iconst (pc := 19) (v := 1) dX0_nextOf_19 (by decide) ?_
      refine r_iand (pc := 20) dX0_nextOf_20 ?_
      refine r_if_eq (pc := 21) 80 dX0_nextOf_21 rfl (fun h21 => ?_) (fun h21 => ?_)
      · have hbt : sN.testBit m = false := (bt_0 sN hs256 m (by omega)).mp h21
        refine r_iinc5 (pc := 80) dX0_nextOf_80 (nI_1 _) rfl ?_
        refine r_goto (pc := 83) 3 dX0_nextOf_83 rfl ?_
        first | exact ih (m + 1) _ _ (by omega) hx10 (no_suc hno9 (good_n (fun q => h74 q.2))) | exact ih (m + 1) _ _ (by omega) hx9 (no_suc hno9 (good_n (fun q => by rw [hbt] at q; exact absurd q.1 (by decide))))
      · have hbt : sN.testBit m = true := by cases c : sN.testBit m with | false => exact absurd ((bt_0 sN hs256 m (by omega)).mpr c) h21 | true => rfl
        have hlt2 := bit_lt hbt
        refine r_aload_n (pc := 24) dX0_nextOf_24 rfl ?_
        refine r_getR (pc := 25) dX0_nextOf_25 fl_X0_90_0 hx9.1.2.1 (fun _ _ => rfl) hx9.2.2.1.1 ?_
        refine r_iload_n (pc := 28) dX0_nextOf_28 rfl ?_
        refine r_aload_n (pc := 29) dX0_nextOf_29 rfl ?_
        refine r_getR (pc := 30) dX0_nextOf_30 fl_X0_90_0 hx9.1.2.1 (fun _ _ => rfl) hx9.2.2.1.1 ?_
        refine r_iload (pc := 33) dX0_nextOf_33 rfl ?_
        refine r_iload_n (pc := 35) dX0_nextOf_35 rfl ?_
        refine r_o3 (pc := 36) (bc' := 0) (bs' := 0) (ct_X3_far hx9.2.2.1.2.2 (nI m) x1 hB hmn ht) k_X0_304_3 dX0_nextOf_36 hx9.2.2.1.2.2.k (Nat.le_of_ble_eq_true rfl) ⟨Nat.le_of_ble_eq_true rfl, Nat.le_of_ble_eq_true rfl⟩ ⟨Nat.le_of_ble_eq_true rfl, Nat.le_of_ble_eq_true rfl⟩ (r_ci fun r36 M36 p36 => ?_) nox
        obtain ⟨rfl, p36⟩ := p36
        have p36 := Eq.symm (show _ = _ from p36)
        subst p36
        rw [ixm]
        refine r_iload (pc := 39) dX0_nextOf_39 rfl ?_
        refine r_o4 (pc := 41) (bc' := 0) (bs' := 0) (ct_X3_brings hx9.2.2.1.2.2 x3 ((fun m => farS S.1 m (Int32.toNatClampNeg x1)) m) x4) k_X0_340_3 dX0_nextOf_41 hx9.2.2.1.2.2.k (Nat.le_of_ble_eq_true rfl) ⟨Nat.le_of_ble_eq_true rfl, Nat.le_of_ble_eq_true rfl⟩ ⟨Nat.le_of_ble_eq_true rfl, Nat.le_of_ble_eq_true rfl⟩ (r_ci fun r41 M41 p41 => ?_) nox
        obtain ⟨rfl, p41⟩ := p41
        have p41 := Eq.symm (show _ = _ from p41)
        subst p41
        rw [hbg]
        refine r_istore6 (pc := 44) dX0_nextOf_44 rfl ?_
        refine r_aload_n (pc := 46) dX0_nextOf_46 rfl ?_
        refine r_getR (pc := 47) dX0_nextOf_47 fl_X0_77_0 hx9.1.2.1 (fun _ _ => rfl) hx9.1.2.2.1.2.2.2.1 ?_
        refine r_aload_n (pc := 50) dX0_nextOf_50 rfl ?_
        refine r_getR (pc := 51) dX0_nextOf_51 fl_X0_90_0 hx9.1.2.1 (fun _ _ => rfl) hx9.2.2.1.1 ?_
        refine r_iload_n (pc := 54) dX0_nextOf_54 rfl ?_
        refine r_iload (pc := 55) dX0_nextOf_55 rfl ?_
        refine r_iload (pc := 57) dX0_nextOf_57 rfl ?_
        refine r_iconst (pc := 59) (v := 4) dX0_nextOf_59 (by decide) ?_
        refine r_o6 (pc := 60) (bc' := 0) (bs' := 0) (ct_X2_find (row := 4) hx9.1.2.2.2.2.2.2.1 hx9.2.2.1.2.2 x1 (goesC (S.1 4 0) (S.1 5 0) x3 ((fun m => farS S.1 m (Int32.toNatClampNeg x1)) m) x4) x4 hB ht (by decide) (hx9.skd (by decide)) (hx9.skl (by decide))) k_X0_135_2 dX0_nextOf_60 hx9.1.2.2.2.2.2.2.1.1 (Nat.le_of_ble_eq_true rfl) ⟨Nat.le_of_ble_eq_true rfl, Nat.le_of_ble_eq_true rfl⟩ ⟨Nat.le_of_ble_eq_true rfl, Nat.le_of_ble_eq_true rfl⟩ (r_cr fun r60 M60 p60 => ?_) nox
        obtain ⟨rfl, f1, hR1, hE⟩ := p60
        have hx10 := hx9.fnd (by decide) f1 hR1
        refine r_iload_n (pc := 63) dX0_nextOf_63 rfl ?_
        refine r_iconst (pc := 64) (v := 1) dX0_nextOf_64 (by decide) ?_
        refine r_iload (pc := 65) dX0_nextOf_65 rfl ?_
        refine r_ishl (pc := 67) dX0_nextOf_67 ?_
        refine r_iconst (pc := 68) (v := (-1)) dX0_nextOf_68 (by decide) ?_
        refine r_ixor (pc := 69) dX0_nextOf_69 ?_
        refine r_iand (pc := 70) dX0_nextOf_70 ?_
        rw [bt_clr sN hs256 m (by omega), if_pos hbt]
        refine r_ialdv (pc := 71) (v := endC (S.1 4 0) (S.1 5 0) x4 (fun m => farS S.1 m (Int32.toNatClampNeg x1)) (goesC (S.1 4 0) (S.1 5 0) x3 ((fun m => farS S.1 m (Int32.toNatClampNeg x1)) m) x4) (ppN S.1) (sN - 2 ^ m)) dX0_nextOf_71 (hx10.1.2.2.2.2.2.2.1.2.2.2.1 4 (by decide)).2.1 (hx10.1.2.2.2.2.2.2.1.2.2.2.1 4 (by decide)).2.2 (vp_in_nI (by omega) (by decide)) (by rw [ix_nI (by omega), hE _ (by omega)]; exact enX_e ⟨by have := hq.1; omega, hgo.2.1, hgo.2.2⟩ h99 hto hfr _) ?_
        refine r_iload (pc := 72) dX0_nextOf_72 rfl ?_
        refine r_icmp_ne (pc := 74) 80 dX0_nextOf_74 rfl (fun h74 => ?_) (fun h74 => ?_)
        · refine r_iinc5 (pc := 80) dX0_nextOf_80 (nI_1 _) rfl ?_
          refine r_goto (pc := 83) 3 dX0_nextOf_83 rfl ?_
          first | exact ih (m + 1) _ _ (by omega) hx10 (no_suc hno9 (good_n (fun q => h74 q.2))) | exact ih (m + 1) _ _ (by omega) hx9 (no_suc hno9 (good_n (fun q => by rw [hbt] at q; exact absurd q.1 (by decide))))
        · refine r_iload (pc := 77) dX0_nextOf_77 rfl ?_
          refine r_ireturn (pc := 79) rfl dX0_nextOf_79 ⟨_, rfl, ?_⟩
          have hg : goodC (S.1 4 0) (S.1 5 0) x4 (fun m => farS S.1 m (Int32.toNatClampNeg x1)) (ppN S.1) x3 sN m = true := by unfold goodC; rw [hbt, Bool.true_and, decide_eq_true_eq]; exact h74
          have e9 : nxtC (goodC (S.1 4 0) (S.1 5 0) x4 (fun m => farS S.1 m (Int32.toNatClampNeg x1)) (ppN S.1) x3 sN) 8 0 = m := nxt_at 8 0 m (by omega) (by omega) hg (fun j _ hj => hno9 j hj)
          exact ⟨by rw [e9], hx10⟩
  refine r_iconst (pc := 0) (v := 0) dX0_nextOf_0 (by decide) ?_
  refine r_istore5 (pc := 1) dX0_nextOf_1 rfl ?_
  exact L N1 0 M _ (by omega) hx (fun j hj => absurd hj (by omega))
theorem ord_in {x : Int32} {c : Nat} (hb : bd (nI c) 0 8) : (¬ x < 0 ∧ ¬ nI c - 1 < x) ↔ (¬ x < 0 ∧ x < nI c) := in_c (m := 8) hb (by decide)
theorem ord_i {x : Int32} {c : Nat} (h : ¬ x < 0 ∧ ¬ nI c - 1 < x) (hb : bd (nI c) 0 8) : ∃ i : Nat, x = nI i ∧ i < c := by
  obtain ⟨h1, h2⟩ := (ord_in hb).mp h
  obtain ⟨i, hi, rfl⟩ := nI_of h1
  refine ⟨i, rfl, ?_⟩
  have h8 := hb.2
  rw [i_lt, nI_toInt hi] at h2
  by_cases hc : c < 2147483648
  · rw [nI_toInt hc] at h2; omega
  · omega
theorem ord_c {A : Prop} {x x2 : Int32} {s : Nat} (h : ¬ (A ∧ (¬ x < 0 ∧ ¬ nI (cntN s) - 1 < x))) (hb : bd (nI (cntN s)) 0 8) (e : x2 = nI s) (hs : s < 256 := by omega) : ¬ A ∨ x < 0 ∨ ¬ x < nI (cntN (Int32.toNatClampNeg x2)) := by
  rw [e, ix_nI (by omega)]
  by_cases a : A
  · right
    rw [ord_in hb] at h
    by_cases c : x < 0
    · exact Or.inl c
    · exact Or.inr fun q => h ⟨a, c, q⟩
  · exact Or.inl a
theorem ord_d {A : Prop} {x x2 : Int32} {s : Nat} (h : A ∧ (¬ x < 0 ∧ ¬ nI (cntN s) - 1 < x)) (hb : bd (nI (cntN s)) 0 8) (e : x2 = nI s) (hs : s < 256 := by omega) : ¬ (¬ A ∨ x < 0 ∨ ¬ x < nI (cntN (Int32.toNatClampNeg x2))) := by
  rw [e, ix_nI (by omega)]
  rw [ord_in hb] at h
  rintro (q | q | q)
  · exact q h.1
  · exact h.2.1 q
  · exact q h.2.2
theorem ct_X0_order {M : PM} {xo wa mo : Nat} {Z : PM} {S : ST} (hx : XO M xo wa mo Z S) (x1 x2 x3 x4 : Int32) (hS : OkS S.1) : Ct (YX0_order, (8, 197, 4, 28), qi (fun r M' => oX xo mo Z (orderS S x1 x2 x3 x4) r M'), noX) [.ref xo, .int x1, .int x2, .int x3, .int x4] M := by
  refine ct_ofH [some (.ref xo), some (.int x1), some (.int x2), some (.int x3), some (.int x4), none, none, none, none, none] rfl rfl (Nat.le_of_ble_eq_true rfl) rfl rfl ?_
  have hB := hS.1.t
  have hC : ∀ (M9 : PM) (q : Nat) (b : Int32) (o5 o6 o7 o8 o9 : Option Value), mK M9 q = (1, 6) → mI M9 q 6 = b → bd b (-7) (-1) → XO M9 xo wa mo Z S → orderS S x1 x2 x3 x4 = noS S b → Wx (YX0_order, (8, 197, 4, 28), qi (fun r M' => oX xo mo Z (orderS S x1 x2 x3 x4) r M'), noX) 0 0 M9 178 [some (.ref xo), some (.int x1), some (.int x2), some (.int x3), some (.int x4), o5, o6, o7, o8, o9] [.ref q] := by
    intro M9 q b o5 o6 o7 o8 o9 h1 h2 h3 h4 h5
    refine r_astore5 (pc := 178) dX0_order_178 rfl ?_
    refine r_aload_n (pc := 180) dX0_order_180 rfl ?_
    refine r_aload (pc := 181) dX0_order_181 rfl ?_
    refine r_o2 (pc := 183) (bc' := 0) (bs' := 0) (ct_X0_refused h4 h1 h2 h3) k_X0_173_0 dX0_order_183 h4.1.2.1 (Nat.le_of_ble_eq_true rfl) ⟨Nat.le_of_ble_eq_true rfl, Nat.le_of_ble_eq_true rfl⟩ ⟨Nat.le_of_ble_eq_true rfl, Nat.le_of_ble_eq_true rfl⟩ (r_ci fun r183 M183 p183 => ?_) nox
    obtain ⟨rfl, h6⟩ := p183
    refine r_ireturn (pc := 186) rfl dX0_order_186 ⟨_, rfl, ?_⟩
    exact (show oX xo mo Z (orderS S x1 x2 x3 x4) _ _ by rw [h5]; exact ⟨rfl, wa, h6⟩)
  obtain ⟨N1, hN1, e1⟩ := bd_nI (n := 8) hB.1.2.1
  have n1 : ppN S.1 = N1 := by show Int32.toNatClampNeg (S.1 1 0) = N1; rw [e1]; exact ix_nI (by omega)
  have hp8 := pow8 hN1
  have L : ∀ (iN : Nat), thP S.1 x1 → onP S.1 x1 x3 → x4 = nI iN → iN < 8 → ∀ (n k sN : Nat) (q : Int32) (M9 : PM) (o8 : Value), k + n = iN → sN < 2 ^ N1 → onD (S.1 4 0) (S.1 5 0) x3 q → endC (S.1 4 0) (S.1 5 0) x3 (fun m => farS S.1 m (Int32.toNatClampNeg x1)) q (ppN S.1) sN = x3 → n < cntN sN → XO M9 xo wa mo Z S → orderS S x1 x2 x3 x4 = (ordL (S.1 4 0) (S.1 5 0) x3 (fun m => farS S.1 m (Int32.toNatClampNeg x1)) (ppN S.1) n q sN, S) → Wx (YX0_order, (8, 197, 4, 28), qi (fun r M' => oX xo mo Z (orderS S x1 x2 x3 x4) r M'), noX) 0 0 M9 117 [some (.ref xo), some (.int x1), some (.int x2), some (.int x3), some (.int x4), some (.int 1), some (.int (nI sN)), some (.int q), some o8, some (.int (nI k))] [] := by
    intro iN hy ho ei hi8 n
    obtain ⟨hon, h99⟩ := on_p hS.1 (ix_lt hy.1 hy.2) ho.1 (Int.le_of_lt (i_lt.mp ho.2))
    have hto := ho.1.2.2
    have hfr := hS.1.frs (ix_lt hy.1 hy.2)
    induction n with
    | zero =>
      intro k sN q M9 o8 hk hsN hq he hc hx9 hI
      have hs256 : sN < 256 := by omega
      have hs0 : sN ≠ 0 := fun e => by rw [e, cnt_z] at hc; omega
      obtain ⟨g1, g2, g3⟩ := nxt_good (fr := (fun m => farS S.1 m (Int32.toNatClampNeg x1))) (n := ppN S.1) (by omega) hq h99 hto hfr (by rw [n1]; exact hsN) hs0 he
      have hm' : nxtC (goodC (S.1 4 0) (S.1 5 0) x3 (fun m => farS S.1 m (Int32.toNatClampNeg x1)) (ppN S.1) q sN) 8 0 < N1 := by omega
      obtain ⟨hbt, hen⟩ := good_b g1
      rw [ordL] at hI
      have hnx := ct_X0_nextOf (sN := sN) hx9 x1 q x3 hS.1 hy hq h99 hto (by rw [n1]; exact hsN) hs0 he
      generalize nxtC (goodC (S.1 4 0) (S.1 5 0) x3 (fun m => farS S.1 m (Int32.toNatClampNeg x1)) (ppN S.1) q sN) 8 0 = m at *
      have hmn : mnP S.1 (nI m) := ⟨nn_nI (by omega), by rw [e1, ltI (by omega) (by omega)]; omega⟩
      have ixm : Int32.toNatClampNeg (nI m) = m := ix_nI (by omega)
      have hfm := hfr m (by omega)
      have hbg := br_go (f := (fun m => farS S.1 m (Int32.toNatClampNeg x1)) m) hq.1 (by have := hq.2.1; omega) hfm hq.2.2 hto
      have hgo := goes_ok (f := (fun m => farS S.1 m (Int32.toNatClampNeg x1)) m) hq.1 hq.2.1 h99 hfm hq.2.2 hto
      refine r_iload (pc := 117) dX0_order_117 rfl ?_
      refine r_iload (pc := 119) dX0_order_119 rfl ?_
      refine r_icmp_gt (pc := 121) 175 dX0_order_121 rfl (fun hno => False.elim (by rw [ei, ltI (by omega) (by omega)] at hno; omega)) (fun _ => ?_)
      refine r_aload_n (pc := 124) dX0_order_124 rfl ?_
      refine r_iload_n (pc := 125) dX0_order_125 rfl ?_
      refine r_iload (pc := 126) dX0_order_126 rfl ?_
      refine r_iload (pc := 128) dX0_order_128 rfl ?_
      refine r_iload_n (pc := 130) dX0_order_130 rfl ?_
      refine r_o5 (pc := 131) (bc' := 0) (bs' := 0) (hnx) k_X0_336_0 dX0_order_131 hx9.1.2.1 (Nat.le_of_ble_eq_true rfl) ⟨Nat.le_of_ble_eq_true rfl, Nat.le_of_ble_eq_true rfl⟩ ⟨Nat.le_of_ble_eq_true rfl, Nat.le_of_ble_eq_true rfl⟩ (r_ci fun r131 M131 p131 => ?_) nox
      obtain ⟨rfl, hx10⟩ := p131
      refine r_istore8 (pc := 134) dX0_order_134 rfl ?_
      refine r_iload (pc := 136) dX0_order_136 rfl ?_
      refine r_iconst (pc := 138) (v := 1) dX0_order_138 (by decide) ?_
      refine r_iload (pc := 139) dX0_order_139 rfl ?_
      refine r_ishl (pc := 141) dX0_order_141 ?_
      refine r_iconst (pc := 142) (v := (-1)) dX0_order_142 (by decide) ?_
      refine r_ixor (pc := 143) dX0_order_143 ?_
      refine r_iand (pc := 144) dX0_order_144 ?_
      rw [bt_clr sN hs256 m (by omega), if_pos hbt]
      refine r_istore6 (pc := 145) dX0_order_145 rfl ?_
      refine r_aload_n (pc := 147) dX0_order_147 rfl ?_
      refine r_getR (pc := 148) dX0_order_148 fl_X0_90_0 hx10.1.2.1 (fun _ _ => rfl) hx10.2.2.1.1 ?_
      refine r_iload (pc := 151) dX0_order_151 rfl ?_
      refine r_aload_n (pc := 153) dX0_order_153 rfl ?_
      refine r_getR (pc := 154) dX0_order_154 fl_X0_90_0 hx10.1.2.1 (fun _ _ => rfl) hx10.2.2.1.1 ?_
      refine r_iload (pc := 157) dX0_order_157 rfl ?_
      refine r_iload_n (pc := 159) dX0_order_159 rfl ?_
      refine r_o3 (pc := 160) (bc' := 0) (bs' := 0) (ct_X3_far hx10.2.2.1.2.2 (nI m) x1 hB hmn hy) k_X0_304_3 dX0_order_160 hx10.2.2.1.2.2.k (Nat.le_of_ble_eq_true rfl) ⟨Nat.le_of_ble_eq_true rfl, Nat.le_of_ble_eq_true rfl⟩ ⟨Nat.le_of_ble_eq_true rfl, Nat.le_of_ble_eq_true rfl⟩ (r_ci fun r160 M160 p160 => ?_) nox
      obtain ⟨rfl, p160⟩ := p160
      have p160 := Eq.symm (show _ = _ from p160)
      subst p160
      rw [ixm]
      refine r_iload_n (pc := 163) dX0_order_163 rfl ?_
      refine r_o4 (pc := 164) (bc' := 0) (bs' := 0) (ct_X3_brings hx10.2.2.1.2.2 q ((fun m => farS S.1 m (Int32.toNatClampNeg x1)) m) x3) k_X0_340_3 dX0_order_164 hx10.2.2.1.2.2.k (Nat.le_of_ble_eq_true rfl) ⟨Nat.le_of_ble_eq_true rfl, Nat.le_of_ble_eq_true rfl⟩ ⟨Nat.le_of_ble_eq_true rfl, Nat.le_of_ble_eq_true rfl⟩ (r_ci fun r164 M164 p164 => ?_) nox
      obtain ⟨rfl, p164⟩ := p164
      have p164 := Eq.symm (show _ = _ from p164)
      subst p164
      rw [hbg]
      refine r_istore7 (pc := 167) dX0_order_167 rfl ?_
      refine r_iinc9 (pc := 169) dX0_order_169 (nI_1 _) rfl ?_
      refine r_goto (pc := 172) 117 dX0_order_172 rfl ?_
      refine r_iload (pc := 117) dX0_order_117 rfl ?_
      refine r_iload (pc := 119) dX0_order_119 rfl ?_
      refine r_icmp_gt (pc := 121) 175 dX0_order_121 rfl (fun _ => ?_) (fun hno => False.elim (by rw [ei, ltI (by omega) (by omega)] at hno; omega))
      refine r_iload (pc := 175) dX0_order_175 rfl ?_
      refine r_ireturn (pc := 177) rfl dX0_order_177 ⟨_, rfl, ?_⟩
      exact (show oX xo mo Z (orderS S x1 x2 x3 x4) _ _ by rw [hI]; exact ⟨rfl, wa, hx10⟩)
    | succ n ih =>
      intro k sN q M9 o8 hk hsN hq he hc hx9 hI
      have hs256 : sN < 256 := by omega
      have hs0 : sN ≠ 0 := fun e => by rw [e, cnt_z] at hc; omega
      obtain ⟨g1, g2, g3⟩ := nxt_good (fr := (fun m => farS S.1 m (Int32.toNatClampNeg x1))) (n := ppN S.1) (by omega) hq h99 hto hfr (by rw [n1]; exact hsN) hs0 he
      have hm' : nxtC (goodC (S.1 4 0) (S.1 5 0) x3 (fun m => farS S.1 m (Int32.toNatClampNeg x1)) (ppN S.1) q sN) 8 0 < N1 := by omega
      obtain ⟨hbt, hen⟩ := good_b g1
      rw [ordL] at hI
      have hnx := ct_X0_nextOf (sN := sN) hx9 x1 q x3 hS.1 hy hq h99 hto (by rw [n1]; exact hsN) hs0 he
      generalize nxtC (goodC (S.1 4 0) (S.1 5 0) x3 (fun m => farS S.1 m (Int32.toNatClampNeg x1)) (ppN S.1) q sN) 8 0 = m at *
      have hmn : mnP S.1 (nI m) := ⟨nn_nI (by omega), by rw [e1, ltI (by omega) (by omega)]; omega⟩
      have ixm : Int32.toNatClampNeg (nI m) = m := ix_nI (by omega)
      have hfm := hfr m (by omega)
      have hbg := br_go (f := (fun m => farS S.1 m (Int32.toNatClampNeg x1)) m) hq.1 (by have := hq.2.1; omega) hfm hq.2.2 hto
      have hgo := goes_ok (f := (fun m => farS S.1 m (Int32.toNatClampNeg x1)) m) hq.1 hq.2.1 h99 hfm hq.2.2 hto
      refine r_iload (pc := 117) dX0_order_117 rfl ?_
      refine r_iload (pc := 119) dX0_order_119 rfl ?_
      refine r_icmp_gt (pc := 121) 175 dX0_order_121 rfl (fun hno => False.elim (by rw [ei, ltI (by omega) (by omega)] at hno; omega)) (fun _ => ?_)
      refine r_aload_n (pc := 124) dX0_order_124 rfl ?_
      refine r_iload_n (pc := 125) dX0_order_125 rfl ?_
      refine r_iload (pc := 126) dX0_order_126 rfl ?_
      refine r_iload (pc := 128) dX0_order_128 rfl ?_
      refine r_iload_n (pc := 130) dX0_order_130 rfl ?_
      refine r_o5 (pc := 131) (bc' := 0) (bs' := 0) (hnx) k_X0_336_0 dX0_order_131 hx9.1.2.1 (Nat.le_of_ble_eq_true rfl) ⟨Nat.le_of_ble_eq_true rfl, Nat.le_of_ble_eq_true rfl⟩ ⟨Nat.le_of_ble_eq_true rfl, Nat.le_of_ble_eq_true rfl⟩ (r_ci fun r131 M131 p131 => ?_) nox
      obtain ⟨rfl, hx10⟩ := p131
      refine r_istore8 (pc := 134) dX0_order_134 rfl ?_
      refine r_iload (pc := 136) dX0_order_136 rfl ?_
      refine r_iconst (pc := 138) (v := 1) dX0_order_138 (by decide) ?_
      refine r_iload (pc := 139) dX0_order_139 rfl ?_
      refine r_ishl (pc := 141) dX0_order_141 ?_
      refine r_iconst (pc := 142) (v := (-1)) dX0_order_142 (by decide) ?_
      refine r_ixor (pc := 143) dX0_order_143 ?_
      refine r_iand (pc := 144) dX0_order_144 ?_
      rw [bt_clr sN hs256 m (by omega), if_pos hbt]
      refine r_istore6 (pc := 145) dX0_order_145 rfl ?_
      refine r_aload_n (pc := 147) dX0_order_147 rfl ?_
      refine r_getR (pc := 148) dX0_order_148 fl_X0_90_0 hx10.1.2.1 (fun _ _ => rfl) hx10.2.2.1.1 ?_
      refine r_iload (pc := 151) dX0_order_151 rfl ?_
      refine r_aload_n (pc := 153) dX0_order_153 rfl ?_
      refine r_getR (pc := 154) dX0_order_154 fl_X0_90_0 hx10.1.2.1 (fun _ _ => rfl) hx10.2.2.1.1 ?_
      refine r_iload (pc := 157) dX0_order_157 rfl ?_
      refine r_iload_n (pc := 159) dX0_order_159 rfl ?_
      refine r_o3 (pc := 160) (bc' := 0) (bs' := 0) (ct_X3_far hx10.2.2.1.2.2 (nI m) x1 hB hmn hy) k_X0_304_3 dX0_order_160 hx10.2.2.1.2.2.k (Nat.le_of_ble_eq_true rfl) ⟨Nat.le_of_ble_eq_true rfl, Nat.le_of_ble_eq_true rfl⟩ ⟨Nat.le_of_ble_eq_true rfl, Nat.le_of_ble_eq_true rfl⟩ (r_ci fun r160 M160 p160 => ?_) nox
      obtain ⟨rfl, p160⟩ := p160
      have p160 := Eq.symm (show _ = _ from p160)
      subst p160
      rw [ixm]
      refine r_iload_n (pc := 163) dX0_order_163 rfl ?_
      refine r_o4 (pc := 164) (bc' := 0) (bs' := 0) (ct_X3_brings hx10.2.2.1.2.2 q ((fun m => farS S.1 m (Int32.toNatClampNeg x1)) m) x3) k_X0_340_3 dX0_order_164 hx10.2.2.1.2.2.k (Nat.le_of_ble_eq_true rfl) ⟨Nat.le_of_ble_eq_true rfl, Nat.le_of_ble_eq_true rfl⟩ ⟨Nat.le_of_ble_eq_true rfl, Nat.le_of_ble_eq_true rfl⟩ (r_ci fun r164 M164 p164 => ?_) nox
      obtain ⟨rfl, p164⟩ := p164
      have p164 := Eq.symm (show _ = _ from p164)
      subst p164
      rw [hbg]
      refine r_istore7 (pc := 167) dX0_order_167 rfl ?_
      refine r_iinc9 (pc := 169) dX0_order_169 (nI_1 _) rfl ?_
      refine r_goto (pc := 172) 117 dX0_order_172 rfl ?_
      have hc1 := bt_c1 sN hs256 m (by omega) hbt
      have hlt := bit_lt hbt
      exact ih (k + 1) (sN - 2 ^ m) _ _ _ (by omega) (by omega) ⟨by have := hq.1; omega, hgo.2.1, hgo.2.2⟩ hen (by omega) hx10 hI
  refine r_aload_n (pc := 0) dX0_order_0 rfl ?_
  refine r_iload_n (pc := 1) dX0_order_1 rfl ?_
  refine r_o2 (pc := 2) (bc' := 3) (bs' := 21) (ct_X0_thingAt hx x1 hB) k_X0_193_0 dX0_order_2 hx.1.2.1 (Nat.le_of_ble_eq_true rfl) ⟨Nat.le_of_ble_eq_true rfl, Nat.le_of_ble_eq_true rfl⟩ ⟨Nat.le_of_ble_eq_true rfl, Nat.le_of_ble_eq_true rfl⟩ (r_cr fun r2 M2 p2 => ?_) (fun q E M9 h9 => by obtain ⟨hn9, rfl, k9, w9, o9⟩ := h9; exact t_catch [] _ _ _ rfl (fun z hz => absurd hz List.not_mem_nil) rfl (by decide) q305 q389 ((hC M9 q _ _ _ _ _ _ k9 w9 (by decide) o9 (by unfold orderS; rw [cI_t (Or.inl hn9)])).loose (Nat.zero_le _) (Nat.zero_le _)))
  obtain ⟨hy, -, p2⟩ := p2
  have p2 := Eq.symm (show _ = _ from p2)
  subst p2
  refine r_pop (pc := 5) dX0_order_5 rfl ?_
  refine r_aload_n (pc := 6) dX0_order_6 rfl ?_
  refine r_iload_n (pc := 7) dX0_order_7 rfl ?_
  refine r_o2 (pc := 8) (bc' := 3) (bs' := 21) (ct_X0_isSet hx x2 hB) k_X0_317_0 dX0_order_8 hx.1.2.1 (Nat.le_of_ble_eq_true rfl) ⟨Nat.le_of_ble_eq_true rfl, Nat.le_of_ble_eq_true rfl⟩ ⟨Nat.le_of_ble_eq_true rfl, Nat.le_of_ble_eq_true rfl⟩ (r_ci fun r8 M8 p8 => ?_) nox
  obtain ⟨rfl, p8⟩ := p8
  have p8 := Eq.symm (show _ = _ from p8)
  subst p8
  refine r_iconst (pc := 11) (v := (-1)) dX0_order_11 (by decide) ?_
  refine r_s2 (pc := 12) (bc' := 2) (bs' := 14) (ct_X0_need _ _) k_X0_115 dX0_order_12 (Nat.le_of_ble_eq_true rfl) ⟨Nat.le_of_ble_eq_true rfl, Nat.le_of_ble_eq_true rfl⟩ ⟨Nat.le_of_ble_eq_true rfl, Nat.le_of_ble_eq_true rfl⟩ (r_cv fun M12 p12 => ?_) (fun q E M9 h8 => by have h9 := And.intro (bI_eq0.mp h8.1) (hx.rf h8.2); obtain ⟨hn9, rfl, k9, w9, o9⟩ := h9; exact t_catch [] _ _ _ rfl (fun z hz => absurd hz List.not_mem_nil) rfl (by decide) q305 q389 ((hC M9 q _ _ _ _ _ _ k9 w9 (by decide) o9 (by unfold orderS; rw [cI_t (Or.inr hn9)])).loose (Nat.zero_le _) (Nat.zero_le _)))
  obtain ⟨hz, p12⟩ := p12
  have p12 := Eq.symm (show _ = _ from p12)
  subst p12
  rw [bI_ne0] at hz
  refine r_aload_n (pc := 15) dX0_order_15 rfl ?_
  refine r_getR (pc := 16) dX0_order_16 fl_X0_90_0 hx.1.2.1 (fun _ _ => rfl) hx.2.2.1.1 ?_
  refine r_iload_n (pc := 19) dX0_order_19 rfl ?_
  refine r_o2 (pc := 20) (bc' := 2) (bs' := 14) (ct_X3_isStep hx.2.2.1.2.2 x3) k_X0_129_3 dX0_order_20 hx.2.2.1.2.2.k (Nat.le_of_ble_eq_true rfl) ⟨Nat.le_of_ble_eq_true rfl, Nat.le_of_ble_eq_true rfl⟩ ⟨Nat.le_of_ble_eq_true rfl, Nat.le_of_ble_eq_true rfl⟩ (r_ci fun r20 M20 p20 => ?_) nox
  obtain ⟨rfl, p20⟩ := p20
  have p20 := Eq.symm (show _ = _ from p20)
  subst p20
  refine r_if_eq (pc := 23) 43 dX0_order_23 rfl (fun h23 => ?_) (fun h23 => ?_)
  · rw [bI_eq0] at h23
    have hno : ¬ onP S.1 x1 x3 := fun q => by first | exact h23 q.1 | exact h36 q.2
    refine r_iconst (pc := 43) (v := 0) dX0_order_43 (by decide) ?_
    refine r_istore5 (pc := 44) dX0_order_44 rfl ?_
    refine r_iload (pc := 46) dX0_order_46 rfl ?_
    refine r_if_eq (pc := 48) 80 dX0_order_48 rfl (fun _ => ?_) (fun hno => absurd hno (by decide))
    refine r_iconst (pc := 80) (v := 1) dX0_order_80 (by decide) ?_
    refine r_goto (pc := 81) 85 dX0_order_81 rfl ?_
    refine r_bipush (pc := 85) (v := (-5)) dX0_order_85 (by decide) ?_
    refine r_s2 (pc := 87) (bc' := 1) (bs' := 7) (ct_X0_need _ _) k_X0_115 dX0_order_87 (Nat.le_of_ble_eq_true rfl) ⟨Nat.le_of_ble_eq_true rfl, Nat.le_of_ble_eq_true rfl⟩ ⟨Nat.le_of_ble_eq_true rfl, Nat.le_of_ble_eq_true rfl⟩ (r_cv fun M87 p87 => ?_) (fun q E M9 h9 => absurd h9.1 (by decide))
    obtain ⟨-, p87⟩ := p87
    have p87 := Eq.symm (show _ = _ from p87)
    subst p87
    refine r_iload (pc := 90) dX0_order_90 rfl ?_
    refine r_bipush (pc := 92) (v := (-6)) dX0_order_92 (by decide) ?_
    refine r_s2 (pc := 94) (bc' := 0) (bs' := 0) (ct_X0_need _ _) k_X0_115 dX0_order_94 (Nat.le_of_ble_eq_true rfl) ⟨Nat.le_of_ble_eq_true rfl, Nat.le_of_ble_eq_true rfl⟩ ⟨Nat.le_of_ble_eq_true rfl, Nat.le_of_ble_eq_true rfl⟩ (r_cv fun M94 p94 => ?_) (fun q E M9 h8 => by have h9 := hx.rf h8.2; obtain ⟨rfl, k9, w9, o9⟩ := h9; exact t_catch [] _ _ _ rfl (fun z hz => absurd hz List.not_mem_nil) rfl (by decide) q305 q389 ((hC M9 q _ _ _ _ _ _ k9 w9 (by decide) o9 (by unfold orderS; rw [cI_f (n_or ⟨hy, hz⟩), cI_t hno])).loose (Nat.zero_le _) (Nat.zero_le _)))
    exact absurd rfl p94.1
  · rw [bI_ne0] at h23
    refine r_iload_n (pc := 26) dX0_order_26 rfl ?_
    refine r_aload_n (pc := 27) dX0_order_27 rfl ?_
    refine r_getR (pc := 28) dX0_order_28 fl_X0_90_0 hx.1.2.1 (fun _ _ => rfl) hx.2.2.1.1 ?_
    refine r_getR (pc := 31) dX0_order_31 fl_X0_132_3 hx.2.2.1.2.2.k (fun _ _ => rfl) hx.2.2.1.2.2.r10 ?_
    refine r_iload_n (pc := 34) dX0_order_34 rfl ?_
    refine r_ialdv (pc := 35) (v := S.1 14 (Int32.toNatClampNeg x1)) dX0_order_35 hx.2.2.1.2.2.k10 hx.2.2.1.2.2.z10 (hB.vt hy) (hx.2.2.1.2.2.a14 hy) ?_
    refine r_icmp_le (pc := 36) 43 dX0_order_36 rfl (fun h36 => ?_) (fun h36 => ?_)
    · have hno : ¬ onP S.1 x1 x3 := fun q => by first | exact h23 q.1 | exact h36 q.2
      refine r_iconst (pc := 43) (v := 0) dX0_order_43 (by decide) ?_
      refine r_istore5 (pc := 44) dX0_order_44 rfl ?_
      refine r_iload (pc := 46) dX0_order_46 rfl ?_
      refine r_if_eq (pc := 48) 80 dX0_order_48 rfl (fun _ => ?_) (fun hno => absurd hno (by decide))
      refine r_iconst (pc := 80) (v := 1) dX0_order_80 (by decide) ?_
      refine r_goto (pc := 81) 85 dX0_order_81 rfl ?_
      refine r_bipush (pc := 85) (v := (-5)) dX0_order_85 (by decide) ?_
      refine r_s2 (pc := 87) (bc' := 1) (bs' := 7) (ct_X0_need _ _) k_X0_115 dX0_order_87 (Nat.le_of_ble_eq_true rfl) ⟨Nat.le_of_ble_eq_true rfl, Nat.le_of_ble_eq_true rfl⟩ ⟨Nat.le_of_ble_eq_true rfl, Nat.le_of_ble_eq_true rfl⟩ (r_cv fun M87 p87 => ?_) (fun q E M9 h9 => absurd h9.1 (by decide))
      obtain ⟨-, p87⟩ := p87
      have p87 := Eq.symm (show _ = _ from p87)
      subst p87
      refine r_iload (pc := 90) dX0_order_90 rfl ?_
      refine r_bipush (pc := 92) (v := (-6)) dX0_order_92 (by decide) ?_
      refine r_s2 (pc := 94) (bc' := 0) (bs' := 0) (ct_X0_need _ _) k_X0_115 dX0_order_94 (Nat.le_of_ble_eq_true rfl) ⟨Nat.le_of_ble_eq_true rfl, Nat.le_of_ble_eq_true rfl⟩ ⟨Nat.le_of_ble_eq_true rfl, Nat.le_of_ble_eq_true rfl⟩ (r_cv fun M94 p94 => ?_) (fun q E M9 h8 => by have h9 := hx.rf h8.2; obtain ⟨rfl, k9, w9, o9⟩ := h9; exact t_catch [] _ _ _ rfl (fun z hz => absurd hz List.not_mem_nil) rfl (by decide) q305 q389 ((hC M9 q _ _ _ _ _ _ k9 w9 (by decide) o9 (by unfold orderS; rw [cI_f (n_or ⟨hy, hz⟩), cI_t hno])).loose (Nat.zero_le _) (Nat.zero_le _)))
      exact absurd rfl p94.1
    · have ho : onP S.1 x1 x3 := ⟨h23, h36⟩
      obtain ⟨sN, e2, hsl, hs256⟩ := set_lt hB hz
      have ix2 : Int32.toNatClampNeg x2 = sN := by rw [e2, ix_nI (by omega)]
      have hcb : bd (nI (cntN sN)) 0 8 := by have := cnt_le sN; constructor <;> rw [nI_toInt (by omega)] <;> omega
      refine r_iconst (pc := 39) (v := 1) dX0_order_39 (by decide) ?_
      refine r_goto (pc := 40) 44 dX0_order_40 rfl ?_
      refine r_istore5 (pc := 44) dX0_order_44 rfl ?_
      refine r_iload (pc := 46) dX0_order_46 rfl ?_
      refine r_if_eq (pc := 48) 80 dX0_order_48 rfl (fun hno => absurd hno (by decide)) (fun _ => ?_)
      refine r_aload_n (pc := 51) dX0_order_51 rfl ?_
      refine r_iload_n (pc := 52) dX0_order_52 rfl ?_
      refine r_iload_n (pc := 53) dX0_order_53 rfl ?_
      refine r_o3 (pc := 54) (bc' := 2) (bs' := 14) (ct_X0_reachOf hx x1 x3 hB hy) k_X0_320_0 dX0_order_54 hx.1.2.1 (Nat.le_of_ble_eq_true rfl) ⟨Nat.le_of_ble_eq_true rfl, Nat.le_of_ble_eq_true rfl⟩ ⟨Nat.le_of_ble_eq_true rfl, Nat.le_of_ble_eq_true rfl⟩ (r_cr fun r54 M54 p54 => ?_) nox
      obtain ⟨rfl, hx1, hR1, hE⟩ := p54
      refine r_iload_n (pc := 57) dX0_order_57 rfl ?_
      refine r_ialdv (pc := 58) (v := endF S.1 (Int32.toNatClampNeg x1) x3 (Int32.toNatClampNeg x2)) dX0_order_58 (hx1.1.2.2.2.2.2.2.1.2.2.2.1 4 (by decide)).2.1 (hx1.1.2.2.2.2.2.2.1.2.2.2.1 4 (by decide)).2.2 (by rw [e2]; exact vp_in_nI (by omega) (by decide)) (by rw [hE _ (by rw [ix2]; exact hsl)]; exact hF_of hS.1 hy ho _) ?_
      refine r_iload_n (pc := 59) dX0_order_59 rfl ?_
      refine r_icmp_ne (pc := 60) 84 dX0_order_60 rfl (fun h60 => ?_) (fun h60 => ?_)
      · refine r_iconst (pc := 84) (v := 0) dX0_order_84 (by decide) ?_
        refine r_eqi (bI (endF S.1 (Int32.toNatClampNeg x1) x3 (Int32.toNatClampNeg x2) = x3 ∧ (¬ x4 < 0 ∧ ¬ nI (cntN sN) - 1 < x4))) (by first | exact bI_t' ⟨h60, h77⟩ | exact bI_f' (fun h => h60 h.1) | exact bI_f' (fun h => h77 h.2)) ?_
        refine r_bipush (pc := 85) (v := (-5)) dX0_order_85 (by decide) ?_
        refine r_s2 (pc := 87) (bc' := 1) (bs' := 7) (ct_X0_need _ _) k_X0_115 dX0_order_87 (Nat.le_of_ble_eq_true rfl) ⟨Nat.le_of_ble_eq_true rfl, Nat.le_of_ble_eq_true rfl⟩ ⟨Nat.le_of_ble_eq_true rfl, Nat.le_of_ble_eq_true rfl⟩ (r_cv fun M87 p87 => ?_) (fun q E M9 h8 => by have hn9 := bI_eq0.mp h8.1; have h9 := hx1.rf h8.2; obtain ⟨rfl, k9, w9, o9⟩ := h9; exact t_catch [] _ _ _ rfl (fun z hz => absurd hz List.not_mem_nil) rfl (by decide) q305 q389 ((hC M9 q _ _ _ _ _ _ k9 w9 (by decide) o9 (by unfold orderS; rw [cI_f (n_or ⟨hy, hz⟩), cI_f (fun q => q ho), cI_t (ord_c hn9 hcb e2)])).loose (Nat.zero_le _) (Nat.zero_le _)))
        obtain ⟨hcc, p87⟩ := p87
        have p87 := Eq.symm (show _ = _ from p87)
        subst p87
        rw [bI_ne0] at hcc
        refine r_iload (pc := 90) dX0_order_90 rfl ?_
        refine r_bipush (pc := 92) (v := (-6)) dX0_order_92 (by decide) ?_
        refine r_s2 (pc := 94) (bc' := 0) (bs' := 0) (ct_X0_need _ _) k_X0_115 dX0_order_94 (Nat.le_of_ble_eq_true rfl) ⟨Nat.le_of_ble_eq_true rfl, Nat.le_of_ble_eq_true rfl⟩ ⟨Nat.le_of_ble_eq_true rfl, Nat.le_of_ble_eq_true rfl⟩ (r_cv fun M94 p94 => ?_) (fun q E M9 h9 => absurd h9.1 (by decide))
        obtain ⟨-, p94⟩ := p94
        have p94 := Eq.symm (show _ = _ from p94)
        subst p94
        refine r_iload_n (pc := 97) dX0_order_97 rfl ?_
        refine r_istore6 (pc := 98) dX0_order_98 rfl ?_
        refine r_aload_n (pc := 100) dX0_order_100 rfl ?_
        refine r_getR (pc := 101) dX0_order_101 fl_X0_90_0 hx1.1.2.1 (fun _ _ => rfl) hx1.2.2.1.1 ?_
        refine r_getR (pc := 104) dX0_order_104 fl_X0_132_3 hx1.2.2.1.2.2.k (fun _ _ => rfl) hx1.2.2.1.2.2.r10 ?_
        refine r_iload_n (pc := 107) dX0_order_107 rfl ?_
        refine r_ialdv (pc := 108) (v := S.1 14 (Int32.toNatClampNeg x1)) dX0_order_108 hx1.2.2.1.2.2.k10 hx1.2.2.1.2.2.z10 (hB.vt hy) (hx1.2.2.1.2.2.a14 hy) ?_
        refine r_istore7 (pc := 109) dX0_order_109 rfl ?_
        refine r_iconst (pc := 111) (v := (-1)) dX0_order_111 (by decide) ?_
        refine r_istore8 (pc := 112) dX0_order_112 rfl ?_
        refine r_iconst (pc := 114) (v := 0) dX0_order_114 (by decide) ?_
        refine r_istore9 (pc := 115) dX0_order_115 rfl ?_
        obtain ⟨iN, ei, hi9⟩ := ord_i hcc.2 hcb
        have hcn := cnt_le sN
        have Z0 := (L iN hy ho ei (by omega) iN 0 sN (S.1 14 (Int32.toNatClampNeg x1)) _ (.int (-1)) (by omega) (by rw [← n1]; exact hsl) (on_p hS.1 (ix_lt hy.1 hy.2) ho.1 (Int.le_of_lt (i_lt.mp ho.2))).1 (by have h9 := hcc.1; rw [ix2] at h9; exact h9) hi9 hx1 (by unfold orderS; rw [cI_f (n_or ⟨hy, hz⟩), cI_f (fun q => q ho), cI_f (ord_d hcc hcb e2), ix2, show Int32.toNatClampNeg x4 = iN by rw [ei, ix_nI (by omega)]]))
        rw [← e2] at Z0
        exact Z0.loose (by omega) (by omega)
      · refine r_iload (pc := 63) dX0_order_63 rfl ?_
        refine r_i2l (pc := 65) dX0_order_65 ?_
        refine r_lconst (pc := 66) (v := 0) dX0_order_66 (by decide) ?_
        refine r_iload_n (pc := 67) dX0_order_67 rfl ?_
        refine r_eqi (nI sN) e2 ?_
        refine r_s1 (pc := 68) (bc' := 2) (bs' := 14) (ct_J12_bitCount (s := sN) (by omega)) k_X0_331 dX0_order_68 (Nat.le_of_ble_eq_true rfl) ⟨Nat.le_of_ble_eq_true rfl, Nat.le_of_ble_eq_true rfl⟩ ⟨Nat.le_of_ble_eq_true rfl, Nat.le_of_ble_eq_true rfl⟩ (r_ci fun r68 M68 p68 => ?_) nox
        obtain ⟨rfl, p68⟩ := p68
        have p68 := Eq.symm (show _ = _ from p68)
        subst p68
        refine r_iconst (pc := 71) (v := 1) dX0_order_71 (by decide) ?_
        refine r_isub (pc := 72) dX0_order_72 ?_
        refine r_i2l (pc := 73) dX0_order_73 ?_
        refine r_s3 (pc := 74) (bc' := 2) (bs' := 14) (ct_X0_in x4 0 (nI (cntN sN) - 1) rfl (by decide) rfl) k_X0_107 dX0_order_74 (Nat.le_of_ble_eq_true rfl) ⟨Nat.le_of_ble_eq_true rfl, Nat.le_of_ble_eq_true rfl⟩ ⟨Nat.le_of_ble_eq_true rfl, Nat.le_of_ble_eq_true rfl⟩ (r_ci fun r74 M74 p74 => ?_) nox
        obtain ⟨rfl, p74⟩ := p74
        have p74 := Eq.symm (show _ = _ from p74)
        subst p74
        refine r_if_eq (pc := 77) 84 dX0_order_77 rfl (fun h77 => ?_) (fun h77 => ?_)
        · rw [bI_eq0] at h77
          refine r_iconst (pc := 84) (v := 0) dX0_order_84 (by decide) ?_
          refine r_eqi (bI (endF S.1 (Int32.toNatClampNeg x1) x3 (Int32.toNatClampNeg x2) = x3 ∧ (¬ x4 < 0 ∧ ¬ nI (cntN sN) - 1 < x4))) (by first | exact bI_t' ⟨h60, h77⟩ | exact bI_f' (fun h => h60 h.1) | exact bI_f' (fun h => h77 h.2)) ?_
          refine r_bipush (pc := 85) (v := (-5)) dX0_order_85 (by decide) ?_
          refine r_s2 (pc := 87) (bc' := 1) (bs' := 7) (ct_X0_need _ _) k_X0_115 dX0_order_87 (Nat.le_of_ble_eq_true rfl) ⟨Nat.le_of_ble_eq_true rfl, Nat.le_of_ble_eq_true rfl⟩ ⟨Nat.le_of_ble_eq_true rfl, Nat.le_of_ble_eq_true rfl⟩ (r_cv fun M87 p87 => ?_) (fun q E M9 h8 => by have hn9 := bI_eq0.mp h8.1; have h9 := hx1.rf h8.2; obtain ⟨rfl, k9, w9, o9⟩ := h9; exact t_catch [] _ _ _ rfl (fun z hz => absurd hz List.not_mem_nil) rfl (by decide) q305 q389 ((hC M9 q _ _ _ _ _ _ k9 w9 (by decide) o9 (by unfold orderS; rw [cI_f (n_or ⟨hy, hz⟩), cI_f (fun q => q ho), cI_t (ord_c hn9 hcb e2)])).loose (Nat.zero_le _) (Nat.zero_le _)))
          obtain ⟨hcc, p87⟩ := p87
          have p87 := Eq.symm (show _ = _ from p87)
          subst p87
          rw [bI_ne0] at hcc
          refine r_iload (pc := 90) dX0_order_90 rfl ?_
          refine r_bipush (pc := 92) (v := (-6)) dX0_order_92 (by decide) ?_
          refine r_s2 (pc := 94) (bc' := 0) (bs' := 0) (ct_X0_need _ _) k_X0_115 dX0_order_94 (Nat.le_of_ble_eq_true rfl) ⟨Nat.le_of_ble_eq_true rfl, Nat.le_of_ble_eq_true rfl⟩ ⟨Nat.le_of_ble_eq_true rfl, Nat.le_of_ble_eq_true rfl⟩ (r_cv fun M94 p94 => ?_) (fun q E M9 h9 => absurd h9.1 (by decide))
          obtain ⟨-, p94⟩ := p94
          have p94 := Eq.symm (show _ = _ from p94)
          subst p94
          refine r_iload_n (pc := 97) dX0_order_97 rfl ?_
          refine r_istore6 (pc := 98) dX0_order_98 rfl ?_
          refine r_aload_n (pc := 100) dX0_order_100 rfl ?_
          refine r_getR (pc := 101) dX0_order_101 fl_X0_90_0 hx1.1.2.1 (fun _ _ => rfl) hx1.2.2.1.1 ?_
          refine r_getR (pc := 104) dX0_order_104 fl_X0_132_3 hx1.2.2.1.2.2.k (fun _ _ => rfl) hx1.2.2.1.2.2.r10 ?_
          refine r_iload_n (pc := 107) dX0_order_107 rfl ?_
          refine r_ialdv (pc := 108) (v := S.1 14 (Int32.toNatClampNeg x1)) dX0_order_108 hx1.2.2.1.2.2.k10 hx1.2.2.1.2.2.z10 (hB.vt hy) (hx1.2.2.1.2.2.a14 hy) ?_
          refine r_istore7 (pc := 109) dX0_order_109 rfl ?_
          refine r_iconst (pc := 111) (v := (-1)) dX0_order_111 (by decide) ?_
          refine r_istore8 (pc := 112) dX0_order_112 rfl ?_
          refine r_iconst (pc := 114) (v := 0) dX0_order_114 (by decide) ?_
          refine r_istore9 (pc := 115) dX0_order_115 rfl ?_
          obtain ⟨iN, ei, hi9⟩ := ord_i hcc.2 hcb
          have hcn := cnt_le sN
          have Z0 := (L iN hy ho ei (by omega) iN 0 sN (S.1 14 (Int32.toNatClampNeg x1)) _ (.int (-1)) (by omega) (by rw [← n1]; exact hsl) (on_p hS.1 (ix_lt hy.1 hy.2) ho.1 (Int.le_of_lt (i_lt.mp ho.2))).1 (by have h9 := hcc.1; rw [ix2] at h9; exact h9) hi9 hx1 (by unfold orderS; rw [cI_f (n_or ⟨hy, hz⟩), cI_f (fun q => q ho), cI_f (ord_d hcc hcb e2), ix2, show Int32.toNatClampNeg x4 = iN by rw [ei, ix_nI (by omega)]]))
          rw [← e2] at Z0
          exact Z0.loose (by omega) (by omega)
        · rw [bI_ne0] at h77
          refine r_iconst (pc := 80) (v := 1) dX0_order_80 (by decide) ?_
          refine r_goto (pc := 81) 85 dX0_order_81 rfl ?_
          refine r_eqi (bI (endF S.1 (Int32.toNatClampNeg x1) x3 (Int32.toNatClampNeg x2) = x3 ∧ (¬ x4 < 0 ∧ ¬ nI (cntN sN) - 1 < x4))) (by first | exact bI_t' ⟨h60, h77⟩ | exact bI_f' (fun h => h60 h.1) | exact bI_f' (fun h => h77 h.2)) ?_
          refine r_bipush (pc := 85) (v := (-5)) dX0_order_85 (by decide) ?_
          refine r_s2 (pc := 87) (bc' := 1) (bs' := 7) (ct_X0_need _ _) k_X0_115 dX0_order_87 (Nat.le_of_ble_eq_true rfl) ⟨Nat.le_of_ble_eq_true rfl, Nat.le_of_ble_eq_true rfl⟩ ⟨Nat.le_of_ble_eq_true rfl, Nat.le_of_ble_eq_true rfl⟩ (r_cv fun M87 p87 => ?_) (fun q E M9 h8 => by have hn9 := bI_eq0.mp h8.1; have h9 := hx1.rf h8.2; obtain ⟨rfl, k9, w9, o9⟩ := h9; exact t_catch [] _ _ _ rfl (fun z hz => absurd hz List.not_mem_nil) rfl (by decide) q305 q389 ((hC M9 q _ _ _ _ _ _ k9 w9 (by decide) o9 (by unfold orderS; rw [cI_f (n_or ⟨hy, hz⟩), cI_f (fun q => q ho), cI_t (ord_c hn9 hcb e2)])).loose (Nat.zero_le _) (Nat.zero_le _)))
          obtain ⟨hcc, p87⟩ := p87
          have p87 := Eq.symm (show _ = _ from p87)
          subst p87
          rw [bI_ne0] at hcc
          refine r_iload (pc := 90) dX0_order_90 rfl ?_
          refine r_bipush (pc := 92) (v := (-6)) dX0_order_92 (by decide) ?_
          refine r_s2 (pc := 94) (bc' := 0) (bs' := 0) (ct_X0_need _ _) k_X0_115 dX0_order_94 (Nat.le_of_ble_eq_true rfl) ⟨Nat.le_of_ble_eq_true rfl, Nat.le_of_ble_eq_true rfl⟩ ⟨Nat.le_of_ble_eq_true rfl, Nat.le_of_ble_eq_true rfl⟩ (r_cv fun M94 p94 => ?_) (fun q E M9 h9 => absurd h9.1 (by decide))
          obtain ⟨-, p94⟩ := p94
          have p94 := Eq.symm (show _ = _ from p94)
          subst p94
          refine r_iload_n (pc := 97) dX0_order_97 rfl ?_
          refine r_istore6 (pc := 98) dX0_order_98 rfl ?_
          refine r_aload_n (pc := 100) dX0_order_100 rfl ?_
          refine r_getR (pc := 101) dX0_order_101 fl_X0_90_0 hx1.1.2.1 (fun _ _ => rfl) hx1.2.2.1.1 ?_
          refine r_getR (pc := 104) dX0_order_104 fl_X0_132_3 hx1.2.2.1.2.2.k (fun _ _ => rfl) hx1.2.2.1.2.2.r10 ?_
          refine r_iload_n (pc := 107) dX0_order_107 rfl ?_
          refine r_ialdv (pc := 108) (v := S.1 14 (Int32.toNatClampNeg x1)) dX0_order_108 hx1.2.2.1.2.2.k10 hx1.2.2.1.2.2.z10 (hB.vt hy) (hx1.2.2.1.2.2.a14 hy) ?_
          refine r_istore7 (pc := 109) dX0_order_109 rfl ?_
          refine r_iconst (pc := 111) (v := (-1)) dX0_order_111 (by decide) ?_
          refine r_istore8 (pc := 112) dX0_order_112 rfl ?_
          refine r_iconst (pc := 114) (v := 0) dX0_order_114 (by decide) ?_
          refine r_istore9 (pc := 115) dX0_order_115 rfl ?_
          obtain ⟨iN, ei, hi9⟩ := ord_i hcc.2 hcb
          have hcn := cnt_le sN
          have Z0 := (L iN hy ho ei (by omega) iN 0 sN (S.1 14 (Int32.toNatClampNeg x1)) _ (.int (-1)) (by omega) (by rw [← n1]; exact hsl) (on_p hS.1 (ix_lt hy.1 hy.2) ho.1 (Int.le_of_lt (i_lt.mp ho.2))).1 (by have h9 := hcc.1; rw [ix2] at h9; exact h9) hi9 hx1 (by unfold orderS; rw [cI_f (n_or ⟨hy, hz⟩), cI_f (fun q => q ho), cI_f (ord_d hcc hcb e2), ix2, show Int32.toNatClampNeg x4 = iN by rw [ei, ix_nI (by omega)]]))
          rw [← e2] at Z0
          exact Z0.loose (by omega) (by omega)
