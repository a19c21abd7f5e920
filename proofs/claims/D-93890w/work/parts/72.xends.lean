/-! X: ends (printed by gen/mk_x72.py) -/
set_option maxRecDepth 100000
theorem ct_J12_bitCount {M : PM} {s : Nat} (hs : s < 256) : Ct (YJ12_bitCount, (0, 0, 0, 0), qi (fun r M' => r = nI (cntN s) ∧ M' = M), noX) [.int (nI s)] M := by
  refine ct_of [some (.int (nI s))] rfl rfl rfl (Nat.le_of_ble_eq_true rfl) rfl rfl ?_
  refine r_iload_n (pc := 0) dJ12_bitCount_0 rfl ?_
  refine r_iload_n (pc := 1) dJ12_bitCount_1 rfl ?_
  refine r_iconst (pc := 2) (v := 1) dJ12_bitCount_2 (by decide) ?_
  refine r_iushr (pc := 3) dJ12_bitCount_3 ?_
  refine r_ldcw (pc := 4) dJ12_bitCount_4 q1182 ?_
  refine r_iand (pc := 7) dJ12_bitCount_7 ?_
  refine r_isub (pc := 8) dJ12_bitCount_8 ?_
  refine r_istore0 (pc := 9) dJ12_bitCount_9 ?_
  refine r_iload_n (pc := 10) dJ12_bitCount_10 rfl ?_
  refine r_ldcw (pc := 11) dJ12_bitCount_11 q1183 ?_
  refine r_iand (pc := 14) dJ12_bitCount_14 ?_
  refine r_iload_n (pc := 15) dJ12_bitCount_15 rfl ?_
  refine r_iconst (pc := 16) (v := 2) dJ12_bitCount_16 (by decide) ?_
  refine r_iushr (pc := 17) dJ12_bitCount_17 ?_
  refine r_ldcw (pc := 18) dJ12_bitCount_18 q1183 ?_
  refine r_iand (pc := 21) dJ12_bitCount_21 ?_
  refine r_iadd (pc := 22) dJ12_bitCount_22 ?_
  refine r_istore0 (pc := 23) dJ12_bitCount_23 ?_
  refine r_iload_n (pc := 24) dJ12_bitCount_24 rfl ?_
  refine r_iload_n (pc := 25) dJ12_bitCount_25 rfl ?_
  refine r_iconst (pc := 26) (v := 4) dJ12_bitCount_26 (by decide) ?_
  refine r_iushr (pc := 27) dJ12_bitCount_27 ?_
  refine r_iadd (pc := 28) dJ12_bitCount_28 ?_
  refine r_ldcw (pc := 29) dJ12_bitCount_29 q1184 ?_
  refine r_iand (pc := 32) dJ12_bitCount_32 ?_
  refine r_istore0 (pc := 33) dJ12_bitCount_33 ?_
  refine r_iload_n (pc := 34) dJ12_bitCount_34 rfl ?_
  refine r_iload_n (pc := 35) dJ12_bitCount_35 rfl ?_
  refine r_bipush (pc := 36) (v := 8) dJ12_bitCount_36 (by decide) ?_
  refine r_iushr (pc := 38) dJ12_bitCount_38 ?_
  refine r_iadd (pc := 39) dJ12_bitCount_39 ?_
  refine r_istore0 (pc := 40) dJ12_bitCount_40 ?_
  refine r_iload_n (pc := 41) dJ12_bitCount_41 rfl ?_
  refine r_iload_n (pc := 42) dJ12_bitCount_42 rfl ?_
  refine r_bipush (pc := 43) (v := 16) dJ12_bitCount_43 (by decide) ?_
  refine r_iushr (pc := 45) dJ12_bitCount_45 ?_
  refine r_iadd (pc := 46) dJ12_bitCount_46 ?_
  refine r_istore0 (pc := 47) dJ12_bitCount_47 ?_
  refine r_iload_n (pc := 48) dJ12_bitCount_48 rfl ?_
  refine r_bipush (pc := 49) (v := 63) dJ12_bitCount_49 (by decide) ?_
  refine r_iand (pc := 51) dJ12_bitCount_51 ?_
  refine r_ireturn (pc := 52) rfl dJ12_bitCount_52 ⟨_, rfl, ?_⟩
  refine ⟨?_, rfl⟩
  revert s
  decide +kernel
theorem set_lt {σ : cS} (hB : OkT σ) {x : Int32} (h : setP σ x) : ∃ k : Nat, x = nI k ∧ k < 2 ^ ppN σ ∧ 2 ^ ppN σ ≤ 256 := by
  obtain ⟨N1, hN1, e1⟩ := bd_nI (n := 8) hB.1.2.1
  have n1 : ppN σ = N1 := by show Int32.toNatClampNeg (σ 1 0) = N1; rw [e1]; exact ix_nI (by omega)
  have hp8 := pow8 hN1
  obtain ⟨k, hk, rfl⟩ := nI_of h.1
  have h2 := h.2
  rw [e1, bt_shl N1 (by omega), i_lt, nI_toInt hk, nI_toInt (by omega)] at h2
  rw [n1]
  exact ⟨k, rfl, by omega, hp8⟩
theorem XO.fnd {M M' Z : PM} {xo wa mo row : Nat} {S : ST} (h : XO M xo wa mo Z S) (hr : row < 5) (f : frP (fun q => q = xo + 5 + (2 + row)) M M') (hR : mR M' = mR M) : XO M' xo wa mo Z S := h.scr (f.mono (fun a _ hp => ⟨by omega, by omega⟩)) hR
/-- the Seeker, its row and the World lie apart -/
theorem XO.skd {M Z : PM} {xo wa mo row : Nat} {S : ST} (h : XO M xo wa mo Z S) (hr : row < 5) : ¬ inW wa (xo + 5 + (2 + row)) := by
  have := h.2.2.1.2.1.out2 h.2.1.1 (o := 7 + row) (Or.inl (by omega))
  rwa [show xo + (7 + row) = xo + 5 + (2 + row) by omega] at this
theorem XO.skl {M Z : PM} {xo wa mo row : Nat} {S : ST} (h : XO M xo wa mo Z S) (hr : row < 5) : xo + 5 + (2 + row) < M.1 := by
  have := h.1.1
  omega
theorem ct_X0_reachOf {M : PM} {xo wa mo : Nat} {Z : PM} {S : ST} (hx : XO M xo wa mo Z S) (x1 x2 : Int32) (hB : OkT S.1) (ht : thP S.1 x1) : Ct (YX0_reachOf, (7, 171, 0, 0), qr (fun r M' => r = (xo + 5 + (2 + 4)) ∧ XO M' xo wa mo Z S ∧ mR M' = mR M ∧ ∀ s, s < 2 ^ ppN S.1 → mI M' (xo + 5 + (2 + 4)) s = enX (S.1 4 0) (S.1 5 0) x2 (fun m => farS S.1 m (Int32.toNatClampNeg x1)) (mnC (S.1 14 (Int32.toNatClampNeg x1)) x2) (ppN S.1) s), noX) [.ref xo, .int x1, .int x2] M := by
  refine ct_of [some (.ref xo), some (.int x1), some (.int x2)] rfl rfl rfl (Nat.le_of_ble_eq_true rfl) rfl rfl ?_
  refine r_aload_n (pc := 0) dX0_reachOf_0 rfl ?_
  refine r_getR (pc := 1) dX0_reachOf_1 fl_X0_77_0 hx.1.2.1 (fun _ _ => rfl) hx.1.2.2.1.2.2.2.1 ?_
  refine r_aload_n (pc := 4) dX0_reachOf_4 rfl ?_
  refine r_getR (pc := 5) dX0_reachOf_5 fl_X0_90_0 hx.1.2.1 (fun _ _ => rfl) hx.2.2.1.1 ?_
  refine r_iload_n (pc := 8) dX0_reachOf_8 rfl ?_
  refine r_aload_n (pc := 9) dX0_reachOf_9 rfl ?_
  refine r_getR (pc := 10) dX0_reachOf_10 fl_X0_90_0 hx.1.2.1 (fun _ _ => rfl) hx.2.2.1.1 ?_
  refine r_getR (pc := 13) dX0_reachOf_13 fl_X0_132_3 hx.2.2.1.2.2.k (fun _ _ => rfl) hx.2.2.1.2.2.r10 ?_
  refine r_iload_n (pc := 16) dX0_reachOf_16 rfl ?_
  refine r_ialdv (pc := 17) (v := S.1 14 (Int32.toNatClampNeg x1)) dX0_reachOf_17 hx.2.2.1.2.2.k10 hx.2.2.1.2.2.z10 (hB.vt ht) (hx.2.2.1.2.2.a14 ht) ?_
  refine r_iload_n (pc := 18) dX0_reachOf_18 rfl ?_
  refine r_iconst (pc := 19) (v := 4) dX0_reachOf_19 (by decide) ?_
  refine r_o6 (pc := 20) (bc' := 0) (bs' := 0) (ct_X2_find (row := 4) hx.1.2.2.2.2.2.2.1 hx.2.2.1.2.2 x1 (S.1 14 (Int32.toNatClampNeg x1)) x2 hB ht (by decide) (hx.skd (by decide)) (hx.skl (by decide))) k_X0_135_2 dX0_reachOf_20 hx.1.2.2.2.2.2.2.1.1 (Nat.le_of_ble_eq_true rfl) ⟨Nat.le_of_ble_eq_true rfl, Nat.le_of_ble_eq_true rfl⟩ ⟨Nat.le_of_ble_eq_true rfl, Nat.le_of_ble_eq_true rfl⟩ (r_cr fun r20 M20 p20 => ?_) nox
  obtain ⟨rfl, f1, hR1, hE⟩ := p20
  refine r_areturn (pc := 23) rfl (Or.inr ⟨_, rfl⟩) (Or.inr ⟨_, rfl⟩) dX0_reachOf_23 ⟨_, rfl, ?_⟩
  exact ⟨rfl, hx.fnd (by decide) f1 hR1, hR1, hE⟩
theorem ct_X0_end {M : PM} {xo wa mo : Nat} {Z : PM} {S : ST} (hx : XO M xo wa mo Z S) (x1 x2 : Int32) (hS : OkS S.1) : Ct (YX0_end, (8, 193, 2, 14), qi (fun r M' => oX xo mo Z (endS S x1 x2) r M'), noX) [.ref xo, .int x1, .int x2] M := by
  refine ct_ofH [some (.ref xo), some (.int x1), some (.int x2), none] rfl rfl (Nat.le_of_ble_eq_true rfl) rfl rfl ?_
  have hB := hS.1.t
  have hC : ∀ (M9 : PM) (q : Nat) (b : Int32) (o3 : Option Value), mK M9 q = (1, 6) → mI M9 q 6 = b → bd b (-7) (-1) → XO M9 xo wa mo Z S → endS S x1 x2 = noS S b → Wx (YX0_end, (8, 193, 2, 14), qi (fun r M' => oX xo mo Z (endS S x1 x2) r M'), noX) 0 0 M9 30 [some (.ref xo), some (.int x1), some (.int x2), o3] [.ref q] := by
    intro M9 q b o3 h1 h2 h3 h4 h5
    refine r_astore3 (pc := 30) dX0_end_30 rfl ?_
    refine r_aload_n (pc := 31) dX0_end_31 rfl ?_
    refine r_aload_n (pc := 32) dX0_end_32 rfl ?_
    refine r_o2 (pc := 33) (bc' := 0) (bs' := 0) (ct_X0_refused h4 h1 h2 h3) k_X0_173_0 dX0_end_33 h4.1.2.1 (Nat.le_of_ble_eq_true rfl) ⟨Nat.le_of_ble_eq_true rfl, Nat.le_of_ble_eq_true rfl⟩ ⟨Nat.le_of_ble_eq_true rfl, Nat.le_of_ble_eq_true rfl⟩ (r_ci fun r33 M33 p33 => ?_) nox
    obtain ⟨rfl, h6⟩ := p33
    refine r_ireturn (pc := 36) rfl dX0_end_36 ⟨_, rfl, ?_⟩
    exact (show oX xo mo Z (endS S x1 x2) _ _ by rw [h5]; exact ⟨rfl, wa, h6⟩)
  refine r_aload_n (pc := 0) dX0_end_0 rfl ?_
  refine r_iload_n (pc := 1) dX0_end_1 rfl ?_
  refine r_o2 (pc := 2) (bc' := 1) (bs' := 7) (ct_X0_thingAt hx x1 hB) k_X0_193_0 dX0_end_2 hx.1.2.1 (Nat.le_of_ble_eq_true rfl) ⟨Nat.le_of_ble_eq_true rfl, Nat.le_of_ble_eq_true rfl⟩ ⟨Nat.le_of_ble_eq_true rfl, Nat.le_of_ble_eq_true rfl⟩ (r_cr fun r2 M2 p2 => ?_) (fun q E M9 h9 => by obtain ⟨hn9, rfl, k9, w9, o9⟩ := h9; exact t_catch [] _ _ _ rfl (fun z hz => absurd hz List.not_mem_nil) rfl (by decide) q305 q389 ((hC M9 q _ _ k9 w9 (by decide) o9 (by unfold endS; rw [cI_t (Or.inl hn9)])).loose (Nat.zero_le _) (Nat.zero_le _)))
  obtain ⟨hy, -, p2⟩ := p2
  have p2 := Eq.symm (show _ = _ from p2)
  subst p2
  refine r_pop (pc := 5) dX0_end_5 rfl ?_
  refine r_aload_n (pc := 6) dX0_end_6 rfl ?_
  refine r_iload_n (pc := 7) dX0_end_7 rfl ?_
  refine r_o2 (pc := 8) (bc' := 1) (bs' := 7) (ct_X0_isSet hx x2 hB) k_X0_317_0 dX0_end_8 hx.1.2.1 (Nat.le_of_ble_eq_true rfl) ⟨Nat.le_of_ble_eq_true rfl, Nat.le_of_ble_eq_true rfl⟩ ⟨Nat.le_of_ble_eq_true rfl, Nat.le_of_ble_eq_true rfl⟩ (r_ci fun r8 M8 p8 => ?_) nox
  obtain ⟨rfl, p8⟩ := p8
  have p8 := Eq.symm (show _ = _ from p8)
  subst p8
  refine r_iconst (pc := 11) (v := (-1)) dX0_end_11 (by decide) ?_
  refine r_s2 (pc := 12) (bc' := 0) (bs' := 0) (ct_X0_need _ _) k_X0_115 dX0_end_12 (Nat.le_of_ble_eq_true rfl) ⟨Nat.le_of_ble_eq_true rfl, Nat.le_of_ble_eq_true rfl⟩ ⟨Nat.le_of_ble_eq_true rfl, Nat.le_of_ble_eq_true rfl⟩ (r_cv fun M12 p12 => ?_) (fun q E M9 h8 => by have h9 := And.intro (bI_eq0.mp h8.1) (hx.rf h8.2); obtain ⟨hn9, rfl, k9, w9, o9⟩ := h9; exact t_catch [] _ _ _ rfl (fun z hz => absurd hz List.not_mem_nil) rfl (by decide) q305 q389 ((hC M9 q _ _ k9 w9 (by decide) o9 (by unfold endS; rw [cI_t (Or.inr hn9)])).loose (Nat.zero_le _) (Nat.zero_le _)))
  obtain ⟨hz, p12⟩ := p12
  have p12 := Eq.symm (show _ = _ from p12)
  subst p12
  rw [bI_ne0] at hz
  refine r_aload_n (pc := 15) dX0_end_15 rfl ?_
  refine r_iload_n (pc := 16) dX0_end_16 rfl ?_
  refine r_aload_n (pc := 17) dX0_end_17 rfl ?_
  refine r_getR (pc := 18) dX0_end_18 fl_X0_90_0 hx.1.2.1 (fun _ _ => rfl) hx.2.2.1.1 ?_
  refine r_getIe (pc := 21) (v := S.1 3 0) dX0_end_21 fl_X0_234_3 hx.2.2.1.2.2.k (fun _ _ => rfl) hx.2.2.1.2.2.i0 ?_
  refine r_o3 (pc := 24) (bc' := 0) (bs' := 0) (ct_X0_reachOf hx x1 (S.1 3 0) hB hy) k_X0_320_0 dX0_end_24 hx.1.2.1 (Nat.le_of_ble_eq_true rfl) ⟨Nat.le_of_ble_eq_true rfl, Nat.le_of_ble_eq_true rfl⟩ ⟨Nat.le_of_ble_eq_true rfl, Nat.le_of_ble_eq_true rfl⟩ (r_cr fun r24 M24 p24 => ?_) nox
  obtain ⟨rfl, hx1, hR1, hE⟩ := p24
  refine r_iload_n (pc := 27) dX0_end_27 rfl ?_
  obtain ⟨k, hk, hkl, hk8⟩ := set_lt hB hz
  obtain ⟨hl1, hl2⟩ := long_on hS.1 (ix_lt hy.1 hy.2)
  refine r_ialdv (pc := 28) (v := endF S.1 (Int32.toNatClampNeg x1) (S.1 3 0) (Int32.toNatClampNeg x2)) dX0_end_28 (hx1.1.2.2.2.2.2.2.1.2.2.2.1 4 (by decide)).2.1 (hx1.1.2.2.2.2.2.2.1.2.2.2.1 4 (by decide)).2.2 (by rw [hk]; exact vp_in_nI (by omega) (by decide)) (by rw [hE _ (by rw [hk, ix_nI (by omega)]; exact hkl)]; exact enX_F hS.1 (ix_lt hy.1 hy.2) hl1 hl2 _) ?_
  refine r_ireturn (pc := 29) rfl dX0_end_29 ⟨_, rfl, ?_⟩
  exact (show oX xo mo Z (endS S x1 x2) _ _ by rw [show endS S x1 x2 = (endF S.1 (Int32.toNatClampNeg x1) (S.1 3 0) (Int32.toNatClampNeg x2), S) by unfold endS; rw [cI_f (fun q => q.elim (fun z => z hy) (fun z => z hz))]]; exact ⟨rfl, wa, hx1⟩)
theorem ct_X0_isDone {M : PM} {xo wa mo : Nat} {Z : PM} {S : ST} (hx : XO M xo wa mo Z S) (x1 x2 x3 : Int32) (hB : OkT S.1) (hF : thP S.1 x1 → onP S.1 x1 x3 → ∀ s, enX (S.1 4 0) (S.1 5 0) x3 (fun m => farS S.1 m (Int32.toNatClampNeg x1)) (mnC (S.1 14 (Int32.toNatClampNeg x1)) x3) (ppN S.1) s = endF S.1 (Int32.toNatClampNeg x1) x3 s) : Ct (YX0_isDone, (8, 193, 3, 21), qi (fun r M' => (thP S.1 x1 ∧ setP S.1 x2 ∧ onP S.1 x1 x3) ∧ r = bI (endF S.1 (Int32.toNatClampNeg x1) x3 (Int32.toNatClampNeg x2) = x3) ∧ XO M' xo wa mo Z S), fun q E M' => (¬ (thP S.1 x1 ∧ setP S.1 x2) ∧ rfO xo wa mo Z S (-1) q E M') ∨ ((thP S.1 x1 ∧ setP S.1 x2) ∧ ¬ onP S.1 x1 x3 ∧ rfO xo wa mo Z S (-6) q E M')) [.ref xo, .int x1, .int x2, .int x3] M := by
  refine ct_of [some (.ref xo), some (.int x1), some (.int x2), some (.int x3)] rfl rfl rfl (Nat.le_of_ble_eq_true rfl) rfl rfl ?_
  refine r_aload_n (pc := 0) dX0_isDone_0 rfl ?_
  refine r_iload_n (pc := 1) dX0_isDone_1 rfl ?_
  refine r_o2 (pc := 2) (bc' := 2) (bs' := 14) (ct_X0_thingAt hx x1 hB) k_X0_193_0 dX0_isDone_2 hx.1.2.1 (Nat.le_of_ble_eq_true rfl) ⟨Nat.le_of_ble_eq_true rfl, Nat.le_of_ble_eq_true rfl⟩ ⟨Nat.le_of_ble_eq_true rfl, Nat.le_of_ble_eq_true rfl⟩ (r_cr fun r2 M2 p2 => ?_) (fun q E M9 h9 => t_out rfl (Or.inl ⟨fun z => h9.1 z.1, h9.2⟩))
  obtain ⟨hy, -, p2⟩ := p2
  have p2 := Eq.symm (show _ = _ from p2)
  subst p2
  refine r_pop (pc := 5) dX0_isDone_5 rfl ?_
  refine r_aload_n (pc := 6) dX0_isDone_6 rfl ?_
  refine r_iload_n (pc := 7) dX0_isDone_7 rfl ?_
  refine r_o2 (pc := 8) (bc' := 2) (bs' := 14) (ct_X0_isSet hx x2 hB) k_X0_317_0 dX0_isDone_8 hx.1.2.1 (Nat.le_of_ble_eq_true rfl) ⟨Nat.le_of_ble_eq_true rfl, Nat.le_of_ble_eq_true rfl⟩ ⟨Nat.le_of_ble_eq_true rfl, Nat.le_of_ble_eq_true rfl⟩ (r_ci fun r8 M8 p8 => ?_) nox
  obtain ⟨rfl, p8⟩ := p8
  have p8 := Eq.symm (show _ = _ from p8)
  subst p8
  refine r_iconst (pc := 11) (v := (-1)) dX0_isDone_11 (by decide) ?_
  refine r_s2 (pc := 12) (bc' := 1) (bs' := 7) (ct_X0_need _ _) k_X0_115 dX0_isDone_12 (Nat.le_of_ble_eq_true rfl) ⟨Nat.le_of_ble_eq_true rfl, Nat.le_of_ble_eq_true rfl⟩ ⟨Nat.le_of_ble_eq_true rfl, Nat.le_of_ble_eq_true rfl⟩ (r_cv fun M12 p12 => ?_) (fun q E M9 h9 => t_out rfl (Or.inl ⟨fun z => bI_eq0.mp h9.1 z.2, hx.rf h9.2⟩))
  obtain ⟨hz, p12⟩ := p12
  have p12 := Eq.symm (show _ = _ from p12)
  subst p12
  rw [bI_ne0] at hz
  refine r_aload_n (pc := 15) dX0_isDone_15 rfl ?_
  refine r_iload_n (pc := 16) dX0_isDone_16 rfl ?_
  refine r_iload_n (pc := 17) dX0_isDone_17 rfl ?_
  refine r_o3 (pc := 18) (bc' := 0) (bs' := 0) (ct_X0_mustEnd hx x1 x3 hB hy) k_X0_324_0 dX0_isDone_18 hx.1.2.1 (Nat.le_of_ble_eq_true rfl) ⟨Nat.le_of_ble_eq_true rfl, Nat.le_of_ble_eq_true rfl⟩ ⟨Nat.le_of_ble_eq_true rfl, Nat.le_of_ble_eq_true rfl⟩ (r_cv fun M18 p18 => ?_) (fun q E M9 h9 => t_out rfl (Or.inr ⟨⟨hy, hz⟩, h9.1, h9.2⟩))
  obtain ⟨ho, p18⟩ := p18
  have p18 := Eq.symm (show _ = _ from p18)
  subst p18
  refine r_aload_n (pc := 21) dX0_isDone_21 rfl ?_
  refine r_iload_n (pc := 22) dX0_isDone_22 rfl ?_
  refine r_iload_n (pc := 23) dX0_isDone_23 rfl ?_
  refine r_o3 (pc := 24) (bc' := 0) (bs' := 0) (ct_X0_reachOf hx x1 x3 hB hy) k_X0_320_0 dX0_isDone_24 hx.1.2.1 (Nat.le_of_ble_eq_true rfl) ⟨Nat.le_of_ble_eq_true rfl, Nat.le_of_ble_eq_true rfl⟩ ⟨Nat.le_of_ble_eq_true rfl, Nat.le_of_ble_eq_true rfl⟩ (r_cr fun r24 M24 p24 => ?_) nox
  obtain ⟨rfl, hx1, hR1, hE⟩ := p24
  refine r_iload_n (pc := 27) dX0_isDone_27 rfl ?_
  obtain ⟨k, hk, hkl, hk8⟩ := set_lt hB hz
  refine r_ialdv (pc := 28) (v := endF S.1 (Int32.toNatClampNeg x1) x3 (Int32.toNatClampNeg x2)) dX0_isDone_28 (hx1.1.2.2.2.2.2.2.1.2.2.2.1 4 (by decide)).2.1 (hx1.1.2.2.2.2.2.2.1.2.2.2.1 4 (by decide)).2.2 (by rw [hk]; exact vp_in_nI (by omega) (by decide)) (by rw [hE _ (by rw [hk, ix_nI (by omega)]; exact hkl)]; exact hF hy ho _) ?_
  refine r_iload_n (pc := 29) dX0_isDone_29 rfl ?_
  refine r_icmp_ne (pc := 30) 37 dX0_isDone_30 rfl (fun h30 => ?_) (fun h30 => ?_)
  · refine r_iconst (pc := 37) (v := 0) dX0_isDone_37 (by decide) ?_
    refine r_zreturn (pc := 38) rfl rfl dX0_isDone_38 ⟨_, rfl, ?_⟩
    exact ⟨⟨hy, hz, ho⟩, by first | exact bI_t' h30 | exact bI_f' h30, hx1⟩
  · refine r_iconst (pc := 33) (v := 1) dX0_isDone_33 (by decide) ?_
    refine r_goto (pc := 34) 38 dX0_isDone_34 rfl ?_
    refine r_zreturn (pc := 38) rfl rfl dX0_isDone_38 ⟨_, rfl, ?_⟩
    exact ⟨⟨hy, hz, ho⟩, by first | exact bI_t' h30 | exact bI_f' h30, hx1⟩
theorem hF_of {σ : cS} (h : OkW σ) {x1 x3 : Int32} : thP σ x1 → onP σ x1 x3 → ∀ s, enX (σ 4 0) (σ 5 0) x3 (fun m => farS σ m (Int32.toNatClampNeg x1)) (mnC (σ 14 (Int32.toNatClampNeg x1)) x3) (ppN σ) s = endF σ (Int32.toNatClampNeg x1) x3 s := fun ht ho s => enX_F h (ix_lt ht.1 ht.2) ho.1 (Int.le_of_lt (i_lt.mp ho.2)) s
theorem n_two {A B : Prop} (h : ¬ (A ∧ B)) : ¬ A ∨ ¬ B := n_and h
theorem ct_X0_does {M : PM} {xo wa mo : Nat} {Z : PM} {S : ST} (hx : XO M xo wa mo Z S) (x1 x2 x3 : Int32) (hS : OkS S.1) : Ct (YX0_does, (9, 216, 3, 21), qi (fun r M' => oX xo mo Z (doesS S x1 x2 x3) r M'), noX) [.ref xo, .int x1, .int x2, .int x3] M := by
  refine ct_ofH [some (.ref xo), some (.int x1), some (.int x2), some (.int x3), none] rfl rfl (Nat.le_of_ble_eq_true rfl) rfl rfl ?_
  have hB := hS.1.t
  have hC : ∀ (M9 : PM) (q : Nat) (b : Int32) (o4 : Option Value), mK M9 q = (1, 6) → mI M9 q 6 = b → bd b (-7) (-1) → XO M9 xo wa mo Z S → doesS S x1 x2 x3 = noS S b → Wx (YX0_does, (9, 216, 3, 21), qi (fun r M' => oX xo mo Z (doesS S x1 x2 x3) r M'), noX) 0 0 M9 16 [some (.ref xo), some (.int x1), some (.int x2), some (.int x3), o4] [.ref q] := by
    intro M9 q b o4 h1 h2 h3 h4 h5
    refine r_astore4 (pc := 16) dX0_does_16 rfl ?_
    refine r_aload_n (pc := 18) dX0_does_18 rfl ?_
    refine r_aload (pc := 19) dX0_does_19 rfl ?_
    refine r_o2 (pc := 21) (bc' := 0) (bs' := 0) (ct_X0_refused h4 h1 h2 h3) k_X0_173_0 dX0_does_21 h4.1.2.1 (Nat.le_of_ble_eq_true rfl) ⟨Nat.le_of_ble_eq_true rfl, Nat.le_of_ble_eq_true rfl⟩ ⟨Nat.le_of_ble_eq_true rfl, Nat.le_of_ble_eq_true rfl⟩ (r_ci fun r21 M21 p21 => ?_) nox
    obtain ⟨rfl, h6⟩ := p21
    refine r_ireturn (pc := 24) rfl dX0_does_24 ⟨_, rfl, ?_⟩
    exact (show oX xo mo Z (doesS S x1 x2 x3) _ _ by rw [h5]; exact ⟨rfl, wa, h6⟩)
  refine r_aload_n (pc := 0) dX0_does_0 rfl ?_
  refine r_iload_n (pc := 1) dX0_does_1 rfl ?_
  refine r_iload_n (pc := 2) dX0_does_2 rfl ?_
  refine r_iload_n (pc := 3) dX0_does_3 rfl ?_
  refine r_o4 (pc := 4) (bc' := 0) (bs' := 0) (ct_X0_isDone hx x1 x2 x3 hB (hF_of hS.1)) k_X0_327_0 dX0_does_4 hx.1.2.1 (Nat.le_of_ble_eq_true rfl) ⟨Nat.le_of_ble_eq_true rfl, Nat.le_of_ble_eq_true rfl⟩ ⟨Nat.le_of_ble_eq_true rfl, Nat.le_of_ble_eq_true rfl⟩ (r_ci fun r4 M4 p4 => ?_) (fun q E M9 h9 => by rcases h9 with ⟨hn9, rfl, k9, w9, o9⟩ | ⟨hm9, hn9, rfl, k9, w9, o9⟩; exact t_catch [] _ _ _ rfl (fun z hz => absurd hz List.not_mem_nil) rfl (by decide) q305 q389 ((hC M9 q _ _ k9 w9 (by decide) o9 (by unfold doesS; rw [cI_t (n_two hn9)])).loose (Nat.zero_le _) (Nat.zero_le _)); exact t_catch [] _ _ _ rfl (fun z hz => absurd hz List.not_mem_nil) rfl (by decide) q305 q389 ((hC M9 q _ _ k9 w9 (by decide) o9 (by unfold doesS; rw [cI_f (n_or hm9), cI_t hn9])).loose (Nat.zero_le _) (Nat.zero_le _)))
  obtain ⟨⟨hy, hz, ho⟩, rfl, hx1⟩ := p4
  refine r_if_eq (pc := 7) 14 dX0_does_7 rfl (fun h7 => ?_) (fun h7 => ?_)
  · rw [bI_eq0] at h7
    refine r_iconst (pc := 14) (v := 0) dX0_does_14 (by decide) ?_
    refine r_ireturn (pc := 15) rfl dX0_does_15 ⟨_, rfl, ?_⟩
    exact (show oX xo mo Z (doesS S x1 x2 x3) _ _ by unfold doesS; rw [cI_f (n_or ⟨hy, hz⟩), cI_f (fun q => q ho)]; first | (rw [bI_t h7]; exact ⟨rfl, wa, hx1⟩) | (rw [bI_f h7]; exact ⟨rfl, wa, hx1⟩))
  · rw [bI_ne0] at h7
    refine r_iconst (pc := 10) (v := 1) dX0_does_10 (by decide) ?_
    refine r_goto (pc := 11) 15 dX0_does_11 rfl ?_
    refine r_ireturn (pc := 15) rfl dX0_does_15 ⟨_, rfl, ?_⟩
    exact (show oX xo mo Z (doesS S x1 x2 x3) _ _ by unfold doesS; rw [cI_f (n_or ⟨hy, hz⟩), cI_f (fun q => q ho)]; first | (rw [bI_t h7]; exact ⟨rfl, wa, hx1⟩) | (rw [bI_f h7]; exact ⟨rfl, wa, hx1⟩))
theorem ct_X0_fewest {M : PM} {xo wa mo : Nat} {Z : PM} {S : ST} (hx : XO M xo wa mo Z S) (x1 x2 : Int32) (hS : OkS S.1) : Ct (YX0_fewest, (8, 193, 6, 40), qi (fun r M' => oX xo mo Z (fewestS S x1 x2) r M'), noX) [.ref xo, .int x1, .int x2] M := by
  refine ct_ofH [some (.ref xo), some (.int x1), some (.int x2), none, none, none, none, none] rfl rfl (Nat.le_of_ble_eq_true rfl) rfl rfl ?_
  have hB := hS.1.t
  have hC : ∀ (M9 : PM) (q : Nat) (b : Int32) (o3 o4 o5 o6 o7 : Option Value), mK M9 q = (1, 6) → mI M9 q 6 = b → bd b (-7) (-1) → XO M9 xo wa mo Z S → fewestS S x1 x2 = noS S b → Wx (YX0_fewest, (8, 193, 6, 40), qi (fun r M' => oX xo mo Z (fewestS S x1 x2) r M'), noX) 0 0 M9 160 [some (.ref xo), some (.int x1), some (.int x2), o3, o4, o5, o6, o7] [.ref q] := by
    intro M9 q b o3 o4 o5 o6 o7 h1 h2 h3 h4 h5
    refine r_astore3 (pc := 160) dX0_fewest_160 rfl ?_
    refine r_aload_n (pc := 161) dX0_fewest_161 rfl ?_
    refine r_aload_n (pc := 162) dX0_fewest_162 rfl ?_
    refine r_o2 (pc := 163) (bc' := 0) (bs' := 0) (ct_X0_refused h4 h1 h2 h3) k_X0_173_0 dX0_fewest_163 h4.1.2.1 (Nat.le_of_ble_eq_true rfl) ⟨Nat.le_of_ble_eq_true rfl, Nat.le_of_ble_eq_true rfl⟩ ⟨Nat.le_of_ble_eq_true rfl, Nat.le_of_ble_eq_true rfl⟩ (r_ci fun r163 M163 p163 => ?_) nox
    obtain ⟨rfl, h6⟩ := p163
    refine r_ireturn (pc := 166) rfl dX0_fewest_166 ⟨_, rfl, ?_⟩
    exact (show oX xo mo Z (fewestS S x1 x2) _ _ by rw [h5]; exact ⟨rfl, wa, h6⟩)
  obtain ⟨N1, hN1, e1⟩ := bd_nI (n := 8) hB.1.2.1
  have n1 : ppN S.1 = N1 := by show Int32.toNatClampNeg (S.1 1 0) = N1; rw [e1]; exact ix_nI (by omega)
  have hp8 := pow8 hN1
  have hp0 : 0 < 2 ^ N1 := Nat.pow_pos (by decide)
  have L : thP S.1 x1 → onP S.1 x1 x2 → ∀ (M1 : PM), XO M1 xo wa mo Z S → (∀ s, s < 2 ^ ppN S.1 → mI M1 (xo + 5 + (2 + 4)) s = endF S.1 (Int32.toNatClampNeg x1) x2 s) → ∀ (n s : Nat) (b : Int32) (o7 : Option Value), s + n = 2 ^ N1 → (b = -1 ∨ ∃ k, k < 256 ∧ b = nI k) → fewV S.1 (Int32.toNatClampNeg x1) x2 = fewL (endF S.1 (Int32.toNatClampNeg x1) x2) x2 n s b → Wx (YX0_fewest, (8, 193, 6, 40), qi (fun r M' => oX xo mo Z (fewestS S x1 x2) r M'), noX) 2 14 M1 61 [some (.ref xo), some (.int x1), some (.int x2), some (.int b), some (.int 1), some (.ref (xo + 5 + (2 + 4))), some (.int (nI s)), o7] [] := by
    intro hy ho M1 hx1 hE n
    induction n with
    | zero =>
      intro s b o7 hs hb hI
      have hI9 : fewV S.1 (Int32.toNatClampNeg x1) x2 = b := hI
      by_cases hb1 : b = -1
      · refine r_iload (pc := 61) dX0_fewest_61 rfl ?_
        refine r_iconst (pc := 63) (v := 1) dX0_fewest_63 (by decide) ?_
        refine r_aload_n (pc := 64) dX0_fewest_64 rfl ?_
        refine r_getR (pc := 65) dX0_fewest_65 fl_X0_90_0 hx1.1.2.1 (fun _ _ => rfl) hx1.2.2.1.1 ?_
        refine r_getIe (pc := 68) (v := S.1 1 0) dX0_fewest_68 fl_X0_123_3 hx1.2.2.1.2.2.k (fun _ _ => rfl) hx1.2.2.1.2.2.i5 ?_
        refine r_ishl (pc := 71) dX0_fewest_71 ?_
        rw [e1, bt_shl N1 (by omega)]
        refine r_icmp_ge (pc := 72) 131 dX0_fewest_72 rfl (fun _ => ?_) (fun hno => False.elim (by rw [ltI (by omega) (by omega)] at hno; omega))
        refine r_iload (pc := 131) dX0_fewest_131 rfl ?_
        refine r_if_eq (pc := 133) 141 dX0_fewest_133 rfl (fun hno => absurd hno (by decide)) (fun _ => ?_)
        refine r_iload_n (pc := 136) dX0_fewest_136 rfl ?_
        refine r_iconst (pc := 137) (v := (-1)) dX0_fewest_137 (by decide) ?_
        refine r_icmp_eq (pc := 138) 145 dX0_fewest_138 rfl (fun _ => ?_) (fun hno => False.elim (hno hb1))
        refine r_iconst (pc := 145) (v := 0) dX0_fewest_145 (by decide) ?_
        refine r_bipush (pc := 146) (v := (-5)) dX0_fewest_146 (by decide) ?_
        refine r_s2 (pc := 148) (bc' := 1) (bs' := 7) (ct_X0_need _ _) k_X0_115 dX0_fewest_148 (Nat.le_of_ble_eq_true rfl) ⟨Nat.le_of_ble_eq_true rfl, Nat.le_of_ble_eq_true rfl⟩ ⟨Nat.le_of_ble_eq_true rfl, Nat.le_of_ble_eq_true rfl⟩ (r_cv fun M148 p148 => ?_) (fun q E M9 h8 => by have h9 := hx1.rf h8.2; obtain ⟨rfl, k9, w9, o9⟩ := h9; exact t_catch [] _ _ _ rfl (fun z hz => absurd hz List.not_mem_nil) rfl (by decide) q305 q389 ((hC M9 q _ _ _ _ _ _ k9 w9 (by decide) o9 (by unfold fewestS; rw [cI_f (fun q => q hy), cI_f (fun q => q ho), cI_t (hI9.trans hb1)])).loose (Nat.zero_le _) (Nat.zero_le _)))
        exact absurd rfl p148.1
      · refine r_iload (pc := 61) dX0_fewest_61 rfl ?_
        refine r_iconst (pc := 63) (v := 1) dX0_fewest_63 (by decide) ?_
        refine r_aload_n (pc := 64) dX0_fewest_64 rfl ?_
        refine r_getR (pc := 65) dX0_fewest_65 fl_X0_90_0 hx1.1.2.1 (fun _ _ => rfl) hx1.2.2.1.1 ?_
        refine r_getIe (pc := 68) (v := S.1 1 0) dX0_fewest_68 fl_X0_123_3 hx1.2.2.1.2.2.k (fun _ _ => rfl) hx1.2.2.1.2.2.i5 ?_
        refine r_ishl (pc := 71) dX0_fewest_71 ?_
        rw [e1, bt_shl N1 (by omega)]
        refine r_icmp_ge (pc := 72) 131 dX0_fewest_72 rfl (fun _ => ?_) (fun hno => False.elim (by rw [ltI (by omega) (by omega)] at hno; omega))
        refine r_iload (pc := 131) dX0_fewest_131 rfl ?_
        refine r_if_eq (pc := 133) 141 dX0_fewest_133 rfl (fun hno => absurd hno (by decide)) (fun _ => ?_)
        refine r_iload_n (pc := 136) dX0_fewest_136 rfl ?_
        refine r_iconst (pc := 137) (v := (-1)) dX0_fewest_137 (by decide) ?_
        refine r_icmp_eq (pc := 138) 145 dX0_fewest_138 rfl (fun hno => False.elim (hb1 hno)) (fun _ => ?_)
        refine r_iconst (pc := 141) (v := 1) dX0_fewest_141 (by decide) ?_
        refine r_goto (pc := 142) 146 dX0_fewest_142 rfl ?_
        refine r_bipush (pc := 146) (v := (-5)) dX0_fewest_146 (by decide) ?_
        refine r_s2 (pc := 148) (bc' := 1) (bs' := 7) (ct_X0_need _ _) k_X0_115 dX0_fewest_148 (Nat.le_of_ble_eq_true rfl) ⟨Nat.le_of_ble_eq_true rfl, Nat.le_of_ble_eq_true rfl⟩ ⟨Nat.le_of_ble_eq_true rfl, Nat.le_of_ble_eq_true rfl⟩ (r_cv fun M148 p148 => ?_) (fun q E M9 h9 => absurd h9.1 (by decide))
        obtain ⟨-, p148⟩ := p148
        have p148 := Eq.symm (show _ = _ from p148)
        subst p148
        refine r_iload (pc := 151) dX0_fewest_151 rfl ?_
        refine r_bipush (pc := 153) (v := (-6)) dX0_fewest_153 (by decide) ?_
        refine r_s2 (pc := 155) (bc' := 0) (bs' := 0) (ct_X0_need _ _) k_X0_115 dX0_fewest_155 (Nat.le_of_ble_eq_true rfl) ⟨Nat.le_of_ble_eq_true rfl, Nat.le_of_ble_eq_true rfl⟩ ⟨Nat.le_of_ble_eq_true rfl, Nat.le_of_ble_eq_true rfl⟩ (r_cv fun M155 p155 => ?_) (fun q E M9 h9 => absurd h9.1 (by decide))
        obtain ⟨-, p155⟩ := p155
        have p155 := Eq.symm (show _ = _ from p155)
        subst p155
        refine r_iload_n (pc := 158) dX0_fewest_158 rfl ?_
        refine r_ireturn (pc := 159) rfl dX0_fewest_159 ⟨_, rfl, ?_⟩
        exact (show oX xo mo Z (fewestS S x1 x2) _ _ by unfold fewestS; rw [cI_f (fun q => q hy), cI_f (fun q => q ho), cI_f (by rw [hI9]; exact hb1), hI9]; exact ⟨rfl, wa, hx1⟩)
    | succ n ih =>
      intro s b o7 hs hb hI
      rw [fewL] at hI
      have hs256 : s < 256 := by omega
      have ixs : Int32.toNatClampNeg (nI s) = s := ix_nI (by omega)
      rcases hb with rfl | ⟨k, hk, rfl⟩
      · refine r_iload (pc := 61) dX0_fewest_61 rfl ?_
        refine r_iconst (pc := 63) (v := 1) dX0_fewest_63 (by decide) ?_
        refine r_aload_n (pc := 64) dX0_fewest_64 rfl ?_
        refine r_getR (pc := 65) dX0_fewest_65 fl_X0_90_0 hx1.1.2.1 (fun _ _ => rfl) hx1.2.2.1.1 ?_
        refine r_getIe (pc := 68) (v := S.1 1 0) dX0_fewest_68 fl_X0_123_3 hx1.2.2.1.2.2.k (fun _ _ => rfl) hx1.2.2.1.2.2.i5 ?_
        refine r_ishl (pc := 71) dX0_fewest_71 ?_
        rw [e1, bt_shl N1 (by omega)]
        refine r_icmp_ge (pc := 72) 131 dX0_fewest_72 rfl (fun hno => False.elim (by rw [ltI (by omega) (by omega)] at hno; omega)) (fun _ => ?_)
        refine r_iload (pc := 75) dX0_fewest_75 rfl ?_
        refine r_if_eq (pc := 77) 131 dX0_fewest_77 rfl (fun hno => absurd hno (by decide)) (fun _ => ?_)
        refine r_iload_n (pc := 80) dX0_fewest_80 rfl ?_
        refine r_iconst (pc := 81) (v := (-1)) dX0_fewest_81 (by decide) ?_
        refine r_icmp_eq (pc := 82) 97 dX0_fewest_82 rfl (fun _ => ?_) (fun hno => absurd hno (by decide))
        refine r_iconst (pc := 97) (v := 1) dX0_fewest_97 (by decide) ?_
        refine r_goto (pc := 98) 102 dX0_fewest_98 rfl ?_
        refine r_istore7 (pc := 102) dX0_fewest_102 rfl ?_
        refine r_iload (pc := 104) dX0_fewest_104 rfl ?_
        refine r_if_eq (pc := 106) 123 dX0_fewest_106 rfl (fun hno => absurd hno (by decide)) (fun _ => ?_)
        refine r_aload (pc := 109) dX0_fewest_109 rfl ?_
        refine r_iload (pc := 111) dX0_fewest_111 rfl ?_
        refine r_ialdv (pc := 113) (v := endF S.1 (Int32.toNatClampNeg x1) x2 s) dX0_fewest_113 (hx1.1.2.2.2.2.2.2.1.2.2.2.1 4 (by decide)).2.1 (hx1.1.2.2.2.2.2.2.1.2.2.2.1 4 (by decide)).2.2 (vp_in_nI (by omega) (by decide)) (by rw [ixs]; exact hE s (by rw [n1]; omega)) ?_
        refine r_iload_n (pc := 114) dX0_fewest_114 rfl ?_
        refine r_icmp_ne (pc := 115) 123 dX0_fewest_115 rfl (fun h115 => ?_) (fun h115 => ?_)
        · refine r_iload_n (pc := 123) dX0_fewest_123 rfl ?_
          refine r_istore3 (pc := 124) dX0_fewest_124 rfl ?_
          refine r_iinc6 (pc := 125) dX0_fewest_125 (nI_1 _) rfl ?_
          refine r_goto (pc := 128) 61 dX0_fewest_128 rfl ?_
          first | (rw [cI_t ⟨h115, Or.inl rfl⟩] at hI; exact ih (s + 1) _ _ (by omega) (Or.inr ⟨s, hs256, rfl⟩) hI) | (rw [cI_f (fun q => h115 q.1)] at hI; exact ih (s + 1) _ _ (by omega) (Or.inl rfl) hI)
        · refine r_iload (pc := 118) dX0_fewest_118 rfl ?_
          refine r_goto (pc := 120) 124 dX0_fewest_120 rfl ?_
          refine r_istore3 (pc := 124) dX0_fewest_124 rfl ?_
          refine r_iinc6 (pc := 125) dX0_fewest_125 (nI_1 _) rfl ?_
          refine r_goto (pc := 128) 61 dX0_fewest_128 rfl ?_
          first | (rw [cI_t ⟨h115, Or.inl rfl⟩] at hI; exact ih (s + 1) _ _ (by omega) (Or.inr ⟨s, hs256, rfl⟩) hI) | (rw [cI_f (fun q => h115 q.1)] at hI; exact ih (s + 1) _ _ (by omega) (Or.inl rfl) hI)
      · have hk1 : ¬ nI k = -1 := fun q => by have := congrArg Int32.toInt q; rw [nI_toInt (by omega)] at this; exact absurd this (by show ¬ (k : Int) = -1; omega)
        have ixk : Int32.toNatClampNeg (nI k) = k := ix_nI (by omega)
        rw [ixk] at hI
        refine r_iload (pc := 61) dX0_fewest_61 rfl ?_
        refine r_iconst (pc := 63) (v := 1) dX0_fewest_63 (by decide) ?_
        refine r_aload_n (pc := 64) dX0_fewest_64 rfl ?_
        refine r_getR (pc := 65) dX0_fewest_65 fl_X0_90_0 hx1.1.2.1 (fun _ _ => rfl) hx1.2.2.1.1 ?_
        refine r_getIe (pc := 68) (v := S.1 1 0) dX0_fewest_68 fl_X0_123_3 hx1.2.2.1.2.2.k (fun _ _ => rfl) hx1.2.2.1.2.2.i5 ?_
        refine r_ishl (pc := 71) dX0_fewest_71 ?_
        rw [e1, bt_shl N1 (by omega)]
        refine r_icmp_ge (pc := 72) 131 dX0_fewest_72 rfl (fun hno => False.elim (by rw [ltI (by omega) (by omega)] at hno; omega)) (fun _ => ?_)
        refine r_iload (pc := 75) dX0_fewest_75 rfl ?_
        refine r_if_eq (pc := 77) 131 dX0_fewest_77 rfl (fun hno => absurd hno (by decide)) (fun _ => ?_)
        refine r_iload_n (pc := 80) dX0_fewest_80 rfl ?_
        refine r_iconst (pc := 81) (v := (-1)) dX0_fewest_81 (by decide) ?_
        refine r_icmp_eq (pc := 82) 97 dX0_fewest_82 rfl (fun hno => False.elim (hk1 hno)) (fun _ => ?_)
        refine r_iload (pc := 85) dX0_fewest_85 rfl ?_
        refine r_s1 (pc := 87) (bc' := 2) (bs' := 14) (ct_J12_bitCount hs256) k_X0_331 dX0_fewest_87 (Nat.le_of_ble_eq_true rfl) ⟨Nat.le_of_ble_eq_true rfl, Nat.le_of_ble_eq_true rfl⟩ ⟨Nat.le_of_ble_eq_true rfl, Nat.le_of_ble_eq_true rfl⟩ (r_ci fun r87 M87 p87 => ?_) nox
        obtain ⟨rfl, p87⟩ := p87
        have p87 := Eq.symm (show _ = _ from p87)
        subst p87
        refine r_iload_n (pc := 90) dX0_fewest_90 rfl ?_
        refine r_s1 (pc := 91) (bc' := 2) (bs' := 14) (ct_J12_bitCount hk) k_X0_331 dX0_fewest_91 (Nat.le_of_ble_eq_true rfl) ⟨Nat.le_of_ble_eq_true rfl, Nat.le_of_ble_eq_true rfl⟩ ⟨Nat.le_of_ble_eq_true rfl, Nat.le_of_ble_eq_true rfl⟩ (r_ci fun r91 M91 p91 => ?_) nox
        obtain ⟨rfl, p91⟩ := p91
        have p91 := Eq.symm (show _ = _ from p91)
        subst p91
        refine r_icmp_ge (pc := 94) 101 dX0_fewest_94 rfl (fun h94 => ?_) (fun h94 => ?_)
        · refine r_iconst (pc := 101) (v := 0) dX0_fewest_101 (by decide) ?_
          refine r_istore7 (pc := 102) dX0_fewest_102 rfl ?_
          refine r_iload (pc := 104) dX0_fewest_104 rfl ?_
          refine r_if_eq (pc := 106) 123 dX0_fewest_106 rfl (fun _ => ?_) (fun hno => absurd hno (by decide))
          refine r_iload_n (pc := 123) dX0_fewest_123 rfl ?_
          refine r_istore3 (pc := 124) dX0_fewest_124 rfl ?_
          refine r_iinc6 (pc := 125) dX0_fewest_125 (nI_1 _) rfl ?_
          refine r_goto (pc := 128) 61 dX0_fewest_128 rfl ?_
          first | (rw [cI_t ⟨h115, Or.inr h94⟩] at hI; exact ih (s + 1) _ _ (by omega) (Or.inr ⟨s, hs256, rfl⟩) hI) | (rw [cI_f (fun q => h115 q.1)] at hI; exact ih (s + 1) _ _ (by omega) (Or.inr ⟨k, hk, rfl⟩) hI) | (rw [cI_f (fun q => q.2.elim hk1 h94)] at hI; exact ih (s + 1) _ _ (by omega) (Or.inr ⟨k, hk, rfl⟩) hI)
        · refine r_iconst (pc := 97) (v := 1) dX0_fewest_97 (by decide) ?_
          refine r_goto (pc := 98) 102 dX0_fewest_98 rfl ?_
          refine r_istore7 (pc := 102) dX0_fewest_102 rfl ?_
          refine r_iload (pc := 104) dX0_fewest_104 rfl ?_
          refine r_if_eq (pc := 106) 123 dX0_fewest_106 rfl (fun hno => absurd hno (by decide)) (fun _ => ?_)
          refine r_aload (pc := 109) dX0_fewest_109 rfl ?_
          refine r_iload (pc := 111) dX0_fewest_111 rfl ?_
          refine r_ialdv (pc := 113) (v := endF S.1 (Int32.toNatClampNeg x1) x2 s) dX0_fewest_113 (hx1.1.2.2.2.2.2.2.1.2.2.2.1 4 (by decide)).2.1 (hx1.1.2.2.2.2.2.2.1.2.2.2.1 4 (by decide)).2.2 (vp_in_nI (by omega) (by decide)) (by rw [ixs]; exact hE s (by rw [n1]; omega)) ?_
          refine r_iload_n (pc := 114) dX0_fewest_114 rfl ?_
          refine r_icmp_ne (pc := 115) 123 dX0_fewest_115 rfl (fun h115 => ?_) (fun h115 => ?_)
          · refine r_iload_n (pc := 123) dX0_fewest_123 rfl ?_
            refine r_istore3 (pc := 124) dX0_fewest_124 rfl ?_
            refine r_iinc6 (pc := 125) dX0_fewest_125 (nI_1 _) rfl ?_
            refine r_goto (pc := 128) 61 dX0_fewest_128 rfl ?_
            first | (rw [cI_t ⟨h115, Or.inr h94⟩] at hI; exact ih (s + 1) _ _ (by omega) (Or.inr ⟨s, hs256, rfl⟩) hI) | (rw [cI_f (fun q => h115 q.1)] at hI; exact ih (s + 1) _ _ (by omega) (Or.inr ⟨k, hk, rfl⟩) hI) | (rw [cI_f (fun q => q.2.elim hk1 h94)] at hI; exact ih (s + 1) _ _ (by omega) (Or.inr ⟨k, hk, rfl⟩) hI)
          · refine r_iload (pc := 118) dX0_fewest_118 rfl ?_
            refine r_goto (pc := 120) 124 dX0_fewest_120 rfl ?_
            refine r_istore3 (pc := 124) dX0_fewest_124 rfl ?_
            refine r_iinc6 (pc := 125) dX0_fewest_125 (nI_1 _) rfl ?_
            refine r_goto (pc := 128) 61 dX0_fewest_128 rfl ?_
            first | (rw [cI_t ⟨h115, Or.inr h94⟩] at hI; exact ih (s + 1) _ _ (by omega) (Or.inr ⟨s, hs256, rfl⟩) hI) | (rw [cI_f (fun q => h115 q.1)] at hI; exact ih (s + 1) _ _ (by omega) (Or.inr ⟨k, hk, rfl⟩) hI) | (rw [cI_f (fun q => q.2.elim hk1 h94)] at hI; exact ih (s + 1) _ _ (by omega) (Or.inr ⟨k, hk, rfl⟩) hI)
  refine r_aload_n (pc := 0) dX0_fewest_0 rfl ?_
  refine r_iload_n (pc := 1) dX0_fewest_1 rfl ?_
  refine r_o2 (pc := 2) (bc' := 5) (bs' := 33) (ct_X0_thingAt hx x1 hB) k_X0_193_0 dX0_fewest_2 hx.1.2.1 (Nat.le_of_ble_eq_true rfl) ⟨Nat.le_of_ble_eq_true rfl, Nat.le_of_ble_eq_true rfl⟩ ⟨Nat.le_of_ble_eq_true rfl, Nat.le_of_ble_eq_true rfl⟩ (r_cr fun r2 M2 p2 => ?_) (fun q E M9 h9 => by obtain ⟨hn9, rfl, k9, w9, o9⟩ := h9; exact t_catch [] _ _ _ rfl (fun z hz => absurd hz List.not_mem_nil) rfl (by decide) q305 q389 ((hC M9 q _ _ _ _ _ _ k9 w9 (by decide) o9 (by unfold fewestS; rw [cI_t hn9])).loose (Nat.zero_le _) (Nat.zero_le _)))
  obtain ⟨hy, -, p2⟩ := p2
  have p2 := Eq.symm (show _ = _ from p2)
  subst p2
  refine r_pop (pc := 5) dX0_fewest_5 rfl ?_
  refine r_iconst (pc := 6) (v := (-1)) dX0_fewest_6 (by decide) ?_
  refine r_istore3 (pc := 7) dX0_fewest_7 rfl ?_
  refine r_aload_n (pc := 8) dX0_fewest_8 rfl ?_
  refine r_getR (pc := 9) dX0_fewest_9 fl_X0_90_0 hx.1.2.1 (fun _ _ => rfl) hx.2.2.1.1 ?_
  refine r_iload_n (pc := 12) dX0_fewest_12 rfl ?_
  refine r_o2 (pc := 13) (bc' := 5) (bs' := 33) (ct_X3_isStep hx.2.2.1.2.2 x2) k_X0_129_3 dX0_fewest_13 hx.2.2.1.2.2.k (Nat.le_of_ble_eq_true rfl) ⟨Nat.le_of_ble_eq_true rfl, Nat.le_of_ble_eq_true rfl⟩ ⟨Nat.le_of_ble_eq_true rfl, Nat.le_of_ble_eq_true rfl⟩ (r_ci fun r13 M13 p13 => ?_) nox
  obtain ⟨rfl, p13⟩ := p13
  have p13 := Eq.symm (show _ = _ from p13)
  subst p13
  refine r_if_eq (pc := 16) 36 dX0_fewest_16 rfl (fun h16 => ?_) (fun h16 => ?_)
  · rw [bI_eq0] at h16
    have hno : ¬ onP S.1 x1 x2 := fun q => by first | exact h16 q.1 | exact h29 q.2
    refine r_iconst (pc := 36) (v := 0) dX0_fewest_36 (by decide) ?_
    refine r_istore4 (pc := 37) dX0_fewest_37 rfl ?_
    refine r_iload (pc := 39) dX0_fewest_39 rfl ?_
    refine r_if_eq (pc := 41) 53 dX0_fewest_41 rfl (fun _ => ?_) (fun hno => absurd hno (by decide))
    refine r_iconst (pc := 53) (v := 0) dX0_fewest_53 (by decide) ?_
    refine r_newa (t := 0) (n := 0) (atype := .int) (pc := 54) dX0_fewest_54 rfl rfl q139 rfl (by decide) rfl (by decide) arN0 (Nat.le_of_ble_eq_true rfl) (Nat.le_of_ble_eq_true rfl) ?_
    have hx2 := hx.grown (frP.rf.nw (κ := (2, 0)) (n := 0))
    refine r_astore5 (pc := 56) dX0_fewest_56 rfl ?_
    refine r_iconst (pc := 58) (v := 0) dX0_fewest_58 (by decide) ?_
    refine r_istore6 (pc := 59) dX0_fewest_59 rfl ?_
    refine r_iload (pc := 61) dX0_fewest_61 rfl ?_
    refine r_iconst (pc := 63) (v := 1) dX0_fewest_63 (by decide) ?_
    refine r_aload_n (pc := 64) dX0_fewest_64 rfl ?_
    refine r_getR (pc := 65) dX0_fewest_65 fl_X0_90_0 hx2.1.2.1 (fun _ _ => rfl) hx2.2.2.1.1 ?_
    refine r_getIe (pc := 68) (v := S.1 1 0) dX0_fewest_68 fl_X0_123_3 hx2.2.2.1.2.2.k (fun _ _ => rfl) hx2.2.2.1.2.2.i5 ?_
    refine r_ishl (pc := 71) dX0_fewest_71 ?_
    rw [e1, bt_shl N1 (by omega)]
    refine r_icmp_ge (pc := 72) 131 dX0_fewest_72 rfl (fun hno => False.elim (by rw [show (0 : Int32) = nI 0 from rfl, ltI (by omega) (by omega)] at hno; omega)) (fun _ => ?_)
    refine r_iload (pc := 75) dX0_fewest_75 rfl ?_
    refine r_if_eq (pc := 77) 131 dX0_fewest_77 rfl (fun _ => ?_) (fun hno => absurd hno (by decide))
    refine r_iload (pc := 131) dX0_fewest_131 rfl ?_
    refine r_if_eq (pc := 133) 141 dX0_fewest_133 rfl (fun _ => ?_) (fun hno => absurd hno (by decide))
    refine r_iconst (pc := 141) (v := 1) dX0_fewest_141 (by decide) ?_
    refine r_goto (pc := 142) 146 dX0_fewest_142 rfl ?_
    refine r_bipush (pc := 146) (v := (-5)) dX0_fewest_146 (by decide) ?_
    refine r_s2 (pc := 148) (bc' := 3) (bs' := 26) (ct_X0_need _ _) k_X0_115 dX0_fewest_148 (Nat.le_of_ble_eq_true rfl) ⟨Nat.le_of_ble_eq_true rfl, Nat.le_of_ble_eq_true rfl⟩ ⟨Nat.le_of_ble_eq_true rfl, Nat.le_of_ble_eq_true rfl⟩ (r_cv fun M148 p148 => ?_) (fun q E M9 h9 => absurd h9.1 (by decide))
    obtain ⟨-, p148⟩ := p148
    have p148 := Eq.symm (show _ = _ from p148)
    subst p148
    refine r_iload (pc := 151) dX0_fewest_151 rfl ?_
    refine r_bipush (pc := 153) (v := (-6)) dX0_fewest_153 (by decide) ?_
    refine r_s2 (pc := 155) (bc' := 2) (bs' := 19) (ct_X0_need _ _) k_X0_115 dX0_fewest_155 (Nat.le_of_ble_eq_true rfl) ⟨Nat.le_of_ble_eq_true rfl, Nat.le_of_ble_eq_true rfl⟩ ⟨Nat.le_of_ble_eq_true rfl, Nat.le_of_ble_eq_true rfl⟩ (r_cv fun M155 p155 => ?_) (fun q E M9 h8 => by have h9 := hx2.rf h8.2; obtain ⟨rfl, k9, w9, o9⟩ := h9; exact t_catch [] _ _ _ rfl (fun z hz => absurd hz List.not_mem_nil) rfl (by decide) q305 q389 ((hC M9 q _ _ _ _ _ _ k9 w9 (by decide) o9 (by unfold fewestS; rw [cI_f (fun q => q hy), cI_t hno])).loose (Nat.zero_le _) (Nat.zero_le _)))
    exact absurd rfl p155.1
  · rw [bI_ne0] at h16
    refine r_iload_n (pc := 19) dX0_fewest_19 rfl ?_
    refine r_aload_n (pc := 20) dX0_fewest_20 rfl ?_
    refine r_getR (pc := 21) dX0_fewest_21 fl_X0_90_0 hx.1.2.1 (fun _ _ => rfl) hx.2.2.1.1 ?_
    refine r_getR (pc := 24) dX0_fewest_24 fl_X0_132_3 hx.2.2.1.2.2.k (fun _ _ => rfl) hx.2.2.1.2.2.r10 ?_
    refine r_iload_n (pc := 27) dX0_fewest_27 rfl ?_
    refine r_ialdv (pc := 28) (v := S.1 14 (Int32.toNatClampNeg x1)) dX0_fewest_28 hx.2.2.1.2.2.k10 hx.2.2.1.2.2.z10 (hB.vt hy) (hx.2.2.1.2.2.a14 hy) ?_
    refine r_icmp_le (pc := 29) 36 dX0_fewest_29 rfl (fun h29 => ?_) (fun h29 => ?_)
    · have hno : ¬ onP S.1 x1 x2 := fun q => by first | exact h16 q.1 | exact h29 q.2
      refine r_iconst (pc := 36) (v := 0) dX0_fewest_36 (by decide) ?_
      refine r_istore4 (pc := 37) dX0_fewest_37 rfl ?_
      refine r_iload (pc := 39) dX0_fewest_39 rfl ?_
      refine r_if_eq (pc := 41) 53 dX0_fewest_41 rfl (fun _ => ?_) (fun hno => absurd hno (by decide))
      refine r_iconst (pc := 53) (v := 0) dX0_fewest_53 (by decide) ?_
      refine r_newa (t := 0) (n := 0) (atype := .int) (pc := 54) dX0_fewest_54 rfl rfl q139 rfl (by decide) rfl (by decide) arN0 (Nat.le_of_ble_eq_true rfl) (Nat.le_of_ble_eq_true rfl) ?_
      have hx2 := hx.grown (frP.rf.nw (κ := (2, 0)) (n := 0))
      refine r_astore5 (pc := 56) dX0_fewest_56 rfl ?_
      refine r_iconst (pc := 58) (v := 0) dX0_fewest_58 (by decide) ?_
      refine r_istore6 (pc := 59) dX0_fewest_59 rfl ?_
      refine r_iload (pc := 61) dX0_fewest_61 rfl ?_
      refine r_iconst (pc := 63) (v := 1) dX0_fewest_63 (by decide) ?_
      refine r_aload_n (pc := 64) dX0_fewest_64 rfl ?_
      refine r_getR (pc := 65) dX0_fewest_65 fl_X0_90_0 hx2.1.2.1 (fun _ _ => rfl) hx2.2.2.1.1 ?_
      refine r_getIe (pc := 68) (v := S.1 1 0) dX0_fewest_68 fl_X0_123_3 hx2.2.2.1.2.2.k (fun _ _ => rfl) hx2.2.2.1.2.2.i5 ?_
      refine r_ishl (pc := 71) dX0_fewest_71 ?_
      rw [e1, bt_shl N1 (by omega)]
      refine r_icmp_ge (pc := 72) 131 dX0_fewest_72 rfl (fun hno => False.elim (by rw [show (0 : Int32) = nI 0 from rfl, ltI (by omega) (by omega)] at hno; omega)) (fun _ => ?_)
      refine r_iload (pc := 75) dX0_fewest_75 rfl ?_
      refine r_if_eq (pc := 77) 131 dX0_fewest_77 rfl (fun _ => ?_) (fun hno => absurd hno (by decide))
      refine r_iload (pc := 131) dX0_fewest_131 rfl ?_
      refine r_if_eq (pc := 133) 141 dX0_fewest_133 rfl (fun _ => ?_) (fun hno => absurd hno (by decide))
      refine r_iconst (pc := 141) (v := 1) dX0_fewest_141 (by decide) ?_
      refine r_goto (pc := 142) 146 dX0_fewest_142 rfl ?_
      refine r_bipush (pc := 146) (v := (-5)) dX0_fewest_146 (by decide) ?_
      refine r_s2 (pc := 148) (bc' := 3) (bs' := 26) (ct_X0_need _ _) k_X0_115 dX0_fewest_148 (Nat.le_of_ble_eq_true rfl) ⟨Nat.le_of_ble_eq_true rfl, Nat.le_of_ble_eq_true rfl⟩ ⟨Nat.le_of_ble_eq_true rfl, Nat.le_of_ble_eq_true rfl⟩ (r_cv fun M148 p148 => ?_) (fun q E M9 h9 => absurd h9.1 (by decide))
      obtain ⟨-, p148⟩ := p148
      have p148 := Eq.symm (show _ = _ from p148)
      subst p148
      refine r_iload (pc := 151) dX0_fewest_151 rfl ?_
      refine r_bipush (pc := 153) (v := (-6)) dX0_fewest_153 (by decide) ?_
      refine r_s2 (pc := 155) (bc' := 2) (bs' := 19) (ct_X0_need _ _) k_X0_115 dX0_fewest_155 (Nat.le_of_ble_eq_true rfl) ⟨Nat.le_of_ble_eq_true rfl, Nat.le_of_ble_eq_true rfl⟩ ⟨Nat.le_of_ble_eq_true rfl, Nat.le_of_ble_eq_true rfl⟩ (r_cv fun M155 p155 => ?_) (fun q E M9 h8 => by have h9 := hx2.rf h8.2; obtain ⟨rfl, k9, w9, o9⟩ := h9; exact t_catch [] _ _ _ rfl (fun z hz => absurd hz List.not_mem_nil) rfl (by decide) q305 q389 ((hC M9 q _ _ _ _ _ _ k9 w9 (by decide) o9 (by unfold fewestS; rw [cI_f (fun q => q hy), cI_t hno])).loose (Nat.zero_le _) (Nat.zero_le _)))
      exact absurd rfl p155.1
    · refine r_iconst (pc := 32) (v := 1) dX0_fewest_32 (by decide) ?_
      refine r_goto (pc := 33) 37 dX0_fewest_33 rfl ?_
      refine r_istore4 (pc := 37) dX0_fewest_37 rfl ?_
      refine r_iload (pc := 39) dX0_fewest_39 rfl ?_
      refine r_if_eq (pc := 41) 53 dX0_fewest_41 rfl (fun hno => absurd hno (by decide)) (fun _ => ?_)
      refine r_aload_n (pc := 44) dX0_fewest_44 rfl ?_
      refine r_iload_n (pc := 45) dX0_fewest_45 rfl ?_
      refine r_iload_n (pc := 46) dX0_fewest_46 rfl ?_
      refine r_o3 (pc := 47) (bc' := 5) (bs' := 33) (ct_X0_reachOf hx x1 x2 hB hy) k_X0_320_0 dX0_fewest_47 hx.1.2.1 (Nat.le_of_ble_eq_true rfl) ⟨Nat.le_of_ble_eq_true rfl, Nat.le_of_ble_eq_true rfl⟩ ⟨Nat.le_of_ble_eq_true rfl, Nat.le_of_ble_eq_true rfl⟩ (r_cr fun r47 M47 p47 => ?_) nox
      obtain ⟨rfl, hx1, hR1, hE⟩ := p47
      refine r_goto (pc := 50) 56 dX0_fewest_50 rfl ?_
      refine r_astore5 (pc := 56) dX0_fewest_56 rfl ?_
      refine r_iconst (pc := 58) (v := 0) dX0_fewest_58 (by decide) ?_
      refine r_istore6 (pc := 59) dX0_fewest_59 rfl ?_
      exact (L hy ⟨h16, h29⟩ _ hx1 (fun s hs => (hE s hs).trans (hF_of hS.1 hy ⟨h16, h29⟩ s)) (2 ^ N1) 0 (-1) _ (by omega) (Or.inl rfl) (by unfold fewV; rw [n1])).loose (by omega) (by omega)
