/-! X: calls (printed by gen/mk_x50.py) -/
set_option maxRecDepth 100000
theorem ct_X0_far {M : PM} {xo wa mo : Nat} {Z : PM} {S : ST} (hx : XO M xo wa mo Z S) (x1 x2 : Int32) (hS : OkS S.1) : Ct (YX0_far, (6, 143, 1, 7), qi (fun r M' => oX xo mo Z (farOS S x1 x2) r M'), noX) [.ref xo, .int x1, .int x2] M := by
  refine ct_ofH [some (.ref xo), some (.int x1), some (.int x2), none] rfl rfl (Nat.le_of_ble_eq_true rfl) rfl rfl ?_
  have hB := hS.1.t
  have hC : ∀ (M9 : PM) (q : Nat) (b : Int32) (o3 : Option Value), mK M9 q = (1, 6) → mI M9 q 6 = b → bd b (-7) (-1) → XO M9 xo wa mo Z S → farOS S x1 x2 = noS S b → Wx (YX0_far, (6, 143, 1, 7), qi (fun r M' => oX xo mo Z (farOS S x1 x2) r M'), noX) 0 0 M9 16 [some (.ref xo), some (.int x1), some (.int x2), o3] [.ref q] := by
    intro M9 q b o3 h1 h2 h3 h4 h5
    refine r_astore3 (pc := 16) dX0_far_16 rfl ?_
    refine r_aload_n (pc := 17) dX0_far_17 rfl ?_
    refine r_aload_n (pc := 18) dX0_far_18 rfl ?_
    refine r_o2 (pc := 19) (bc' := 0) (bs' := 0) (ct_X0_refused h4 h1 h2 h3) k_X0_173_0 dX0_far_19 h4.1.2.1 (Nat.le_of_ble_eq_true rfl) ⟨Nat.le_of_ble_eq_true rfl, Nat.le_of_ble_eq_true rfl⟩ ⟨Nat.le_of_ble_eq_true rfl, Nat.le_of_ble_eq_true rfl⟩ (r_ci fun r19 M19 p19 => ?_) nox
    obtain ⟨rfl, h6⟩ := p19
    refine r_ireturn (pc := 22) rfl dX0_far_22 ⟨_, rfl, ?_⟩
    exact (show oX xo mo Z (farOS S x1 x2) _ _ by rw [h5]; exact ⟨rfl, wa, h6⟩)
  refine r_aload_n (pc := 0) dX0_far_0 rfl ?_
  refine r_iload_n (pc := 1) dX0_far_1 rfl ?_
  refine r_iload_n (pc := 2) dX0_far_2 rfl ?_
  refine r_o3 (pc := 3) (bc' := 0) (bs' := 0) (ct_X0_must hx x1 x2 hB) k_X0_300_0 dX0_far_3 hx.1.2.1 (Nat.le_of_ble_eq_true rfl) ⟨Nat.le_of_ble_eq_true rfl, Nat.le_of_ble_eq_true rfl⟩ ⟨Nat.le_of_ble_eq_true rfl, Nat.le_of_ble_eq_true rfl⟩ (r_cv fun M3 p3 => ?_) (fun q E M9 h9 => by obtain ⟨hn9, rfl, k9, w9, o9⟩ := h9; exact t_catch [] _ _ _ rfl (fun z hz => absurd hz List.not_mem_nil) rfl (by decide) q305 q389 ((hC M9 q _ _ k9 w9 (by decide) o9 (by unfold farOS; rw [cI_f hn9])).loose (Nat.zero_le _) (Nat.zero_le _)))
  obtain ⟨hy, p3⟩ := p3
  have p3 := Eq.symm (show _ = _ from p3)
  subst p3
  refine r_aload_n (pc := 6) dX0_far_6 rfl ?_
  refine r_getR (pc := 7) dX0_far_7 fl_X0_90_0 hx.1.2.1 (fun _ _ => rfl) hx.2.2.1.1 ?_
  refine r_iload_n (pc := 10) dX0_far_10 rfl ?_
  refine r_iload_n (pc := 11) dX0_far_11 rfl ?_
  refine r_o3 (pc := 12) (bc' := 0) (bs' := 0) (ct_X3_far hx.2.2.1.2.2 x1 x2 hB hy.1 hy.2) k_X0_304_3 dX0_far_12 hx.2.2.1.2.2.k (Nat.le_of_ble_eq_true rfl) ⟨Nat.le_of_ble_eq_true rfl, Nat.le_of_ble_eq_true rfl⟩ ⟨Nat.le_of_ble_eq_true rfl, Nat.le_of_ble_eq_true rfl⟩ (r_ci fun r12 M12 p12 => ?_) nox
  obtain ⟨rfl, p12⟩ := p12
  have p12 := Eq.symm (show _ = _ from p12)
  subst p12
  refine r_ireturn (pc := 15) rfl dX0_far_15 ⟨_, rfl, ?_⟩
  exact (show oX xo mo Z (farOS S x1 x2) _ _ by rw [show farOS S x1 x2 = (farS S.1 (Int32.toNatClampNeg x1) (Int32.toNatClampNeg x2), S) by unfold farOS; rw [cI_t hy]]; exact ⟨rfl, wa, hx⟩)
theorem ct_X0_wrong {M : PM} {xo wa mo : Nat} {Z : PM} {S : ST} (hx : XO M xo wa mo Z S) (x1 x2 x3 : Int32) (hS : OkS S.1) : Ct (YX0_wrong, (7, 166, 1, 7), qi (fun r M' => oX xo mo Z (wrongOS S x1 x2 x3) r M'), noX) [.ref xo, .int x1, .int x2, .int x3] M := by
  refine ct_ofH [some (.ref xo), some (.int x1), some (.int x2), some (.int x3), none] rfl rfl (Nat.le_of_ble_eq_true rfl) rfl rfl ?_
  have hB := hS.1.t
  have hC : ∀ (M9 : PM) (q : Nat) (b : Int32) (o4 : Option Value), mK M9 q = (1, 6) → mI M9 q 6 = b → bd b (-7) (-1) → XO M9 xo wa mo Z S → wrongOS S x1 x2 x3 = noS S b → Wx (YX0_wrong, (7, 166, 1, 7), qi (fun r M' => oX xo mo Z (wrongOS S x1 x2 x3) r M'), noX) 0 0 M9 17 [some (.ref xo), some (.int x1), some (.int x2), some (.int x3), o4] [.ref q] := by
    intro M9 q b o4 h1 h2 h3 h4 h5
    refine r_astore4 (pc := 17) dX0_wrong_17 rfl ?_
    refine r_aload_n (pc := 19) dX0_wrong_19 rfl ?_
    refine r_aload (pc := 20) dX0_wrong_20 rfl ?_
    refine r_o2 (pc := 22) (bc' := 0) (bs' := 0) (ct_X0_refused h4 h1 h2 h3) k_X0_173_0 dX0_wrong_22 h4.1.2.1 (Nat.le_of_ble_eq_true rfl) ⟨Nat.le_of_ble_eq_true rfl, Nat.le_of_ble_eq_true rfl⟩ ⟨Nat.le_of_ble_eq_true rfl, Nat.le_of_ble_eq_true rfl⟩ (r_ci fun r22 M22 p22 => ?_) nox
    obtain ⟨rfl, h6⟩ := p22
    refine r_ireturn (pc := 25) rfl dX0_wrong_25 ⟨_, rfl, ?_⟩
    exact (show oX xo mo Z (wrongOS S x1 x2 x3) _ _ by rw [h5]; exact ⟨rfl, wa, h6⟩)
  refine r_aload_n (pc := 0) dX0_wrong_0 rfl ?_
  refine r_iload_n (pc := 1) dX0_wrong_1 rfl ?_
  refine r_iload_n (pc := 2) dX0_wrong_2 rfl ?_
  refine r_o3 (pc := 3) (bc' := 0) (bs' := 0) (ct_X0_must hx x1 x2 hB) k_X0_300_0 dX0_wrong_3 hx.1.2.1 (Nat.le_of_ble_eq_true rfl) ⟨Nat.le_of_ble_eq_true rfl, Nat.le_of_ble_eq_true rfl⟩ ⟨Nat.le_of_ble_eq_true rfl, Nat.le_of_ble_eq_true rfl⟩ (r_cv fun M3 p3 => ?_) (fun q E M9 h9 => by obtain ⟨hn9, rfl, k9, w9, o9⟩ := h9; exact t_catch [] _ _ _ rfl (fun z hz => absurd hz List.not_mem_nil) rfl (by decide) q305 q389 ((hC M9 q _ _ k9 w9 (by decide) o9 (by unfold wrongOS; rw [cI_f hn9])).loose (Nat.zero_le _) (Nat.zero_le _)))
  obtain ⟨hy, p3⟩ := p3
  have p3 := Eq.symm (show _ = _ from p3)
  subst p3
  refine r_aload_n (pc := 6) dX0_wrong_6 rfl ?_
  refine r_getR (pc := 7) dX0_wrong_7 fl_X0_90_0 hx.1.2.1 (fun _ _ => rfl) hx.2.2.1.1 ?_
  refine r_iload_n (pc := 10) dX0_wrong_10 rfl ?_
  refine r_iload_n (pc := 11) dX0_wrong_11 rfl ?_
  refine r_iload_n (pc := 12) dX0_wrong_12 rfl ?_
  refine r_o4 (pc := 13) (bc' := 0) (bs' := 0) (ct_X3_wrong hx.2.2.1.2.2 x1 x2 x3 hS.1 hy.1 hy.2) k_X0_307_3 dX0_wrong_13 hx.2.2.1.2.2.k (Nat.le_of_ble_eq_true rfl) ⟨Nat.le_of_ble_eq_true rfl, Nat.le_of_ble_eq_true rfl⟩ ⟨Nat.le_of_ble_eq_true rfl, Nat.le_of_ble_eq_true rfl⟩ (r_ci fun r13 M13 p13 => ?_) nox
  obtain ⟨rfl, p13⟩ := p13
  have p13 := Eq.symm (show _ = _ from p13)
  subst p13
  refine r_ireturn (pc := 16) rfl dX0_wrong_16 ⟨_, rfl, ?_⟩
  exact (show oX xo mo Z (wrongOS S x1 x2 x3) _ _ by rw [show wrongOS S x1 x2 x3 = (wrongS S.1 x1 (Int32.toNatClampNeg x2) (nearC x3), S) by unfold wrongOS; rw [cI_t hy]]; exact ⟨rfl, wa, hx⟩)
theorem n_and {a b : Prop} (h : ¬ (a ∧ b)) : ¬ a ∨ ¬ b := by
  by_cases h1 : a
  · exact Or.inr fun h2 => h ⟨h1, h2⟩
  · exact Or.inl h1
theorem n_in {a b : Prop} (h : ¬ (¬ a ∧ ¬ b)) : a ∨ b := by
  by_cases h1 : a
  · exact Or.inl h1
  · exact Or.inr (Classical.not_not.mp fun h2 => h ⟨h1, h2⟩)
theorem n_or {a b : Prop} (h : a ∧ b) : ¬ (¬ a ∨ ¬ b) := fun h2 => h2.elim (fun q => q h.1) (fun q => q h.2)
theorem ct_X0_carry {M : PM} {xo wa mo : Nat} {Z : PM} {S : ST} (hx : XO M xo wa mo Z S) (x1 x2 x3 : Int32) (hS : OkS S.1) : Ct (YX0_carry, (7, 166, 2, 14), qi (fun r M' => oX xo mo Z (carryS S x1 x2 x3) r M'), noX) [.ref xo, .int x1, .int x2, .int x3] M := by
  refine ct_ofH [some (.ref xo), some (.int x1), some (.int x2), some (.int x3), none] rfl rfl (Nat.le_of_ble_eq_true rfl) rfl rfl ?_
  have hB := hS.1.t
  have hC : ∀ (M9 : PM) (q : Nat) (b : Int32) (o4 : Option Value), mK M9 q = (1, 6) → mI M9 q 6 = b → bd b (-7) (-1) → XO M9 xo wa mo Z S → carryS S x1 x2 x3 = noS S b → Wx (YX0_carry, (7, 166, 2, 14), qi (fun r M' => oX xo mo Z (carryS S x1 x2 x3) r M'), noX) 0 0 M9 62 [some (.ref xo), some (.int x1), some (.int x2), some (.int x3), o4] [.ref q] := by
    intro M9 q b o4 h1 h2 h3 h4 h5
    refine r_astore4 (pc := 62) dX0_carry_62 rfl ?_
    refine r_aload_n (pc := 64) dX0_carry_64 rfl ?_
    refine r_aload (pc := 65) dX0_carry_65 rfl ?_
    refine r_o2 (pc := 67) (bc' := 0) (bs' := 0) (ct_X0_refused h4 h1 h2 h3) k_X0_173_0 dX0_carry_67 h4.1.2.1 (Nat.le_of_ble_eq_true rfl) ⟨Nat.le_of_ble_eq_true rfl, Nat.le_of_ble_eq_true rfl⟩ ⟨Nat.le_of_ble_eq_true rfl, Nat.le_of_ble_eq_true rfl⟩ (r_ci fun r67 M67 p67 => ?_) nox
    obtain ⟨rfl, h6⟩ := p67
    refine r_ireturn (pc := 70) rfl dX0_carry_70 ⟨_, rfl, ?_⟩
    exact (show oX xo mo Z (carryS S x1 x2 x3) _ _ by rw [h5]; exact ⟨rfl, wa, h6⟩)
  refine r_aload_n (pc := 0) dX0_carry_0 rfl ?_
  refine r_iload_n (pc := 1) dX0_carry_1 rfl ?_
  refine r_iload_n (pc := 2) dX0_carry_2 rfl ?_
  refine r_o3 (pc := 3) (bc' := 1) (bs' := 7) (ct_X0_must hx x1 x2 hB) k_X0_300_0 dX0_carry_3 hx.1.2.1 (Nat.le_of_ble_eq_true rfl) ⟨Nat.le_of_ble_eq_true rfl, Nat.le_of_ble_eq_true rfl⟩ ⟨Nat.le_of_ble_eq_true rfl, Nat.le_of_ble_eq_true rfl⟩ (r_cv fun M3 p3 => ?_) (fun q E M9 h9 => by obtain ⟨hn9, rfl, k9, w9, o9⟩ := h9; exact t_catch [] _ _ _ rfl (fun z hz => absurd hz List.not_mem_nil) rfl (by decide) q305 q389 ((hC M9 q _ _ k9 w9 (by decide) o9 (by unfold carryS; rw [cI_t (n_and hn9)])).loose (Nat.zero_le _) (Nat.zero_le _)))
  obtain ⟨hy, p3⟩ := p3
  have p3 := Eq.symm (show _ = _ from p3)
  subst p3
  refine r_aload_n (pc := 6) dX0_carry_6 rfl ?_
  refine r_getR (pc := 7) dX0_carry_7 fl_X0_90_0 hx.1.2.1 (fun _ _ => rfl) hx.2.2.1.1 ?_
  refine r_iload_n (pc := 10) dX0_carry_10 rfl ?_
  refine r_iload_n (pc := 11) dX0_carry_11 rfl ?_
  refine r_iload_n (pc := 12) dX0_carry_12 rfl ?_
  refine r_o4 (pc := 13) (bc' := 1) (bs' := 7) (ct_X3_wrong hx.2.2.1.2.2 x1 x2 x3 hS.1 hy.1 hy.2) k_X0_307_3 dX0_carry_13 hx.2.2.1.2.2.k (Nat.le_of_ble_eq_true rfl) ⟨Nat.le_of_ble_eq_true rfl, Nat.le_of_ble_eq_true rfl⟩ ⟨Nat.le_of_ble_eq_true rfl, Nat.le_of_ble_eq_true rfl⟩ (r_ci fun r13 M13 p13 => ?_) nox
  obtain ⟨rfl, p13⟩ := p13
  have p13 := Eq.symm (show _ = _ from p13)
  subst p13
  refine r_if_ne (pc := 16) 23 dX0_carry_16 rfl (fun h16 => ?_) (fun h16 => ?_)
  · refine r_iconst (pc := 23) (v := 0) dX0_carry_23 (by decide) ?_
    refine r_eqi (bI (wrongS S.1 x1 (Int32.toNatClampNeg x2) (nearC x3) = 0)) (by first | exact bI_t' h16 | exact bI_f' h16) ?_
    refine r_bipush (pc := 24) (v := (-6)) dX0_carry_24 (by decide) ?_
    refine r_s2 (pc := 26) (bc' := 0) (bs' := 0) (ct_X0_need _ _) k_X0_115 dX0_carry_26 (Nat.le_of_ble_eq_true rfl) ⟨Nat.le_of_ble_eq_true rfl, Nat.le_of_ble_eq_true rfl⟩ ⟨Nat.le_of_ble_eq_true rfl, Nat.le_of_ble_eq_true rfl⟩ (r_cv fun M26 p26 => ?_) (fun q E M9 h8 => by have h9 := And.intro (bI_eq0.mp h8.1) (hx.rf h8.2); obtain ⟨hn9, rfl, k9, w9, o9⟩ := h9; exact t_catch [] _ _ _ rfl (fun z hz => absurd hz List.not_mem_nil) rfl (by decide) q305 q389 ((hC M9 q _ _ k9 w9 (by decide) o9 (by unfold carryS; rw [cI_f (n_or hy), cI_t hn9])).loose (Nat.zero_le _) (Nat.zero_le _)))
    obtain ⟨hz, p26⟩ := p26
    have p26 := Eq.symm (show _ = _ from p26)
    subst p26
    rw [bI_ne0] at hz
    refine r_aload_n (pc := 29) dX0_carry_29 rfl ?_
    refine r_getR (pc := 30) dX0_carry_30 fl_X0_90_0 hx.1.2.1 (fun _ _ => rfl) hx.2.2.1.1 ?_
    refine r_iload_n (pc := 33) dX0_carry_33 rfl ?_
    refine r_iload_n (pc := 34) dX0_carry_34 rfl ?_
    refine r_iload_n (pc := 35) dX0_carry_35 rfl ?_
    refine r_o4 (pc := 36) (bc' := 0) (bs' := 0) (ct_X3_carry hx.2.2.1.2.2 x1 x2 x3 hB hy.1 hy.2) k_X0_311_3 dX0_carry_36 hx.2.2.1.2.2.k (Nat.le_of_ble_eq_true rfl) ⟨Nat.le_of_ble_eq_true rfl, Nat.le_of_ble_eq_true rfl⟩ ⟨Nat.le_of_ble_eq_true rfl, Nat.le_of_ble_eq_true rfl⟩ (r_cv fun M36 p36 => ?_) nox
    obtain ⟨w3, f3, g3⟩ := p36
    have hx1 := hx.world (S' := (carriesS S.1 x1 (Int32.toNatClampNeg x2) x3, S.2)) w3 f3 (fun s _ _ => by rw [g3]) rfl (fun k hk => by show carriesS S.1 x1 (Int32.toNatClampNeg x2) x3 k = S.1 k; unfold carriesS; rw [up2_ne (by omega), up2_ne (by omega), up2_ne (by omega)])
    refine r_aload_n (pc := 39) dX0_carry_39 rfl ?_
    refine r_getR (pc := 40) dX0_carry_40 fl_X0_90_0 hx1.1.2.1 (fun _ _ => rfl) hx1.2.2.1.1 ?_
    refine r_dup (pc := 43) dX0_carry_43 rfl ?_
    refine r_getIe (pc := 44) (v := S.1 8 0) dX0_carry_44 fl_X0_314_3 hx1.2.2.1.2.2.k (fun _ _ => rfl) hx1.2.2.1.2.2.i7 ?_
    refine r_iconst (pc := 47) (v := 1) dX0_carry_47 (by decide) ?_
    refine r_iadd (pc := 48) dX0_carry_48 ?_
    refine r_putI (pc := 49) dX0_carry_49 fl_X0_314_3 hx1.2.2.1.2.2.k rfl rfl ?_
    have hx2 := hx1.world (S' := (up2 (carriesS S.1 x1 (Int32.toNatClampNeg x2) x3) 8 0 (S.1 8 0 + 1), S.2)) (WX.s8 w3) (frP.rf.sI fun _ => inW_0) (fun _ _ _ => rfl) rfl (fun k hk => by show up2 (carriesS S.1 x1 (Int32.toNatClampNeg x2) x3) 8 0 _ k = carriesS S.1 x1 (Int32.toNatClampNeg x2) x3 k; rw [up2_ne (by omega)])
    refine r_aload_n (pc := 52) dX0_carry_52 rfl ?_
    refine r_getR (pc := 53) dX0_carry_53 fl_X0_90_0 hx2.1.2.1 (fun _ _ => rfl) hx2.2.2.1.1 ?_
    refine r_getR (pc := 56) dX0_carry_56 fl_X0_132_3 hx2.2.2.1.2.2.k (fun _ _ => rfl) hx2.2.2.1.2.2.r10 ?_
    refine r_iload_n (pc := 59) dX0_carry_59 rfl ?_
    refine r_ialdv (pc := 60) (v := S.1 14 (Int32.toNatClampNeg x2) + x3) dX0_carry_60 hx2.2.2.1.2.2.k10 hx2.2.2.1.2.2.z10 (hB.vt hy.2) ((hx2.2.2.1.2.2.a14 hy.2).trans (by simp [carriesS, up2_ap])) ?_
    refine r_ireturn (pc := 61) rfl dX0_carry_61 ⟨_, rfl, ?_⟩
    exact (show oX xo mo Z (carryS S x1 x2 x3) _ _ by rw [show carryS S x1 x2 x3 = (S.1 14 (Int32.toNatClampNeg x2) + x3, (up2 (carriesS S.1 x1 (Int32.toNatClampNeg x2) x3) 8 0 (S.1 8 0 + 1), S.2)) by unfold carryS; rw [cI_f (n_or hy), cI_f (fun hh => hh hz)]]; exact ⟨rfl, wa, hx2⟩)
  · refine r_iconst (pc := 19) (v := 1) dX0_carry_19 (by decide) ?_
    refine r_goto (pc := 20) 24 dX0_carry_20 rfl ?_
    refine r_eqi (bI (wrongS S.1 x1 (Int32.toNatClampNeg x2) (nearC x3) = 0)) (by first | exact bI_t' h16 | exact bI_f' h16) ?_
    refine r_bipush (pc := 24) (v := (-6)) dX0_carry_24 (by decide) ?_
    refine r_s2 (pc := 26) (bc' := 0) (bs' := 0) (ct_X0_need _ _) k_X0_115 dX0_carry_26 (Nat.le_of_ble_eq_true rfl) ⟨Nat.le_of_ble_eq_true rfl, Nat.le_of_ble_eq_true rfl⟩ ⟨Nat.le_of_ble_eq_true rfl, Nat.le_of_ble_eq_true rfl⟩ (r_cv fun M26 p26 => ?_) (fun q E M9 h8 => by have h9 := And.intro (bI_eq0.mp h8.1) (hx.rf h8.2); obtain ⟨hn9, rfl, k9, w9, o9⟩ := h9; exact t_catch [] _ _ _ rfl (fun z hz => absurd hz List.not_mem_nil) rfl (by decide) q305 q389 ((hC M9 q _ _ k9 w9 (by decide) o9 (by unfold carryS; rw [cI_f (n_or hy), cI_t hn9])).loose (Nat.zero_le _) (Nat.zero_le _)))
    obtain ⟨hz, p26⟩ := p26
    have p26 := Eq.symm (show _ = _ from p26)
    subst p26
    rw [bI_ne0] at hz
    refine r_aload_n (pc := 29) dX0_carry_29 rfl ?_
    refine r_getR (pc := 30) dX0_carry_30 fl_X0_90_0 hx.1.2.1 (fun _ _ => rfl) hx.2.2.1.1 ?_
    refine r_iload_n (pc := 33) dX0_carry_33 rfl ?_
    refine r_iload_n (pc := 34) dX0_carry_34 rfl ?_
    refine r_iload_n (pc := 35) dX0_carry_35 rfl ?_
    refine r_o4 (pc := 36) (bc' := 0) (bs' := 0) (ct_X3_carry hx.2.2.1.2.2 x1 x2 x3 hB hy.1 hy.2) k_X0_311_3 dX0_carry_36 hx.2.2.1.2.2.k (Nat.le_of_ble_eq_true rfl) ⟨Nat.le_of_ble_eq_true rfl, Nat.le_of_ble_eq_true rfl⟩ ⟨Nat.le_of_ble_eq_true rfl, Nat.le_of_ble_eq_true rfl⟩ (r_cv fun M36 p36 => ?_) nox
    obtain ⟨w3, f3, g3⟩ := p36
    have hx1 := hx.world (S' := (carriesS S.1 x1 (Int32.toNatClampNeg x2) x3, S.2)) w3 f3 (fun s _ _ => by rw [g3]) rfl (fun k hk => by show carriesS S.1 x1 (Int32.toNatClampNeg x2) x3 k = S.1 k; unfold carriesS; rw [up2_ne (by omega), up2_ne (by omega), up2_ne (by omega)])
    refine r_aload_n (pc := 39) dX0_carry_39 rfl ?_
    refine r_getR (pc := 40) dX0_carry_40 fl_X0_90_0 hx1.1.2.1 (fun _ _ => rfl) hx1.2.2.1.1 ?_
    refine r_dup (pc := 43) dX0_carry_43 rfl ?_
    refine r_getIe (pc := 44) (v := S.1 8 0) dX0_carry_44 fl_X0_314_3 hx1.2.2.1.2.2.k (fun _ _ => rfl) hx1.2.2.1.2.2.i7 ?_
    refine r_iconst (pc := 47) (v := 1) dX0_carry_47 (by decide) ?_
    refine r_iadd (pc := 48) dX0_carry_48 ?_
    refine r_putI (pc := 49) dX0_carry_49 fl_X0_314_3 hx1.2.2.1.2.2.k rfl rfl ?_
    have hx2 := hx1.world (S' := (up2 (carriesS S.1 x1 (Int32.toNatClampNeg x2) x3) 8 0 (S.1 8 0 + 1), S.2)) (WX.s8 w3) (frP.rf.sI fun _ => inW_0) (fun _ _ _ => rfl) rfl (fun k hk => by show up2 (carriesS S.1 x1 (Int32.toNatClampNeg x2) x3) 8 0 _ k = carriesS S.1 x1 (Int32.toNatClampNeg x2) x3 k; rw [up2_ne (by omega)])
    refine r_aload_n (pc := 52) dX0_carry_52 rfl ?_
    refine r_getR (pc := 53) dX0_carry_53 fl_X0_90_0 hx2.1.2.1 (fun _ _ => rfl) hx2.2.2.1.1 ?_
    refine r_getR (pc := 56) dX0_carry_56 fl_X0_132_3 hx2.2.2.1.2.2.k (fun _ _ => rfl) hx2.2.2.1.2.2.r10 ?_
    refine r_iload_n (pc := 59) dX0_carry_59 rfl ?_
    refine r_ialdv (pc := 60) (v := S.1 14 (Int32.toNatClampNeg x2) + x3) dX0_carry_60 hx2.2.2.1.2.2.k10 hx2.2.2.1.2.2.z10 (hB.vt hy.2) ((hx2.2.2.1.2.2.a14 hy.2).trans (by simp [carriesS, up2_ap])) ?_
    refine r_ireturn (pc := 61) rfl dX0_carry_61 ⟨_, rfl, ?_⟩
    exact (show oX xo mo Z (carryS S x1 x2 x3) _ _ by rw [show carryS S x1 x2 x3 = (S.1 14 (Int32.toNatClampNeg x2) + x3, (up2 (carriesS S.1 x1 (Int32.toNatClampNeg x2) x3) 8 0 (S.1 8 0 + 1), S.2)) by unfold carryS; rw [cI_f (n_or hy), cI_f (fun hh => hh hz)]]; exact ⟨rfl, wa, hx2⟩)
theorem ct_X0_seed {M : PM} {xo wa mo : Nat} {Z : PM} {S : ST} (hx : XO M xo wa mo Z S) (x1 : Int32) (hS : OkS S.1) : Ct (YX0_seed, (0, 0, 0, 0), qi (fun r M' => oX xo mo Z (seedS S x1) r M'), noX) [.ref xo, .int x1] M := by
  refine ct_of [some (.ref xo), some (.int x1), none] rfl rfl rfl (Nat.le_of_ble_eq_true rfl) rfl rfl ?_
  have hB := hS.1.t
  refine r_aload_n (pc := 0) dX0_seed_0 rfl ?_
  refine r_getR (pc := 1) dX0_seed_1 fl_X0_90_0 hx.1.2.1 (fun _ _ => rfl) hx.2.2.1.1 ?_
  refine r_getIe (pc := 4) (v := S.1 7 0) dX0_seed_4 fl_X0_388_3 hx.2.2.1.2.2.k (fun _ _ => rfl) hx.2.2.1.2.2.i8 ?_
  refine r_istore2 (pc := 7) dX0_seed_7 rfl ?_
  refine r_aload_n (pc := 8) dX0_seed_8 rfl ?_
  refine r_getR (pc := 9) dX0_seed_9 fl_X0_90_0 hx.1.2.1 (fun _ _ => rfl) hx.2.2.1.1 ?_
  refine r_iload_n (pc := 12) dX0_seed_12 rfl ?_
  refine r_putI (pc := 13) dX0_seed_13 fl_X0_388_3 hx.2.2.1.2.2.k rfl rfl ?_
  have hx1 := hx.world (S' := (up2 S.1 7 0 x1, S.2)) (WX.s7 hx.2.2.1.2.2) (frP.rf.sI fun _ => inW_0) (fun _ _ _ => rfl) rfl (fun k hk => up2_ne (by omega))
  refine r_iload_n (pc := 16) dX0_seed_16 rfl ?_
  refine r_ireturn (pc := 17) rfl dX0_seed_17 ⟨_, rfl, ?_⟩
  exact (show oX xo mo Z (seedS S x1) _ _ by rw [show seedS S x1 = (S.1 7 0, (up2 S.1 7 0 x1, S.2)) by rfl]; exact ⟨rfl, wa, hx1⟩)
theorem ct_X0_fault {M : PM} {xo wa mo : Nat} {Z : PM} {S : ST} (hx : XO M xo wa mo Z S) (hS : OkS S.1) : Ct (YX0_fault, (0, 0, 0, 0), qi (fun r M' => oX xo mo Z ((S.1 9 0, S)) r M'), noX) [.ref xo] M := by
  refine ct_of [some (.ref xo)] rfl rfl rfl (Nat.le_of_ble_eq_true rfl) rfl rfl ?_
  have hB := hS.1.t
  refine r_aload_n (pc := 0) dX0_fault_0 rfl ?_
  refine r_getIe (pc := 1) (v := S.1 9 0) dX0_fault_1 fl_X0_94_0 hx.1.2.1 (fun _ _ => rfl) hx.2.2.2.2.1.2.2.2 ?_
  refine r_ireturn (pc := 4) rfl dX0_fault_4 ⟨_, rfl, ?_⟩
  exact ⟨rfl, wa, hx⟩
theorem ct_e {d : Int32} : (if 0 < (10 - d / 4 : Int32) then 10 - d / 4 else 0) = if (10 - d / 4 : Int32) < 0 then 0 else 10 - d / 4 := by
  generalize (10 - d / 4 : Int32) = y
  by_cases h : 0 < y
  · rw [if_pos h, if_neg (fun h2 => by rw [i_lt] at h h2; omega)]
  · rw [if_neg h]
    by_cases h2 : y < 0
    · rw [if_pos h2]
    · rw [if_neg h2, i_eq]
      rw [i_lt] at h h2
      omega
theorem ct_X0_caughtBy {M : PM} (x1 : Int32) : Ct (YX0_caughtBy, (1, 24, 0, 0), qi (fun r M' => r = (if (10 - x1 / 4 : Int32) < 0 then 0 else 10 - x1 / 4) ∧ M' = M), noX) [.int x1] M := by
  refine ct_of [some (.int x1)] rfl rfl rfl (Nat.le_of_ble_eq_true rfl) rfl rfl ?_
  refine r_iconst (pc := 0) (v := 0) dX0_caughtBy_0 (by decide) ?_
  refine r_bipush (pc := 1) (v := 10) dX0_caughtBy_1 (by decide) ?_
  refine r_iload_n (pc := 3) dX0_caughtBy_3 rfl ?_
  refine r_iconst (pc := 4) (v := 4) dX0_caughtBy_4 (by decide) ?_
  refine r_idiv (pc := 5) dX0_caughtBy_5 (by decide) ?_
  refine r_isub (pc := 6) dX0_caughtBy_6 ?_
  refine r_mmax (pc := 7) dX0_caughtBy_7 q871 (Nat.le_of_ble_eq_true rfl) (Nat.le_of_ble_eq_true rfl) ?_
  refine r_ireturn (pc := 10) rfl dX0_caughtBy_10 ⟨_, rfl, ?_⟩
  exact ⟨ct_e, rfl⟩
theorem ct_X0_caught {M : PM} {xo wa mo : Nat} {Z : PM} {S : ST} (hx : XO M xo wa mo Z S) (x1 x2 x3 : Int32) (hS : OkS S.1) : Ct (YX0_caught, (6, 143, 2, 14), qi (fun r M' => oX xo mo Z (caughtS S x1 x2 x3) r M'), noX) [.ref xo, .int x1, .int x2, .int x3] M := by
  refine ct_ofH [some (.ref xo), some (.int x1), some (.int x2), some (.int x3), none] rfl rfl (Nat.le_of_ble_eq_true rfl) rfl rfl ?_
  have hB := hS.1.t
  have hC : ∀ (M9 : PM) (q : Nat) (b : Int32) (o4 : Option Value), mK M9 q = (1, 6) → mI M9 q 6 = b → bd b (-7) (-1) → XO M9 xo wa mo Z S → caughtS S x1 x2 x3 = noS S b → Wx (YX0_caught, (6, 143, 2, 14), qi (fun r M' => oX xo mo Z (caughtS S x1 x2 x3) r M'), noX) 0 0 M9 44 [some (.ref xo), some (.int x1), some (.int x2), some (.int x3), o4] [.ref q] := by
    intro M9 q b o4 h1 h2 h3 h4 h5
    refine r_astore4 (pc := 44) dX0_caught_44 rfl ?_
    refine r_aload_n (pc := 46) dX0_caught_46 rfl ?_
    refine r_aload (pc := 47) dX0_caught_47 rfl ?_
    refine r_o2 (pc := 49) (bc' := 0) (bs' := 0) (ct_X0_refused h4 h1 h2 h3) k_X0_173_0 dX0_caught_49 h4.1.2.1 (Nat.le_of_ble_eq_true rfl) ⟨Nat.le_of_ble_eq_true rfl, Nat.le_of_ble_eq_true rfl⟩ ⟨Nat.le_of_ble_eq_true rfl, Nat.le_of_ble_eq_true rfl⟩ (r_ci fun r49 M49 p49 => ?_) nox
    obtain ⟨rfl, h6⟩ := p49
    refine r_ireturn (pc := 52) rfl dX0_caught_52 ⟨_, rfl, ?_⟩
    exact (show oX xo mo Z (caughtS S x1 x2 x3) _ _ by rw [h5]; exact ⟨rfl, wa, h6⟩)
  refine r_aload_n (pc := 0) dX0_caught_0 rfl ?_
  refine r_iload_n (pc := 1) dX0_caught_1 rfl ?_
  refine r_iload_n (pc := 2) dX0_caught_2 rfl ?_
  refine r_o3 (pc := 3) (bc' := 1) (bs' := 7) (ct_X0_must hx x1 x2 hB) k_X0_300_0 dX0_caught_3 hx.1.2.1 (Nat.le_of_ble_eq_true rfl) ⟨Nat.le_of_ble_eq_true rfl, Nat.le_of_ble_eq_true rfl⟩ ⟨Nat.le_of_ble_eq_true rfl, Nat.le_of_ble_eq_true rfl⟩ (r_cv fun M3 p3 => ?_) (fun q E M9 h9 => by obtain ⟨hn9, rfl, k9, w9, o9⟩ := h9; exact t_catch [] _ _ _ rfl (fun z hz => absurd hz List.not_mem_nil) rfl (by decide) q305 q389 ((hC M9 q _ _ k9 w9 (by decide) o9 (by unfold caughtS; rw [cI_t (n_and hn9)])).loose (Nat.zero_le _) (Nat.zero_le _)))
  obtain ⟨hy, p3⟩ := p3
  have p3 := Eq.symm (show _ = _ from p3)
  subst p3
  refine r_iload_n (pc := 6) dX0_caught_6 rfl ?_
  refine r_i2l (pc := 7) dX0_caught_7 ?_
  refine r_lconst (pc := 8) (v := 1) dX0_caught_8 (by decide) ?_
  refine r_ldc2 (pc := 9) dX0_caught_9 q1241 ?_
  refine r_s3 (pc := 12) (bc' := 1) (bs' := 7) (ct_X0_in x3 1 40 rfl (by decide) (by decide)) k_X0_107 dX0_caught_12 (Nat.le_of_ble_eq_true rfl) ⟨Nat.le_of_ble_eq_true rfl, Nat.le_of_ble_eq_true rfl⟩ ⟨Nat.le_of_ble_eq_true rfl, Nat.le_of_ble_eq_true rfl⟩ (r_ci fun r12 M12 p12 => ?_) nox
  obtain ⟨rfl, p12⟩ := p12
  have p12 := Eq.symm (show _ = _ from p12)
  subst p12
  refine r_bipush (pc := 15) (v := (-6)) dX0_caught_15 (by decide) ?_
  refine r_s2 (pc := 17) (bc' := 0) (bs' := 0) (ct_X0_need _ _) k_X0_115 dX0_caught_17 (Nat.le_of_ble_eq_true rfl) ⟨Nat.le_of_ble_eq_true rfl, Nat.le_of_ble_eq_true rfl⟩ ⟨Nat.le_of_ble_eq_true rfl, Nat.le_of_ble_eq_true rfl⟩ (r_cv fun M17 p17 => ?_) (fun q E M9 h8 => by have h9 := And.intro (bI_eq0.mp h8.1) (hx.rf h8.2); obtain ⟨hn9, rfl, k9, w9, o9⟩ := h9; exact t_catch [] _ _ _ rfl (fun z hz => absurd hz List.not_mem_nil) rfl (by decide) q305 q389 ((hC M9 q _ _ k9 w9 (by decide) o9 (by unfold caughtS; rw [cI_f (n_or hy), cI_f hn9])).loose (Nat.zero_le _) (Nat.zero_le _)))
  obtain ⟨hz, p17⟩ := p17
  have p17 := Eq.symm (show _ = _ from p17)
  subst p17
  rw [bI_ne0] at hz
  refine r_iload_n (pc := 20) dX0_caught_20 rfl ?_
  refine r_iconst (pc := 21) (v := 2) dX0_caught_21 (by decide) ?_
  refine r_aload_n (pc := 22) dX0_caught_22 rfl ?_
  refine r_getR (pc := 23) dX0_caught_23 fl_X0_90_0 hx.1.2.1 (fun _ _ => rfl) hx.2.2.1.1 ?_
  refine r_iload_n (pc := 26) dX0_caught_26 rfl ?_
  refine r_iload_n (pc := 27) dX0_caught_27 rfl ?_
  refine r_o3 (pc := 28) (bc' := 0) (bs' := 0) (ct_X3_far hx.2.2.1.2.2 x1 x2 hB hy.1 hy.2) k_X0_304_3 dX0_caught_28 hx.2.2.1.2.2.k (Nat.le_of_ble_eq_true rfl) ⟨Nat.le_of_ble_eq_true rfl, Nat.le_of_ble_eq_true rfl⟩ ⟨Nat.le_of_ble_eq_true rfl, Nat.le_of_ble_eq_true rfl⟩ (r_ci fun r28 M28 p28 => ?_) nox
  obtain ⟨rfl, p28⟩ := p28
  have p28 := Eq.symm (show _ = _ from p28)
  subst p28
  refine r_imul (pc := 31) dX0_caught_31 ?_
  refine r_icmp_gt (pc := 32) 42 dX0_caught_32 rfl (fun h32 => ?_) (fun h32 => ?_)
  · refine r_iconst (pc := 42) (v := 0) dX0_caught_42 (by decide) ?_
    refine r_ireturn (pc := 43) rfl dX0_caught_43 ⟨_, rfl, ?_⟩
    exact (show oX xo mo Z (caughtS S x1 x2 x3) _ _ by unfold caughtS; rw [cI_f (n_or hy), cI_t hz]; unfold caughtC; first | (rw [if_pos h32]; exact ⟨rfl, wa, hx⟩) | (rw [if_neg h32]; exact ⟨rfl, wa, hx⟩))
  · refine r_iload_n (pc := 35) dX0_caught_35 rfl ?_
    refine r_s1 (pc := 36) (bc' := 0) (bs' := 0) (ct_X0_caughtBy x3) k_X0_360 dX0_caught_36 (Nat.le_of_ble_eq_true rfl) ⟨Nat.le_of_ble_eq_true rfl, Nat.le_of_ble_eq_true rfl⟩ ⟨Nat.le_of_ble_eq_true rfl, Nat.le_of_ble_eq_true rfl⟩ (r_ci fun r36 M36 p36 => ?_) nox
    obtain ⟨rfl, p36⟩ := p36
    have p36 := Eq.symm (show _ = _ from p36)
    subst p36
    refine r_goto (pc := 39) 43 dX0_caught_39 rfl ?_
    refine r_ireturn (pc := 43) rfl dX0_caught_43 ⟨_, rfl, ?_⟩
    exact (show oX xo mo Z (caughtS S x1 x2 x3) _ _ by unfold caughtS; rw [cI_f (n_or hy), cI_t hz]; unfold caughtC; first | (rw [if_pos h32]; exact ⟨rfl, wa, hx⟩) | (rw [if_neg h32]; exact ⟨rfl, wa, hx⟩))
theorem ct_X0_manOf {M : PM} {xo wa mo : Nat} {Z : PM} {S : ST} (hx : XO M xo wa mo Z S) (x1 x2 : Int32) (hS : OkS S.1) : Ct (YX0_manOf, (2, 46, 0, 0), qi (fun r M' => oX xo mo Z (manOfS S x1 x2) r M'), noX) [.ref xo, .int x1, .int x2] M := by
  refine ct_of [some (.ref xo), some (.int x1), some (.int x2)] rfl rfl rfl (Nat.le_of_ble_eq_true rfl) rfl rfl ?_
  have hB := hS.1.t
  refine r_aload_n (pc := 0) dX0_manOf_0 rfl ?_
  refine r_iload_n (pc := 1) dX0_manOf_1 rfl ?_
  refine r_o2 (pc := 2) (bc' := 0) (bs' := 0) (ct_X0_isMan hx x1 hB) k_X0_126_0 dX0_manOf_2 hx.1.2.1 (Nat.le_of_ble_eq_true rfl) ⟨Nat.le_of_ble_eq_true rfl, Nat.le_of_ble_eq_true rfl⟩ ⟨Nat.le_of_ble_eq_true rfl, Nat.le_of_ble_eq_true rfl⟩ (r_ci fun r2 M2 p2 => ?_) nox
  obtain ⟨rfl, p2⟩ := p2
  have p2 := Eq.symm (show _ = _ from p2)
  subst p2
  refine r_if_eq (pc := 5) 18 dX0_manOf_5 rfl (fun h5 => ?_) (fun h5 => ?_)
  · rw [bI_eq0] at h5
    refine r_aload_n (pc := 18) dX0_manOf_18 rfl ?_
    refine r_o1 (pc := 19) (bc' := 0) (bs' := 0) (ct_X0_beyond hx) k_X0_250_0 dX0_manOf_19 hx.1.2.1 (Nat.le_of_ble_eq_true rfl) ⟨Nat.le_of_ble_eq_true rfl, Nat.le_of_ble_eq_true rfl⟩ ⟨Nat.le_of_ble_eq_true rfl, Nat.le_of_ble_eq_true rfl⟩ (r_ci fun r19 M19 p19 => ?_) nox
    obtain ⟨rfl, hx1⟩ := p19
    refine r_ireturn (pc := 22) rfl dX0_manOf_22 ⟨_, rfl, ?_⟩
    exact (show oX xo mo Z (manOfS S x1 x2) _ _ by unfold manOfS; rw [cI_t (by first | exact Or.inl h5 | exact Or.inr (n_in h15))]; exact ⟨rfl, wa, hx1⟩)
  · rw [bI_ne0] at h5
    refine r_iload_n (pc := 8) dX0_manOf_8 rfl ?_
    refine r_i2l (pc := 9) dX0_manOf_9 ?_
    refine r_lconst (pc := 10) (v := 0) dX0_manOf_10 (by decide) ?_
    refine r_lconst (pc := 11) (v := 1) dX0_manOf_11 (by decide) ?_
    refine r_s3 (pc := 12) (bc' := 0) (bs' := 0) (ct_X0_in x2 0 1 rfl (by decide) (by decide)) k_X0_107 dX0_manOf_12 (Nat.le_of_ble_eq_true rfl) ⟨Nat.le_of_ble_eq_true rfl, Nat.le_of_ble_eq_true rfl⟩ ⟨Nat.le_of_ble_eq_true rfl, Nat.le_of_ble_eq_true rfl⟩ (r_ci fun r12 M12 p12 => ?_) nox
    obtain ⟨rfl, p12⟩ := p12
    have p12 := Eq.symm (show _ = _ from p12)
    subst p12
    refine r_if_ne (pc := 15) 23 dX0_manOf_15 rfl (fun h15 => ?_) (fun h15 => ?_)
    · rw [bI_ne0] at h15
      refine r_iload_n (pc := 23) dX0_manOf_23 rfl ?_
      refine r_if_ne (pc := 24) 39 dX0_manOf_24 rfl (fun h24 => ?_) (fun h24 => ?_)
      · refine r_aload_n (pc := 39) dX0_manOf_39 rfl ?_
        refine r_getR (pc := 40) dX0_manOf_40 fl_X0_90_0 hx.1.2.1 (fun _ _ => rfl) hx.2.2.1.1 ?_
        refine r_getR (pc := 43) dX0_manOf_43 fl_X0_272_3 hx.2.2.1.2.2.k (fun _ _ => rfl) hx.2.2.1.2.2.r14 ?_
        refine r_iload_n (pc := 46) dX0_manOf_46 rfl ?_
        refine r_ialdv (pc := 47) (v := S.1 18 (Int32.toNatClampNeg x1)) dX0_manOf_47 hx.2.2.1.2.2.k14 hx.2.2.1.2.2.z14 (hB.vm h5) (hx.2.2.1.2.2.a18 h5) ?_
        refine r_ireturn (pc := 48) rfl dX0_manOf_48 ⟨_, rfl, ?_⟩
        exact (show oX xo mo Z (manOfS S x1 x2) _ _ by unfold manOfS; rw [cI_f (fun hh => hh.elim (fun q => q h5) (fun q => q.elim h15.1 h15.2))]; first | (rw [cI_t h24]; exact ⟨rfl, wa, hx⟩) | (rw [cI_f h24]; exact ⟨rfl, wa, hx⟩))
      · refine r_aload_n (pc := 27) dX0_manOf_27 rfl ?_
        refine r_getR (pc := 28) dX0_manOf_28 fl_X0_90_0 hx.1.2.1 (fun _ _ => rfl) hx.2.2.1.1 ?_
        refine r_getR (pc := 31) dX0_manOf_31 fl_X0_269_3 hx.2.2.1.2.2.k (fun _ _ => rfl) hx.2.2.1.2.2.r13 ?_
        refine r_iload_n (pc := 34) dX0_manOf_34 rfl ?_
        refine r_ialdv (pc := 35) (v := S.1 17 (Int32.toNatClampNeg x1)) dX0_manOf_35 hx.2.2.1.2.2.k13 hx.2.2.1.2.2.z13 (hB.vm h5) (hx.2.2.1.2.2.a17 h5) ?_
        refine r_goto (pc := 36) 48 dX0_manOf_36 rfl ?_
        refine r_ireturn (pc := 48) rfl dX0_manOf_48 ⟨_, rfl, ?_⟩
        exact (show oX xo mo Z (manOfS S x1 x2) _ _ by unfold manOfS; rw [cI_f (fun hh => hh.elim (fun q => q h5) (fun q => q.elim h15.1 h15.2))]; first | (rw [cI_t h24]; exact ⟨rfl, wa, hx⟩) | (rw [cI_f h24]; exact ⟨rfl, wa, hx⟩))
    · rw [bI_eq0] at h15
      refine r_aload_n (pc := 18) dX0_manOf_18 rfl ?_
      refine r_o1 (pc := 19) (bc' := 0) (bs' := 0) (ct_X0_beyond hx) k_X0_250_0 dX0_manOf_19 hx.1.2.1 (Nat.le_of_ble_eq_true rfl) ⟨Nat.le_of_ble_eq_true rfl, Nat.le_of_ble_eq_true rfl⟩ ⟨Nat.le_of_ble_eq_true rfl, Nat.le_of_ble_eq_true rfl⟩ (r_ci fun r19 M19 p19 => ?_) nox
      obtain ⟨rfl, hx1⟩ := p19
      refine r_ireturn (pc := 22) rfl dX0_manOf_22 ⟨_, rfl, ?_⟩
      exact (show oX xo mo Z (manOfS S x1 x2) _ _ by unfold manOfS; rw [cI_t (by first | exact Or.inl h5 | exact Or.inr (n_in h15))]; exact ⟨rfl, wa, hx1⟩)
theorem ct_X0_river {M : PM} {xo wa mo : Nat} {Z : PM} {S : ST} (hx : XO M xo wa mo Z S) (x1 x2 : Int32) (hS : OkS S.1) : Ct (YX0_river, (5, 113, 1, 7), qi (fun r M' => oX xo mo Z (riverS S x1 x2) r M'), noX) [.ref xo, .int x1, .int x2] M := by
  refine ct_ofH [some (.ref xo), some (.int x1), some (.int x2), none] rfl rfl (Nat.le_of_ble_eq_true rfl) rfl rfl ?_
  have hB := hS.1.t
  have hC : ∀ (M9 : PM) (q : Nat) (b : Int32) (o3 : Option Value), mK M9 q = (1, 6) → mI M9 q 6 = b → bd b (-7) (-1) → XO M9 xo wa mo Z S → riverS S x1 x2 = noS S b → Wx (YX0_river, (5, 113, 1, 7), qi (fun r M' => oX xo mo Z (riverS S x1 x2) r M'), noX) 0 0 M9 32 [some (.ref xo), some (.int x1), some (.int x2), o3] [.ref q] := by
    intro M9 q b o3 h1 h2 h3 h4 h5
    refine r_astore3 (pc := 32) dX0_river_32 rfl ?_
    refine r_aload_n (pc := 33) dX0_river_33 rfl ?_
    refine r_aload_n (pc := 34) dX0_river_34 rfl ?_
    refine r_o2 (pc := 35) (bc' := 0) (bs' := 0) (ct_X0_refused h4 h1 h2 h3) k_X0_173_0 dX0_river_35 h4.1.2.1 (Nat.le_of_ble_eq_true rfl) ⟨Nat.le_of_ble_eq_true rfl, Nat.le_of_ble_eq_true rfl⟩ ⟨Nat.le_of_ble_eq_true rfl, Nat.le_of_ble_eq_true rfl⟩ (r_ci fun r35 M35 p35 => ?_) nox
    obtain ⟨rfl, h6⟩ := p35
    refine r_ireturn (pc := 38) rfl dX0_river_38 ⟨_, rfl, ?_⟩
    exact (show oX xo mo Z (riverS S x1 x2) _ _ by rw [h5]; exact ⟨rfl, wa, h6⟩)
  refine r_aload_n (pc := 0) dX0_river_0 rfl ?_
  refine r_getR (pc := 1) dX0_river_1 fl_X0_90_0 hx.1.2.1 (fun _ _ => rfl) hx.2.2.1.1 ?_
  refine r_iload_n (pc := 4) dX0_river_4 rfl ?_
  refine r_iload_n (pc := 5) dX0_river_5 rfl ?_
  refine r_o3 (pc := 6) (bc' := 1) (bs' := 7) (ct_X3_mayFlow hx.2.2.1.2.2 x1 x2 hB) k_X0_240_3 dX0_river_6 hx.2.2.1.2.2.k (Nat.le_of_ble_eq_true rfl) ⟨Nat.le_of_ble_eq_true rfl, Nat.le_of_ble_eq_true rfl⟩ ⟨Nat.le_of_ble_eq_true rfl, Nat.le_of_ble_eq_true rfl⟩ (r_ci fun r6 M6 p6 => ?_) nox
  obtain ⟨rfl, p6⟩ := p6
  have p6 := Eq.symm (show _ = _ from p6)
  subst p6
  refine r_bipush (pc := 9) (v := (-6)) dX0_river_9 (by decide) ?_
  refine r_s2 (pc := 11) (bc' := 0) (bs' := 0) (ct_X0_need _ _) k_X0_115 dX0_river_11 (Nat.le_of_ble_eq_true rfl) ⟨Nat.le_of_ble_eq_true rfl, Nat.le_of_ble_eq_true rfl⟩ ⟨Nat.le_of_ble_eq_true rfl, Nat.le_of_ble_eq_true rfl⟩ (r_cv fun M11 p11 => ?_) (fun q E M9 h8 => by have h9 := And.intro (bI_eq0.mp h8.1) (hx.rf h8.2); obtain ⟨hn9, rfl, k9, w9, o9⟩ := h9; exact t_catch [] _ _ _ rfl (fun z hz => absurd hz List.not_mem_nil) rfl (by decide) q305 q389 ((hC M9 q _ _ k9 w9 (by decide) o9 (by unfold riverS; rw [cI_t hn9])).loose (Nat.zero_le _) (Nat.zero_le _)))
  obtain ⟨hz, p11⟩ := p11
  have p11 := Eq.symm (show _ = _ from p11)
  subst p11
  rw [bI_ne0] at hz
  refine r_aload_n (pc := 14) dX0_river_14 rfl ?_
  refine r_getR (pc := 15) dX0_river_15 fl_X0_90_0 hx.1.2.1 (fun _ _ => rfl) hx.2.2.1.1 ?_
  refine r_iload_n (pc := 18) dX0_river_18 rfl ?_
  refine r_putI (pc := 19) dX0_river_19 fl_X0_244_3 hx.2.2.1.2.2.k rfl rfl ?_
  have hx1 := hx.world (S' := (up2 S.1 4 0 x1, S.2)) (WX.s4 hx.2.2.1.2.2) (frP.rf.sI fun _ => inW_0) (fun _ _ _ => rfl) rfl (fun k hk => up2_ne (by omega))
  refine r_aload_n (pc := 22) dX0_river_22 rfl ?_
  refine r_getR (pc := 23) dX0_river_23 fl_X0_90_0 hx1.1.2.1 (fun _ _ => rfl) hx1.2.2.1.1 ?_
  refine r_iload_n (pc := 26) dX0_river_26 rfl ?_
  refine r_putI (pc := 27) dX0_river_27 fl_X0_247_3 hx1.2.2.1.2.2.k rfl rfl ?_
  have hx2 := hx1.world (S' := (up2 (up2 S.1 4 0 x1) 5 0 x2, S.2)) (WX.s5 hx1.2.2.1.2.2) (frP.rf.sI fun _ => inW_0) (fun _ _ _ => rfl) rfl (fun k hk => by show up2 (up2 S.1 4 0 x1) 5 0 x2 k = up2 S.1 4 0 x1 k; exact up2_ne (by omega))
  refine r_iconst (pc := 30) (v := 1) dX0_river_30 (by decide) ?_
  refine r_ireturn (pc := 31) rfl dX0_river_31 ⟨_, rfl, ?_⟩
  exact (show oX xo mo Z (riverS S x1 x2) _ _ by rw [show riverS S x1 x2 = (1, (up2 (up2 S.1 4 0 x1) 5 0 x2, S.2)) by unfold riverS; rw [cI_f (fun hh => hh hz)]]; exact ⟨rfl, wa, hx2⟩)
theorem eq_c {x : Int32} {n : Nat} (h : bd x 0 n) (hn : n < 100) (h2 : ¬ x < Int32.ofNat n) : x = Int32.ofNat n := by
  have e : (Int32.ofNat n).toInt = n := nI_toInt (by omega)
  rw [i_lt, e] at h2
  rw [i_eq, e]
  have := h.2
  omega
theorem ne_c {x : Int32} {n : Nat} (hn : n < 100) (h2 : x < Int32.ofNat n) : ¬ x = Int32.ofNat n := by
  intro h
  rw [h, i_lt] at h2
  omega
theorem eq_8 {x : Int32} (h : bd x 0 8) (h2 : ¬ x < 8) : x = 8 := eq_c (n := 8) h (by decide) h2
theorem eq_4 {x : Int32} (h : bd x 0 4) (h2 : ¬ x < 4) : x = 4 := eq_c (n := 4) h (by decide) h2
theorem ne_8 {x : Int32} (h2 : x < 8) : ¬ x = 8 := ne_c (n := 8) (by decide) h2
theorem ne_4 {x : Int32} (h2 : x < 4) : ¬ x = 4 := ne_c (n := 4) (by decide) h2
theorem ct_X0_addMan {M : PM} {xo wa mo : Nat} {Z : PM} {S : ST} (hx : XO M xo wa mo Z S) (x1 : Int32) (hS : OkS S.1) : Ct (YX0_addMan, (5, 113, 2, 14), qv (fun M' => manS S x1 = (S.1 1 0, (menS S.1 x1, S.2)) ∧ XO M' xo wa mo Z (menS S.1 x1, S.2) ∧ mR M' = mR M), fun q E M' => ∃ b, manS S x1 = noS S b ∧ bd b (-7) (-1) ∧ rfO xo wa mo Z S b q E M') [.ref xo, .int x1] M := by
  refine ct_of [some (.ref xo), some (.int x1)] rfl rfl rfl (Nat.le_of_ble_eq_true rfl) rfl rfl ?_
  have hB := hS.1.t
  refine r_iload_n (pc := 0) dX0_addMan_0 rfl ?_
  refine r_i2l (pc := 1) dX0_addMan_1 ?_
  refine r_lconst (pc := 2) (v := 1) dX0_addMan_2 (by decide) ?_
  refine r_ldc2 (pc := 3) dX0_addMan_3 q703 ?_
  refine r_s3 (pc := 6) (bc' := 2) (bs' := 14) (ct_X0_in x1 1 99 rfl (by decide) (by decide)) k_X0_107 dX0_addMan_6 (Nat.le_of_ble_eq_true rfl) ⟨Nat.le_of_ble_eq_true rfl, Nat.le_of_ble_eq_true rfl⟩ ⟨Nat.le_of_ble_eq_true rfl, Nat.le_of_ble_eq_true rfl⟩ (r_ci fun r6 M6 p6 => ?_) nox
  obtain ⟨rfl, p6⟩ := p6
  have p6 := Eq.symm (show _ = _ from p6)
  subst p6
  refine r_bipush (pc := 9) (v := (-6)) dX0_addMan_9 (by decide) ?_
  refine r_s2 (pc := 11) (bc' := 1) (bs' := 7) (ct_X0_need _ _) k_X0_115 dX0_addMan_11 (Nat.le_of_ble_eq_true rfl) ⟨Nat.le_of_ble_eq_true rfl, Nat.le_of_ble_eq_true rfl⟩ ⟨Nat.le_of_ble_eq_true rfl, Nat.le_of_ble_eq_true rfl⟩ (r_cv fun M11 p11 => ?_) (fun q E M9 h9 => t_out rfl ⟨-6, by unfold manS; rw [cI_t (n_in (bI_eq0.mp h9.1))], by decide, hx.rf h9.2⟩)
  obtain ⟨hy, p11⟩ := p11
  have p11 := Eq.symm (show _ = _ from p11)
  subst p11
  rw [bI_ne0] at hy
  refine r_aload_n (pc := 14) dX0_addMan_14 rfl ?_
  refine r_getR (pc := 15) dX0_addMan_15 fl_X0_90_0 hx.1.2.1 (fun _ _ => rfl) hx.2.2.1.1 ?_
  refine r_getIe (pc := 18) (v := S.1 1 0) dX0_addMan_18 fl_X0_123_3 hx.2.2.1.2.2.k (fun _ _ => rfl) hx.2.2.1.2.2.i5 ?_
  refine r_bipush (pc := 21) (v := 8) dX0_addMan_21 (by decide) ?_
  refine r_icmp_ge (pc := 23) 30 dX0_addMan_23 rfl (fun h23 => ?_) (fun h23 => ?_)
  · refine r_iconst (pc := 30) (v := 0) dX0_addMan_30 (by decide) ?_
    refine r_eqi (bI (S.1 1 0 < 8)) (by first | exact bI_t' h23 | exact bI_f' h23) ?_
    refine r_bipush (pc := 31) (v := (-7)) dX0_addMan_31 (by decide) ?_
    refine r_s2 (pc := 33) (bc' := 0) (bs' := 0) (ct_X0_need _ _) k_X0_115 dX0_addMan_33 (Nat.le_of_ble_eq_true rfl) ⟨Nat.le_of_ble_eq_true rfl, Nat.le_of_ble_eq_true rfl⟩ ⟨Nat.le_of_ble_eq_true rfl, Nat.le_of_ble_eq_true rfl⟩ (r_cv fun M33 p33 => ?_) (fun q E M9 h9 => t_out rfl ⟨-7, by unfold manS; rw [cI_f (fun hh => hh.elim hy.1 hy.2), cI_t (eq_8 hB.1.2.1 (bI_eq0.mp h9.1))], by decide, hx.rf h9.2⟩)
    obtain ⟨hz, p33⟩ := p33
    have p33 := Eq.symm (show _ = _ from p33)
    subst p33
    rw [bI_ne0] at hz
    refine r_aload_n (pc := 36) dX0_addMan_36 rfl ?_
    refine r_getR (pc := 37) dX0_addMan_37 fl_X0_90_0 hx.1.2.1 (fun _ _ => rfl) hx.2.2.1.1 ?_
    refine r_iload_n (pc := 40) dX0_addMan_40 rfl ?_
    refine r_o2 (pc := 41) (bc' := 0) (bs' := 0) (ct_X3_addMan hx.2.2.1.2.2 x1 hB (ne_8 hz)) k_X0_211_3 dX0_addMan_41 hx.2.2.1.2.2.k (Nat.le_of_ble_eq_true rfl) ⟨Nat.le_of_ble_eq_true rfl, Nat.le_of_ble_eq_true rfl⟩ ⟨Nat.le_of_ble_eq_true rfl, Nat.le_of_ble_eq_true rfl⟩ (r_cv fun M41 p41 => ?_) nox
    obtain ⟨w3, f3, g3⟩ := p41
    have hx1 := hx.world (S' := (menS S.1 x1, S.2)) w3 f3 (fun s _ _ => by rw [g3]) rfl (fun k hk => by show menS S.1 x1 k = S.1 k; unfold menS; rw [up2_ne (by omega), up2_ne (by omega), up2_ne (by omega)])
    refine r_return (pc := 44) rfl dX0_addMan_44 ⟨rfl, ?_⟩
    exact ⟨by unfold manS; rw [cI_f (fun hh => hh.elim hy.1 hy.2), cI_f (ne_8 hz)], hx1, g3⟩
  · refine r_iconst (pc := 26) (v := 1) dX0_addMan_26 (by decide) ?_
    refine r_goto (pc := 27) 31 dX0_addMan_27 rfl ?_
    refine r_eqi (bI (S.1 1 0 < 8)) (by first | exact bI_t' h23 | exact bI_f' h23) ?_
    refine r_bipush (pc := 31) (v := (-7)) dX0_addMan_31 (by decide) ?_
    refine r_s2 (pc := 33) (bc' := 0) (bs' := 0) (ct_X0_need _ _) k_X0_115 dX0_addMan_33 (Nat.le_of_ble_eq_true rfl) ⟨Nat.le_of_ble_eq_true rfl, Nat.le_of_ble_eq_true rfl⟩ ⟨Nat.le_of_ble_eq_true rfl, Nat.le_of_ble_eq_true rfl⟩ (r_cv fun M33 p33 => ?_) (fun q E M9 h9 => t_out rfl ⟨-7, by unfold manS; rw [cI_f (fun hh => hh.elim hy.1 hy.2), cI_t (eq_8 hB.1.2.1 (bI_eq0.mp h9.1))], by decide, hx.rf h9.2⟩)
    obtain ⟨hz, p33⟩ := p33
    have p33 := Eq.symm (show _ = _ from p33)
    subst p33
    rw [bI_ne0] at hz
    refine r_aload_n (pc := 36) dX0_addMan_36 rfl ?_
    refine r_getR (pc := 37) dX0_addMan_37 fl_X0_90_0 hx.1.2.1 (fun _ _ => rfl) hx.2.2.1.1 ?_
    refine r_iload_n (pc := 40) dX0_addMan_40 rfl ?_
    refine r_o2 (pc := 41) (bc' := 0) (bs' := 0) (ct_X3_addMan hx.2.2.1.2.2 x1 hB (ne_8 hz)) k_X0_211_3 dX0_addMan_41 hx.2.2.1.2.2.k (Nat.le_of_ble_eq_true rfl) ⟨Nat.le_of_ble_eq_true rfl, Nat.le_of_ble_eq_true rfl⟩ ⟨Nat.le_of_ble_eq_true rfl, Nat.le_of_ble_eq_true rfl⟩ (r_cv fun M41 p41 => ?_) nox
    obtain ⟨w3, f3, g3⟩ := p41
    have hx1 := hx.world (S' := (menS S.1 x1, S.2)) w3 f3 (fun s _ _ => by rw [g3]) rfl (fun k hk => by show menS S.1 x1 k = S.1 k; unfold menS; rw [up2_ne (by omega), up2_ne (by omega), up2_ne (by omega)])
    refine r_return (pc := 44) rfl dX0_addMan_44 ⟨rfl, ?_⟩
    exact ⟨by unfold manS; rw [cI_f (fun hh => hh.elim hy.1 hy.2), cI_f (ne_8 hz)], hx1, g3⟩
theorem ct_X0_man {M : PM} {xo wa mo : Nat} {Z : PM} {S : ST} (hx : XO M xo wa mo Z S) (x1 : Int32) (hS : OkS S.1) : Ct (YX0_man, (6, 134, 2, 14), qi (fun r M' => oX xo mo Z (manS S x1) r M'), noX) [.ref xo, .int x1] M := by
  refine ct_ofH [some (.ref xo), some (.int x1), none] rfl rfl (Nat.le_of_ble_eq_true rfl) rfl rfl ?_
  have hB := hS.1.t
  have hC : ∀ (M9 : PM) (q : Nat) (b : Int32) (o2 : Option Value), mK M9 q = (1, 6) → mI M9 q 6 = b → bd b (-7) (-1) → XO M9 xo wa mo Z S → manS S x1 = noS S b → Wx (YX0_man, (6, 134, 2, 14), qi (fun r M' => oX xo mo Z (manS S x1) r M'), noX) 0 0 M9 15 [some (.ref xo), some (.int x1), o2] [.ref q] := by
    intro M9 q b o2 h1 h2 h3 h4 h5
    refine r_astore2 (pc := 15) dX0_man_15 rfl ?_
    refine r_aload_n (pc := 16) dX0_man_16 rfl ?_
    refine r_aload_n (pc := 17) dX0_man_17 rfl ?_
    refine r_o2 (pc := 18) (bc' := 0) (bs' := 0) (ct_X0_refused h4 h1 h2 h3) k_X0_173_0 dX0_man_18 h4.1.2.1 (Nat.le_of_ble_eq_true rfl) ⟨Nat.le_of_ble_eq_true rfl, Nat.le_of_ble_eq_true rfl⟩ ⟨Nat.le_of_ble_eq_true rfl, Nat.le_of_ble_eq_true rfl⟩ (r_ci fun r18 M18 p18 => ?_) nox
    obtain ⟨rfl, h6⟩ := p18
    refine r_ireturn (pc := 21) rfl dX0_man_21 ⟨_, rfl, ?_⟩
    exact (show oX xo mo Z (manS S x1) _ _ by rw [h5]; exact ⟨rfl, wa, h6⟩)
  refine r_aload_n (pc := 0) dX0_man_0 rfl ?_
  refine r_iload_n (pc := 1) dX0_man_1 rfl ?_
  refine r_o2 (pc := 2) (bc' := 0) (bs' := 0) (ct_X0_addMan hx x1 hS) k_X0_214_0 dX0_man_2 hx.1.2.1 (Nat.le_of_ble_eq_true rfl) ⟨Nat.le_of_ble_eq_true rfl, Nat.le_of_ble_eq_true rfl⟩ ⟨Nat.le_of_ble_eq_true rfl, Nat.le_of_ble_eq_true rfl⟩ (r_cv fun M2 p2 => ?_) (fun q E M9 h9 => by obtain ⟨b9, e9, d9, rfl, k9, w9, o9⟩ := h9; exact t_catch [] _ _ _ rfl (fun z hz => absurd hz List.not_mem_nil) rfl (by decide) q305 q389 ((hC M9 q b9 _ k9 w9 d9 o9 e9).loose (Nat.zero_le _) (Nat.zero_le _)))
  obtain ⟨e5, hx1, -⟩ := p2
  refine r_aload_n (pc := 5) dX0_man_5 rfl ?_
  refine r_getR (pc := 6) dX0_man_6 fl_X0_90_0 hx1.1.2.1 (fun _ _ => rfl) hx1.2.2.1.1 ?_
  refine r_getIe (pc := 9) (v := S.1 1 0 + 1) dX0_man_9 fl_X0_123_3 hx1.2.2.1.2.2.k (fun _ _ => rfl) (hx1.2.2.1.2.2.i5.trans (by simp [menS, up2_ap])) ?_
  refine r_iconst (pc := 12) (v := 1) dX0_man_12 (by decide) ?_
  refine r_isub (pc := 13) dX0_man_13 ?_
  rw [Int32.add_sub_cancel]
  refine r_ireturn (pc := 14) rfl dX0_man_14 ⟨_, rfl, ?_⟩
  exact (show oX xo mo Z (manS S x1) _ _ by rw [show manS S x1 = (S.1 1 0, (menS S.1 x1, S.2)) by exact e5]; exact ⟨rfl, wa, hx1⟩)
theorem ct_X0_want {M : PM} {xo wa mo : Nat} {Z : PM} {S : ST} (hx : XO M xo wa mo Z S) (x1 x2 x3 : Int32) (hS : OkS S.1) : Ct (YX0_want, (6, 134, 3, 21), qi (fun r M' => oX xo mo Z (wantS S x1 x2 x3) r M'), noX) [.ref xo, .int x1, .int x2, .int x3] M := by
  refine ct_ofH [some (.ref xo), some (.int x1), some (.int x2), some (.int x3), none] rfl rfl (Nat.le_of_ble_eq_true rfl) rfl rfl ?_
  have hB := hS.1.t
  have hC : ∀ (M9 : PM) (q : Nat) (b : Int32) (o4 : Option Value), mK M9 q = (1, 6) → mI M9 q 6 = b → bd b (-7) (-1) → XO M9 xo wa mo Z S → wantS S x1 x2 x3 = noS S b → Wx (YX0_want, (6, 134, 3, 21), qi (fun r M' => oX xo mo Z (wantS S x1 x2 x3) r M'), noX) 0 0 M9 80 [some (.ref xo), some (.int x1), some (.int x2), some (.int x3), o4] [.ref q] := by
    intro M9 q b o4 h1 h2 h3 h4 h5
    refine r_astore4 (pc := 80) dX0_want_80 rfl ?_
    refine r_aload_n (pc := 82) dX0_want_82 rfl ?_
    refine r_aload (pc := 83) dX0_want_83 rfl ?_
    refine r_o2 (pc := 85) (bc' := 0) (bs' := 0) (ct_X0_refused h4 h1 h2 h3) k_X0_173_0 dX0_want_85 h4.1.2.1 (Nat.le_of_ble_eq_true rfl) ⟨Nat.le_of_ble_eq_true rfl, Nat.le_of_ble_eq_true rfl⟩ ⟨Nat.le_of_ble_eq_true rfl, Nat.le_of_ble_eq_true rfl⟩ (r_ci fun r85 M85 p85 => ?_) nox
    obtain ⟨rfl, h6⟩ := p85
    refine r_ireturn (pc := 88) rfl dX0_want_88 ⟨_, rfl, ?_⟩
    exact (show oX xo mo Z (wantS S x1 x2 x3) _ _ by rw [h5]; exact ⟨rfl, wa, h6⟩)
  refine r_aload_n (pc := 0) dX0_want_0 rfl ?_
  refine r_iload_n (pc := 1) dX0_want_1 rfl ?_
  refine r_o2 (pc := 2) (bc' := 2) (bs' := 14) (ct_X0_thingAt hx x1 hB) k_X0_193_0 dX0_want_2 hx.1.2.1 (Nat.le_of_ble_eq_true rfl) ⟨Nat.le_of_ble_eq_true rfl, Nat.le_of_ble_eq_true rfl⟩ ⟨Nat.le_of_ble_eq_true rfl, Nat.le_of_ble_eq_true rfl⟩ (r_cr fun r2 M2 p2 => ?_) (fun q E M9 h9 => by obtain ⟨hn9, rfl, k9, w9, o9⟩ := h9; exact t_catch [] _ _ _ rfl (fun z hz => absurd hz List.not_mem_nil) rfl (by decide) q305 q389 ((hC M9 q _ _ k9 w9 (by decide) o9 (by unfold wantS; rw [cI_t hn9])).loose (Nat.zero_le _) (Nat.zero_le _)))
  obtain ⟨hy, -, p2⟩ := p2
  have p2 := Eq.symm (show _ = _ from p2)
  subst p2
  refine r_pop (pc := 5) dX0_want_5 rfl ?_
  refine r_aload_n (pc := 6) dX0_want_6 rfl ?_
  refine r_getR (pc := 7) dX0_want_7 fl_X0_90_0 hx.1.2.1 (fun _ _ => rfl) hx.2.2.1.1 ?_
  refine r_iload_n (pc := 10) dX0_want_10 rfl ?_
  refine r_o2 (pc := 11) (bc' := 2) (bs' := 14) (ct_X3_isStep hx.2.2.1.2.2 x2) k_X0_129_3 dX0_want_11 hx.2.2.1.2.2.k (Nat.le_of_ble_eq_true rfl) ⟨Nat.le_of_ble_eq_true rfl, Nat.le_of_ble_eq_true rfl⟩ ⟨Nat.le_of_ble_eq_true rfl, Nat.le_of_ble_eq_true rfl⟩ (r_ci fun r11 M11 p11 => ?_) nox
  obtain ⟨rfl, p11⟩ := p11
  have p11 := Eq.symm (show _ = _ from p11)
  subst p11
  refine r_if_eq (pc := 14) 33 dX0_want_14 rfl (fun h14 => ?_) (fun h14 => ?_)
  · rw [bI_eq0] at h14
    refine r_iconst (pc := 33) (v := 0) dX0_want_33 (by decide) ?_
    refine r_eqi (bI (stepS S.1 x2 ∧ (¬ x3 < 0 ∧ ¬ 99 < x3))) (by first | exact bI_t' ⟨h14, h26⟩ | exact bI_f' (fun hh => h14 hh.1) | exact bI_f' (fun hh => h26 hh.2)) ?_
    refine r_bipush (pc := 34) (v := (-6)) dX0_want_34 (by decide) ?_
    refine r_s2 (pc := 36) (bc' := 1) (bs' := 7) (ct_X0_need _ _) k_X0_115 dX0_want_36 (Nat.le_of_ble_eq_true rfl) ⟨Nat.le_of_ble_eq_true rfl, Nat.le_of_ble_eq_true rfl⟩ ⟨Nat.le_of_ble_eq_true rfl, Nat.le_of_ble_eq_true rfl⟩ (r_cv fun M36 p36 => ?_) (fun q E M9 h8 => by have h9 := And.intro (bI_eq0.mp h8.1) (hx.rf h8.2); obtain ⟨hn9, rfl, k9, w9, o9⟩ := h9; exact t_catch [] _ _ _ rfl (fun z hz => absurd hz List.not_mem_nil) rfl (by decide) q305 q389 ((hC M9 q _ _ k9 w9 (by decide) o9 (by unfold wantS; rw [cI_f (fun hh => hh hy), cI_t (by rcases n_and hn9 with h | h; exact Or.inl h; exact Or.inr (n_in h))])).loose (Nat.zero_le _) (Nat.zero_le _)))
    obtain ⟨hz, p36⟩ := p36
    have p36 := Eq.symm (show _ = _ from p36)
    subst p36
    rw [bI_ne0] at hz
    refine r_aload_n (pc := 39) dX0_want_39 rfl ?_
    refine r_getR (pc := 40) dX0_want_40 fl_X0_90_0 hx.1.2.1 (fun _ _ => rfl) hx.2.2.1.1 ?_
    refine r_getIe (pc := 43) (v := S.1 2 0) dX0_want_43 fl_X0_219_3 hx.2.2.1.2.2.k (fun _ _ => rfl) hx.2.2.1.2.2.i6 ?_
    refine r_iconst (pc := 46) (v := 4) dX0_want_46 (by decide) ?_
    refine r_icmp_ge (pc := 47) 54 dX0_want_47 rfl (fun h47 => ?_) (fun h47 => ?_)
    · refine r_iconst (pc := 54) (v := 0) dX0_want_54 (by decide) ?_
      refine r_eqi (bI (S.1 2 0 < 4)) (by first | exact bI_t' h47 | exact bI_f' h47) ?_
      refine r_bipush (pc := 55) (v := (-7)) dX0_want_55 (by decide) ?_
      refine r_s2 (pc := 57) (bc' := 0) (bs' := 0) (ct_X0_need _ _) k_X0_115 dX0_want_57 (Nat.le_of_ble_eq_true rfl) ⟨Nat.le_of_ble_eq_true rfl, Nat.le_of_ble_eq_true rfl⟩ ⟨Nat.le_of_ble_eq_true rfl, Nat.le_of_ble_eq_true rfl⟩ (r_cv fun M57 p57 => ?_) (fun q E M9 h8 => by have h9 := And.intro (bI_eq0.mp h8.1) (hx.rf h8.2); obtain ⟨hn9, rfl, k9, w9, o9⟩ := h9; exact t_catch [] _ _ _ rfl (fun z hz => absurd hz List.not_mem_nil) rfl (by decide) q305 q389 ((hC M9 q _ _ k9 w9 (by decide) o9 (by unfold wantS; rw [cI_f (fun hh => hh hy), cI_f (fun hh => hh.elim (fun q => q hz.1) (fun q => q.elim hz.2.1 hz.2.2)), cI_t (eq_4 hB.1.2.2 hn9)])).loose (Nat.zero_le _) (Nat.zero_le _)))
      obtain ⟨hv, p57⟩ := p57
      have p57 := Eq.symm (show _ = _ from p57)
      subst p57
      rw [bI_ne0] at hv
      refine r_aload_n (pc := 60) dX0_want_60 rfl ?_
      refine r_getR (pc := 61) dX0_want_61 fl_X0_90_0 hx.1.2.1 (fun _ _ => rfl) hx.2.2.1.1 ?_
      refine r_iload_n (pc := 64) dX0_want_64 rfl ?_
      refine r_iload_n (pc := 65) dX0_want_65 rfl ?_
      refine r_iload_n (pc := 66) dX0_want_66 rfl ?_
      refine r_o4 (pc := 67) (bc' := 0) (bs' := 0) (ct_X3_addWant hx.2.2.1.2.2 x1 x2 x3 hB (ne_4 hv)) k_X0_222_3 dX0_want_67 hx.2.2.1.2.2.k (Nat.le_of_ble_eq_true rfl) ⟨Nat.le_of_ble_eq_true rfl, Nat.le_of_ble_eq_true rfl⟩ ⟨Nat.le_of_ble_eq_true rfl, Nat.le_of_ble_eq_true rfl⟩ (r_cv fun M67 p67 => ?_) nox
      obtain ⟨w3, f3, g3⟩ := p67
      have hx1 := hx.world (S' := (wantedS S.1 x1 x2 x3, S.2)) w3 f3 (fun s _ _ => by rw [g3]) rfl (fun k hk => by show wantedS S.1 x1 x2 x3 k = S.1 k; unfold wantedS; rw [up2_ne (by omega), up2_ne (by omega), up2_ne (by omega), up2_ne (by omega)])
      refine r_aload_n (pc := 70) dX0_want_70 rfl ?_
      refine r_getR (pc := 71) dX0_want_71 fl_X0_90_0 hx1.1.2.1 (fun _ _ => rfl) hx1.2.2.1.1 ?_
      refine r_getIe (pc := 74) (v := S.1 2 0 + 1) dX0_want_74 fl_X0_219_3 hx1.2.2.1.2.2.k (fun _ _ => rfl) (hx1.2.2.1.2.2.i6.trans (by simp [wantedS, up2_ap])) ?_
      refine r_iconst (pc := 77) (v := 1) dX0_want_77 (by decide) ?_
      refine r_isub (pc := 78) dX0_want_78 ?_
      rw [Int32.add_sub_cancel]
      refine r_ireturn (pc := 79) rfl dX0_want_79 ⟨_, rfl, ?_⟩
      exact (show oX xo mo Z (wantS S x1 x2 x3) _ _ by rw [show wantS S x1 x2 x3 = (S.1 2 0, (wantedS S.1 x1 x2 x3, S.2)) by unfold wantS; rw [cI_f (fun hh => hh hy), cI_f (fun hh => hh.elim (fun q => q hz.1) (fun q => q.elim hz.2.1 hz.2.2)), cI_f (ne_4 hv)]]; exact ⟨rfl, wa, hx1⟩)
    · refine r_iconst (pc := 50) (v := 1) dX0_want_50 (by decide) ?_
      refine r_goto (pc := 51) 55 dX0_want_51 rfl ?_
      refine r_eqi (bI (S.1 2 0 < 4)) (by first | exact bI_t' h47 | exact bI_f' h47) ?_
      refine r_bipush (pc := 55) (v := (-7)) dX0_want_55 (by decide) ?_
      refine r_s2 (pc := 57) (bc' := 0) (bs' := 0) (ct_X0_need _ _) k_X0_115 dX0_want_57 (Nat.le_of_ble_eq_true rfl) ⟨Nat.le_of_ble_eq_true rfl, Nat.le_of_ble_eq_true rfl⟩ ⟨Nat.le_of_ble_eq_true rfl, Nat.le_of_ble_eq_true rfl⟩ (r_cv fun M57 p57 => ?_) (fun q E M9 h8 => by have h9 := And.intro (bI_eq0.mp h8.1) (hx.rf h8.2); obtain ⟨hn9, rfl, k9, w9, o9⟩ := h9; exact t_catch [] _ _ _ rfl (fun z hz => absurd hz List.not_mem_nil) rfl (by decide) q305 q389 ((hC M9 q _ _ k9 w9 (by decide) o9 (by unfold wantS; rw [cI_f (fun hh => hh hy), cI_f (fun hh => hh.elim (fun q => q hz.1) (fun q => q.elim hz.2.1 hz.2.2)), cI_t (eq_4 hB.1.2.2 hn9)])).loose (Nat.zero_le _) (Nat.zero_le _)))
      obtain ⟨hv, p57⟩ := p57
      have p57 := Eq.symm (show _ = _ from p57)
      subst p57
      rw [bI_ne0] at hv
      refine r_aload_n (pc := 60) dX0_want_60 rfl ?_
      refine r_getR (pc := 61) dX0_want_61 fl_X0_90_0 hx.1.2.1 (fun _ _ => rfl) hx.2.2.1.1 ?_
      refine r_iload_n (pc := 64) dX0_want_64 rfl ?_
      refine r_iload_n (pc := 65) dX0_want_65 rfl ?_
      refine r_iload_n (pc := 66) dX0_want_66 rfl ?_
      refine r_o4 (pc := 67) (bc' := 0) (bs' := 0) (ct_X3_addWant hx.2.2.1.2.2 x1 x2 x3 hB (ne_4 hv)) k_X0_222_3 dX0_want_67 hx.2.2.1.2.2.k (Nat.le_of_ble_eq_true rfl) ⟨Nat.le_of_ble_eq_true rfl, Nat.le_of_ble_eq_true rfl⟩ ⟨Nat.le_of_ble_eq_true rfl, Nat.le_of_ble_eq_true rfl⟩ (r_cv fun M67 p67 => ?_) nox
      obtain ⟨w3, f3, g3⟩ := p67
      have hx1 := hx.world (S' := (wantedS S.1 x1 x2 x3, S.2)) w3 f3 (fun s _ _ => by rw [g3]) rfl (fun k hk => by show wantedS S.1 x1 x2 x3 k = S.1 k; unfold wantedS; rw [up2_ne (by omega), up2_ne (by omega), up2_ne (by omega), up2_ne (by omega)])
      refine r_aload_n (pc := 70) dX0_want_70 rfl ?_
      refine r_getR (pc := 71) dX0_want_71 fl_X0_90_0 hx1.1.2.1 (fun _ _ => rfl) hx1.2.2.1.1 ?_
      refine r_getIe (pc := 74) (v := S.1 2 0 + 1) dX0_want_74 fl_X0_219_3 hx1.2.2.1.2.2.k (fun _ _ => rfl) (hx1.2.2.1.2.2.i6.trans (by simp [wantedS, up2_ap])) ?_
      refine r_iconst (pc := 77) (v := 1) dX0_want_77 (by decide) ?_
      refine r_isub (pc := 78) dX0_want_78 ?_
      rw [Int32.add_sub_cancel]
      refine r_ireturn (pc := 79) rfl dX0_want_79 ⟨_, rfl, ?_⟩
      exact (show oX xo mo Z (wantS S x1 x2 x3) _ _ by rw [show wantS S x1 x2 x3 = (S.1 2 0, (wantedS S.1 x1 x2 x3, S.2)) by unfold wantS; rw [cI_f (fun hh => hh hy), cI_f (fun hh => hh.elim (fun q => q hz.1) (fun q => q.elim hz.2.1 hz.2.2)), cI_f (ne_4 hv)]]; exact ⟨rfl, wa, hx1⟩)
  · rw [bI_ne0] at h14
    refine r_iload_n (pc := 17) dX0_want_17 rfl ?_
    refine r_i2l (pc := 18) dX0_want_18 ?_
    refine r_lconst (pc := 19) (v := 0) dX0_want_19 (by decide) ?_
    refine r_ldc2 (pc := 20) dX0_want_20 q703 ?_
    refine r_s3 (pc := 23) (bc' := 2) (bs' := 14) (ct_X0_in x3 0 99 rfl (by decide) (by decide)) k_X0_107 dX0_want_23 (Nat.le_of_ble_eq_true rfl) ⟨Nat.le_of_ble_eq_true rfl, Nat.le_of_ble_eq_true rfl⟩ ⟨Nat.le_of_ble_eq_true rfl, Nat.le_of_ble_eq_true rfl⟩ (r_ci fun r23 M23 p23 => ?_) nox
    obtain ⟨rfl, p23⟩ := p23
    have p23 := Eq.symm (show _ = _ from p23)
    subst p23
    refine r_if_eq (pc := 26) 33 dX0_want_26 rfl (fun h26 => ?_) (fun h26 => ?_)
    · rw [bI_eq0] at h26
      refine r_iconst (pc := 33) (v := 0) dX0_want_33 (by decide) ?_
      refine r_eqi (bI (stepS S.1 x2 ∧ (¬ x3 < 0 ∧ ¬ 99 < x3))) (by first | exact bI_t' ⟨h14, h26⟩ | exact bI_f' (fun hh => h14 hh.1) | exact bI_f' (fun hh => h26 hh.2)) ?_
      refine r_bipush (pc := 34) (v := (-6)) dX0_want_34 (by decide) ?_
      refine r_s2 (pc := 36) (bc' := 1) (bs' := 7) (ct_X0_need _ _) k_X0_115 dX0_want_36 (Nat.le_of_ble_eq_true rfl) ⟨Nat.le_of_ble_eq_true rfl, Nat.le_of_ble_eq_true rfl⟩ ⟨Nat.le_of_ble_eq_true rfl, Nat.le_of_ble_eq_true rfl⟩ (r_cv fun M36 p36 => ?_) (fun q E M9 h8 => by have h9 := And.intro (bI_eq0.mp h8.1) (hx.rf h8.2); obtain ⟨hn9, rfl, k9, w9, o9⟩ := h9; exact t_catch [] _ _ _ rfl (fun z hz => absurd hz List.not_mem_nil) rfl (by decide) q305 q389 ((hC M9 q _ _ k9 w9 (by decide) o9 (by unfold wantS; rw [cI_f (fun hh => hh hy), cI_t (by rcases n_and hn9 with h | h; exact Or.inl h; exact Or.inr (n_in h))])).loose (Nat.zero_le _) (Nat.zero_le _)))
      obtain ⟨hz, p36⟩ := p36
      have p36 := Eq.symm (show _ = _ from p36)
      subst p36
      rw [bI_ne0] at hz
      refine r_aload_n (pc := 39) dX0_want_39 rfl ?_
      refine r_getR (pc := 40) dX0_want_40 fl_X0_90_0 hx.1.2.1 (fun _ _ => rfl) hx.2.2.1.1 ?_
      refine r_getIe (pc := 43) (v := S.1 2 0) dX0_want_43 fl_X0_219_3 hx.2.2.1.2.2.k (fun _ _ => rfl) hx.2.2.1.2.2.i6 ?_
      refine r_iconst (pc := 46) (v := 4) dX0_want_46 (by decide) ?_
      refine r_icmp_ge (pc := 47) 54 dX0_want_47 rfl (fun h47 => ?_) (fun h47 => ?_)
      · refine r_iconst (pc := 54) (v := 0) dX0_want_54 (by decide) ?_
        refine r_eqi (bI (S.1 2 0 < 4)) (by first | exact bI_t' h47 | exact bI_f' h47) ?_
        refine r_bipush (pc := 55) (v := (-7)) dX0_want_55 (by decide) ?_
        refine r_s2 (pc := 57) (bc' := 0) (bs' := 0) (ct_X0_need _ _) k_X0_115 dX0_want_57 (Nat.le_of_ble_eq_true rfl) ⟨Nat.le_of_ble_eq_true rfl, Nat.le_of_ble_eq_true rfl⟩ ⟨Nat.le_of_ble_eq_true rfl, Nat.le_of_ble_eq_true rfl⟩ (r_cv fun M57 p57 => ?_) (fun q E M9 h8 => by have h9 := And.intro (bI_eq0.mp h8.1) (hx.rf h8.2); obtain ⟨hn9, rfl, k9, w9, o9⟩ := h9; exact t_catch [] _ _ _ rfl (fun z hz => absurd hz List.not_mem_nil) rfl (by decide) q305 q389 ((hC M9 q _ _ k9 w9 (by decide) o9 (by unfold wantS; rw [cI_f (fun hh => hh hy), cI_f (fun hh => hh.elim (fun q => q hz.1) (fun q => q.elim hz.2.1 hz.2.2)), cI_t (eq_4 hB.1.2.2 hn9)])).loose (Nat.zero_le _) (Nat.zero_le _)))
        obtain ⟨hv, p57⟩ := p57
        have p57 := Eq.symm (show _ = _ from p57)
        subst p57
        rw [bI_ne0] at hv
        refine r_aload_n (pc := 60) dX0_want_60 rfl ?_
        refine r_getR (pc := 61) dX0_want_61 fl_X0_90_0 hx.1.2.1 (fun _ _ => rfl) hx.2.2.1.1 ?_
        refine r_iload_n (pc := 64) dX0_want_64 rfl ?_
        refine r_iload_n (pc := 65) dX0_want_65 rfl ?_
        refine r_iload_n (pc := 66) dX0_want_66 rfl ?_
        refine r_o4 (pc := 67) (bc' := 0) (bs' := 0) (ct_X3_addWant hx.2.2.1.2.2 x1 x2 x3 hB (ne_4 hv)) k_X0_222_3 dX0_want_67 hx.2.2.1.2.2.k (Nat.le_of_ble_eq_true rfl) ⟨Nat.le_of_ble_eq_true rfl, Nat.le_of_ble_eq_true rfl⟩ ⟨Nat.le_of_ble_eq_true rfl, Nat.le_of_ble_eq_true rfl⟩ (r_cv fun M67 p67 => ?_) nox
        obtain ⟨w3, f3, g3⟩ := p67
        have hx1 := hx.world (S' := (wantedS S.1 x1 x2 x3, S.2)) w3 f3 (fun s _ _ => by rw [g3]) rfl (fun k hk => by show wantedS S.1 x1 x2 x3 k = S.1 k; unfold wantedS; rw [up2_ne (by omega), up2_ne (by omega), up2_ne (by omega), up2_ne (by omega)])
        refine r_aload_n (pc := 70) dX0_want_70 rfl ?_
        refine r_getR (pc := 71) dX0_want_71 fl_X0_90_0 hx1.1.2.1 (fun _ _ => rfl) hx1.2.2.1.1 ?_
        refine r_getIe (pc := 74) (v := S.1 2 0 + 1) dX0_want_74 fl_X0_219_3 hx1.2.2.1.2.2.k (fun _ _ => rfl) (hx1.2.2.1.2.2.i6.trans (by simp [wantedS, up2_ap])) ?_
        refine r_iconst (pc := 77) (v := 1) dX0_want_77 (by decide) ?_
        refine r_isub (pc := 78) dX0_want_78 ?_
        rw [Int32.add_sub_cancel]
        refine r_ireturn (pc := 79) rfl dX0_want_79 ⟨_, rfl, ?_⟩
        exact (show oX xo mo Z (wantS S x1 x2 x3) _ _ by rw [show wantS S x1 x2 x3 = (S.1 2 0, (wantedS S.1 x1 x2 x3, S.2)) by unfold wantS; rw [cI_f (fun hh => hh hy), cI_f (fun hh => hh.elim (fun q => q hz.1) (fun q => q.elim hz.2.1 hz.2.2)), cI_f (ne_4 hv)]]; exact ⟨rfl, wa, hx1⟩)
      · refine r_iconst (pc := 50) (v := 1) dX0_want_50 (by decide) ?_
        refine r_goto (pc := 51) 55 dX0_want_51 rfl ?_
        refine r_eqi (bI (S.1 2 0 < 4)) (by first | exact bI_t' h47 | exact bI_f' h47) ?_
        refine r_bipush (pc := 55) (v := (-7)) dX0_want_55 (by decide) ?_
        refine r_s2 (pc := 57) (bc' := 0) (bs' := 0) (ct_X0_need _ _) k_X0_115 dX0_want_57 (Nat.le_of_ble_eq_true rfl) ⟨Nat.le_of_ble_eq_true rfl, Nat.le_of_ble_eq_true rfl⟩ ⟨Nat.le_of_ble_eq_true rfl, Nat.le_of_ble_eq_true rfl⟩ (r_cv fun M57 p57 => ?_) (fun q E M9 h8 => by have h9 := And.intro (bI_eq0.mp h8.1) (hx.rf h8.2); obtain ⟨hn9, rfl, k9, w9, o9⟩ := h9; exact t_catch [] _ _ _ rfl (fun z hz => absurd hz List.not_mem_nil) rfl (by decide) q305 q389 ((hC M9 q _ _ k9 w9 (by decide) o9 (by unfold wantS; rw [cI_f (fun hh => hh hy), cI_f (fun hh => hh.elim (fun q => q hz.1) (fun q => q.elim hz.2.1 hz.2.2)), cI_t (eq_4 hB.1.2.2 hn9)])).loose (Nat.zero_le _) (Nat.zero_le _)))
        obtain ⟨hv, p57⟩ := p57
        have p57 := Eq.symm (show _ = _ from p57)
        subst p57
        rw [bI_ne0] at hv
        refine r_aload_n (pc := 60) dX0_want_60 rfl ?_
        refine r_getR (pc := 61) dX0_want_61 fl_X0_90_0 hx.1.2.1 (fun _ _ => rfl) hx.2.2.1.1 ?_
        refine r_iload_n (pc := 64) dX0_want_64 rfl ?_
        refine r_iload_n (pc := 65) dX0_want_65 rfl ?_
        refine r_iload_n (pc := 66) dX0_want_66 rfl ?_
        refine r_o4 (pc := 67) (bc' := 0) (bs' := 0) (ct_X3_addWant hx.2.2.1.2.2 x1 x2 x3 hB (ne_4 hv)) k_X0_222_3 dX0_want_67 hx.2.2.1.2.2.k (Nat.le_of_ble_eq_true rfl) ⟨Nat.le_of_ble_eq_true rfl, Nat.le_of_ble_eq_true rfl⟩ ⟨Nat.le_of_ble_eq_true rfl, Nat.le_of_ble_eq_true rfl⟩ (r_cv fun M67 p67 => ?_) nox
        obtain ⟨w3, f3, g3⟩ := p67
        have hx1 := hx.world (S' := (wantedS S.1 x1 x2 x3, S.2)) w3 f3 (fun s _ _ => by rw [g3]) rfl (fun k hk => by show wantedS S.1 x1 x2 x3 k = S.1 k; unfold wantedS; rw [up2_ne (by omega), up2_ne (by omega), up2_ne (by omega), up2_ne (by omega)])
        refine r_aload_n (pc := 70) dX0_want_70 rfl ?_
        refine r_getR (pc := 71) dX0_want_71 fl_X0_90_0 hx1.1.2.1 (fun _ _ => rfl) hx1.2.2.1.1 ?_
        refine r_getIe (pc := 74) (v := S.1 2 0 + 1) dX0_want_74 fl_X0_219_3 hx1.2.2.1.2.2.k (fun _ _ => rfl) (hx1.2.2.1.2.2.i6.trans (by simp [wantedS, up2_ap])) ?_
        refine r_iconst (pc := 77) (v := 1) dX0_want_77 (by decide) ?_
        refine r_isub (pc := 78) dX0_want_78 ?_
        rw [Int32.add_sub_cancel]
        refine r_ireturn (pc := 79) rfl dX0_want_79 ⟨_, rfl, ?_⟩
        exact (show oX xo mo Z (wantS S x1 x2 x3) _ _ by rw [show wantS S x1 x2 x3 = (S.1 2 0, (wantedS S.1 x1 x2 x3, S.2)) by unfold wantS; rw [cI_f (fun hh => hh hy), cI_f (fun hh => hh.elim (fun q => q hz.1) (fun q => q.elim hz.2.1 hz.2.2)), cI_f (ne_4 hv)]]; exact ⟨rfl, wa, hx1⟩)
    · rw [bI_ne0] at h26
      refine r_iconst (pc := 29) (v := 1) dX0_want_29 (by decide) ?_
      refine r_goto (pc := 30) 34 dX0_want_30 rfl ?_
      refine r_eqi (bI (stepS S.1 x2 ∧ (¬ x3 < 0 ∧ ¬ 99 < x3))) (by first | exact bI_t' ⟨h14, h26⟩ | exact bI_f' (fun hh => h14 hh.1) | exact bI_f' (fun hh => h26 hh.2)) ?_
      refine r_bipush (pc := 34) (v := (-6)) dX0_want_34 (by decide) ?_
      refine r_s2 (pc := 36) (bc' := 1) (bs' := 7) (ct_X0_need _ _) k_X0_115 dX0_want_36 (Nat.le_of_ble_eq_true rfl) ⟨Nat.le_of_ble_eq_true rfl, Nat.le_of_ble_eq_true rfl⟩ ⟨Nat.le_of_ble_eq_true rfl, Nat.le_of_ble_eq_true rfl⟩ (r_cv fun M36 p36 => ?_) (fun q E M9 h8 => by have h9 := And.intro (bI_eq0.mp h8.1) (hx.rf h8.2); obtain ⟨hn9, rfl, k9, w9, o9⟩ := h9; exact t_catch [] _ _ _ rfl (fun z hz => absurd hz List.not_mem_nil) rfl (by decide) q305 q389 ((hC M9 q _ _ k9 w9 (by decide) o9 (by unfold wantS; rw [cI_f (fun hh => hh hy), cI_t (by rcases n_and hn9 with h | h; exact Or.inl h; exact Or.inr (n_in h))])).loose (Nat.zero_le _) (Nat.zero_le _)))
      obtain ⟨hz, p36⟩ := p36
      have p36 := Eq.symm (show _ = _ from p36)
      subst p36
      rw [bI_ne0] at hz
      refine r_aload_n (pc := 39) dX0_want_39 rfl ?_
      refine r_getR (pc := 40) dX0_want_40 fl_X0_90_0 hx.1.2.1 (fun _ _ => rfl) hx.2.2.1.1 ?_
      refine r_getIe (pc := 43) (v := S.1 2 0) dX0_want_43 fl_X0_219_3 hx.2.2.1.2.2.k (fun _ _ => rfl) hx.2.2.1.2.2.i6 ?_
      refine r_iconst (pc := 46) (v := 4) dX0_want_46 (by decide) ?_
      refine r_icmp_ge (pc := 47) 54 dX0_want_47 rfl (fun h47 => ?_) (fun h47 => ?_)
      · refine r_iconst (pc := 54) (v := 0) dX0_want_54 (by decide) ?_
        refine r_eqi (bI (S.1 2 0 < 4)) (by first | exact bI_t' h47 | exact bI_f' h47) ?_
        refine r_bipush (pc := 55) (v := (-7)) dX0_want_55 (by decide) ?_
        refine r_s2 (pc := 57) (bc' := 0) (bs' := 0) (ct_X0_need _ _) k_X0_115 dX0_want_57 (Nat.le_of_ble_eq_true rfl) ⟨Nat.le_of_ble_eq_true rfl, Nat.le_of_ble_eq_true rfl⟩ ⟨Nat.le_of_ble_eq_true rfl, Nat.le_of_ble_eq_true rfl⟩ (r_cv fun M57 p57 => ?_) (fun q E M9 h8 => by have h9 := And.intro (bI_eq0.mp h8.1) (hx.rf h8.2); obtain ⟨hn9, rfl, k9, w9, o9⟩ := h9; exact t_catch [] _ _ _ rfl (fun z hz => absurd hz List.not_mem_nil) rfl (by decide) q305 q389 ((hC M9 q _ _ k9 w9 (by decide) o9 (by unfold wantS; rw [cI_f (fun hh => hh hy), cI_f (fun hh => hh.elim (fun q => q hz.1) (fun q => q.elim hz.2.1 hz.2.2)), cI_t (eq_4 hB.1.2.2 hn9)])).loose (Nat.zero_le _) (Nat.zero_le _)))
        obtain ⟨hv, p57⟩ := p57
        have p57 := Eq.symm (show _ = _ from p57)
        subst p57
        rw [bI_ne0] at hv
        refine r_aload_n (pc := 60) dX0_want_60 rfl ?_
        refine r_getR (pc := 61) dX0_want_61 fl_X0_90_0 hx.1.2.1 (fun _ _ => rfl) hx.2.2.1.1 ?_
        refine r_iload_n (pc := 64) dX0_want_64 rfl ?_
        refine r_iload_n (pc := 65) dX0_want_65 rfl ?_
        refine r_iload_n (pc := 66) dX0_want_66 rfl ?_
        refine r_o4 (pc := 67) (bc' := 0) (bs' := 0) (ct_X3_addWant hx.2.2.1.2.2 x1 x2 x3 hB (ne_4 hv)) k_X0_222_3 dX0_want_67 hx.2.2.1.2.2.k (Nat.le_of_ble_eq_true rfl) ⟨Nat.le_of_ble_eq_true rfl, Nat.le_of_ble_eq_true rfl⟩ ⟨Nat.le_of_ble_eq_true rfl, Nat.le_of_ble_eq_true rfl⟩ (r_cv fun M67 p67 => ?_) nox
        obtain ⟨w3, f3, g3⟩ := p67
        have hx1 := hx.world (S' := (wantedS S.1 x1 x2 x3, S.2)) w3 f3 (fun s _ _ => by rw [g3]) rfl (fun k hk => by show wantedS S.1 x1 x2 x3 k = S.1 k; unfold wantedS; rw [up2_ne (by omega), up2_ne (by omega), up2_ne (by omega), up2_ne (by omega)])
        refine r_aload_n (pc := 70) dX0_want_70 rfl ?_
        refine r_getR (pc := 71) dX0_want_71 fl_X0_90_0 hx1.1.2.1 (fun _ _ => rfl) hx1.2.2.1.1 ?_
        refine r_getIe (pc := 74) (v := S.1 2 0 + 1) dX0_want_74 fl_X0_219_3 hx1.2.2.1.2.2.k (fun _ _ => rfl) (hx1.2.2.1.2.2.i6.trans (by simp [wantedS, up2_ap])) ?_
        refine r_iconst (pc := 77) (v := 1) dX0_want_77 (by decide) ?_
        refine r_isub (pc := 78) dX0_want_78 ?_
        rw [Int32.add_sub_cancel]
        refine r_ireturn (pc := 79) rfl dX0_want_79 ⟨_, rfl, ?_⟩
        exact (show oX xo mo Z (wantS S x1 x2 x3) _ _ by rw [show wantS S x1 x2 x3 = (S.1 2 0, (wantedS S.1 x1 x2 x3, S.2)) by unfold wantS; rw [cI_f (fun hh => hh hy), cI_f (fun hh => hh.elim (fun q => q hz.1) (fun q => q.elim hz.2.1 hz.2.2)), cI_f (ne_4 hv)]]; exact ⟨rfl, wa, hx1⟩)
      · refine r_iconst (pc := 50) (v := 1) dX0_want_50 (by decide) ?_
        refine r_goto (pc := 51) 55 dX0_want_51 rfl ?_
        refine r_eqi (bI (S.1 2 0 < 4)) (by first | exact bI_t' h47 | exact bI_f' h47) ?_
        refine r_bipush (pc := 55) (v := (-7)) dX0_want_55 (by decide) ?_
        refine r_s2 (pc := 57) (bc' := 0) (bs' := 0) (ct_X0_need _ _) k_X0_115 dX0_want_57 (Nat.le_of_ble_eq_true rfl) ⟨Nat.le_of_ble_eq_true rfl, Nat.le_of_ble_eq_true rfl⟩ ⟨Nat.le_of_ble_eq_true rfl, Nat.le_of_ble_eq_true rfl⟩ (r_cv fun M57 p57 => ?_) (fun q E M9 h8 => by have h9 := And.intro (bI_eq0.mp h8.1) (hx.rf h8.2); obtain ⟨hn9, rfl, k9, w9, o9⟩ := h9; exact t_catch [] _ _ _ rfl (fun z hz => absurd hz List.not_mem_nil) rfl (by decide) q305 q389 ((hC M9 q _ _ k9 w9 (by decide) o9 (by unfold wantS; rw [cI_f (fun hh => hh hy), cI_f (fun hh => hh.elim (fun q => q hz.1) (fun q => q.elim hz.2.1 hz.2.2)), cI_t (eq_4 hB.1.2.2 hn9)])).loose (Nat.zero_le _) (Nat.zero_le _)))
        obtain ⟨hv, p57⟩ := p57
        have p57 := Eq.symm (show _ = _ from p57)
        subst p57
        rw [bI_ne0] at hv
        refine r_aload_n (pc := 60) dX0_want_60 rfl ?_
        refine r_getR (pc := 61) dX0_want_61 fl_X0_90_0 hx.1.2.1 (fun _ _ => rfl) hx.2.2.1.1 ?_
        refine r_iload_n (pc := 64) dX0_want_64 rfl ?_
        refine r_iload_n (pc := 65) dX0_want_65 rfl ?_
        refine r_iload_n (pc := 66) dX0_want_66 rfl ?_
        refine r_o4 (pc := 67) (bc' := 0) (bs' := 0) (ct_X3_addWant hx.2.2.1.2.2 x1 x2 x3 hB (ne_4 hv)) k_X0_222_3 dX0_want_67 hx.2.2.1.2.2.k (Nat.le_of_ble_eq_true rfl) ⟨Nat.le_of_ble_eq_true rfl, Nat.le_of_ble_eq_true rfl⟩ ⟨Nat.le_of_ble_eq_true rfl, Nat.le_of_ble_eq_true rfl⟩ (r_cv fun M67 p67 => ?_) nox
        obtain ⟨w3, f3, g3⟩ := p67
        have hx1 := hx.world (S' := (wantedS S.1 x1 x2 x3, S.2)) w3 f3 (fun s _ _ => by rw [g3]) rfl (fun k hk => by show wantedS S.1 x1 x2 x3 k = S.1 k; unfold wantedS; rw [up2_ne (by omega), up2_ne (by omega), up2_ne (by omega), up2_ne (by omega)])
        refine r_aload_n (pc := 70) dX0_want_70 rfl ?_
        refine r_getR (pc := 71) dX0_want_71 fl_X0_90_0 hx1.1.2.1 (fun _ _ => rfl) hx1.2.2.1.1 ?_
        refine r_getIe (pc := 74) (v := S.1 2 0 + 1) dX0_want_74 fl_X0_219_3 hx1.2.2.1.2.2.k (fun _ _ => rfl) (hx1.2.2.1.2.2.i6.trans (by simp [wantedS, up2_ap])) ?_
        refine r_iconst (pc := 77) (v := 1) dX0_want_77 (by decide) ?_
        refine r_isub (pc := 78) dX0_want_78 ?_
        rw [Int32.add_sub_cancel]
        refine r_ireturn (pc := 79) rfl dX0_want_79 ⟨_, rfl, ?_⟩
        exact (show oX xo mo Z (wantS S x1 x2 x3) _ _ by rw [show wantS S x1 x2 x3 = (S.1 2 0, (wantedS S.1 x1 x2 x3, S.2)) by unfold wantS; rw [cI_f (fun hh => hh hy), cI_f (fun hh => hh.elim (fun q => q hz.1) (fun q => q.elim hz.2.1 hz.2.2)), cI_f (ne_4 hv)]]; exact ⟨rfl, wa, hx1⟩)
/-- a thing on a shelf is no new one -/
theorem sh_ne {σ : cS} (h : OkH σ) {s : Nat} (hs : s < 8) (h2 : σ 22 s = 2) : Int32.toNatClampNeg (σ 25 s) ≠ Int32.toNatClampNeg (σ 0 0) := by
  obtain ⟨a, b⟩ := (h s hs).2.2 h2
  show (σ 25 s).toInt.toNat ≠ (σ 0 0).toInt.toNat
  omega
theorem bd_in {x : Int32} {lo hi : Int32} (h : ¬ x < lo ∧ ¬ hi < x) : lo.toInt ≤ x.toInt ∧ x.toInt ≤ hi.toInt := by
  rw [i_lt, i_lt] at h
  omega
theorem tp_n {x2 x3 : Int32} {P : Prop} (h : ¬ ((¬ x2 < 1 ∧ ¬ 99 < x2) ∧ (¬ x3 < 1 ∧ ¬ 9 < x3) ∧ P)) : x2 < 1 ∨ 99 < x2 ∨ x3 < 1 ∨ 9 < x3 ∨ ¬ P := by
  by_cases a : x2 < 1
  · exact Or.inl a
  by_cases b : 99 < x2
  · exact Or.inr (Or.inl b)
  by_cases c : x3 < 1
  · exact Or.inr (Or.inr (Or.inl c))
  by_cases d : 9 < x3
  · exact Or.inr (Or.inr (Or.inr (Or.inl d)))
  exact Or.inr (Or.inr (Or.inr (Or.inr fun hp => h ⟨⟨a, b⟩, ⟨c, d⟩, hp⟩)))
theorem tp_y {x2 x3 : Int32} {P : Prop} (h : (¬ x2 < 1 ∧ ¬ 99 < x2) ∧ (¬ x3 < 1 ∧ ¬ 9 < x3) ∧ P) : ¬ (x2 < 1 ∨ 99 < x2 ∨ x3 < 1 ∨ 9 < x3 ∨ ¬ P) := by
  rintro (a | a | a | a | a)
  · exact h.1.1 a
  · exact h.1.2 a
  · exact h.2.1.1 a
  · exact h.2.1.2 a
  · exact a h.2.2
theorem ct_X0_thing {M : PM} {xo wa mo : Nat} {Z : PM} {S : ST} (hx : XO M xo wa mo Z S) (x1 x2 x3 x4 : Int32) (hS : OkS S.1) : Ct (YX0_thing, (7, 163, 4, 24), qi (fun r M' => oX xo mo Z (thingS S x1 x2 x3 x4) r M'), noX) [.ref xo, .int x1, .int x2, .int x3, .int x4] M := by
  refine ct_ofH [some (.ref xo), some (.int x1), some (.int x2), some (.int x3), some (.int x4), none] rfl rfl (Nat.le_of_ble_eq_true rfl) rfl rfl ?_
  have hB := hS.1.t
  have hC : ∀ (M9 : PM) (q : Nat) (b : Int32) (o5 : Option Value), mK M9 q = (1, 6) → mI M9 q 6 = b → bd b (-7) (-1) → XO M9 xo wa mo Z S → thingS S x1 x2 x3 x4 = noS S b → Wx (YX0_thing, (7, 163, 4, 24), qi (fun r M' => oX xo mo Z (thingS S x1 x2 x3 x4) r M'), noX) 0 0 M9 104 [some (.ref xo), some (.int x1), some (.int x2), some (.int x3), some (.int x4), o5] [.ref q] := by
    intro M9 q b o5 h1 h2 h3 h4 h5
    refine r_astore5 (pc := 104) dX0_thing_104 rfl ?_
    refine r_aload_n (pc := 106) dX0_thing_106 rfl ?_
    refine r_aload (pc := 107) dX0_thing_107 rfl ?_
    refine r_o2 (pc := 109) (bc' := 0) (bs' := 0) (ct_X0_refused h4 h1 h2 h3) k_X0_173_0 dX0_thing_109 h4.1.2.1 (Nat.le_of_ble_eq_true rfl) ⟨Nat.le_of_ble_eq_true rfl, Nat.le_of_ble_eq_true rfl⟩ ⟨Nat.le_of_ble_eq_true rfl, Nat.le_of_ble_eq_true rfl⟩ (r_ci fun r109 M109 p109 => ?_) nox
    obtain ⟨rfl, h6⟩ := p109
    refine r_ireturn (pc := 112) rfl dX0_thing_112 ⟨_, rfl, ?_⟩
    exact (show oX xo mo Z (thingS S x1 x2 x3 x4) _ _ by rw [h5]; exact ⟨rfl, wa, h6⟩)
  refine r_iload_n (pc := 0) dX0_thing_0 rfl ?_
  refine r_i2l (pc := 1) dX0_thing_1 ?_
  refine r_lconst (pc := 2) (v := 0) dX0_thing_2 (by decide) ?_
  refine r_ldc2 (pc := 3) dX0_thing_3 q609 ?_
  refine r_s3 (pc := 6) (bc' := 4) (bs' := 24) (ct_X0_in x1 0 6 rfl (by decide) (by decide)) k_X0_107 dX0_thing_6 (Nat.le_of_ble_eq_true rfl) ⟨Nat.le_of_ble_eq_true rfl, Nat.le_of_ble_eq_true rfl⟩ ⟨Nat.le_of_ble_eq_true rfl, Nat.le_of_ble_eq_true rfl⟩ (r_ci fun r6 M6 p6 => ?_) nox
  obtain ⟨rfl, p6⟩ := p6
  have p6 := Eq.symm (show _ = _ from p6)
  subst p6
  refine r_iconst (pc := 9) (v := (-1)) dX0_thing_9 (by decide) ?_
  refine r_s2 (pc := 10) (bc' := 3) (bs' := 17) (ct_X0_need _ _) k_X0_115 dX0_thing_10 (Nat.le_of_ble_eq_true rfl) ⟨Nat.le_of_ble_eq_true rfl, Nat.le_of_ble_eq_true rfl⟩ ⟨Nat.le_of_ble_eq_true rfl, Nat.le_of_ble_eq_true rfl⟩ (r_cv fun M10 p10 => ?_) (fun q E M9 h8 => by have h9 := And.intro (bI_eq0.mp h8.1) (hx.rf h8.2); obtain ⟨hn9, rfl, k9, w9, o9⟩ := h9; exact t_catch [] _ _ _ rfl (fun z hz => absurd hz List.not_mem_nil) rfl (by decide) q305 q389 ((hC M9 q _ _ k9 w9 (by decide) o9 (by unfold thingS; rw [cI_t (n_in hn9)])).loose (Nat.zero_le _) (Nat.zero_le _)))
  obtain ⟨hy, p10⟩ := p10
  have p10 := Eq.symm (show _ = _ from p10)
  subst p10
  rw [bI_ne0] at hy
  refine r_iload_n (pc := 13) dX0_thing_13 rfl ?_
  refine r_i2l (pc := 14) dX0_thing_14 ?_
  refine r_lconst (pc := 15) (v := 1) dX0_thing_15 (by decide) ?_
  refine r_ldc2 (pc := 16) dX0_thing_16 q703 ?_
  refine r_s3 (pc := 19) (bc' := 3) (bs' := 17) (ct_X0_in x2 1 99 rfl (by decide) (by decide)) k_X0_107 dX0_thing_19 (Nat.le_of_ble_eq_true rfl) ⟨Nat.le_of_ble_eq_true rfl, Nat.le_of_ble_eq_true rfl⟩ ⟨Nat.le_of_ble_eq_true rfl, Nat.le_of_ble_eq_true rfl⟩ (r_ci fun r19 M19 p19 => ?_) nox
  obtain ⟨rfl, p19⟩ := p19
  have p19 := Eq.symm (show _ = _ from p19)
  subst p19
  refine r_if_eq (pc := 22) 53 dX0_thing_22 rfl (fun h22 => ?_) (fun h22 => ?_)
  · rw [bI_eq0] at h22
    refine r_iconst (pc := 53) (v := 0) dX0_thing_53 (by decide) ?_
    refine r_eqi (bI ((¬ x2 < 1 ∧ ¬ 99 < x2) ∧ (¬ x3 < 1 ∧ ¬ 9 < x3) ∧ stepS S.1 x4)) (by first | exact bI_t' ⟨h22, h34, h46⟩ | exact bI_f' (fun hh => h22 hh.1) | exact bI_f' (fun hh => h34 hh.2.1) | exact bI_f' (fun hh => h46 hh.2.2)) ?_
    refine r_bipush (pc := 54) (v := (-6)) dX0_thing_54 (by decide) ?_
    refine r_s2 (pc := 56) (bc' := 2) (bs' := 10) (ct_X0_need _ _) k_X0_115 dX0_thing_56 (Nat.le_of_ble_eq_true rfl) ⟨Nat.le_of_ble_eq_true rfl, Nat.le_of_ble_eq_true rfl⟩ ⟨Nat.le_of_ble_eq_true rfl, Nat.le_of_ble_eq_true rfl⟩ (r_cv fun M56 p56 => ?_) (fun q E M9 h8 => by have h9 := And.intro (bI_eq0.mp h8.1) (hx.rf h8.2); obtain ⟨hn9, rfl, k9, w9, o9⟩ := h9; exact t_catch [] _ _ _ rfl (fun z hz => absurd hz List.not_mem_nil) rfl (by decide) q305 q389 ((hC M9 q _ _ k9 w9 (by decide) o9 (by unfold thingS; rw [cI_f (fun hh => hh.elim hy.1 hy.2), cI_t (tp_n hn9)])).loose (Nat.zero_le _) (Nat.zero_le _)))
    obtain ⟨hz, p56⟩ := p56
    have p56 := Eq.symm (show _ = _ from p56)
    subst p56
    rw [bI_ne0] at hz
    refine r_aload_n (pc := 59) dX0_thing_59 rfl ?_
    refine r_getR (pc := 60) dX0_thing_60 fl_X0_90_0 hx.1.2.1 (fun _ _ => rfl) hx.2.2.1.1 ?_
    refine r_getIe (pc := 63) (v := S.1 0 0) dX0_thing_63 fl_X0_104_3 hx.2.2.1.2.2.k (fun _ _ => rfl) hx.2.2.1.2.2.i4 ?_
    refine r_bipush (pc := 66) (v := 8) dX0_thing_66 (by decide) ?_
    refine r_icmp_ge (pc := 68) 75 dX0_thing_68 rfl (fun h68 => ?_) (fun h68 => ?_)
    · refine r_iconst (pc := 75) (v := 0) dX0_thing_75 (by decide) ?_
      refine r_eqi (bI (S.1 0 0 < 8)) (by first | exact bI_t' h68 | exact bI_f' h68) ?_
      refine r_bipush (pc := 76) (v := (-7)) dX0_thing_76 (by decide) ?_
      refine r_s2 (pc := 78) (bc' := 1) (bs' := 3) (ct_X0_need _ _) k_X0_115 dX0_thing_78 (Nat.le_of_ble_eq_true rfl) ⟨Nat.le_of_ble_eq_true rfl, Nat.le_of_ble_eq_true rfl⟩ ⟨Nat.le_of_ble_eq_true rfl, Nat.le_of_ble_eq_true rfl⟩ (r_cv fun M78 p78 => ?_) (fun q E M9 h8 => by have h9 := And.intro (bI_eq0.mp h8.1) (hx.rf h8.2); obtain ⟨hn9, rfl, k9, w9, o9⟩ := h9; exact t_catch [] _ _ _ rfl (fun z hz => absurd hz List.not_mem_nil) rfl (by decide) q305 q389 ((hC M9 q _ _ k9 w9 (by decide) o9 (by unfold thingS; rw [cI_f (fun hh => hh.elim hy.1 hy.2), cI_f (tp_y hz), cI_t (eq_8 hB.1.1 hn9)])).loose (Nat.zero_le _) (Nat.zero_le _)))
      obtain ⟨hv, p78⟩ := p78
      have p78 := Eq.symm (show _ = _ from p78)
      subst p78
      rw [bI_ne0] at hv
      refine r_aload_n (pc := 81) dX0_thing_81 rfl ?_
      refine r_getR (pc := 82) dX0_thing_82 fl_X0_90_0 hx.1.2.1 (fun _ _ => rfl) hx.2.2.1.1 ?_
      refine r_iload_n (pc := 85) dX0_thing_85 rfl ?_
      refine r_iload_n (pc := 86) dX0_thing_86 rfl ?_
      refine r_iload_n (pc := 87) dX0_thing_87 rfl ?_
      refine r_iload (pc := 88) dX0_thing_88 rfl ?_
      refine r_iconst (pc := 90) (v := (-1)) dX0_thing_90 (by decide) ?_
      refine r_o6 (pc := 91) (bc' := 0) (bs' := 0) (ct_X3_addThing hx.2.2.1.2.2 x1 x2 x3 x4 (-1) hB (ne_8 hv) (bd_in (lo := 0) (hi := 6) hy)) k_X0_207_3 dX0_thing_91 hx.2.2.1.2.2.k (Nat.le_of_ble_eq_true rfl) ⟨Nat.le_of_ble_eq_true rfl, Nat.le_of_ble_eq_true rfl⟩ ⟨Nat.le_of_ble_eq_true rfl, Nat.le_of_ble_eq_true rfl⟩ (r_cv fun M91 p91 => ?_) nox
      obtain ⟨w3, f3, g3⟩ := p91
      have hx1 := hx.world (S' := (thingsS S.1 x1 x2 x3 x4, S.2)) w3 f3 (fun s hs h2 => g3 _ (sh_ne hS.2.1 hs h2)) rfl (fun k hk => by show thingsS S.1 x1 x2 x3 x4 k = S.1 k; unfold thingsS; rw [up2_ne (by omega), up2_ne (by omega), up2_ne (by omega), up2_ne (by omega), up2_ne (by omega), up2_ne (by omega), up2_ne (by omega)])
      refine r_aload_n (pc := 94) dX0_thing_94 rfl ?_
      refine r_getR (pc := 95) dX0_thing_95 fl_X0_90_0 hx1.1.2.1 (fun _ _ => rfl) hx1.2.2.1.1 ?_
      refine r_getIe (pc := 98) (v := S.1 0 0 + 1) dX0_thing_98 fl_X0_104_3 hx1.2.2.1.2.2.k (fun _ _ => rfl) (hx1.2.2.1.2.2.i4.trans (by simp [thingsS, up2_ap])) ?_
      refine r_iconst (pc := 101) (v := 1) dX0_thing_101 (by decide) ?_
      refine r_isub (pc := 102) dX0_thing_102 ?_
      rw [Int32.add_sub_cancel]
      refine r_ireturn (pc := 103) rfl dX0_thing_103 ⟨_, rfl, ?_⟩
      exact (show oX xo mo Z (thingS S x1 x2 x3 x4) _ _ by rw [show thingS S x1 x2 x3 x4 = (S.1 0 0, (thingsS S.1 x1 x2 x3 x4, S.2)) by unfold thingS; rw [cI_f (fun hh => hh.elim hy.1 hy.2), cI_f (tp_y hz), cI_f (ne_8 hv)]]; exact ⟨rfl, wa, hx1⟩)
    · refine r_iconst (pc := 71) (v := 1) dX0_thing_71 (by decide) ?_
      refine r_goto (pc := 72) 76 dX0_thing_72 rfl ?_
      refine r_eqi (bI (S.1 0 0 < 8)) (by first | exact bI_t' h68 | exact bI_f' h68) ?_
      refine r_bipush (pc := 76) (v := (-7)) dX0_thing_76 (by decide) ?_
      refine r_s2 (pc := 78) (bc' := 1) (bs' := 3) (ct_X0_need _ _) k_X0_115 dX0_thing_78 (Nat.le_of_ble_eq_true rfl) ⟨Nat.le_of_ble_eq_true rfl, Nat.le_of_ble_eq_true rfl⟩ ⟨Nat.le_of_ble_eq_true rfl, Nat.le_of_ble_eq_true rfl⟩ (r_cv fun M78 p78 => ?_) (fun q E M9 h8 => by have h9 := And.intro (bI_eq0.mp h8.1) (hx.rf h8.2); obtain ⟨hn9, rfl, k9, w9, o9⟩ := h9; exact t_catch [] _ _ _ rfl (fun z hz => absurd hz List.not_mem_nil) rfl (by decide) q305 q389 ((hC M9 q _ _ k9 w9 (by decide) o9 (by unfold thingS; rw [cI_f (fun hh => hh.elim hy.1 hy.2), cI_f (tp_y hz), cI_t (eq_8 hB.1.1 hn9)])).loose (Nat.zero_le _) (Nat.zero_le _)))
      obtain ⟨hv, p78⟩ := p78
      have p78 := Eq.symm (show _ = _ from p78)
      subst p78
      rw [bI_ne0] at hv
      refine r_aload_n (pc := 81) dX0_thing_81 rfl ?_
      refine r_getR (pc := 82) dX0_thing_82 fl_X0_90_0 hx.1.2.1 (fun _ _ => rfl) hx.2.2.1.1 ?_
      refine r_iload_n (pc := 85) dX0_thing_85 rfl ?_
      refine r_iload_n (pc := 86) dX0_thing_86 rfl ?_
      refine r_iload_n (pc := 87) dX0_thing_87 rfl ?_
      refine r_iload (pc := 88) dX0_thing_88 rfl ?_
      refine r_iconst (pc := 90) (v := (-1)) dX0_thing_90 (by decide) ?_
      refine r_o6 (pc := 91) (bc' := 0) (bs' := 0) (ct_X3_addThing hx.2.2.1.2.2 x1 x2 x3 x4 (-1) hB (ne_8 hv) (bd_in (lo := 0) (hi := 6) hy)) k_X0_207_3 dX0_thing_91 hx.2.2.1.2.2.k (Nat.le_of_ble_eq_true rfl) ⟨Nat.le_of_ble_eq_true rfl, Nat.le_of_ble_eq_true rfl⟩ ⟨Nat.le_of_ble_eq_true rfl, Nat.le_of_ble_eq_true rfl⟩ (r_cv fun M91 p91 => ?_) nox
      obtain ⟨w3, f3, g3⟩ := p91
      have hx1 := hx.world (S' := (thingsS S.1 x1 x2 x3 x4, S.2)) w3 f3 (fun s hs h2 => g3 _ (sh_ne hS.2.1 hs h2)) rfl (fun k hk => by show thingsS S.1 x1 x2 x3 x4 k = S.1 k; unfold thingsS; rw [up2_ne (by omega), up2_ne (by omega), up2_ne (by omega), up2_ne (by omega), up2_ne (by omega), up2_ne (by omega), up2_ne (by omega)])
      refine r_aload_n (pc := 94) dX0_thing_94 rfl ?_
      refine r_getR (pc := 95) dX0_thing_95 fl_X0_90_0 hx1.1.2.1 (fun _ _ => rfl) hx1.2.2.1.1 ?_
      refine r_getIe (pc := 98) (v := S.1 0 0 + 1) dX0_thing_98 fl_X0_104_3 hx1.2.2.1.2.2.k (fun _ _ => rfl) (hx1.2.2.1.2.2.i4.trans (by simp [thingsS, up2_ap])) ?_
      refine r_iconst (pc := 101) (v := 1) dX0_thing_101 (by decide) ?_
      refine r_isub (pc := 102) dX0_thing_102 ?_
      rw [Int32.add_sub_cancel]
      refine r_ireturn (pc := 103) rfl dX0_thing_103 ⟨_, rfl, ?_⟩
      exact (show oX xo mo Z (thingS S x1 x2 x3 x4) _ _ by rw [show thingS S x1 x2 x3 x4 = (S.1 0 0, (thingsS S.1 x1 x2 x3 x4, S.2)) by unfold thingS; rw [cI_f (fun hh => hh.elim hy.1 hy.2), cI_f (tp_y hz), cI_f (ne_8 hv)]]; exact ⟨rfl, wa, hx1⟩)
  · rw [bI_ne0] at h22
    refine r_iload_n (pc := 25) dX0_thing_25 rfl ?_
    refine r_i2l (pc := 26) dX0_thing_26 ?_
    refine r_lconst (pc := 27) (v := 1) dX0_thing_27 (by decide) ?_
    refine r_ldc2 (pc := 28) dX0_thing_28 q704 ?_
    refine r_s3 (pc := 31) (bc' := 3) (bs' := 17) (ct_X0_in x3 1 9 rfl (by decide) (by decide)) k_X0_107 dX0_thing_31 (Nat.le_of_ble_eq_true rfl) ⟨Nat.le_of_ble_eq_true rfl, Nat.le_of_ble_eq_true rfl⟩ ⟨Nat.le_of_ble_eq_true rfl, Nat.le_of_ble_eq_true rfl⟩ (r_ci fun r31 M31 p31 => ?_) nox
    obtain ⟨rfl, p31⟩ := p31
    have p31 := Eq.symm (show _ = _ from p31)
    subst p31
    refine r_if_eq (pc := 34) 53 dX0_thing_34 rfl (fun h34 => ?_) (fun h34 => ?_)
    · rw [bI_eq0] at h34
      refine r_iconst (pc := 53) (v := 0) dX0_thing_53 (by decide) ?_
      refine r_eqi (bI ((¬ x2 < 1 ∧ ¬ 99 < x2) ∧ (¬ x3 < 1 ∧ ¬ 9 < x3) ∧ stepS S.1 x4)) (by first | exact bI_t' ⟨h22, h34, h46⟩ | exact bI_f' (fun hh => h22 hh.1) | exact bI_f' (fun hh => h34 hh.2.1) | exact bI_f' (fun hh => h46 hh.2.2)) ?_
      refine r_bipush (pc := 54) (v := (-6)) dX0_thing_54 (by decide) ?_
      refine r_s2 (pc := 56) (bc' := 2) (bs' := 10) (ct_X0_need _ _) k_X0_115 dX0_thing_56 (Nat.le_of_ble_eq_true rfl) ⟨Nat.le_of_ble_eq_true rfl, Nat.le_of_ble_eq_true rfl⟩ ⟨Nat.le_of_ble_eq_true rfl, Nat.le_of_ble_eq_true rfl⟩ (r_cv fun M56 p56 => ?_) (fun q E M9 h8 => by have h9 := And.intro (bI_eq0.mp h8.1) (hx.rf h8.2); obtain ⟨hn9, rfl, k9, w9, o9⟩ := h9; exact t_catch [] _ _ _ rfl (fun z hz => absurd hz List.not_mem_nil) rfl (by decide) q305 q389 ((hC M9 q _ _ k9 w9 (by decide) o9 (by unfold thingS; rw [cI_f (fun hh => hh.elim hy.1 hy.2), cI_t (tp_n hn9)])).loose (Nat.zero_le _) (Nat.zero_le _)))
      obtain ⟨hz, p56⟩ := p56
      have p56 := Eq.symm (show _ = _ from p56)
      subst p56
      rw [bI_ne0] at hz
      refine r_aload_n (pc := 59) dX0_thing_59 rfl ?_
      refine r_getR (pc := 60) dX0_thing_60 fl_X0_90_0 hx.1.2.1 (fun _ _ => rfl) hx.2.2.1.1 ?_
      refine r_getIe (pc := 63) (v := S.1 0 0) dX0_thing_63 fl_X0_104_3 hx.2.2.1.2.2.k (fun _ _ => rfl) hx.2.2.1.2.2.i4 ?_
      refine r_bipush (pc := 66) (v := 8) dX0_thing_66 (by decide) ?_
      refine r_icmp_ge (pc := 68) 75 dX0_thing_68 rfl (fun h68 => ?_) (fun h68 => ?_)
      · refine r_iconst (pc := 75) (v := 0) dX0_thing_75 (by decide) ?_
        refine r_eqi (bI (S.1 0 0 < 8)) (by first | exact bI_t' h68 | exact bI_f' h68) ?_
        refine r_bipush (pc := 76) (v := (-7)) dX0_thing_76 (by decide) ?_
        refine r_s2 (pc := 78) (bc' := 1) (bs' := 3) (ct_X0_need _ _) k_X0_115 dX0_thing_78 (Nat.le_of_ble_eq_true rfl) ⟨Nat.le_of_ble_eq_true rfl, Nat.le_of_ble_eq_true rfl⟩ ⟨Nat.le_of_ble_eq_true rfl, Nat.le_of_ble_eq_true rfl⟩ (r_cv fun M78 p78 => ?_) (fun q E M9 h8 => by have h9 := And.intro (bI_eq0.mp h8.1) (hx.rf h8.2); obtain ⟨hn9, rfl, k9, w9, o9⟩ := h9; exact t_catch [] _ _ _ rfl (fun z hz => absurd hz List.not_mem_nil) rfl (by decide) q305 q389 ((hC M9 q _ _ k9 w9 (by decide) o9 (by unfold thingS; rw [cI_f (fun hh => hh.elim hy.1 hy.2), cI_f (tp_y hz), cI_t (eq_8 hB.1.1 hn9)])).loose (Nat.zero_le _) (Nat.zero_le _)))
        obtain ⟨hv, p78⟩ := p78
        have p78 := Eq.symm (show _ = _ from p78)
        subst p78
        rw [bI_ne0] at hv
        refine r_aload_n (pc := 81) dX0_thing_81 rfl ?_
        refine r_getR (pc := 82) dX0_thing_82 fl_X0_90_0 hx.1.2.1 (fun _ _ => rfl) hx.2.2.1.1 ?_
        refine r_iload_n (pc := 85) dX0_thing_85 rfl ?_
        refine r_iload_n (pc := 86) dX0_thing_86 rfl ?_
        refine r_iload_n (pc := 87) dX0_thing_87 rfl ?_
        refine r_iload (pc := 88) dX0_thing_88 rfl ?_
        refine r_iconst (pc := 90) (v := (-1)) dX0_thing_90 (by decide) ?_
        refine r_o6 (pc := 91) (bc' := 0) (bs' := 0) (ct_X3_addThing hx.2.2.1.2.2 x1 x2 x3 x4 (-1) hB (ne_8 hv) (bd_in (lo := 0) (hi := 6) hy)) k_X0_207_3 dX0_thing_91 hx.2.2.1.2.2.k (Nat.le_of_ble_eq_true rfl) ⟨Nat.le_of_ble_eq_true rfl, Nat.le_of_ble_eq_true rfl⟩ ⟨Nat.le_of_ble_eq_true rfl, Nat.le_of_ble_eq_true rfl⟩ (r_cv fun M91 p91 => ?_) nox
        obtain ⟨w3, f3, g3⟩ := p91
        have hx1 := hx.world (S' := (thingsS S.1 x1 x2 x3 x4, S.2)) w3 f3 (fun s hs h2 => g3 _ (sh_ne hS.2.1 hs h2)) rfl (fun k hk => by show thingsS S.1 x1 x2 x3 x4 k = S.1 k; unfold thingsS; rw [up2_ne (by omega), up2_ne (by omega), up2_ne (by omega), up2_ne (by omega), up2_ne (by omega), up2_ne (by omega), up2_ne (by omega)])
        refine r_aload_n (pc := 94) dX0_thing_94 rfl ?_
        refine r_getR (pc := 95) dX0_thing_95 fl_X0_90_0 hx1.1.2.1 (fun _ _ => rfl) hx1.2.2.1.1 ?_
        refine r_getIe (pc := 98) (v := S.1 0 0 + 1) dX0_thing_98 fl_X0_104_3 hx1.2.2.1.2.2.k (fun _ _ => rfl) (hx1.2.2.1.2.2.i4.trans (by simp [thingsS, up2_ap])) ?_
        refine r_iconst (pc := 101) (v := 1) dX0_thing_101 (by decide) ?_
        refine r_isub (pc := 102) dX0_thing_102 ?_
        rw [Int32.add_sub_cancel]
        refine r_ireturn (pc := 103) rfl dX0_thing_103 ⟨_, rfl, ?_⟩
        exact (show oX xo mo Z (thingS S x1 x2 x3 x4) _ _ by rw [show thingS S x1 x2 x3 x4 = (S.1 0 0, (thingsS S.1 x1 x2 x3 x4, S.2)) by unfold thingS; rw [cI_f (fun hh => hh.elim hy.1 hy.2), cI_f (tp_y hz), cI_f (ne_8 hv)]]; exact ⟨rfl, wa, hx1⟩)
      · refine r_iconst (pc := 71) (v := 1) dX0_thing_71 (by decide) ?_
        refine r_goto (pc := 72) 76 dX0_thing_72 rfl ?_
        refine r_eqi (bI (S.1 0 0 < 8)) (by first | exact bI_t' h68 | exact bI_f' h68) ?_
        refine r_bipush (pc := 76) (v := (-7)) dX0_thing_76 (by decide) ?_
        refine r_s2 (pc := 78) (bc' := 1) (bs' := 3) (ct_X0_need _ _) k_X0_115 dX0_thing_78 (Nat.le_of_ble_eq_true rfl) ⟨Nat.le_of_ble_eq_true rfl, Nat.le_of_ble_eq_true rfl⟩ ⟨Nat.le_of_ble_eq_true rfl, Nat.le_of_ble_eq_true rfl⟩ (r_cv fun M78 p78 => ?_) (fun q E M9 h8 => by have h9 := And.intro (bI_eq0.mp h8.1) (hx.rf h8.2); obtain ⟨hn9, rfl, k9, w9, o9⟩ := h9; exact t_catch [] _ _ _ rfl (fun z hz => absurd hz List.not_mem_nil) rfl (by decide) q305 q389 ((hC M9 q _ _ k9 w9 (by decide) o9 (by unfold thingS; rw [cI_f (fun hh => hh.elim hy.1 hy.2), cI_f (tp_y hz), cI_t (eq_8 hB.1.1 hn9)])).loose (Nat.zero_le _) (Nat.zero_le _)))
        obtain ⟨hv, p78⟩ := p78
        have p78 := Eq.symm (show _ = _ from p78)
        subst p78
        rw [bI_ne0] at hv
        refine r_aload_n (pc := 81) dX0_thing_81 rfl ?_
        refine r_getR (pc := 82) dX0_thing_82 fl_X0_90_0 hx.1.2.1 (fun _ _ => rfl) hx.2.2.1.1 ?_
        refine r_iload_n (pc := 85) dX0_thing_85 rfl ?_
        refine r_iload_n (pc := 86) dX0_thing_86 rfl ?_
        refine r_iload_n (pc := 87) dX0_thing_87 rfl ?_
        refine r_iload (pc := 88) dX0_thing_88 rfl ?_
        refine r_iconst (pc := 90) (v := (-1)) dX0_thing_90 (by decide) ?_
        refine r_o6 (pc := 91) (bc' := 0) (bs' := 0) (ct_X3_addThing hx.2.2.1.2.2 x1 x2 x3 x4 (-1) hB (ne_8 hv) (bd_in (lo := 0) (hi := 6) hy)) k_X0_207_3 dX0_thing_91 hx.2.2.1.2.2.k (Nat.le_of_ble_eq_true rfl) ⟨Nat.le_of_ble_eq_true rfl, Nat.le_of_ble_eq_true rfl⟩ ⟨Nat.le_of_ble_eq_true rfl, Nat.le_of_ble_eq_true rfl⟩ (r_cv fun M91 p91 => ?_) nox
        obtain ⟨w3, f3, g3⟩ := p91
        have hx1 := hx.world (S' := (thingsS S.1 x1 x2 x3 x4, S.2)) w3 f3 (fun s hs h2 => g3 _ (sh_ne hS.2.1 hs h2)) rfl (fun k hk => by show thingsS S.1 x1 x2 x3 x4 k = S.1 k; unfold thingsS; rw [up2_ne (by omega), up2_ne (by omega), up2_ne (by omega), up2_ne (by omega), up2_ne (by omega), up2_ne (by omega), up2_ne (by omega)])
        refine r_aload_n (pc := 94) dX0_thing_94 rfl ?_
        refine r_getR (pc := 95) dX0_thing_95 fl_X0_90_0 hx1.1.2.1 (fun _ _ => rfl) hx1.2.2.1.1 ?_
        refine r_getIe (pc := 98) (v := S.1 0 0 + 1) dX0_thing_98 fl_X0_104_3 hx1.2.2.1.2.2.k (fun _ _ => rfl) (hx1.2.2.1.2.2.i4.trans (by simp [thingsS, up2_ap])) ?_
        refine r_iconst (pc := 101) (v := 1) dX0_thing_101 (by decide) ?_
        refine r_isub (pc := 102) dX0_thing_102 ?_
        rw [Int32.add_sub_cancel]
        refine r_ireturn (pc := 103) rfl dX0_thing_103 ⟨_, rfl, ?_⟩
        exact (show oX xo mo Z (thingS S x1 x2 x3 x4) _ _ by rw [show thingS S x1 x2 x3 x4 = (S.1 0 0, (thingsS S.1 x1 x2 x3 x4, S.2)) by unfold thingS; rw [cI_f (fun hh => hh.elim hy.1 hy.2), cI_f (tp_y hz), cI_f (ne_8 hv)]]; exact ⟨rfl, wa, hx1⟩)
    · rw [bI_ne0] at h34
      refine r_aload_n (pc := 37) dX0_thing_37 rfl ?_
      refine r_getR (pc := 38) dX0_thing_38 fl_X0_90_0 hx.1.2.1 (fun _ _ => rfl) hx.2.2.1.1 ?_
      refine r_iload (pc := 41) dX0_thing_41 rfl ?_
      refine r_o2 (pc := 43) (bc' := 3) (bs' := 17) (ct_X3_isStep hx.2.2.1.2.2 x4) k_X0_129_3 dX0_thing_43 hx.2.2.1.2.2.k (Nat.le_of_ble_eq_true rfl) ⟨Nat.le_of_ble_eq_true rfl, Nat.le_of_ble_eq_true rfl⟩ ⟨Nat.le_of_ble_eq_true rfl, Nat.le_of_ble_eq_true rfl⟩ (r_ci fun r43 M43 p43 => ?_) nox
      obtain ⟨rfl, p43⟩ := p43
      have p43 := Eq.symm (show _ = _ from p43)
      subst p43
      refine r_if_eq (pc := 46) 53 dX0_thing_46 rfl (fun h46 => ?_) (fun h46 => ?_)
      · rw [bI_eq0] at h46
        refine r_iconst (pc := 53) (v := 0) dX0_thing_53 (by decide) ?_
        refine r_eqi (bI ((¬ x2 < 1 ∧ ¬ 99 < x2) ∧ (¬ x3 < 1 ∧ ¬ 9 < x3) ∧ stepS S.1 x4)) (by first | exact bI_t' ⟨h22, h34, h46⟩ | exact bI_f' (fun hh => h22 hh.1) | exact bI_f' (fun hh => h34 hh.2.1) | exact bI_f' (fun hh => h46 hh.2.2)) ?_
        refine r_bipush (pc := 54) (v := (-6)) dX0_thing_54 (by decide) ?_
        refine r_s2 (pc := 56) (bc' := 2) (bs' := 10) (ct_X0_need _ _) k_X0_115 dX0_thing_56 (Nat.le_of_ble_eq_true rfl) ⟨Nat.le_of_ble_eq_true rfl, Nat.le_of_ble_eq_true rfl⟩ ⟨Nat.le_of_ble_eq_true rfl, Nat.le_of_ble_eq_true rfl⟩ (r_cv fun M56 p56 => ?_) (fun q E M9 h8 => by have h9 := And.intro (bI_eq0.mp h8.1) (hx.rf h8.2); obtain ⟨hn9, rfl, k9, w9, o9⟩ := h9; exact t_catch [] _ _ _ rfl (fun z hz => absurd hz List.not_mem_nil) rfl (by decide) q305 q389 ((hC M9 q _ _ k9 w9 (by decide) o9 (by unfold thingS; rw [cI_f (fun hh => hh.elim hy.1 hy.2), cI_t (tp_n hn9)])).loose (Nat.zero_le _) (Nat.zero_le _)))
        obtain ⟨hz, p56⟩ := p56
        have p56 := Eq.symm (show _ = _ from p56)
        subst p56
        rw [bI_ne0] at hz
        refine r_aload_n (pc := 59) dX0_thing_59 rfl ?_
        refine r_getR (pc := 60) dX0_thing_60 fl_X0_90_0 hx.1.2.1 (fun _ _ => rfl) hx.2.2.1.1 ?_
        refine r_getIe (pc := 63) (v := S.1 0 0) dX0_thing_63 fl_X0_104_3 hx.2.2.1.2.2.k (fun _ _ => rfl) hx.2.2.1.2.2.i4 ?_
        refine r_bipush (pc := 66) (v := 8) dX0_thing_66 (by decide) ?_
        refine r_icmp_ge (pc := 68) 75 dX0_thing_68 rfl (fun h68 => ?_) (fun h68 => ?_)
        · refine r_iconst (pc := 75) (v := 0) dX0_thing_75 (by decide) ?_
          refine r_eqi (bI (S.1 0 0 < 8)) (by first | exact bI_t' h68 | exact bI_f' h68) ?_
          refine r_bipush (pc := 76) (v := (-7)) dX0_thing_76 (by decide) ?_
          refine r_s2 (pc := 78) (bc' := 1) (bs' := 3) (ct_X0_need _ _) k_X0_115 dX0_thing_78 (Nat.le_of_ble_eq_true rfl) ⟨Nat.le_of_ble_eq_true rfl, Nat.le_of_ble_eq_true rfl⟩ ⟨Nat.le_of_ble_eq_true rfl, Nat.le_of_ble_eq_true rfl⟩ (r_cv fun M78 p78 => ?_) (fun q E M9 h8 => by have h9 := And.intro (bI_eq0.mp h8.1) (hx.rf h8.2); obtain ⟨hn9, rfl, k9, w9, o9⟩ := h9; exact t_catch [] _ _ _ rfl (fun z hz => absurd hz List.not_mem_nil) rfl (by decide) q305 q389 ((hC M9 q _ _ k9 w9 (by decide) o9 (by unfold thingS; rw [cI_f (fun hh => hh.elim hy.1 hy.2), cI_f (tp_y hz), cI_t (eq_8 hB.1.1 hn9)])).loose (Nat.zero_le _) (Nat.zero_le _)))
          obtain ⟨hv, p78⟩ := p78
          have p78 := Eq.symm (show _ = _ from p78)
          subst p78
          rw [bI_ne0] at hv
          refine r_aload_n (pc := 81) dX0_thing_81 rfl ?_
          refine r_getR (pc := 82) dX0_thing_82 fl_X0_90_0 hx.1.2.1 (fun _ _ => rfl) hx.2.2.1.1 ?_
          refine r_iload_n (pc := 85) dX0_thing_85 rfl ?_
          refine r_iload_n (pc := 86) dX0_thing_86 rfl ?_
          refine r_iload_n (pc := 87) dX0_thing_87 rfl ?_
          refine r_iload (pc := 88) dX0_thing_88 rfl ?_
          refine r_iconst (pc := 90) (v := (-1)) dX0_thing_90 (by decide) ?_
          refine r_o6 (pc := 91) (bc' := 0) (bs' := 0) (ct_X3_addThing hx.2.2.1.2.2 x1 x2 x3 x4 (-1) hB (ne_8 hv) (bd_in (lo := 0) (hi := 6) hy)) k_X0_207_3 dX0_thing_91 hx.2.2.1.2.2.k (Nat.le_of_ble_eq_true rfl) ⟨Nat.le_of_ble_eq_true rfl, Nat.le_of_ble_eq_true rfl⟩ ⟨Nat.le_of_ble_eq_true rfl, Nat.le_of_ble_eq_true rfl⟩ (r_cv fun M91 p91 => ?_) nox
          obtain ⟨w3, f3, g3⟩ := p91
          have hx1 := hx.world (S' := (thingsS S.1 x1 x2 x3 x4, S.2)) w3 f3 (fun s hs h2 => g3 _ (sh_ne hS.2.1 hs h2)) rfl (fun k hk => by show thingsS S.1 x1 x2 x3 x4 k = S.1 k; unfold thingsS; rw [up2_ne (by omega), up2_ne (by omega), up2_ne (by omega), up2_ne (by omega), up2_ne (by omega), up2_ne (by omega), up2_ne (by omega)])
          refine r_aload_n (pc := 94) dX0_thing_94 rfl ?_
          refine r_getR (pc := 95) dX0_thing_95 fl_X0_90_0 hx1.1.2.1 (fun _ _ => rfl) hx1.2.2.1.1 ?_
          refine r_getIe (pc := 98) (v := S.1 0 0 + 1) dX0_thing_98 fl_X0_104_3 hx1.2.2.1.2.2.k (fun _ _ => rfl) (hx1.2.2.1.2.2.i4.trans (by simp [thingsS, up2_ap])) ?_
          refine r_iconst (pc := 101) (v := 1) dX0_thing_101 (by decide) ?_
          refine r_isub (pc := 102) dX0_thing_102 ?_
          rw [Int32.add_sub_cancel]
          refine r_ireturn (pc := 103) rfl dX0_thing_103 ⟨_, rfl, ?_⟩
          exact (show oX xo mo Z (thingS S x1 x2 x3 x4) _ _ by rw [show thingS S x1 x2 x3 x4 = (S.1 0 0, (thingsS S.1 x1 x2 x3 x4, S.2)) by unfold thingS; rw [cI_f (fun hh => hh.elim hy.1 hy.2), cI_f (tp_y hz), cI_f (ne_8 hv)]]; exact ⟨rfl, wa, hx1⟩)
        · refine r_iconst (pc := 71) (v := 1) dX0_thing_71 (by decide) ?_
          refine r_goto (pc := 72) 76 dX0_thing_72 rfl ?_
          refine r_eqi (bI (S.1 0 0 < 8)) (by first | exact bI_t' h68 | exact bI_f' h68) ?_
          refine r_bipush (pc := 76) (v := (-7)) dX0_thing_76 (by decide) ?_
          refine r_s2 (pc := 78) (bc' := 1) (bs' := 3) (ct_X0_need _ _) k_X0_115 dX0_thing_78 (Nat.le_of_ble_eq_true rfl) ⟨Nat.le_of_ble_eq_true rfl, Nat.le_of_ble_eq_true rfl⟩ ⟨Nat.le_of_ble_eq_true rfl, Nat.le_of_ble_eq_true rfl⟩ (r_cv fun M78 p78 => ?_) (fun q E M9 h8 => by have h9 := And.intro (bI_eq0.mp h8.1) (hx.rf h8.2); obtain ⟨hn9, rfl, k9, w9, o9⟩ := h9; exact t_catch [] _ _ _ rfl (fun z hz => absurd hz List.not_mem_nil) rfl (by decide) q305 q389 ((hC M9 q _ _ k9 w9 (by decide) o9 (by unfold thingS; rw [cI_f (fun hh => hh.elim hy.1 hy.2), cI_f (tp_y hz), cI_t (eq_8 hB.1.1 hn9)])).loose (Nat.zero_le _) (Nat.zero_le _)))
          obtain ⟨hv, p78⟩ := p78
          have p78 := Eq.symm (show _ = _ from p78)
          subst p78
          rw [bI_ne0] at hv
          refine r_aload_n (pc := 81) dX0_thing_81 rfl ?_
          refine r_getR (pc := 82) dX0_thing_82 fl_X0_90_0 hx.1.2.1 (fun _ _ => rfl) hx.2.2.1.1 ?_
          refine r_iload_n (pc := 85) dX0_thing_85 rfl ?_
          refine r_iload_n (pc := 86) dX0_thing_86 rfl ?_
          refine r_iload_n (pc := 87) dX0_thing_87 rfl ?_
          refine r_iload (pc := 88) dX0_thing_88 rfl ?_
          refine r_iconst (pc := 90) (v := (-1)) dX0_thing_90 (by decide) ?_
          refine r_o6 (pc := 91) (bc' := 0) (bs' := 0) (ct_X3_addThing hx.2.2.1.2.2 x1 x2 x3 x4 (-1) hB (ne_8 hv) (bd_in (lo := 0) (hi := 6) hy)) k_X0_207_3 dX0_thing_91 hx.2.2.1.2.2.k (Nat.le_of_ble_eq_true rfl) ⟨Nat.le_of_ble_eq_true rfl, Nat.le_of_ble_eq_true rfl⟩ ⟨Nat.le_of_ble_eq_true rfl, Nat.le_of_ble_eq_true rfl⟩ (r_cv fun M91 p91 => ?_) nox
          obtain ⟨w3, f3, g3⟩ := p91
          have hx1 := hx.world (S' := (thingsS S.1 x1 x2 x3 x4, S.2)) w3 f3 (fun s hs h2 => g3 _ (sh_ne hS.2.1 hs h2)) rfl (fun k hk => by show thingsS S.1 x1 x2 x3 x4 k = S.1 k; unfold thingsS; rw [up2_ne (by omega), up2_ne (by omega), up2_ne (by omega), up2_ne (by omega), up2_ne (by omega), up2_ne (by omega), up2_ne (by omega)])
          refine r_aload_n (pc := 94) dX0_thing_94 rfl ?_
          refine r_getR (pc := 95) dX0_thing_95 fl_X0_90_0 hx1.1.2.1 (fun _ _ => rfl) hx1.2.2.1.1 ?_
          refine r_getIe (pc := 98) (v := S.1 0 0 + 1) dX0_thing_98 fl_X0_104_3 hx1.2.2.1.2.2.k (fun _ _ => rfl) (hx1.2.2.1.2.2.i4.trans (by simp [thingsS, up2_ap])) ?_
          refine r_iconst (pc := 101) (v := 1) dX0_thing_101 (by decide) ?_
          refine r_isub (pc := 102) dX0_thing_102 ?_
          rw [Int32.add_sub_cancel]
          refine r_ireturn (pc := 103) rfl dX0_thing_103 ⟨_, rfl, ?_⟩
          exact (show oX xo mo Z (thingS S x1 x2 x3 x4) _ _ by rw [show thingS S x1 x2 x3 x4 = (S.1 0 0, (thingsS S.1 x1 x2 x3 x4, S.2)) by unfold thingS; rw [cI_f (fun hh => hh.elim hy.1 hy.2), cI_f (tp_y hz), cI_f (ne_8 hv)]]; exact ⟨rfl, wa, hx1⟩)
      · rw [bI_ne0] at h46
        refine r_iconst (pc := 49) (v := 1) dX0_thing_49 (by decide) ?_
        refine r_goto (pc := 50) 54 dX0_thing_50 rfl ?_
        refine r_eqi (bI ((¬ x2 < 1 ∧ ¬ 99 < x2) ∧ (¬ x3 < 1 ∧ ¬ 9 < x3) ∧ stepS S.1 x4)) (by first | exact bI_t' ⟨h22, h34, h46⟩ | exact bI_f' (fun hh => h22 hh.1) | exact bI_f' (fun hh => h34 hh.2.1) | exact bI_f' (fun hh => h46 hh.2.2)) ?_
        refine r_bipush (pc := 54) (v := (-6)) dX0_thing_54 (by decide) ?_
        refine r_s2 (pc := 56) (bc' := 2) (bs' := 10) (ct_X0_need _ _) k_X0_115 dX0_thing_56 (Nat.le_of_ble_eq_true rfl) ⟨Nat.le_of_ble_eq_true rfl, Nat.le_of_ble_eq_true rfl⟩ ⟨Nat.le_of_ble_eq_true rfl, Nat.le_of_ble_eq_true rfl⟩ (r_cv fun M56 p56 => ?_) (fun q E M9 h8 => by have h9 := And.intro (bI_eq0.mp h8.1) (hx.rf h8.2); obtain ⟨hn9, rfl, k9, w9, o9⟩ := h9; exact t_catch [] _ _ _ rfl (fun z hz => absurd hz List.not_mem_nil) rfl (by decide) q305 q389 ((hC M9 q _ _ k9 w9 (by decide) o9 (by unfold thingS; rw [cI_f (fun hh => hh.elim hy.1 hy.2), cI_t (tp_n hn9)])).loose (Nat.zero_le _) (Nat.zero_le _)))
        obtain ⟨hz, p56⟩ := p56
        have p56 := Eq.symm (show _ = _ from p56)
        subst p56
        rw [bI_ne0] at hz
        refine r_aload_n (pc := 59) dX0_thing_59 rfl ?_
        refine r_getR (pc := 60) dX0_thing_60 fl_X0_90_0 hx.1.2.1 (fun _ _ => rfl) hx.2.2.1.1 ?_
        refine r_getIe (pc := 63) (v := S.1 0 0) dX0_thing_63 fl_X0_104_3 hx.2.2.1.2.2.k (fun _ _ => rfl) hx.2.2.1.2.2.i4 ?_
        refine r_bipush (pc := 66) (v := 8) dX0_thing_66 (by decide) ?_
        refine r_icmp_ge (pc := 68) 75 dX0_thing_68 rfl (fun h68 => ?_) (fun h68 => ?_)
        · refine r_iconst (pc := 75) (v := 0) dX0_thing_75 (by decide) ?_
          refine r_eqi (bI (S.1 0 0 < 8)) (by first | exact bI_t' h68 | exact bI_f' h68) ?_
          refine r_bipush (pc := 76) (v := (-7)) dX0_thing_76 (by decide) ?_
          refine r_s2 (pc := 78) (bc' := 1) (bs' := 3) (ct_X0_need _ _) k_X0_115 dX0_thing_78 (Nat.le_of_ble_eq_true rfl) ⟨Nat.le_of_ble_eq_true rfl, Nat.le_of_ble_eq_true rfl⟩ ⟨Nat.le_of_ble_eq_true rfl, Nat.le_of_ble_eq_true rfl⟩ (r_cv fun M78 p78 => ?_) (fun q E M9 h8 => by have h9 := And.intro (bI_eq0.mp h8.1) (hx.rf h8.2); obtain ⟨hn9, rfl, k9, w9, o9⟩ := h9; exact t_catch [] _ _ _ rfl (fun z hz => absurd hz List.not_mem_nil) rfl (by decide) q305 q389 ((hC M9 q _ _ k9 w9 (by decide) o9 (by unfold thingS; rw [cI_f (fun hh => hh.elim hy.1 hy.2), cI_f (tp_y hz), cI_t (eq_8 hB.1.1 hn9)])).loose (Nat.zero_le _) (Nat.zero_le _)))
          obtain ⟨hv, p78⟩ := p78
          have p78 := Eq.symm (show _ = _ from p78)
          subst p78
          rw [bI_ne0] at hv
          refine r_aload_n (pc := 81) dX0_thing_81 rfl ?_
          refine r_getR (pc := 82) dX0_thing_82 fl_X0_90_0 hx.1.2.1 (fun _ _ => rfl) hx.2.2.1.1 ?_
          refine r_iload_n (pc := 85) dX0_thing_85 rfl ?_
          refine r_iload_n (pc := 86) dX0_thing_86 rfl ?_
          refine r_iload_n (pc := 87) dX0_thing_87 rfl ?_
          refine r_iload (pc := 88) dX0_thing_88 rfl ?_
          refine r_iconst (pc := 90) (v := (-1)) dX0_thing_90 (by decide) ?_
          refine r_o6 (pc := 91) (bc' := 0) (bs' := 0) (ct_X3_addThing hx.2.2.1.2.2 x1 x2 x3 x4 (-1) hB (ne_8 hv) (bd_in (lo := 0) (hi := 6) hy)) k_X0_207_3 dX0_thing_91 hx.2.2.1.2.2.k (Nat.le_of_ble_eq_true rfl) ⟨Nat.le_of_ble_eq_true rfl, Nat.le_of_ble_eq_true rfl⟩ ⟨Nat.le_of_ble_eq_true rfl, Nat.le_of_ble_eq_true rfl⟩ (r_cv fun M91 p91 => ?_) nox
          obtain ⟨w3, f3, g3⟩ := p91
          have hx1 := hx.world (S' := (thingsS S.1 x1 x2 x3 x4, S.2)) w3 f3 (fun s hs h2 => g3 _ (sh_ne hS.2.1 hs h2)) rfl (fun k hk => by show thingsS S.1 x1 x2 x3 x4 k = S.1 k; unfold thingsS; rw [up2_ne (by omega), up2_ne (by omega), up2_ne (by omega), up2_ne (by omega), up2_ne (by omega), up2_ne (by omega), up2_ne (by omega)])
          refine r_aload_n (pc := 94) dX0_thing_94 rfl ?_
          refine r_getR (pc := 95) dX0_thing_95 fl_X0_90_0 hx1.1.2.1 (fun _ _ => rfl) hx1.2.2.1.1 ?_
          refine r_getIe (pc := 98) (v := S.1 0 0 + 1) dX0_thing_98 fl_X0_104_3 hx1.2.2.1.2.2.k (fun _ _ => rfl) (hx1.2.2.1.2.2.i4.trans (by simp [thingsS, up2_ap])) ?_
          refine r_iconst (pc := 101) (v := 1) dX0_thing_101 (by decide) ?_
          refine r_isub (pc := 102) dX0_thing_102 ?_
          rw [Int32.add_sub_cancel]
          refine r_ireturn (pc := 103) rfl dX0_thing_103 ⟨_, rfl, ?_⟩
          exact (show oX xo mo Z (thingS S x1 x2 x3 x4) _ _ by rw [show thingS S x1 x2 x3 x4 = (S.1 0 0, (thingsS S.1 x1 x2 x3 x4, S.2)) by unfold thingS; rw [cI_f (fun hh => hh.elim hy.1 hy.2), cI_f (tp_y hz), cI_f (ne_8 hv)]]; exact ⟨rfl, wa, hx1⟩)
        · refine r_iconst (pc := 71) (v := 1) dX0_thing_71 (by decide) ?_
          refine r_goto (pc := 72) 76 dX0_thing_72 rfl ?_
          refine r_eqi (bI (S.1 0 0 < 8)) (by first | exact bI_t' h68 | exact bI_f' h68) ?_
          refine r_bipush (pc := 76) (v := (-7)) dX0_thing_76 (by decide) ?_
          refine r_s2 (pc := 78) (bc' := 1) (bs' := 3) (ct_X0_need _ _) k_X0_115 dX0_thing_78 (Nat.le_of_ble_eq_true rfl) ⟨Nat.le_of_ble_eq_true rfl, Nat.le_of_ble_eq_true rfl⟩ ⟨Nat.le_of_ble_eq_true rfl, Nat.le_of_ble_eq_true rfl⟩ (r_cv fun M78 p78 => ?_) (fun q E M9 h8 => by have h9 := And.intro (bI_eq0.mp h8.1) (hx.rf h8.2); obtain ⟨hn9, rfl, k9, w9, o9⟩ := h9; exact t_catch [] _ _ _ rfl (fun z hz => absurd hz List.not_mem_nil) rfl (by decide) q305 q389 ((hC M9 q _ _ k9 w9 (by decide) o9 (by unfold thingS; rw [cI_f (fun hh => hh.elim hy.1 hy.2), cI_f (tp_y hz), cI_t (eq_8 hB.1.1 hn9)])).loose (Nat.zero_le _) (Nat.zero_le _)))
          obtain ⟨hv, p78⟩ := p78
          have p78 := Eq.symm (show _ = _ from p78)
          subst p78
          rw [bI_ne0] at hv
          refine r_aload_n (pc := 81) dX0_thing_81 rfl ?_
          refine r_getR (pc := 82) dX0_thing_82 fl_X0_90_0 hx.1.2.1 (fun _ _ => rfl) hx.2.2.1.1 ?_
          refine r_iload_n (pc := 85) dX0_thing_85 rfl ?_
          refine r_iload_n (pc := 86) dX0_thing_86 rfl ?_
          refine r_iload_n (pc := 87) dX0_thing_87 rfl ?_
          refine r_iload (pc := 88) dX0_thing_88 rfl ?_
          refine r_iconst (pc := 90) (v := (-1)) dX0_thing_90 (by decide) ?_
          refine r_o6 (pc := 91) (bc' := 0) (bs' := 0) (ct_X3_addThing hx.2.2.1.2.2 x1 x2 x3 x4 (-1) hB (ne_8 hv) (bd_in (lo := 0) (hi := 6) hy)) k_X0_207_3 dX0_thing_91 hx.2.2.1.2.2.k (Nat.le_of_ble_eq_true rfl) ⟨Nat.le_of_ble_eq_true rfl, Nat.le_of_ble_eq_true rfl⟩ ⟨Nat.le_of_ble_eq_true rfl, Nat.le_of_ble_eq_true rfl⟩ (r_cv fun M91 p91 => ?_) nox
          obtain ⟨w3, f3, g3⟩ := p91
          have hx1 := hx.world (S' := (thingsS S.1 x1 x2 x3 x4, S.2)) w3 f3 (fun s hs h2 => g3 _ (sh_ne hS.2.1 hs h2)) rfl (fun k hk => by show thingsS S.1 x1 x2 x3 x4 k = S.1 k; unfold thingsS; rw [up2_ne (by omega), up2_ne (by omega), up2_ne (by omega), up2_ne (by omega), up2_ne (by omega), up2_ne (by omega), up2_ne (by omega)])
          refine r_aload_n (pc := 94) dX0_thing_94 rfl ?_
          refine r_getR (pc := 95) dX0_thing_95 fl_X0_90_0 hx1.1.2.1 (fun _ _ => rfl) hx1.2.2.1.1 ?_
          refine r_getIe (pc := 98) (v := S.1 0 0 + 1) dX0_thing_98 fl_X0_104_3 hx1.2.2.1.2.2.k (fun _ _ => rfl) (hx1.2.2.1.2.2.i4.trans (by simp [thingsS, up2_ap])) ?_
          refine r_iconst (pc := 101) (v := 1) dX0_thing_101 (by decide) ?_
          refine r_isub (pc := 102) dX0_thing_102 ?_
          rw [Int32.add_sub_cancel]
          refine r_ireturn (pc := 103) rfl dX0_thing_103 ⟨_, rfl, ?_⟩
          exact (show oX xo mo Z (thingS S x1 x2 x3 x4) _ _ by rw [show thingS S x1 x2 x3 x4 = (S.1 0 0, (thingsS S.1 x1 x2 x3 x4, S.2)) by unfold thingS; rw [cI_f (fun hh => hh.elim hy.1 hy.2), cI_f (tp_y hz), cI_f (ne_8 hv)]]; exact ⟨rfl, wa, hx1⟩)
theorem lg_iff {σ : cS} {r v : Int32} (hF : ∀ v, ¬ v < r ↔ (¬ v < σ 5 0 ∧ (∀ t, t < Int32.toNatClampNeg (σ 0 0) → ¬ v < σ 14 t) ∧ ∀ t, t < Int32.toNatClampNeg (σ 2 0) → ¬ v < σ 20 t)) : (¬ v < (if 1 < r then r else 1) ∧ ¬ 99 < v) ↔ longP σ v := by
  rw [mx_iff, hF v]
  unfold longP
  constructor
  · rintro ⟨⟨a, b, c, d⟩, e⟩
    exact ⟨a, e, b, c, d⟩
  · rintro ⟨a, e, b, c, d⟩
    exact ⟨⟨a, b, c, d⟩, e⟩
theorem n01 {x : Int32} (h : ¬ (¬ x < 0 ∧ ¬ 1 < x)) : ¬ x = 0 ∧ ¬ x = 1 := ⟨fun e => h (by rw [e]; decide), fun e => h (by rw [e]; decide)⟩
theorem is1 {x : Int32} (h : ¬ x < 0 ∧ ¬ 1 < x) (h0 : ¬ x = 0) : x = 1 := by
  rw [i_lt, i_lt] at h
  rw [i_eq] at h0 ⊢
  have : (0 : Int32).toInt = 0 := by decide
  have : (1 : Int32).toInt = 1 := by decide
  omega
theorem ct_X0_ask {M : PM} {xo wa mo : Nat} {Z : PM} {S : ST} (hx : XO M xo wa mo Z S) (x1 x2 : Int32) (hS : OkS S.1) : Ct (YX0_ask, (5, 113, 2, 14), qi (fun r M' => oX xo mo Z (askS S x1 x2) r M'), noX) [.ref xo, .int x1, .int x2] M := by
  refine ct_ofH [some (.ref xo), some (.int x1), some (.int x2), none] rfl rfl (Nat.le_of_ble_eq_true rfl) rfl rfl ?_
  have hB := hS.1.t
  have hC : ∀ (M9 : PM) (q : Nat) (b : Int32) (o3 : Option Value), mK M9 q = (1, 6) → mI M9 q 6 = b → bd b (-7) (-1) → XO M9 xo wa mo Z S → askS S x1 x2 = noS S b → Wx (YX0_ask, (5, 113, 2, 14), qi (fun r M' => oX xo mo Z (askS S x1 x2) r M'), noX) 0 0 M9 92 [some (.ref xo), some (.int x1), some (.int x2), o3] [.ref q] := by
    intro M9 q b o3 h1 h2 h3 h4 h5
    refine r_astore3 (pc := 92) dX0_ask_92 rfl ?_
    refine r_aload_n (pc := 93) dX0_ask_93 rfl ?_
    refine r_aload_n (pc := 94) dX0_ask_94 rfl ?_
    refine r_o2 (pc := 95) (bc' := 0) (bs' := 0) (ct_X0_refused h4 h1 h2 h3) k_X0_173_0 dX0_ask_95 h4.1.2.1 (Nat.le_of_ble_eq_true rfl) ⟨Nat.le_of_ble_eq_true rfl, Nat.le_of_ble_eq_true rfl⟩ ⟨Nat.le_of_ble_eq_true rfl, Nat.le_of_ble_eq_true rfl⟩ (r_ci fun r95 M95 p95 => ?_) nox
    obtain ⟨rfl, h6⟩ := p95
    refine r_ireturn (pc := 98) rfl dX0_ask_98 ⟨_, rfl, ?_⟩
    exact (show oX xo mo Z (askS S x1 x2) _ _ by rw [h5]; exact ⟨rfl, wa, h6⟩)
  refine r_iload_n (pc := 0) dX0_ask_0 rfl ?_
  refine r_i2l (pc := 1) dX0_ask_1 ?_
  refine r_lconst (pc := 2) (v := 0) dX0_ask_2 (by decide) ?_
  refine r_lconst (pc := 3) (v := 1) dX0_ask_3 (by decide) ?_
  refine r_s3 (pc := 4) (bc' := 2) (bs' := 14) (ct_X0_in x1 0 1 rfl (by decide) (by decide)) k_X0_107 dX0_ask_4 (Nat.le_of_ble_eq_true rfl) ⟨Nat.le_of_ble_eq_true rfl, Nat.le_of_ble_eq_true rfl⟩ ⟨Nat.le_of_ble_eq_true rfl, Nat.le_of_ble_eq_true rfl⟩ (r_ci fun r4 M4 p4 => ?_) nox
  obtain ⟨rfl, p4⟩ := p4
  have p4 := Eq.symm (show _ = _ from p4)
  subst p4
  refine r_bipush (pc := 7) (v := (-6)) dX0_ask_7 (by decide) ?_
  refine r_s2 (pc := 9) (bc' := 1) (bs' := 7) (ct_X0_need _ _) k_X0_115 dX0_ask_9 (Nat.le_of_ble_eq_true rfl) ⟨Nat.le_of_ble_eq_true rfl, Nat.le_of_ble_eq_true rfl⟩ ⟨Nat.le_of_ble_eq_true rfl, Nat.le_of_ble_eq_true rfl⟩ (r_cv fun M9 p9 => ?_) (fun q E M9 h8 => by have h9 := And.intro (bI_eq0.mp h8.1) (hx.rf h8.2); obtain ⟨hn9, rfl, k9, w9, o9⟩ := h9; exact t_catch [] _ _ _ rfl (fun z hz => absurd hz List.not_mem_nil) rfl (by decide) q305 q389 ((hC M9 q _ _ k9 w9 (by decide) o9 (by unfold askS; rw [cI_f (fun hh => (n01 hn9).1 hh.1), cI_f (fun hh => (n01 hn9).2 hh.1)])).loose (Nat.zero_le _) (Nat.zero_le _)))
  obtain ⟨hy, p9⟩ := p9
  have p9 := Eq.symm (show _ = _ from p9)
  subst p9
  rw [bI_ne0] at hy
  refine r_iload_n (pc := 12) dX0_ask_12 rfl ?_
  refine r_if_ne (pc := 13) 60 dX0_ask_13 rfl (fun h13 => ?_) (fun h13 => ?_)
  · refine r_iload_n (pc := 60) dX0_ask_60 rfl ?_
    refine r_i2l (pc := 61) dX0_ask_61 ?_
    refine r_lconst (pc := 62) (v := 0) dX0_ask_62 (by decide) ?_
    refine r_ldc2 (pc := 63) dX0_ask_63 q704 ?_
    refine r_s3 (pc := 66) (bc' := 1) (bs' := 7) (ct_X0_in x2 0 9 rfl (by decide) (by decide)) k_X0_107 dX0_ask_66 (Nat.le_of_ble_eq_true rfl) ⟨Nat.le_of_ble_eq_true rfl, Nat.le_of_ble_eq_true rfl⟩ ⟨Nat.le_of_ble_eq_true rfl, Nat.le_of_ble_eq_true rfl⟩ (r_ci fun r66 M66 p66 => ?_) nox
    obtain ⟨rfl, p66⟩ := p66
    have p66 := Eq.symm (show _ = _ from p66)
    subst p66
    refine r_bipush (pc := 69) (v := (-6)) dX0_ask_69 (by decide) ?_
    refine r_s2 (pc := 71) (bc' := 0) (bs' := 0) (ct_X0_need _ _) k_X0_115 dX0_ask_71 (Nat.le_of_ble_eq_true rfl) ⟨Nat.le_of_ble_eq_true rfl, Nat.le_of_ble_eq_true rfl⟩ ⟨Nat.le_of_ble_eq_true rfl, Nat.le_of_ble_eq_true rfl⟩ (r_cv fun M71 p71 => ?_) (fun q E M9 h8 => by have h9 := And.intro (bI_eq0.mp h8.1) (hx.rf h8.2); obtain ⟨hn9, rfl, k9, w9, o9⟩ := h9; exact t_catch [] _ _ _ rfl (fun z hz => absurd hz List.not_mem_nil) rfl (by decide) q305 q389 ((hC M9 q _ _ k9 w9 (by decide) o9 (by unfold askS; rw [cI_f (fun hh => h13 hh.1), cI_f (fun hh => hn9 hh.2)])).loose (Nat.zero_le _) (Nat.zero_le _)))
    obtain ⟨hz, p71⟩ := p71
    have p71 := Eq.symm (show _ = _ from p71)
    subst p71
    rw [bI_ne0] at hz
    refine r_aload_n (pc := 74) dX0_ask_74 rfl ?_
    refine r_getR (pc := 75) dX0_ask_75 fl_X0_90_0 hx.1.2.1 (fun _ _ => rfl) hx.2.2.1.1 ?_
    refine r_getIe (pc := 78) (v := S.1 6 0) dX0_ask_78 fl_X0_237_3 hx.2.2.1.2.2.k (fun _ _ => rfl) hx.2.2.1.2.2.i3 ?_
    refine r_istore3 (pc := 81) dX0_ask_81 rfl ?_
    refine r_aload_n (pc := 82) dX0_ask_82 rfl ?_
    refine r_getR (pc := 83) dX0_ask_83 fl_X0_90_0 hx.1.2.1 (fun _ _ => rfl) hx.2.2.1.1 ?_
    refine r_iload_n (pc := 86) dX0_ask_86 rfl ?_
    refine r_putI (pc := 87) dX0_ask_87 fl_X0_237_3 hx.2.2.1.2.2.k rfl rfl ?_
    have hx1 := hx.world (S' := (up2 S.1 6 0 x2, S.2)) (WX.s6 hx.2.2.1.2.2) (frP.rf.sI fun _ => inW_0) (fun _ _ _ => rfl) rfl (fun k hk => up2_ne (by omega))
    have e9 : askS S x1 x2 = (S.1 6 0, (up2 S.1 6 0 x2, S.2)) := by unfold askS; rw [cI_f (fun hh => h13 hh.1), cI_t ⟨is1 hy h13, hz⟩]
    refine r_iload_n (pc := 90) dX0_ask_90 rfl ?_
    refine r_ireturn (pc := 91) rfl dX0_ask_91 ⟨_, rfl, ?_⟩
    exact (show oX xo mo Z (askS S x1 x2) _ _ by rw [e9]; exact ⟨rfl, wa, hx1⟩)
  · refine r_iload_n (pc := 16) dX0_ask_16 rfl ?_
    refine r_i2l (pc := 17) dX0_ask_17 ?_
    refine r_iconst (pc := 18) (v := 1) dX0_ask_18 (by decide) ?_
    refine r_aload_n (pc := 19) dX0_ask_19 rfl ?_
    refine r_getR (pc := 20) dX0_ask_20 fl_X0_90_0 hx.1.2.1 (fun _ _ => rfl) hx.2.2.1.1 ?_
    refine r_o1 (pc := 23) (bc' := 1) (bs' := 7) (ct_X3_farthest hx.2.2.1.2.2 hB) k_X0_225_3 dX0_ask_23 hx.2.2.1.2.2.k (Nat.le_of_ble_eq_true rfl) ⟨Nat.le_of_ble_eq_true rfl, Nat.le_of_ble_eq_true rfl⟩ ⟨Nat.le_of_ble_eq_true rfl, Nat.le_of_ble_eq_true rfl⟩ (r_ci fun r23 M23 p23 => ?_) nox
    obtain ⟨hF, p23⟩ := p23
    have p23 := Eq.symm (show _ = _ from p23)
    subst p23
    refine r_mmax (pc := 26) dX0_ask_26 q871 (Nat.le_of_ble_eq_true rfl) (Nat.le_of_ble_eq_true rfl) ?_
    refine r_i2l (pc := 29) dX0_ask_29 ?_
    refine r_ldc2 (pc := 30) dX0_ask_30 q703 ?_
    refine r_s3 (pc := 33) (bc' := 1) (bs' := 7) (ct_X0_in x2 _ 99 rfl rfl (by decide)) k_X0_107 dX0_ask_33 (Nat.le_of_ble_eq_true rfl) ⟨Nat.le_of_ble_eq_true rfl, Nat.le_of_ble_eq_true rfl⟩ ⟨Nat.le_of_ble_eq_true rfl, Nat.le_of_ble_eq_true rfl⟩ (r_ci fun r33 M33 p33 => ?_) nox
    obtain ⟨rfl, p33⟩ := p33
    have p33 := Eq.symm (show _ = _ from p33)
    subst p33
    refine r_bipush (pc := 36) (v := (-6)) dX0_ask_36 (by decide) ?_
    refine r_s2 (pc := 38) (bc' := 0) (bs' := 0) (ct_X0_need _ _) k_X0_115 dX0_ask_38 (Nat.le_of_ble_eq_true rfl) ⟨Nat.le_of_ble_eq_true rfl, Nat.le_of_ble_eq_true rfl⟩ ⟨Nat.le_of_ble_eq_true rfl, Nat.le_of_ble_eq_true rfl⟩ (r_cv fun M38 p38 => ?_) (fun q E M9 h8 => by have h9 := And.intro (bI_eq0.mp h8.1) (hx.rf h8.2); obtain ⟨hn9, rfl, k9, w9, o9⟩ := h9; exact t_catch [] _ _ _ rfl (fun z hz => absurd hz List.not_mem_nil) rfl (by decide) q305 q389 ((hC M9 q _ _ k9 w9 (by decide) o9 (by unfold askS; rw [cI_f (fun hh => hn9 ((lg_iff hF).mpr hh.2)), cI_f (fun hh => absurd (h13.symm.trans hh.1) (by decide))])).loose (Nat.zero_le _) (Nat.zero_le _)))
    obtain ⟨hz, p38⟩ := p38
    have p38 := Eq.symm (show _ = _ from p38)
    subst p38
    rw [bI_ne0] at hz
    refine r_aload_n (pc := 41) dX0_ask_41 rfl ?_
    refine r_getR (pc := 42) dX0_ask_42 fl_X0_90_0 hx.1.2.1 (fun _ _ => rfl) hx.2.2.1.1 ?_
    refine r_getIe (pc := 45) (v := S.1 3 0) dX0_ask_45 fl_X0_234_3 hx.2.2.1.2.2.k (fun _ _ => rfl) hx.2.2.1.2.2.i0 ?_
    refine r_istore3 (pc := 48) dX0_ask_48 rfl ?_
    refine r_aload_n (pc := 49) dX0_ask_49 rfl ?_
    refine r_getR (pc := 50) dX0_ask_50 fl_X0_90_0 hx.1.2.1 (fun _ _ => rfl) hx.2.2.1.1 ?_
    refine r_iload_n (pc := 53) dX0_ask_53 rfl ?_
    refine r_putI (pc := 54) dX0_ask_54 fl_X0_234_3 hx.2.2.1.2.2.k rfl rfl ?_
    have hx1 := hx.world (S' := (up2 S.1 3 0 x2, S.2)) (WX.s3 hx.2.2.1.2.2) (frP.rf.sI fun _ => inW_0) (fun _ _ _ => rfl) rfl (fun k hk => up2_ne (by omega))
    have e9 : askS S x1 x2 = (S.1 3 0, (up2 S.1 3 0 x2, S.2)) := by unfold askS; rw [cI_t ⟨h13, (lg_iff hF).mp hz⟩]
    refine r_goto (pc := 57) 90 dX0_ask_57 rfl ?_
    refine r_iload_n (pc := 90) dX0_ask_90 rfl ?_
    refine r_ireturn (pc := 91) rfl dX0_ask_91 ⟨_, rfl, ?_⟩
    exact (show oX xo mo Z (askS S x1 x2) _ _ by rw [e9]; exact ⟨rfl, wa, hx1⟩)
