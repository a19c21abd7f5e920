/-! RULES of the X side: stores of references, statics; Throwable, Refused, need, in, Math (printed by gen/mk_x42.py) -/
set_option maxRecDepth 100000
section
variable {G : GT} {bc bs : Nat} {M : PM} {pc : Nat} {ls : List (Option Value)} {st : List Value}
theorem r_aast {a v t n c : Nat} {i : Int32} (q : vw_C) (C : String) (d : decode (gc G) pc = .ok (.aastore, 1)) (hK : mK M a = (2, t)) (ht : atX[t]? = some (.object C)) (hz : mZ M a = n) (hv : mK M v = (1, c)) (hq : clX[c]? = some q) (hca : q.1 = C ∨ Cond.castable q.1 C ∈ lw_tbl) (hin : vp_in i n) (kk : Wx G bc bs (sR M a i.toNatClampNeg (some v)) (pc + 1) ls st) : Wx G bc bs M pc ls (.ref v :: .int i :: .ref a :: st) := by
  intro Ω l p e s m args below meth c0 F H locs cells slots lsr hR hS hl h1 h2
  obtain ⟨hb, ty, hty, hc⟩ := hR.ar hK
  cases ht.symm.trans hty
  subst hz
  obtain ⟨hx, hcc, -, -, -, hown, hts, hCx, -⟩ := id F
  obtain ⟨kA, comp, k1, k2, k3, -⟩ := arrRA hCx ht
  obtain ⟨cell, g1, g2, g3⟩ := hR.recv hCx hv hq
  obtain ⟨kE, hkE, -⟩ := Vm.findClass_spec k3
  obtain ⟨kC, hkC, -⟩ := Vm.findClass_spec g3
  have hasg : s.vm.assignable cell.cls comp = true := by
    rcases hca with h9 | h9
    · rw [h9] at g3
      cases Option.some.inj (g3.symm.trans k3)
      exact va_asg _ _
    · obtain ⟨c1, t1, f1, f2, f3⟩ := Cond.castable_spec (va_Nw.use (A := args) rfl (hCx.2.2.2.1 _ h9 rfl))
      cases g3.symm.trans f1
      cases k3.symm.trans f2
      exact f3
  refine W.aast hx hcc hc (fun q h => by cases h) (fun h => by cases h) k1 k2 rfl hkE ⟨fun q => hin (Or.inl q), by rw [arrV_size]; exact vp_in_lt hin⟩ g1 (VmData.noStatics_of g2) hkC hasg rfl rfl d fun H1 e1 z oq => ?_
  refine kk Ω l p e s m args below meth c0 F H1 _ cells slots lsr (hR.aput (M' := sR M a i.toNatClampNeg (some v)) hK hty z oq rfl rfl rfl (fun _ _ => rfl) (fun _ _ => rfl) (fun q hq => up2_ne hq) ?_) (hS.put z oq hb) hl h1 h2
  rw [e1, arrV_store]
  congr 2
  funext k
  show updV _ i.toNatClampNeg (.ref v) k = va_rf (up2 (mR M) a i.toNatClampNeg (some v) a k)
  rw [up2_self]
  by_cases hk : k = i.toNatClampNeg
  · subst hk; simp [updV, va_up, va_rf]
  · simp [updV, va_up, hk, evV]
/-- a reference or null, whichever -/
theorem r_putQ {a c k idx : Nat} {o : Option Nat} (d : decode (gc G) pc = .ok (.putfield idx, 3)) (h : FL (gy G).cls idx c k) (hK : mK M a = (1, c)) (hfin : (finX c k).map (·.1) = some false) (hty : isRT (ftX c k) = true) (kk : Wx G bc bs (sR M a k o) (pc + 3) ls st) : Wx G bc bs M pc ls (va_rf o :: .ref a :: st) := r_put _ d h hK hfin (isRT_nar hty o).1 (isRT_nar hty o).2 (fset_r (v := o) (isRT_fv hty)) kk
theorem r_getsZ {idx : Nat} (nm ds : String) (hz : (nm = "UNASSIGNED_STACK" ∧ ds = Bundle.steD) ∨ (nm = "SUPPRESSED_SENTINEL" ∧ ds = Bundle.listD)) (d : decode (gc G) pc = .ok (.getstatic idx, 3)) (hlk : Cond.fieldLink (gy G).cls idx Bundle.tN nm ds ∈ lw_all) (kk : ∀ o : Option Nat, Wx G bc bs M (pc + 3) ls (va_rf o :: st)) : Wx G bc bs M pc ls st := by
  intro Ω l p e s m args below meth c F H locs cells slots lsr hR hS hl h1 h2
  have hZ : va_Zq Bundle.tN nm ds (Fr Ω) s s.heap := by
    rcases hz with ⟨rfl, rfl⟩ | ⟨rfl, rfl⟩
    · exact F.2.2.2.2.2.2.2.1.2.2.1.1.1
    · exact F.2.2.2.2.2.2.2.1.2.2.1.2.1
  rcases hZ with hZ | ⟨t, hZ⟩
  · exact va_gets F.1 F.2.1 hZ hS F.2.2.2.2.2.1 (F.2.2.2.2.2.2.1 _ hlk) (fun _ h => h) d (kk none Ω l p e s m args below meth c F H locs cells slots lsr hR hS hl h1 h2)
  · exact va_gets F.1 F.2.1 hZ hS F.2.2.2.2.2.1 (F.2.2.2.2.2.2.1 _ hlk) (fun _ h => h) d (kk (some t) Ω l p e s m args below meth c F H locs cells slots lsr hR hS hl h1 h2)
end
theorem PM_ext {M M' : PM} (h1 : M.1 = M'.1) (h2 : mK M = mK M') (h3 : mZ M = mZ M') (h4 : mI M = mI M') (h5 : mL M = mL M') (h6 : mR M = mR M') : M = M' := by
  obtain ⟨a, b, c, d, e, f⟩ := M
  obtain ⟨a', b', c', d', e', f'⟩ := M'
  simp only [mK, mZ, mI, mL, mR] at *
  subst h1; subst h2; subst h3; subst h4; subst h5; subst h6
  rfl
theorem fl_J0_7_6 : FL "java/lang/Throwable" 7 6 0 := fl_own (RX6, TX6, 7) rfl (by decide) q347
theorem fl_J0_17_6 : FL "java/lang/Throwable" 17 6 1 := fl_own (RX6, TX6, 7) rfl (by decide) q348
theorem fl_J0_24_6 : FL "java/lang/Throwable" 24 6 2 := fl_own (RX6, TX6, 7) rfl (by decide) q349
theorem fl_J0_31_6 : FL "java/lang/Throwable" 31 6 3 := fl_own (RX6, TX6, 7) rfl (by decide) q346
theorem k_J1_16_6 : Cs "java/lang/Exception" (.invokespecial 16) 5 (some 6) YJ0_init_3 := cs_I (Y := YJ0_init_3) rfl q404 q85 q402 q403 ⟨by decide +kernel, by decide +kernel, by decide +kernel, by decide +kernel⟩
theorem fl_J0_7_20 : FL "java/lang/Throwable" 7 20 0 := fl_own (RX20, TX20, 7) rfl (by decide) q347
theorem fl_J0_17_20 : FL "java/lang/Throwable" 17 20 1 := fl_own (RX20, TX20, 7) rfl (by decide) q348
theorem fl_J0_24_20 : FL "java/lang/Throwable" 24 20 2 := fl_own (RX20, TX20, 7) rfl (by decide) q349
theorem fl_J0_31_20 : FL "java/lang/Throwable" 31 20 3 := fl_own (RX20, TX20, 7) rfl (by decide) q346
theorem k_J1_16_20 : Cs "java/lang/Exception" (.invokespecial 16) 5 (some 20) YJ0_init_3 := cs_I (Y := YJ0_init_3) rfl q404 q85 q402 q403 ⟨by decide +kernel, by decide +kernel, by decide +kernel, by decide +kernel⟩
theorem ct_J0_init3_6 {M : PM} {a : Nat} (hK : mK M a = (1, 6)) (hR : ∀ k, mR M a k = none) : Ct (YJ0_init_3, (1, 20, 0, 0), qv (fun M' => M' = M), noX) [.ref a, .null, .null, .int 0, .int 0] M := by
  refine ct_of [some (.ref a), some .null, some .null, some (.int 0), some (.int 0)] rfl rfl rfl (Nat.le_of_ble_eq_true rfl) rfl rfl ?_
  refine r_aload_n (pc := 0) dJ0_init_3_0 rfl ?_
  refine r_objInit (pc := 1) dJ0_init_3_1 q326 q120 q121 (Nat.le_of_ble_eq_true rfl) (Nat.le_of_ble_eq_true rfl) ?_
  refine r_aload_n (pc := 4) dJ0_init_3_4 rfl ?_
  refine r_aload_n (pc := 5) dJ0_init_3_5 rfl ?_
  refine r_putR (pc := 6) dJ0_init_3_6 fl_J0_7_6 hK rfl rfl ?_
  refine r_aload_n (pc := 9) dJ0_init_3_9 rfl ?_
  refine r_getsZ (pc := 10) _ _ (Or.inl ⟨rfl, rfl⟩) dJ0_init_3_10 q327 (fun o1 => ?_)
  refine r_putQ (pc := 13) dJ0_init_3_13 fl_J0_17_6 hK rfl rfl ?_
  refine r_aload_n (pc := 16) dJ0_init_3_16 rfl ?_
  refine r_getsZ (pc := 17) _ _ (Or.inr ⟨rfl, rfl⟩) dJ0_init_3_17 q329 (fun o2 => ?_)
  refine r_putQ (pc := 20) dJ0_init_3_20 fl_J0_24_6 hK rfl rfl ?_
  refine r_iload (pc := 23) dJ0_init_3_23 rfl ?_
  refine r_if_eq (pc := 25) 36 dJ0_init_3_25 rfl (fun _ => ?_) (fun hno => absurd hno (by decide))
  refine r_aload_n (pc := 36) dJ0_init_3_36 rfl ?_
  refine r_null (pc := 37) dJ0_init_3_37 ?_
  refine r_putN (pc := 38) dJ0_init_3_38 fl_J0_17_6 hK rfl rfl ?_
  refine r_aload_n (pc := 41) dJ0_init_3_41 rfl ?_
  refine r_aloadN_n (pc := 42) dJ0_init_3_42 rfl ?_
  refine r_putN (pc := 43) dJ0_init_3_43 fl_J0_31_6 hK rfl rfl ?_
  refine r_aload_n (pc := 46) dJ0_init_3_46 rfl ?_
  refine r_aloadN_n (pc := 47) dJ0_init_3_47 rfl ?_
  refine r_putN (pc := 48) dJ0_init_3_48 fl_J0_7_6 hK rfl rfl ?_
  refine r_iload_n (pc := 51) dJ0_init_3_51 rfl ?_
  refine r_if_ne (pc := 52) 60 dJ0_init_3_52 rfl (fun hno => absurd hno (by decide)) (fun _ => ?_)
  refine r_aload_n (pc := 55) dJ0_init_3_55 rfl ?_
  refine r_null (pc := 56) dJ0_init_3_56 ?_
  refine r_putN (pc := 57) dJ0_init_3_57 fl_J0_24_6 hK rfl rfl ?_
  refine r_return (pc := 60) rfl dJ0_init_3_60 ⟨rfl, ?_⟩
  refine PM_ext rfl rfl rfl rfl rfl ?_
  funext b k
  show up2 (up2 (up2 (up2 (up2 (up2 (up2 (mR M) a 0 (some a)) a 1 o1) a 2 o2) a 1 none) a 3 none) a 0 none) a 2 none b k = mR M b k
  simp only [up2_ap]
  by_cases hb : b = a
  · subst hb; simp only [if_true, hR]; by_cases k0 : k = 0 <;> by_cases k1 : k = 1 <;> by_cases k2 : k = 2 <;> by_cases k3 : k = 3 <;> simp [k0, k1, k2, k3]
  · simp only [hb, if_false]
theorem ct_J1_init2_6 {M : PM} {a : Nat} (hK : mK M a = (1, 6)) (hR : ∀ k, mR M a k = none) : Ct (YJ1_init_2, (2, 44, 0, 0), qv (fun M' => M' = M), noX) [.ref a, .null, .null, .int 0, .int 0] M := by
  refine ct_of [some (.ref a), some .null, some .null, some (.int 0), some (.int 0)] rfl rfl rfl (Nat.le_of_ble_eq_true rfl) rfl rfl ?_
  refine r_aload_n (pc := 0) dJ1_init_2_0 rfl ?_
  refine r_aloadN_n (pc := 1) dJ1_init_2_1 rfl ?_
  refine r_aloadN_n (pc := 2) dJ1_init_2_2 rfl ?_
  refine r_iload_n (pc := 3) dJ1_init_2_3 rfl ?_
  refine r_iload (pc := 4) dJ1_init_2_4 rfl ?_
  refine r_o5 (pc := 6) (bc' := 0) (bs' := 0) (ct_J0_init3_6 hK hR) k_J1_16_6 dJ1_init_2_6 hK (Nat.le_of_ble_eq_true rfl) ⟨Nat.le_of_ble_eq_true rfl, Nat.le_of_ble_eq_true rfl⟩ ⟨Nat.le_of_ble_eq_true rfl, Nat.le_of_ble_eq_true rfl⟩ (r_cv fun M6 p6 => ?_) nox
  have p6 : _ = _ := p6
  subst p6
  refine r_return (pc := 9) rfl dJ1_init_2_9 ⟨rfl, ?_⟩
  rfl
theorem ct_X6_init {M : PM} {a : Nat} (x1 : Int32) (hK : mK M a = (1, 6)) (hR : ∀ k, mR M a k = none) : Ct (YX6_init, (3, 68, 0, 0), qv (fun M' => M' = sI M a 6 x1), noX) [.ref a, .int x1] M := by
  refine ct_of [some (.ref a), some (.int x1)] rfl rfl rfl (Nat.le_of_ble_eq_true rfl) rfl rfl ?_
  refine r_aload_n (pc := 0) dX6_init_0 rfl ?_
  refine r_null (pc := 1) dX6_init_1 ?_
  refine r_null (pc := 2) dX6_init_2 ?_
  refine r_iconst (pc := 3) (v := 0) dX6_init_3 (by decide) ?_
  refine r_iconst (pc := 4) (v := 0) dX6_init_4 (by decide) ?_
  refine r_o5 (pc := 5) (bc' := 0) (bs' := 0) (ct_J1_init2_6 hK hR) k_X6_1_6 dX6_init_5 hK (Nat.le_of_ble_eq_true rfl) ⟨Nat.le_of_ble_eq_true rfl, Nat.le_of_ble_eq_true rfl⟩ ⟨Nat.le_of_ble_eq_true rfl, Nat.le_of_ble_eq_true rfl⟩ (r_cv fun M5 p5 => ?_) nox
  have p5 : _ = _ := p5
  subst p5
  refine r_aload_n (pc := 8) dX6_init_8 rfl ?_
  refine r_iload_n (pc := 9) dX6_init_9 rfl ?_
  refine r_putFI (pc := 10) dX6_init_10 fl_X6_7_6 hK rfl rfl rfl ?_
  refine r_return (pc := 13) rfl dX6_init_13 ⟨rfl, ?_⟩
  rfl
theorem ct_J0_init3_20 {M : PM} {a : Nat} (hK : mK M a = (1, 20)) (hR : ∀ k, mR M a k = none) : Ct (YJ0_init_3, (1, 20, 0, 0), qv (fun M' => M' = M), noX) [.ref a, .null, .null, .int 0, .int 0] M := by
  refine ct_of [some (.ref a), some .null, some .null, some (.int 0), some (.int 0)] rfl rfl rfl (Nat.le_of_ble_eq_true rfl) rfl rfl ?_
  refine r_aload_n (pc := 0) dJ0_init_3_0 rfl ?_
  refine r_objInit (pc := 1) dJ0_init_3_1 q326 q120 q121 (Nat.le_of_ble_eq_true rfl) (Nat.le_of_ble_eq_true rfl) ?_
  refine r_aload_n (pc := 4) dJ0_init_3_4 rfl ?_
  refine r_aload_n (pc := 5) dJ0_init_3_5 rfl ?_
  refine r_putR (pc := 6) dJ0_init_3_6 fl_J0_7_20 hK rfl rfl ?_
  refine r_aload_n (pc := 9) dJ0_init_3_9 rfl ?_
  refine r_getsZ (pc := 10) _ _ (Or.inl ⟨rfl, rfl⟩) dJ0_init_3_10 q327 (fun o1 => ?_)
  refine r_putQ (pc := 13) dJ0_init_3_13 fl_J0_17_20 hK rfl rfl ?_
  refine r_aload_n (pc := 16) dJ0_init_3_16 rfl ?_
  refine r_getsZ (pc := 17) _ _ (Or.inr ⟨rfl, rfl⟩) dJ0_init_3_17 q329 (fun o2 => ?_)
  refine r_putQ (pc := 20) dJ0_init_3_20 fl_J0_24_20 hK rfl rfl ?_
  refine r_iload (pc := 23) dJ0_init_3_23 rfl ?_
  refine r_if_eq (pc := 25) 36 dJ0_init_3_25 rfl (fun _ => ?_) (fun hno => absurd hno (by decide))
  refine r_aload_n (pc := 36) dJ0_init_3_36 rfl ?_
  refine r_null (pc := 37) dJ0_init_3_37 ?_
  refine r_putN (pc := 38) dJ0_init_3_38 fl_J0_17_20 hK rfl rfl ?_
  refine r_aload_n (pc := 41) dJ0_init_3_41 rfl ?_
  refine r_aloadN_n (pc := 42) dJ0_init_3_42 rfl ?_
  refine r_putN (pc := 43) dJ0_init_3_43 fl_J0_31_20 hK rfl rfl ?_
  refine r_aload_n (pc := 46) dJ0_init_3_46 rfl ?_
  refine r_aloadN_n (pc := 47) dJ0_init_3_47 rfl ?_
  refine r_putN (pc := 48) dJ0_init_3_48 fl_J0_7_20 hK rfl rfl ?_
  refine r_iload_n (pc := 51) dJ0_init_3_51 rfl ?_
  refine r_if_ne (pc := 52) 60 dJ0_init_3_52 rfl (fun hno => absurd hno (by decide)) (fun _ => ?_)
  refine r_aload_n (pc := 55) dJ0_init_3_55 rfl ?_
  refine r_null (pc := 56) dJ0_init_3_56 ?_
  refine r_putN (pc := 57) dJ0_init_3_57 fl_J0_24_20 hK rfl rfl ?_
  refine r_return (pc := 60) rfl dJ0_init_3_60 ⟨rfl, ?_⟩
  refine PM_ext rfl rfl rfl rfl rfl ?_
  funext b k
  show up2 (up2 (up2 (up2 (up2 (up2 (up2 (mR M) a 0 (some a)) a 1 o1) a 2 o2) a 1 none) a 3 none) a 0 none) a 2 none b k = mR M b k
  simp only [up2_ap]
  by_cases hb : b = a
  · subst hb; simp only [if_true, hR]; by_cases k0 : k = 0 <;> by_cases k1 : k = 1 <;> by_cases k2 : k = 2 <;> by_cases k3 : k = 3 <;> simp [k0, k1, k2, k3]
  · simp only [hb, if_false]
theorem ct_J1_init2_20 {M : PM} {a : Nat} (hK : mK M a = (1, 20)) (hR : ∀ k, mR M a k = none) : Ct (YJ1_init_2, (2, 44, 0, 0), qv (fun M' => M' = M), noX) [.ref a, .null, .null, .int 0, .int 0] M := by
  refine ct_of [some (.ref a), some .null, some .null, some (.int 0), some (.int 0)] rfl rfl rfl (Nat.le_of_ble_eq_true rfl) rfl rfl ?_
  refine r_aload_n (pc := 0) dJ1_init_2_0 rfl ?_
  refine r_aloadN_n (pc := 1) dJ1_init_2_1 rfl ?_
  refine r_aloadN_n (pc := 2) dJ1_init_2_2 rfl ?_
  refine r_iload_n (pc := 3) dJ1_init_2_3 rfl ?_
  refine r_iload (pc := 4) dJ1_init_2_4 rfl ?_
  refine r_o5 (pc := 6) (bc' := 0) (bs' := 0) (ct_J0_init3_20 hK hR) k_J1_16_20 dJ1_init_2_6 hK (Nat.le_of_ble_eq_true rfl) ⟨Nat.le_of_ble_eq_true rfl, Nat.le_of_ble_eq_true rfl⟩ ⟨Nat.le_of_ble_eq_true rfl, Nat.le_of_ble_eq_true rfl⟩ (r_cv fun M6 p6 => ?_) nox
  have p6 : _ = _ := p6
  subst p6
  refine r_return (pc := 9) rfl dJ1_init_2_9 ⟨rfl, ?_⟩
  rfl
theorem ct_X20_init {M : PM} {a : Nat} (x1 : Int32) (hK : mK M a = (1, 20)) (hR : ∀ k, mR M a k = none) : Ct (YX20_init, (3, 68, 0, 0), qv (fun M' => M' = sI M a 6 x1), noX) [.ref a, .int x1] M := by
  refine ct_of [some (.ref a), some (.int x1)] rfl rfl rfl (Nat.le_of_ble_eq_true rfl) rfl rfl ?_
  refine r_aload_n (pc := 0) dX20_init_0 rfl ?_
  refine r_null (pc := 1) dX20_init_1 ?_
  refine r_null (pc := 2) dX20_init_2 ?_
  refine r_iconst (pc := 3) (v := 0) dX20_init_3 (by decide) ?_
  refine r_iconst (pc := 4) (v := 0) dX20_init_4 (by decide) ?_
  refine r_o5 (pc := 5) (bc' := 0) (bs' := 0) (ct_J1_init2_20 hK hR) k_X20_1_20 dX20_init_5 hK (Nat.le_of_ble_eq_true rfl) ⟨Nat.le_of_ble_eq_true rfl, Nat.le_of_ble_eq_true rfl⟩ ⟨Nat.le_of_ble_eq_true rfl, Nat.le_of_ble_eq_true rfl⟩ (r_cv fun M5 p5 => ?_) nox
  have p5 : _ = _ := p5
  subst p5
  refine r_aload_n (pc := 8) dX20_init_8 rfl ?_
  refine r_iload_n (pc := 9) dX20_init_9 rfl ?_
  refine r_putFI (pc := 10) dX20_init_10 fl_X20_7_20 hK rfl rfl rfl ?_
  refine r_return (pc := 13) rfl dX20_init_13 ⟨rfl, ?_⟩
  rfl
