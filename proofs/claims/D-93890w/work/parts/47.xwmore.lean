/-! THE WORLD: loops, making, copying (printed by gen/mk_x47.py) -/
set_option maxRecDepth 100000
/-- one thing more -/
def thB (σ : cS) (k w e p b : Int32) : cS := up2 (putS σ (Int32.toNatClampNeg (σ 0 0)) k w e p b) 0 0 (σ 0 0 + 1)
theorem ct_X3_addThing {M : PM} {wa : Nat} {σ : cS} (hw : WX M wa σ) (x1 x2 x3 x4 x5 : Int32) (hB : OkT σ) (h8 : ¬ σ 0 0 = 8) (hk : bd x1 0 6) : Ct (YX3_addThing, (6, 138, 1, 3), qv (fun M' => WX M' wa (thB σ x1 x2 x3 x4 x5) ∧ frP (inW wa) M M' ∧ ∀ j, j ≠ Int32.toNatClampNeg (σ 0 0) → mR M' (wa + 1) j = mR M (wa + 1) j), noX) [.ref wa, .int x1, .int x2, .int x3, .int x4, .int x5] M := by
  refine ct_of [some (.ref wa), some (.int x1), some (.int x2), some (.int x3), some (.int x4), some (.int x5)] rfl rfl rfl (Nat.le_of_ble_eq_true rfl) rfl rfl ?_
  refine r_aload_n (pc := 0) dX3_addThing_0 rfl ?_
  refine r_aload_n (pc := 1) dX3_addThing_1 rfl ?_
  refine r_getIe (pc := 2) (v := σ 0 0) dX3_addThing_2 fl_X3_60_3 hw.k (fun _ _ => rfl) hw.i4 ?_
  refine r_iload_n (pc := 5) dX3_addThing_5 rfl ?_
  refine r_iload_n (pc := 6) dX3_addThing_6 rfl ?_
  refine r_iload_n (pc := 7) dX3_addThing_7 rfl ?_
  refine r_iload (pc := 8) dX3_addThing_8 rfl ?_
  refine r_iload (pc := 10) dX3_addThing_10 rfl ?_
  refine r_o7 (pc := 12) (bc' := 0) (bs' := 0) (ct_X3_putThing hw (σ 0 0) x1 x2 x3 x4 x5 (vp_c hB.1.1 h8 (by decide)) hk) k_X3_96_3 dX3_addThing_12 hw.k (Nat.le_of_ble_eq_true rfl) ⟨Nat.le_of_ble_eq_true rfl, Nat.le_of_ble_eq_true rfl⟩ ⟨Nat.le_of_ble_eq_true rfl, Nat.le_of_ble_eq_true rfl⟩ (r_cv fun M12 p12 => ?_) nox
  obtain ⟨hw1, hi1, f1, g1⟩ := p12
  refine r_aload_n (pc := 15) dX3_addThing_15 rfl ?_
  refine r_dup (pc := 16) dX3_addThing_16 rfl ?_
  refine r_getIe (pc := 17) (v := σ 0 0) dX3_addThing_17 fl_X3_60_3 hw1.k (fun _ _ => rfl) hw1.i4 ?_
  refine r_iconst (pc := 20) (v := 1) dX3_addThing_20 (by decide) ?_
  refine r_iadd (pc := 21) dX3_addThing_21 ?_
  refine r_putI (pc := 22) dX3_addThing_22 fl_X3_60_3 hw1.k rfl rfl ?_
  refine r_return (pc := 25) rfl dX3_addThing_25 ⟨rfl, ?_⟩
  exact ⟨WX.c0 hw1 hB.1.1 hi1, f1.sI (fun _ => inW_0), g1⟩
theorem mx_iff {a b v : Int32} : ¬ v < (if a < b then b else a) ↔ ¬ v < a ∧ ¬ v < b := by
  by_cases h : a < b
  · rw [if_pos h]
    rw [i_lt] at h
    rw [i_lt, i_lt]; omega
  · rw [if_neg h]
    rw [i_lt] at h
    rw [i_lt, i_lt]; omega
theorem all_suc {P : Nat → Prop} {j : Nat} : (∀ t, t < j + 1 → P t) ↔ (∀ t, t < j → P t) ∧ P j := by
  constructor
  · intro h
    exact ⟨fun t ht => h t (by omega), h j (by omega)⟩
  · rintro ⟨h1, h2⟩ t ht
    by_cases e : t = j
    · rw [e]; exact h2
    · exact h1 t (by omega)
theorem lt_nI {a b : Nat} (ha : a < 100) (hb : b < 100) : nI a < nI b ↔ a < b := by
  rw [i_lt, nI_toInt (by omega), nI_toInt (by omega)]
  omega
theorem cl_nI {a : Nat} (ha : a < 100) : Int32.toNatClampNeg (nI a) = a := nI_clamp (by omega)
theorem nn_nI {a : Nat} (ha : a < 100) : ¬ nI a < 0 := by
  rw [i_lt, nI_toInt (by omega)]
  have : (0 : Int32).toInt = 0 := by decide
  omega
theorem ct_X3_farthest {M : PM} {wa : Nat} {σ : cS} (hw : WX M wa σ) (hB : OkT σ) : Ct (YX3_farthest, (1, 24, 0, 0), qi (fun r M' => (∀ v, ¬ v < r ↔ (¬ v < σ 5 0 ∧ (∀ t, t < Int32.toNatClampNeg (σ 0 0) → ¬ v < σ 14 t) ∧ ∀ t, t < Int32.toNatClampNeg (σ 2 0) → ¬ v < σ 20 t)) ∧ M' = M), noX) [.ref wa] M := by
  refine ct_of [some (.ref wa), none, none] rfl rfl rfl (Nat.le_of_ble_eq_true rfl) rfl rfl ?_
  obtain ⟨N0, hN0, e0⟩ := bd_nI (n := 8) hB.1.1
  obtain ⟨N2, hN2, e2⟩ := bd_nI (n := 4) hB.1.2.2
  have n0 : Int32.toNatClampNeg (σ 0 0) = N0 := by rw [e0]; exact cl_nI (by omega)
  have n2 : Int32.toNatClampNeg (σ 2 0) = N2 := by rw [e2]; exact cl_nI (by omega)
  have L2 : ∀ (n j : Nat) (most : Int32), j ≤ N2 → N2 < j + n → (∀ v, ¬ v < most ↔ ((¬ v < σ 5 0 ∧ ∀ t, t < N0 → ¬ v < σ 14 t) ∧ ∀ t, t < j → ¬ v < σ 20 t)) → Wx (YX3_farthest, (1, 24, 0, 0), qi (fun r M' => (∀ v, ¬ v < r ↔ (¬ v < σ 5 0 ∧ (∀ t, t < Int32.toNatClampNeg (σ 0 0) → ¬ v < σ 14 t) ∧ ∀ t, t < Int32.toNatClampNeg (σ 2 0) → ¬ v < σ 20 t)) ∧ M' = M), noX) 0 0 M 34 [some (.ref wa), some (.int most), some (.int (nI j))] [] := by
    intro n
    induction n with
    | zero => intro j most h1 h2; omega
    | succ n ih =>
      intro j most h1 h2 hI
      refine r_iload_n (pc := 34) dX3_farthest_34 rfl ?_
      refine r_aload_n (pc := 35) dX3_farthest_35 rfl ?_
      refine r_getIe (pc := 36) (v := σ 2 0) dX3_farthest_36 fl_X3_66_3 hw.k (fun _ _ => rfl) hw.i6 ?_
      refine r_icmp_ge (pc := 39) 59 dX3_farthest_39 rfl (fun h39 => ?_) (fun h39 => ?_)
      · have ej : j = N2 := by rw [e2, lt_nI (by omega) (by omega)] at h39; omega
        subst ej
        refine r_iload_n (pc := 59) dX3_farthest_59 rfl ?_
        refine r_ireturn (pc := 60) rfl dX3_farthest_60 ⟨_, rfl, ?_⟩
        refine ⟨fun v => ?_, rfl⟩
        rw [hI v, n0, n2, and_assoc]
      · have hj : wnP σ (nI j) := ⟨nn_nI (by omega), h39⟩
        have h39' := h39
        rw [e2, lt_nI (by omega) (by omega)] at h39'
        refine r_iload_n (pc := 42) dX3_farthest_42 rfl ?_
        refine r_aload_n (pc := 43) dX3_farthest_43 rfl ?_
        refine r_getR (pc := 44) dX3_farthest_44 fl_X3_44_3 hw.k (fun _ _ => rfl) hw.r16 ?_
        refine r_iload_n (pc := 47) dX3_farthest_47 rfl ?_
        refine r_ialdv (pc := 48) (v := σ 20 (Int32.toNatClampNeg (nI j))) dX3_farthest_48 hw.k16 hw.z16 (hB.vw hj) (hw.a20 hj) ?_
        refine r_mmax (pc := 49) dX3_farthest_49 q870 (Nat.le_of_ble_eq_true rfl) (Nat.le_of_ble_eq_true rfl) ?_
        refine r_istore1 (pc := 52) dX3_farthest_52 rfl ?_
        refine r_iinc2 (pc := 53) dX3_farthest_53 (nI_1 _) rfl ?_
        refine r_goto (pc := 56) 34 dX3_farthest_56 rfl ?_
        refine ih (j + 1) _ (by omega) (by omega) (fun v => ?_)
        rw [mx_iff, hI v, all_suc, cl_nI (by omega), and_assoc]
  have L1 : ∀ (n j : Nat) (most : Int32), j ≤ N0 → N0 < j + n → (∀ v, ¬ v < most ↔ (¬ v < σ 5 0 ∧ ∀ t, t < j → ¬ v < σ 14 t)) → Wx (YX3_farthest, (1, 24, 0, 0), qi (fun r M' => (∀ v, ¬ v < r ↔ (¬ v < σ 5 0 ∧ (∀ t, t < Int32.toNatClampNeg (σ 0 0) → ¬ v < σ 14 t) ∧ ∀ t, t < Int32.toNatClampNeg (σ 2 0) → ¬ v < σ 20 t)) ∧ M' = M), noX) 0 0 M 7 [some (.ref wa), some (.int most), some (.int (nI j))] [] := by
    intro n
    induction n with
    | zero => intro j most h1 h2; omega
    | succ n ih =>
      intro j most h1 h2 hI
      refine r_iload_n (pc := 7) dX3_farthest_7 rfl ?_
      refine r_aload_n (pc := 8) dX3_farthest_8 rfl ?_
      refine r_getIe (pc := 9) (v := σ 0 0) dX3_farthest_9 fl_X3_60_3 hw.k (fun _ _ => rfl) hw.i4 ?_
      refine r_icmp_ge (pc := 12) 32 dX3_farthest_12 rfl (fun h12 => ?_) (fun h12 => ?_)
      · have ej : j = N0 := by rw [e0, lt_nI (by omega) (by omega)] at h12; omega
        subst ej
        refine r_iconst (pc := 32) (v := 0) dX3_farthest_32 (by decide) ?_
        refine r_istore2 (pc := 33) dX3_farthest_33 rfl ?_
        refine L2 (N2 + 1) 0 _ (Nat.zero_le _) (by omega) (fun v => ?_)
        rw [hI v]
        exact ⟨fun hh => ⟨hh, fun t ht => absurd ht (Nat.not_lt_zero _)⟩, fun hh => hh.1⟩
      · have hj : thP σ (nI j) := ⟨nn_nI (by omega), h12⟩
        have h12' := h12
        rw [e0, lt_nI (by omega) (by omega)] at h12'
        refine r_iload_n (pc := 15) dX3_farthest_15 rfl ?_
        refine r_aload_n (pc := 16) dX3_farthest_16 rfl ?_
        refine r_getR (pc := 17) dX3_farthest_17 fl_X3_24_3 hw.k (fun _ _ => rfl) hw.r10 ?_
        refine r_iload_n (pc := 20) dX3_farthest_20 rfl ?_
        refine r_ialdv (pc := 21) (v := σ 14 (Int32.toNatClampNeg (nI j))) dX3_farthest_21 hw.k10 hw.z10 (hB.vt hj) (hw.a14 hj) ?_
        refine r_mmax (pc := 22) dX3_farthest_22 q870 (Nat.le_of_ble_eq_true rfl) (Nat.le_of_ble_eq_true rfl) ?_
        refine r_istore1 (pc := 25) dX3_farthest_25 rfl ?_
        refine r_iinc2 (pc := 26) dX3_farthest_26 (nI_1 _) rfl ?_
        refine r_goto (pc := 29) 7 dX3_farthest_29 rfl ?_
        refine ih (j + 1) _ (by omega) (by omega) (fun v => ?_)
        rw [mx_iff, hI v, all_suc, cl_nI (by omega), and_assoc]
  refine r_aload_n (pc := 0) dX3_farthest_0 rfl ?_
  refine r_getIe (pc := 1) (v := σ 5 0) dX3_farthest_1 fl_X3_54_3 hw.k (fun _ _ => rfl) hw.i2 ?_
  refine r_istore1 (pc := 4) dX3_farthest_4 rfl ?_
  refine r_iconst (pc := 5) (v := 0) dX3_farthest_5 (by decide) ?_
  refine r_istore2 (pc := 6) dX3_farthest_6 rfl ?_
  refine L1 (N0 + 1) 0 _ (Nat.zero_le _) (by omega) (fun v => ?_)
  exact ⟨fun hh => ⟨hh, fun t ht => absurd ht (Nat.not_lt_zero _)⟩, fun hh => hh.1⟩
theorem nar_b {b : Prop} : narrow .boolean (.int (bI b)) = .int (bI b) := by
  by_cases h : b
  · rw [bI_t h]; rfl
  · rw [bI_f h]; rfl
theorem bI_and {a b : Prop} : bI a &&& bI b = bI (a ∧ b) := by
  by_cases h1 : a <;> by_cases h2 : b <;> simp [bI, h1, h2]
theorem ct_X3_mayFlow {M : PM} {wa : Nat} {σ : cS} (hw : WX M wa σ) (x1 x2 : Int32) (hB : OkT σ) : Ct (YX3_mayFlow, (1, 25, 0, 0), qi (fun r M' => r = bI (riverP σ x1 x2) ∧ M' = M), noX) [.ref wa, .int x1, .int x2] M := by
  refine ct_of [some (.ref wa), some (.int x1), some (.int x2), none, none] rfl rfl rfl (Nat.le_of_ble_eq_true rfl) rfl rfl ?_
  obtain ⟨N0, hN0, e0⟩ := bd_nI (n := 8) hB.1.1
  obtain ⟨N2, hN2, e2⟩ := bd_nI (n := 4) hB.1.2.2
  have n0 : Int32.toNatClampNeg (σ 0 0) = N0 := by rw [e0]; exact cl_nI (by omega)
  have n2 : Int32.toNatClampNeg (σ 2 0) = N2 := by rw [e2]; exact cl_nI (by omega)
  have L2 : ∀ (n j : Nat) (b : Prop), j ≤ N2 → N2 < j + n → (b ↔ (((¬ x1 < 0 ∧ ¬ x2 < x1) ∧ ¬ σ 3 0 < x2) ∧ ∀ t, t < N0 → ¬ (x1 < σ 14 t ∧ σ 14 t < x2)) ∧ ∀ t, t < j → ¬ (x1 < σ 20 t ∧ σ 20 t < x2)) → Wx (YX3_mayFlow, (1, 25, 0, 0), qi (fun r M' => r = bI (riverP σ x1 x2) ∧ M' = M), noX) 0 0 M 76 [some (.ref wa), some (.int x1), some (.int x2), some (.int (bI b)), some (.int (nI j))] [] := by
    intro n
    induction n with
    | zero => intro j b h1 h2; omega
    | succ n ih =>
      intro j b h1 h2 hI
      refine r_iload (pc := 76) dX3_mayFlow_76 rfl ?_
      refine r_aload_n (pc := 78) dX3_mayFlow_78 rfl ?_
      refine r_getIe (pc := 79) (v := σ 2 0) dX3_mayFlow_79 fl_X3_66_3 hw.k (fun _ _ => rfl) hw.i6 ?_
      refine r_icmp_ge (pc := 82) 121 dX3_mayFlow_82 rfl (fun h82 => ?_) (fun h82 => ?_)
      · have ej : j = N2 := by rw [e2, lt_nI (by omega) (by omega)] at h82; omega
        subst ej
        refine r_iload_n (pc := 121) dX3_mayFlow_121 rfl ?_
        refine r_zreturn (pc := 122) rfl nar_b dX3_mayFlow_122 ⟨_, rfl, ?_⟩
        refine ⟨bI_congr ?_, rfl⟩
        rw [hI]
        unfold riverP
        rw [n0, n2, and_assoc, and_assoc, and_assoc]
      · have hj : wnP σ (nI j) := ⟨nn_nI (by omega), h82⟩
        have h9' := h82
        rw [e2, lt_nI (by omega) (by omega)] at h9'
        refine r_iload_n (pc := 85) dX3_mayFlow_85 rfl ?_
        refine r_aload_n (pc := 86) dX3_mayFlow_86 rfl ?_
        refine r_getR (pc := 87) dX3_mayFlow_87 fl_X3_44_3 hw.k (fun _ _ => rfl) hw.r16 ?_
        refine r_iload (pc := 90) dX3_mayFlow_90 rfl ?_
        refine r_ialdv (pc := 92) (v := σ 20 (Int32.toNatClampNeg (nI j))) dX3_mayFlow_92 hw.k16 hw.z16 (hB.vw hj) (hw.a20 hj) ?_
        refine r_iload_n (pc := 93) dX3_mayFlow_93 rfl ?_
        refine r_icmp_le (pc := 94) 108 dX3_mayFlow_94 rfl (fun h94 => ?_) (fun h94 => ?_)
        · refine r_iconst (pc := 108) (v := 1) dX3_mayFlow_108 (by decide) ?_
          refine r_goto (pc := 109) 113 dX3_mayFlow_109 rfl ?_
          refine r_eqi (bI (¬ (x1 < σ 20 (Int32.toNatClampNeg (nI j)) ∧ σ 20 (Int32.toNatClampNeg (nI j)) < x2))) (by first | exact bI_t' (fun hh => h94 hh.1) | exact bI_t' (fun hh => h105 hh.2) | exact bI_f' (fun hh => hh ⟨h94, h105⟩)) ?_
          refine r_iand (pc := 113) dX3_mayFlow_113 ?_
          rw [bI_and]
          refine r_istore3 (pc := 114) dX3_mayFlow_114 rfl ?_
          refine r_iinc4 (pc := 115) dX3_mayFlow_115 (nI_1 _) rfl ?_
          refine r_goto (pc := 118) 76 dX3_mayFlow_118 rfl ?_
          refine ih (j + 1) (b ∧ ¬ (x1 < σ 20 (Int32.toNatClampNeg (nI j)) ∧ σ 20 (Int32.toNatClampNeg (nI j)) < x2)) (by omega) (by omega) ?_
          rw [hI, all_suc, cl_nI (by omega), and_assoc]
        · refine r_aload_n (pc := 97) dX3_mayFlow_97 rfl ?_
          refine r_getR (pc := 98) dX3_mayFlow_98 fl_X3_44_3 hw.k (fun _ _ => rfl) hw.r16 ?_
          refine r_iload (pc := 101) dX3_mayFlow_101 rfl ?_
          refine r_ialdv (pc := 103) (v := σ 20 (Int32.toNatClampNeg (nI j))) dX3_mayFlow_103 hw.k16 hw.z16 (hB.vw hj) (hw.a20 hj) ?_
          refine r_iload_n (pc := 104) dX3_mayFlow_104 rfl ?_
          refine r_icmp_lt (pc := 105) 112 dX3_mayFlow_105 rfl (fun h105 => ?_) (fun h105 => ?_)
          · refine r_iconst (pc := 112) (v := 0) dX3_mayFlow_112 (by decide) ?_
            refine r_eqi (bI (¬ (x1 < σ 20 (Int32.toNatClampNeg (nI j)) ∧ σ 20 (Int32.toNatClampNeg (nI j)) < x2))) (by first | exact bI_t' (fun hh => h94 hh.1) | exact bI_t' (fun hh => h105 hh.2) | exact bI_f' (fun hh => hh ⟨h94, h105⟩)) ?_
            refine r_iand (pc := 113) dX3_mayFlow_113 ?_
            rw [bI_and]
            refine r_istore3 (pc := 114) dX3_mayFlow_114 rfl ?_
            refine r_iinc4 (pc := 115) dX3_mayFlow_115 (nI_1 _) rfl ?_
            refine r_goto (pc := 118) 76 dX3_mayFlow_118 rfl ?_
            refine ih (j + 1) (b ∧ ¬ (x1 < σ 20 (Int32.toNatClampNeg (nI j)) ∧ σ 20 (Int32.toNatClampNeg (nI j)) < x2)) (by omega) (by omega) ?_
            rw [hI, all_suc, cl_nI (by omega), and_assoc]
          · refine r_iconst (pc := 108) (v := 1) dX3_mayFlow_108 (by decide) ?_
            refine r_goto (pc := 109) 113 dX3_mayFlow_109 rfl ?_
            refine r_eqi (bI (¬ (x1 < σ 20 (Int32.toNatClampNeg (nI j)) ∧ σ 20 (Int32.toNatClampNeg (nI j)) < x2))) (by first | exact bI_t' (fun hh => h94 hh.1) | exact bI_t' (fun hh => h105 hh.2) | exact bI_f' (fun hh => hh ⟨h94, h105⟩)) ?_
            refine r_iand (pc := 113) dX3_mayFlow_113 ?_
            rw [bI_and]
            refine r_istore3 (pc := 114) dX3_mayFlow_114 rfl ?_
            refine r_iinc4 (pc := 115) dX3_mayFlow_115 (nI_1 _) rfl ?_
            refine r_goto (pc := 118) 76 dX3_mayFlow_118 rfl ?_
            refine ih (j + 1) (b ∧ ¬ (x1 < σ 20 (Int32.toNatClampNeg (nI j)) ∧ σ 20 (Int32.toNatClampNeg (nI j)) < x2)) (by omega) (by omega) ?_
            rw [hI, all_suc, cl_nI (by omega), and_assoc]
  have L1 : ∀ (n j : Nat) (b : Prop), j ≤ N0 → N0 < j + n → (b ↔ ((¬ x1 < 0 ∧ ¬ x2 < x1) ∧ ¬ σ 3 0 < x2) ∧ ∀ t, t < j → ¬ (x1 < σ 14 t ∧ σ 14 t < x2)) → Wx (YX3_mayFlow, (1, 25, 0, 0), qi (fun r M' => r = bI (riverP σ x1 x2) ∧ M' = M), noX) 0 0 M 28 [some (.ref wa), some (.int x1), some (.int x2), some (.int (bI b)), some (.int (nI j))] [] := by
    intro n
    induction n with
    | zero => intro j b h1 h2; omega
    | succ n ih =>
      intro j b h1 h2 hI
      refine r_iload (pc := 28) dX3_mayFlow_28 rfl ?_
      refine r_aload_n (pc := 30) dX3_mayFlow_30 rfl ?_
      refine r_getIe (pc := 31) (v := σ 0 0) dX3_mayFlow_31 fl_X3_60_3 hw.k (fun _ _ => rfl) hw.i4 ?_
      refine r_icmp_ge (pc := 34) 73 dX3_mayFlow_34 rfl (fun h34 => ?_) (fun h34 => ?_)
      · have ej : j = N0 := by rw [e0, lt_nI (by omega) (by omega)] at h34; omega
        subst ej
        refine r_iconst (pc := 73) (v := 0) dX3_mayFlow_73 (by decide) ?_
        refine r_istore4 (pc := 74) dX3_mayFlow_74 rfl ?_
        refine L2 (N2 + 1) 0 b (Nat.zero_le _) (by omega) ?_
        rw [hI]
        exact ⟨fun hh => ⟨hh, fun t ht => absurd ht (Nat.not_lt_zero _)⟩, fun hh => hh.1⟩
      · have hj : thP σ (nI j) := ⟨nn_nI (by omega), h34⟩
        have h9' := h34
        rw [e0, lt_nI (by omega) (by omega)] at h9'
        refine r_iload_n (pc := 37) dX3_mayFlow_37 rfl ?_
        refine r_aload_n (pc := 38) dX3_mayFlow_38 rfl ?_
        refine r_getR (pc := 39) dX3_mayFlow_39 fl_X3_24_3 hw.k (fun _ _ => rfl) hw.r10 ?_
        refine r_iload (pc := 42) dX3_mayFlow_42 rfl ?_
        refine r_ialdv (pc := 44) (v := σ 14 (Int32.toNatClampNeg (nI j))) dX3_mayFlow_44 hw.k10 hw.z10 (hB.vt hj) (hw.a14 hj) ?_
        refine r_iload_n (pc := 45) dX3_mayFlow_45 rfl ?_
        refine r_icmp_le (pc := 46) 60 dX3_mayFlow_46 rfl (fun h46 => ?_) (fun h46 => ?_)
        · refine r_iconst (pc := 60) (v := 1) dX3_mayFlow_60 (by decide) ?_
          refine r_goto (pc := 61) 65 dX3_mayFlow_61 rfl ?_
          refine r_eqi (bI (¬ (x1 < σ 14 (Int32.toNatClampNeg (nI j)) ∧ σ 14 (Int32.toNatClampNeg (nI j)) < x2))) (by first | exact bI_t' (fun hh => h46 hh.1) | exact bI_t' (fun hh => h57 hh.2) | exact bI_f' (fun hh => hh ⟨h46, h57⟩)) ?_
          refine r_iand (pc := 65) dX3_mayFlow_65 ?_
          rw [bI_and]
          refine r_istore3 (pc := 66) dX3_mayFlow_66 rfl ?_
          refine r_iinc4 (pc := 67) dX3_mayFlow_67 (nI_1 _) rfl ?_
          refine r_goto (pc := 70) 28 dX3_mayFlow_70 rfl ?_
          refine ih (j + 1) (b ∧ ¬ (x1 < σ 14 (Int32.toNatClampNeg (nI j)) ∧ σ 14 (Int32.toNatClampNeg (nI j)) < x2)) (by omega) (by omega) ?_
          rw [hI, all_suc, cl_nI (by omega), and_assoc]
        · refine r_aload_n (pc := 49) dX3_mayFlow_49 rfl ?_
          refine r_getR (pc := 50) dX3_mayFlow_50 fl_X3_24_3 hw.k (fun _ _ => rfl) hw.r10 ?_
          refine r_iload (pc := 53) dX3_mayFlow_53 rfl ?_
          refine r_ialdv (pc := 55) (v := σ 14 (Int32.toNatClampNeg (nI j))) dX3_mayFlow_55 hw.k10 hw.z10 (hB.vt hj) (hw.a14 hj) ?_
          refine r_iload_n (pc := 56) dX3_mayFlow_56 rfl ?_
          refine r_icmp_lt (pc := 57) 64 dX3_mayFlow_57 rfl (fun h57 => ?_) (fun h57 => ?_)
          · refine r_iconst (pc := 64) (v := 0) dX3_mayFlow_64 (by decide) ?_
            refine r_eqi (bI (¬ (x1 < σ 14 (Int32.toNatClampNeg (nI j)) ∧ σ 14 (Int32.toNatClampNeg (nI j)) < x2))) (by first | exact bI_t' (fun hh => h46 hh.1) | exact bI_t' (fun hh => h57 hh.2) | exact bI_f' (fun hh => hh ⟨h46, h57⟩)) ?_
            refine r_iand (pc := 65) dX3_mayFlow_65 ?_
            rw [bI_and]
            refine r_istore3 (pc := 66) dX3_mayFlow_66 rfl ?_
            refine r_iinc4 (pc := 67) dX3_mayFlow_67 (nI_1 _) rfl ?_
            refine r_goto (pc := 70) 28 dX3_mayFlow_70 rfl ?_
            refine ih (j + 1) (b ∧ ¬ (x1 < σ 14 (Int32.toNatClampNeg (nI j)) ∧ σ 14 (Int32.toNatClampNeg (nI j)) < x2)) (by omega) (by omega) ?_
            rw [hI, all_suc, cl_nI (by omega), and_assoc]
          · refine r_iconst (pc := 60) (v := 1) dX3_mayFlow_60 (by decide) ?_
            refine r_goto (pc := 61) 65 dX3_mayFlow_61 rfl ?_
            refine r_eqi (bI (¬ (x1 < σ 14 (Int32.toNatClampNeg (nI j)) ∧ σ 14 (Int32.toNatClampNeg (nI j)) < x2))) (by first | exact bI_t' (fun hh => h46 hh.1) | exact bI_t' (fun hh => h57 hh.2) | exact bI_f' (fun hh => hh ⟨h46, h57⟩)) ?_
            refine r_iand (pc := 65) dX3_mayFlow_65 ?_
            rw [bI_and]
            refine r_istore3 (pc := 66) dX3_mayFlow_66 rfl ?_
            refine r_iinc4 (pc := 67) dX3_mayFlow_67 (nI_1 _) rfl ?_
            refine r_goto (pc := 70) 28 dX3_mayFlow_70 rfl ?_
            refine ih (j + 1) (b ∧ ¬ (x1 < σ 14 (Int32.toNatClampNeg (nI j)) ∧ σ 14 (Int32.toNatClampNeg (nI j)) < x2)) (by omega) (by omega) ?_
            rw [hI, all_suc, cl_nI (by omega), and_assoc]
  refine r_iload_n (pc := 0) dX3_mayFlow_0 rfl ?_
  refine r_i2l (pc := 1) dX3_mayFlow_1 ?_
  refine r_lconst (pc := 2) (v := 0) dX3_mayFlow_2 (by decide) ?_
  refine r_iload_n (pc := 3) dX3_mayFlow_3 rfl ?_
  refine r_i2l (pc := 4) dX3_mayFlow_4 ?_
  refine r_s3 (pc := 5) (bc' := 0) (bs' := 0) (ct_X0_in x1 0 x2 rfl (by decide) rfl) k_X3_78 dX3_mayFlow_5 (Nat.le_of_ble_eq_true rfl) ⟨Nat.le_of_ble_eq_true rfl, Nat.le_of_ble_eq_true rfl⟩ ⟨Nat.le_of_ble_eq_true rfl, Nat.le_of_ble_eq_true rfl⟩ (r_ci fun r5 M5 p5 => ?_) nox
  obtain ⟨rfl, p5⟩ := p5
  have p5 := Eq.symm (show _ = _ from p5)
  subst p5
  refine r_if_eq (pc := 8) 23 dX3_mayFlow_8 rfl (fun h8 => ?_) (fun h8 => ?_)
  · rw [bI_eq0] at h8
    refine r_iconst (pc := 23) (v := 0) dX3_mayFlow_23 (by decide) ?_
    refine r_eqi (bI ((¬ x1 < 0 ∧ ¬ x2 < x1) ∧ ¬ σ 3 0 < x2)) (by first | exact bI_t' ⟨h8, h16⟩ | exact bI_f' (fun hh => h8 hh.1) | exact bI_f' (fun hh => hh.2 h16)) ?_
    refine r_istore3 (pc := 24) dX3_mayFlow_24 rfl ?_
    refine r_iconst (pc := 25) (v := 0) dX3_mayFlow_25 (by decide) ?_
    refine r_istore4 (pc := 26) dX3_mayFlow_26 rfl ?_
    refine L1 (N0 + 1) 0 ((¬ x1 < 0 ∧ ¬ x2 < x1) ∧ ¬ σ 3 0 < x2) (Nat.zero_le _) (by omega) ⟨fun hh => ⟨hh, fun t ht => absurd ht (Nat.not_lt_zero _)⟩, fun hh => hh.1⟩
  · rw [bI_ne0] at h8
    refine r_iload_n (pc := 11) dX3_mayFlow_11 rfl ?_
    refine r_aload_n (pc := 12) dX3_mayFlow_12 rfl ?_
    refine r_getIe (pc := 13) (v := σ 3 0) dX3_mayFlow_13 fl_X3_9_3 hw.k (fun _ _ => rfl) hw.i0 ?_
    refine r_icmp_gt (pc := 16) 23 dX3_mayFlow_16 rfl (fun h16 => ?_) (fun h16 => ?_)
    · refine r_iconst (pc := 23) (v := 0) dX3_mayFlow_23 (by decide) ?_
      refine r_eqi (bI ((¬ x1 < 0 ∧ ¬ x2 < x1) ∧ ¬ σ 3 0 < x2)) (by first | exact bI_t' ⟨h8, h16⟩ | exact bI_f' (fun hh => h8 hh.1) | exact bI_f' (fun hh => hh.2 h16)) ?_
      refine r_istore3 (pc := 24) dX3_mayFlow_24 rfl ?_
      refine r_iconst (pc := 25) (v := 0) dX3_mayFlow_25 (by decide) ?_
      refine r_istore4 (pc := 26) dX3_mayFlow_26 rfl ?_
      refine L1 (N0 + 1) 0 ((¬ x1 < 0 ∧ ¬ x2 < x1) ∧ ¬ σ 3 0 < x2) (Nat.zero_le _) (by omega) ⟨fun hh => ⟨hh, fun t ht => absurd ht (Nat.not_lt_zero _)⟩, fun hh => hh.1⟩
    · refine r_iconst (pc := 19) (v := 1) dX3_mayFlow_19 (by decide) ?_
      refine r_goto (pc := 20) 24 dX3_mayFlow_20 rfl ?_
      refine r_eqi (bI ((¬ x1 < 0 ∧ ¬ x2 < x1) ∧ ¬ σ 3 0 < x2)) (by first | exact bI_t' ⟨h8, h16⟩ | exact bI_f' (fun hh => h8 hh.1) | exact bI_f' (fun hh => hh.2 h16)) ?_
      refine r_istore3 (pc := 24) dX3_mayFlow_24 rfl ?_
      refine r_iconst (pc := 25) (v := 0) dX3_mayFlow_25 (by decide) ?_
      refine r_istore4 (pc := 26) dX3_mayFlow_26 rfl ?_
      refine L1 (N0 + 1) 0 ((¬ x1 < 0 ∧ ¬ x2 < x1) ∧ ¬ σ 3 0 < x2) (Nat.zero_le _) (by omega) ⟨fun hh => ⟨hh, fun t ht => absurd ht (Nat.not_lt_zero _)⟩, fun hh => hh.1⟩
/-- a new World's numbers -/
def w0S : cS := up2 (up2 (fun _ _ => 0) 3 0 60) 7 0 1
def ArP (M : PM) (a t n : Nat) : Prop := mK M a = (2, t) ∧ mZ M a = n
theorem nwK {M : PM} {κ : Nat × Nat} {n a : Nat} (h : a ≠ M.1) : mK (nw M κ n) a = mK M a := if_neg h
theorem nwZ {M : PM} {κ : Nat × Nat} {n a : Nat} (h : a ≠ M.1) : mZ (nw M κ n) a = mZ M a := if_neg h
theorem nwI {M : PM} {κ : Nat × Nat} {n a : Nat} (h : a ≠ M.1) : mI (nw M κ n) a = mI M a := if_neg h
theorem nwR {M : PM} {κ : Nat × Nat} {n a : Nat} (h : a ≠ M.1) : mR (nw M κ n) a = mR M a := if_neg h
theorem nw_Z (M : PM) (κ : Nat × Nat) (n : Nat) : mZ (nw M κ n) M.1 = n := if_pos rfl
theorem nw_I (M : PM) (κ : Nat × Nat) (n : Nat) : mI (nw M κ n) M.1 = fun _ => 0 := if_pos rfl
/-- the World at wa with its first j arrays made -/
def WPart (M0 M : PM) (wa j : Nat) : Prop := M.1 = wa + 1 + j ∧ mK M wa = (1, 3) ∧ (∀ i, i < j → mR M wa (9 + i) = some (wa + (1 + i)) ∧ mK M (wa + (1 + i)) = (2, wT i) ∧ mZ M (wa + (1 + i)) = wZ i) ∧ mI M wa = va_up (va_up (fun _ => 0) 0 60) 8 1 ∧ frP (inW wa) M0 M
theorem WPart.step {M0 M : PM} {wa j : Nat} (h : WPart M0 M wa j) (h0 : M0.1 = wa + 1) (hj : j < 9) : WPart M0 (sR (nw M (2, wT j) (wZ j)) wa (9 + j) (some M.1)) wa (j + 1) := by
  obtain ⟨h1, h2, h3, h4, h5⟩ := h
  have hne : wa ≠ M.1 := by omega
  refine ⟨by show M.1 + 1 = _; omega, (nwK (κ := (2, wT j)) (n := wZ j) hne).trans h2, fun i hi => ?_, (nwI (κ := (2, wT j)) (n := wZ j) hne).trans h4, (h5.nw).sR fun _ => inW_0⟩
  by_cases c : i = j
  · subst c
    refine ⟨?_, ?_, ?_⟩
    · show up2 (mR (nw M (2, wT i) (wZ i))) wa (9 + i) (some M.1) wa (9 + i) = _
      rw [up2_self, va_up_self, h1, Nat.add_assoc]
    · have e : wa + (1 + i) = M.1 := by omega
      rw [e]; exact nw_K M (2, wT i) (wZ i)
    · have e : wa + (1 + i) = M.1 := by omega
      rw [e]; exact nw_Z M (2, wT i) (wZ i)
  · obtain ⟨a1, a2, a3⟩ := h3 i (by omega)
    have hn2 : wa + (1 + i) ≠ M.1 := by omega
    refine ⟨?_, (nwK (κ := (2, wT j)) (n := wZ j) hn2).trans a2, (nwZ (κ := (2, wT j)) (n := wZ j) hn2).trans a3⟩
    show up2 (mR (nw M (2, wT j) (wZ j))) wa (9 + j) (some M.1) wa (9 + i) = _
    rw [up2_self, va_up_ne _ _ (by omega), nwR hne]
    exact a1
theorem WPart.ne {M0 M : PM} {wa j : Nat} (h : WPart M0 M wa j) : wa ≠ M.1 := by
  have := h.1
  omega
theorem WPart.done {M0 M : PM} {wa : Nat} (h : WPart M0 M wa 9) : WX M wa w0S ∧ M.1 = wa + 10 ∧ frP (inW wa) M0 M := by
  obtain ⟨h1, h2, h3, h4, h5⟩ := h
  have z : ∀ k, w0S k 0 = if k = 3 then 60 else if k = 7 then 1 else 0 := by
    intro k
    unfold w0S
    rw [up2_ap, up2_ap]
    by_cases c7 : k = 7
    · subst c7; rfl
    · by_cases c3 : k = 3
      · subst c3; rfl
      · simp [c7, c3]
  have n0 : ∀ k, k ≤ 2 → Int32.toNatClampNeg (w0S k 0) = 0 := by
    intro k hk
    rw [z k, if_neg (by omega), if_neg (by omega)]
    rfl
  refine ⟨⟨⟨by omega, h2, h3⟩, ?_, ?_, ?_, ?_⟩, by omega, h5⟩
  · unfold WI
    rw [h4]
    exact ⟨rfl, rfl, rfl, rfl, rfl, rfl, rfl, rfl, rfl⟩
  · intro i hi; rw [n0 0 (by decide)] at hi; omega
  · intro i hi; rw [n0 1 (by decide)] at hi; omega
  · intro i hi; rw [n0 2 (by decide)] at hi; omega
theorem ct_X3_init {M : PM} {wa : Nat} (hK : mK M wa = (1, 3)) (h0 : M.1 = wa + 1) (hz : mI M wa = fun _ => 0) : Ct (YX3_init, (1, 24, 9, 60), qv (fun M' => WX M' wa w0S ∧ M'.1 = wa + 10 ∧ frP (inW wa) M M'), noX) [.ref wa] M := by
  refine ct_of [some (.ref wa)] rfl rfl rfl (Nat.le_of_ble_eq_true rfl) rfl rfl ?_
  refine r_aload_n (pc := 0) dX3_init_0 rfl ?_
  refine r_objInit (pc := 1) dX3_init_1 q171 q120 q121 (Nat.le_of_ble_eq_true rfl) (Nat.le_of_ble_eq_true rfl) ?_
  refine r_aload_n (pc := 4) dX3_init_4 rfl ?_
  refine r_bipush (pc := 5) (v := 60) dX3_init_5 (by decide) ?_
  refine r_putI (pc := 7) dX3_init_7 fl_X3_9_3 hK rfl rfl ?_
  refine r_aload_n (pc := 10) dX3_init_10 rfl ?_
  refine r_iconst (pc := 11) (v := 1) dX3_init_11 (by decide) ?_
  refine r_putI (pc := 12) dX3_init_12 fl_X3_15_3 hK rfl rfl ?_
  have w0 : WPart M (sI (sI M wa 0 60) wa 8 1) wa 0 := ⟨h0, hK, fun i hi => absurd hi (Nat.not_lt_zero _), by rw [← hz]; show up2 (up2 (mI M) wa 0 60) wa 8 1 wa = _; rw [up2_self, up2_self], (frP.rf.sI fun _ => inW_0).sI fun _ => inW_0⟩
  refine r_aload_n (pc := 15) dX3_init_15 rfl ?_
  refine r_bipush (pc := 16) (v := 8) dX3_init_16 (by decide) ?_
  refine r_anew (t := 6) (n := 8) (pc := 18) dX3_init_18 rfl q172 arN6 (by decide) rfl (Nat.le_of_ble_eq_true rfl) (Nat.le_of_ble_eq_true rfl) (Nat.le_of_ble_eq_true rfl) ?_
  refine r_putFR (pc := 21) dX3_init_21 fl_X3_20_3 ((nwK (κ := (2, 6)) (n := 8) w0.ne).trans w0.2.1) rfl rfl rfl ?_
  have w1 := w0.step h0 (by decide)
  refine r_aload_n (pc := 24) dX3_init_24 rfl ?_
  refine r_bipush (pc := 25) (v := 8) dX3_init_25 (by decide) ?_
  refine r_newa (t := 0) (n := 8) (pc := 27) dX3_init_27 rfl rfl q139 rfl (by decide) rfl (Nat.le_of_ble_eq_true rfl) arN0 (Nat.le_of_ble_eq_true rfl) (Nat.le_of_ble_eq_true rfl) ?_
  refine r_putFR (pc := 29) dX3_init_29 fl_X3_24_3 ((nwK (κ := (2, 0)) (n := 8) w1.ne).trans w1.2.1) rfl rfl rfl ?_
  have w2 := w1.step h0 (by decide)
  refine r_aload_n (pc := 32) dX3_init_32 rfl ?_
  refine r_bipush (pc := 33) (v := 8) dX3_init_33 (by decide) ?_
  refine r_newa (t := 0) (n := 8) (pc := 35) dX3_init_35 rfl rfl q139 rfl (by decide) rfl (Nat.le_of_ble_eq_true rfl) arN0 (Nat.le_of_ble_eq_true rfl) (Nat.le_of_ble_eq_true rfl) ?_
  refine r_putFR (pc := 37) dX3_init_37 fl_X3_28_3 ((nwK (κ := (2, 0)) (n := 8) w2.ne).trans w2.2.1) rfl rfl rfl ?_
  have w3 := w2.step h0 (by decide)
  refine r_aload_n (pc := 40) dX3_init_40 rfl ?_
  refine r_bipush (pc := 41) (v := 8) dX3_init_41 (by decide) ?_
  refine r_newa (t := 3) (n := 8) (pc := 43) dX3_init_43 rfl rfl q262 rfl (by decide) rfl (Nat.le_of_ble_eq_true rfl) arN3 (Nat.le_of_ble_eq_true rfl) (Nat.le_of_ble_eq_true rfl) ?_
  refine r_putFR (pc := 45) dX3_init_45 fl_X3_31_3 ((nwK (κ := (2, 3)) (n := 8) w3.ne).trans w3.2.1) rfl rfl rfl ?_
  have w4 := w3.step h0 (by decide)
  refine r_aload_n (pc := 48) dX3_init_48 rfl ?_
  refine r_bipush (pc := 49) (v := 8) dX3_init_49 (by decide) ?_
  refine r_newa (t := 0) (n := 8) (pc := 51) dX3_init_51 rfl rfl q139 rfl (by decide) rfl (Nat.le_of_ble_eq_true rfl) arN0 (Nat.le_of_ble_eq_true rfl) (Nat.le_of_ble_eq_true rfl) ?_
  refine r_putFR (pc := 53) dX3_init_53 fl_X3_35_3 ((nwK (κ := (2, 0)) (n := 8) w4.ne).trans w4.2.1) rfl rfl rfl ?_
  have w5 := w4.step h0 (by decide)
  refine r_aload_n (pc := 56) dX3_init_56 rfl ?_
  refine r_bipush (pc := 57) (v := 8) dX3_init_57 (by decide) ?_
  refine r_newa (t := 0) (n := 8) (pc := 59) dX3_init_59 rfl rfl q139 rfl (by decide) rfl (Nat.le_of_ble_eq_true rfl) arN0 (Nat.le_of_ble_eq_true rfl) (Nat.le_of_ble_eq_true rfl) ?_
  refine r_putFR (pc := 61) dX3_init_61 fl_X3_38_3 ((nwK (κ := (2, 0)) (n := 8) w5.ne).trans w5.2.1) rfl rfl rfl ?_
  have w6 := w5.step h0 (by decide)
  refine r_aload_n (pc := 64) dX3_init_64 rfl ?_
  refine r_iconst (pc := 65) (v := 4) dX3_init_65 (by decide) ?_
  refine r_newa (t := 0) (n := 4) (pc := 66) dX3_init_66 rfl rfl q139 rfl (by decide) rfl (Nat.le_of_ble_eq_true rfl) arN0 (Nat.le_of_ble_eq_true rfl) (Nat.le_of_ble_eq_true rfl) ?_
  refine r_putFR (pc := 68) dX3_init_68 fl_X3_41_3 ((nwK (κ := (2, 0)) (n := 4) w6.ne).trans w6.2.1) rfl rfl rfl ?_
  have w7 := w6.step h0 (by decide)
  refine r_aload_n (pc := 71) dX3_init_71 rfl ?_
  refine r_iconst (pc := 72) (v := 4) dX3_init_72 (by decide) ?_
  refine r_newa (t := 0) (n := 4) (pc := 73) dX3_init_73 rfl rfl q139 rfl (by decide) rfl (Nat.le_of_ble_eq_true rfl) arN0 (Nat.le_of_ble_eq_true rfl) (Nat.le_of_ble_eq_true rfl) ?_
  refine r_putFR (pc := 75) dX3_init_75 fl_X3_44_3 ((nwK (κ := (2, 0)) (n := 4) w7.ne).trans w7.2.1) rfl rfl rfl ?_
  have w8 := w7.step h0 (by decide)
  refine r_aload_n (pc := 78) dX3_init_78 rfl ?_
  refine r_iconst (pc := 79) (v := 4) dX3_init_79 (by decide) ?_
  refine r_newa (t := 0) (n := 4) (pc := 80) dX3_init_80 rfl rfl q139 rfl (by decide) rfl (Nat.le_of_ble_eq_true rfl) arN0 (Nat.le_of_ble_eq_true rfl) (Nat.le_of_ble_eq_true rfl) ?_
  refine r_putFR (pc := 82) dX3_init_82 fl_X3_47_3 ((nwK (κ := (2, 0)) (n := 4) w8.ne).trans w8.2.1) rfl rfl rfl ?_
  have w9 := w8.step h0 (by decide)
  refine r_return (pc := 85) rfl dX3_init_85 ⟨rfl, ?_⟩
  exact w9.done
theorem r_gen {G : GT} {bc bs : Nat} {M : PM} {pc : Nat} {ls : List (Option Value)} {st : List Value} {P : PM → Prop} (h : P M) (k : ∀ M', P M' → Wx G bc bs M' pc ls st) : Wx G bc bs M pc ls st := k M h
/-- how many places of array o are copied -/
def nnW (σ : cS) (o : Nat) : Nat := if o ≤ 4 then Int32.toNatClampNeg (σ 0 0) else if o ≤ 6 then Int32.toNatClampNeg (σ 1 0) else Int32.toNatClampNeg (σ 2 0)
/-- the first k arrays of the World at wa have been copied into the one at r -/
def CP (M2 M : PM) (wa r k : Nat) (σ : cS) : Prop := frP (fun q => r < q ∧ q ≤ r + k) M2 M ∧ M.1 = M2.1 ∧ ∀ o, 1 ≤ o → o ≤ k → ∀ i, i < nnW σ o → mI M (r + o) i = mI M2 (wa + o) i ∧ mR M (r + o) i = mR M2 (wa + o) i
theorem cpM_ne {M : PM} {a b sp dp n q : Nat} (h : q ≠ b) : mI (cpM M a b sp dp n) q = mI M q ∧ mL (cpM M a b sp dp n) q = mL M q ∧ mR (cpM M a b sp dp n) q = mR M q := ⟨va_up_ne _ _ h, va_up_ne _ _ h, va_up_ne _ _ h⟩
theorem cpM_at {M : PM} {a b n i : Nat} (h : i < n) : mI (cpM M a b 0 0 n) b i = mI M a i ∧ mR (cpM M a b 0 0 n) b i = mR M a i := by
  have e : ∀ {α : Type} (f g : Nat → α), va_cpy f g 0 0 n i = f i := by
    intro α f g
    unfold va_cpy
    rw [if_pos ⟨Nat.zero_le _, by omega⟩]
    congr 1
    omega
  constructor
  · show va_up (mI M) b (va_cpy (mI M a) (mI M b) 0 0 n) b i = _
    rw [va_up_self, e]
  · show va_up (mR M) b (va_cpy (mR M a) (mR M b) 0 0 n) b i = _
    rw [va_up_self, e]
theorem CP.step {M2 M : PM} {wa r k : Nat} {σ : cS} (h : CP M2 M wa r k σ) (hr : wa + 10 ≤ r) (h2 : r + 10 ≤ M2.1) (hk : k < 9) : CP M2 (cpM M (wa + (k + 1)) (r + (k + 1)) 0 0 (nnW σ (k + 1))) wa r (k + 1) σ := by
  obtain ⟨f, hn, hc⟩ := h
  refine ⟨⟨by rw [show (cpM M (wa + (k + 1)) (r + (k + 1)) 0 0 (nnW σ (k + 1))).1 = M.1 from rfl, hn]; exact Nat.le_refl _, fun q hq => ?_⟩, hn, fun o h1 h3 i hi => ?_⟩
  · obtain ⟨a1, a2, a3⟩ := f.2 q hq
    refine ⟨a1, a2, fun hp => ?_⟩
    obtain ⟨b1, b2, b3⟩ := cpM_ne (M := M) (a := wa + (k + 1)) (b := r + (k + 1)) (sp := 0) (dp := 0) (n := nnW σ (k + 1)) (q := q) (fun e => hp ⟨by omega, by omega⟩)
    obtain ⟨c1, c2, c3⟩ := a3 (fun e => hp ⟨by omega, by omega⟩)
    exact ⟨b1.trans c1, b2.trans c2, b3.trans c3⟩
  · by_cases e : o = k + 1
    · subst e
      obtain ⟨b1, b2⟩ := cpM_at (M := M) (a := wa + (k + 1)) (b := r + (k + 1)) hi
      obtain ⟨-, -, c⟩ := f.2 (wa + (k + 1)) (by omega)
      obtain ⟨c1, -, c3⟩ := c (by omega)
      exact ⟨b1.trans (congrFun c1 i), b2.trans (congrFun c3 i)⟩
    · obtain ⟨b1, -, b3⟩ := cpM_ne (M := M) (a := wa + (k + 1)) (b := r + (k + 1)) (sp := 0) (dp := 0) (n := nnW σ (k + 1)) (q := r + o) (by omega)
      obtain ⟨c1, c2⟩ := hc o h1 (by omega) i hi
      exact ⟨(congrFun b1 i).trans c1, (congrFun b3 i).trans c2⟩
/-- the old World, while the new one is filled -/
theorem CP.old {M2 M : PM} {wa r k : Nat} {σ : cS} (h : CP M2 M wa r k σ) (hw : WX M2 wa σ) (hs : WS M2 r) (hr : wa + 10 ≤ r) (hk : k ≤ 9) : WX M wa σ := hw.fr h.1 (fun a h1 h2 => by have := h1.2; have := h2.1; omega) (fun a c hK hp => hs.nth hK ⟨by omega, by omega⟩)
theorem CP.new {M2 M : PM} {wa r k : Nat} {σ : cS} (h : CP M2 M wa r k σ) (hs : WS M2 r) : WS M r := hs.fr h.1 (fun hp => by omega)
theorem CP.done {M2 M : PM} {wa r : Nat} {σ : cS} (h : CP M2 M wa r 9 σ) (hw : WX M2 wa σ) (hs : WS M2 r) (hr : wa + 10 ≤ r) (hi : WI M2 r σ) : WX M r σ := by
  have ho := h.old hw hs hr (Nat.le_refl _)
  have hf := h.1
  have h10 := hs.1
  have e0 : mI M r = mI M2 r := ((hf.2 r (by omega)).2.2 (by omega)).1
  obtain ⟨-, -, hc⟩ := h
  refine ⟨hs.fr hf (by omega), ?_, fun i hi => ?_, fun i hi => ?_, fun i hi => ?_⟩
  · unfold WI
    rw [e0]
    exact hi
  · obtain ⟨⟨ta, a1, a2⟩, a3, a4, a5⟩ := hw.2.2.1 i hi
    have hn : ∀ o, o ≤ 4 → i < nnW σ o := fun o h4 => by unfold nnW; rw [if_pos h4]; exact hi
    exact ⟨⟨ta, (hc 1 (by decide) (by decide) i (hn 1 (by decide))).2.trans a1, a2.fr hf (fun hp => hs.nth a2.2.1 ⟨by omega, by omega⟩)⟩, (hc 2 (by decide) (by decide) i (hn 2 (by decide))).1.trans a3, (hc 3 (by decide) (by decide) i (hn 3 (by decide))).1.trans a4, (hc 4 (by decide) (by decide) i (hn 4 (by decide))).1.trans a5⟩
  · obtain ⟨a1, a2⟩ := hw.2.2.2.1 i hi
    exact ⟨(hc 5 (by decide) (by decide) i hi).1.trans a1, (hc 6 (by decide) (by decide) i hi).1.trans a2⟩
  · obtain ⟨a1, a2, a3⟩ := hw.2.2.2.2 i hi
    exact ⟨(hc 7 (by decide) (by decide) i hi).1.trans a1, (hc 8 (by decide) (by decide) i hi).1.trans a2, (hc 9 (by decide) (by decide) i hi).1.trans a3⟩
theorem CP.rf {M2 : PM} {wa r : Nat} {σ : cS} : CP M2 M2 wa r 0 σ := ⟨frP.rf, rfl, fun o h1 h2 => by omega⟩
theorem frW_new {M0 M : PM} {wa : Nat} (h : frP (inW wa) M0 M) (hw : M0.1 ≤ wa) : frP noP M0 M := h.mono fun a ha hp => by have := hp.1; omega
theorem thr {M : PM} {σ : cS} {wa : Nat} (hw : WX M wa σ) (hB : OkT σ) : ∀ C, atX[6]? = some (.object C) → ∀ i, i < Int32.toNatClampNeg (σ 0 0) → ∀ x, mR M (wa + 1) (Int32.toNatClampNeg 0 + i) = some x → ∃ c q, mK M x = (1, c) ∧ clX[c]? = some q ∧ (q.1 = C ∨ Cond.castable q.1 C ∈ lw_tbl) := by
  intro C hC i hi x hx
  cases hC
  rw [show Int32.toNatClampNeg 0 + i = i from Nat.zero_add i] at hx
  obtain ⟨⟨ta, a1, a2⟩, -⟩ := hw.2.2.1 i hi
  cases a1.symm.trans hx
  rcases kd7 (hB.2 i hi).1 with e | e | e | e | e | e | e
  · exact ⟨12, (RX12, TX12, 3), a2.k e rfl, rfl, Or.inl rfl⟩
  · exact ⟨13, (RX13, TX13, 3), a2.k e rfl, rfl, Or.inr q1951⟩
  · exact ⟨14, (RX14, TX14, 3), a2.k e rfl, rfl, Or.inr q1952⟩
  · exact ⟨15, (RX15, TX15, 3), a2.k e rfl, rfl, Or.inr q1949⟩
  · exact ⟨16, (RX16, TX16, 3), a2.k e rfl, rfl, Or.inr q1950⟩
  · exact ⟨17, (RX17, TX17, 3), a2.k e rfl, rfl, Or.inr q1953⟩
  · exact ⟨18, (RX18, TX18, 3), a2.k e rfl, rfl, Or.inr q1954⟩
theorem rfit {C : String} (r : Option Nat) {i : Int32} {l : Int64} : fits (.object C) (evV (.object C) i l r) = true := by
  cases r <;> rfl
theorem bfit {M : PM} {σ : cS} {wa : Nat} (hw : WX M wa σ) (hB : OkW σ) (i : Nat) (hi : i < Int32.toNatClampNeg (σ 0 0)) {l : Int64} {r : Option Nat} : fits .boolean (evV .boolean (mI M (wa + 4) (Int32.toNatClampNeg 0 + i)) l r) = true := by
  rw [show Int32.toNatClampNeg 0 + i = i from Nat.zero_add i, (hw.2.2.1 i hi).2.2.2]
  rcases (hB.2.2.1 i hi).2.2.2.2.2 with h | ⟨h, -⟩ <;> rw [h] <;> rfl
theorem ct_X3_again {M : PM} {wa : Nat} {σ : cS} (hw : WX M wa σ) (hB9 : OkW σ) : Ct (YX3_again, (2, 60, 10, 78), qr (fun r M' => r = M.1 ∧ WX M' M.1 σ ∧ M'.1 = M.1 + 10 ∧ frP noP M M' ∧ ∀ i, i < Int32.toNatClampNeg (σ 0 0) → mR M' (M.1 + 1) i = mR M (wa + 1) i), noX) [.ref wa] M := by
  refine ct_of [some (.ref wa), none] rfl rfl rfl (Nat.le_of_ble_eq_true rfl) rfl rfl ?_
  have hB := hB9.t
  refine r_new (c := 3) (pc := 0) (RX3, TX3, 18) dX3_again_0 rfl q932 q167 q82 dv_3 (Nat.le_of_ble_eq_true rfl) rfl (Nat.le_of_ble_eq_true rfl) ?_
  refine r_dup (pc := 3) dX3_again_3 rfl ?_
  refine r_o1 (pc := 4) (bc' := 0) (bs' := 0) (ct_X3_init (wa := M.1) (nw_K _ _ _) rfl (nw_I _ _ _)) k_X3_50_3 dX3_again_4 (nw_K _ _ _) (Nat.le_of_ble_eq_true rfl) ⟨Nat.le_of_ble_eq_true rfl, Nat.le_of_ble_eq_true rfl⟩ ⟨Nat.le_of_ble_eq_true rfl, Nat.le_of_ble_eq_true rfl⟩ (r_cv fun M4 p4 => ?_) nox
  obtain ⟨n1, n2, n3⟩ := p4
  have f0 : frP noP M M4 := (frP.rf.nw.trans ((n3.mono (Q := fun a => M.1 ≤ a) fun a _ h => h.1))).mono (P := fun a => M.1 ≤ a) (fun a h1 h2 => by omega)
  have hw1 := hw.grown f0
  have hl := hw.1.1
  have hs1 := n1.1
  refine r_astore1 (pc := 7) dX3_again_7 rfl ?_
  refine r_aload_n (pc := 8) dX3_again_8 rfl ?_
  refine r_aload_n (pc := 9) dX3_again_9 rfl ?_
  refine r_getIe (pc := 10) (v := σ 3 0) dX3_again_10 fl_X3_9_3 hw1.k (fun _ _ => rfl) hw1.i0 ?_
  refine r_putI (pc := 13) dX3_again_13 fl_X3_9_3 hs1.2.1 rfl rfl ?_
  have hu0 := hw1.fr (frP.rf.sI (P := inW M.1) (a := M.1) (k := 0) (v := σ 3 0) (fun _ => inW_0)) (fun a h1 h2 => by have := h1.2; have := h2.1; omega) (fun a c hK hp => hs1.nth hK hp)
  refine r_aload_n (pc := 16) dX3_again_16 rfl ?_
  refine r_aload_n (pc := 17) dX3_again_17 rfl ?_
  refine r_getIe (pc := 18) (v := σ 4 0) dX3_again_18 fl_X3_51_3 hu0.k (fun _ _ => rfl) hu0.i1 ?_
  refine r_putI (pc := 21) dX3_again_21 fl_X3_51_3 hs1.2.1 rfl rfl ?_
  have hu1 := hu0.fr (frP.rf.sI (P := inW M.1) (a := M.1) (k := 1) (v := σ 4 0) (fun _ => inW_0)) (fun a h1 h2 => by have := h1.2; have := h2.1; omega) (fun a c hK hp => hs1.nth hK hp)
  refine r_aload_n (pc := 24) dX3_again_24 rfl ?_
  refine r_aload_n (pc := 25) dX3_again_25 rfl ?_
  refine r_getIe (pc := 26) (v := σ 5 0) dX3_again_26 fl_X3_54_3 hu1.k (fun _ _ => rfl) hu1.i2 ?_
  refine r_putI (pc := 29) dX3_again_29 fl_X3_54_3 hs1.2.1 rfl rfl ?_
  have hu2 := hu1.fr (frP.rf.sI (P := inW M.1) (a := M.1) (k := 2) (v := σ 5 0) (fun _ => inW_0)) (fun a h1 h2 => by have := h1.2; have := h2.1; omega) (fun a c hK hp => hs1.nth hK hp)
  refine r_aload_n (pc := 32) dX3_again_32 rfl ?_
  refine r_aload_n (pc := 33) dX3_again_33 rfl ?_
  refine r_getIe (pc := 34) (v := σ 6 0) dX3_again_34 fl_X3_57_3 hu2.k (fun _ _ => rfl) hu2.i3 ?_
  refine r_putI (pc := 37) dX3_again_37 fl_X3_57_3 hs1.2.1 rfl rfl ?_
  have hu3 := hu2.fr (frP.rf.sI (P := inW M.1) (a := M.1) (k := 3) (v := σ 6 0) (fun _ => inW_0)) (fun a h1 h2 => by have := h1.2; have := h2.1; omega) (fun a c hK hp => hs1.nth hK hp)
  refine r_aload_n (pc := 40) dX3_again_40 rfl ?_
  refine r_aload_n (pc := 41) dX3_again_41 rfl ?_
  refine r_getIe (pc := 42) (v := σ 0 0) dX3_again_42 fl_X3_60_3 hu3.k (fun _ _ => rfl) hu3.i4 ?_
  refine r_putI (pc := 45) dX3_again_45 fl_X3_60_3 hs1.2.1 rfl rfl ?_
  have hu4 := hu3.fr (frP.rf.sI (P := inW M.1) (a := M.1) (k := 4) (v := σ 0 0) (fun _ => inW_0)) (fun a h1 h2 => by have := h1.2; have := h2.1; omega) (fun a c hK hp => hs1.nth hK hp)
  refine r_aload_n (pc := 48) dX3_again_48 rfl ?_
  refine r_aload_n (pc := 49) dX3_again_49 rfl ?_
  refine r_getIe (pc := 50) (v := σ 1 0) dX3_again_50 fl_X3_63_3 hu4.k (fun _ _ => rfl) hu4.i5 ?_
  refine r_putI (pc := 53) dX3_again_53 fl_X3_63_3 hs1.2.1 rfl rfl ?_
  have hu5 := hu4.fr (frP.rf.sI (P := inW M.1) (a := M.1) (k := 5) (v := σ 1 0) (fun _ => inW_0)) (fun a h1 h2 => by have := h1.2; have := h2.1; omega) (fun a c hK hp => hs1.nth hK hp)
  refine r_aload_n (pc := 56) dX3_again_56 rfl ?_
  refine r_aload_n (pc := 57) dX3_again_57 rfl ?_
  refine r_getIe (pc := 58) (v := σ 2 0) dX3_again_58 fl_X3_66_3 hu5.k (fun _ _ => rfl) hu5.i6 ?_
  refine r_putI (pc := 61) dX3_again_61 fl_X3_66_3 hs1.2.1 rfl rfl ?_
  have hu6 := hu5.fr (frP.rf.sI (P := inW M.1) (a := M.1) (k := 6) (v := σ 2 0) (fun _ => inW_0)) (fun a h1 h2 => by have := h1.2; have := h2.1; omega) (fun a c hK hp => hs1.nth hK hp)
  refine r_aload_n (pc := 64) dX3_again_64 rfl ?_
  refine r_aload_n (pc := 65) dX3_again_65 rfl ?_
  refine r_getIe (pc := 66) (v := σ 8 0) dX3_again_66 fl_X3_69_3 hu6.k (fun _ _ => rfl) hu6.i7 ?_
  refine r_putI (pc := 69) dX3_again_69 fl_X3_69_3 hs1.2.1 rfl rfl ?_
  have hu7 := hu6.fr (frP.rf.sI (P := inW M.1) (a := M.1) (k := 7) (v := σ 8 0) (fun _ => inW_0)) (fun a h1 h2 => by have := h1.2; have := h2.1; omega) (fun a c hK hp => hs1.nth hK hp)
  refine r_aload_n (pc := 72) dX3_again_72 rfl ?_
  refine r_aload_n (pc := 73) dX3_again_73 rfl ?_
  refine r_getIe (pc := 74) (v := σ 7 0) dX3_again_74 fl_X3_15_3 hu7.k (fun _ _ => rfl) hu7.i8 ?_
  refine r_putI (pc := 77) dX3_again_77 fl_X3_15_3 hs1.2.1 rfl rfl ?_
  have hu8 := hu7.fr (frP.rf.sI (P := inW M.1) (a := M.1) (k := 8) (v := σ 7 0) (fun _ => inW_0)) (fun a h1 h2 => by have := h1.2; have := h2.1; omega) (fun a c hK hp => hs1.nth hK hp)
  refine r_gen (P := fun M2 => WX M2 wa σ ∧ WS M2 M.1 ∧ WI M2 M.1 σ ∧ M2.1 = M.1 + 10 ∧ frP (fun a => M.1 ≤ a) M4 M2) ⟨hu8, hs1, ⟨by simp [mI, sI, up2_ap], by simp [mI, sI, up2_ap], by simp [mI, sI, up2_ap], by simp [mI, sI, up2_ap], by simp [mI, sI, up2_ap], by simp [mI, sI, up2_ap], by simp [mI, sI, up2_ap], by simp [mI, sI, up2_ap], by simp [mI, sI, up2_ap]⟩, n2, (((((((((frP.rf.sI (fun _ => Nat.le_refl _)).sI (fun _ => Nat.le_refl _)).sI (fun _ => Nat.le_refl _)).sI (fun _ => Nat.le_refl _)).sI (fun _ => Nat.le_refl _)).sI (fun _ => Nat.le_refl _)).sI (fun _ => Nat.le_refl _)).sI (fun _ => Nat.le_refl _)).sI (fun _ => Nat.le_refl _))⟩ (fun M2 g2 => ?_)
  obtain ⟨hw2, hs2, hi2, n9, f9⟩ := g2
  have c0 := CP.rf (M2 := M2) (wa := wa) (r := M.1) (σ := σ)
  refine r_aload_n (pc := 80) dX3_again_80 rfl ?_
  refine r_getR (pc := 81) dX3_again_81 fl_X3_20_3 hw2.k (fun _ _ => rfl) hw2.r9 ?_
  refine r_iconst (pc := 84) (v := 0) dX3_again_84 (by decide) ?_
  refine r_aload_n (pc := 85) dX3_again_85 rfl ?_
  refine r_getR (pc := 86) dX3_again_86 fl_X3_20_3 hs2.2.1 (fun _ _ => rfl) (hs2.2.2 0 (by decide)).1 ?_
  refine r_iconst (pc := 89) (v := 0) dX3_again_89 (by decide) ?_
  refine r_aload_n (pc := 90) dX3_again_90 rfl ?_
  refine r_getIe (pc := 91) (v := σ 0 0) dX3_again_91 fl_X3_60_3 hw2.k (fun _ _ => rfl) hw2.i4 ?_
  refine r_copy (t := 6) (na := 8) (nb := 8) (pc := 94) dX3_again_94 q934 hw2.k9 (hs2.2.2 0 (by decide)).2.1 hw2.z9 (hs2.2.2 0 (by decide)).2.2 (by decide) (by decide) (n_neg hB.1.1.1) (by have h9 := hB.1.1; show 0 + (σ 0 0).toInt.toNat ≤ 8; omega) (by have h9 := hB.1.1; show 0 + (σ 0 0).toInt.toNat ≤ 8; omega) (fun ty h i hi => by cases h; exact rfit _) (thr hw2 hB) (fun ty h => by cases h) (Nat.le_of_ble_eq_true rfl) (Nat.le_of_ble_eq_true rfl) ?_
  refine r_gen (P := fun M' => CP M2 M' wa M.1 1 σ) (c0.step (by omega) (by omega) (by decide)) (fun Mc1 c1 => ?_)
  have hv1 := c1.old hw2 hs2 (by omega) (by decide)
  have ht1 := c1.new hs2
  refine r_aload_n (pc := 97) dX3_again_97 rfl ?_
  refine r_getR (pc := 98) dX3_again_98 fl_X3_24_3 hv1.k (fun _ _ => rfl) hv1.r10 ?_
  refine r_iconst (pc := 101) (v := 0) dX3_again_101 (by decide) ?_
  refine r_aload_n (pc := 102) dX3_again_102 rfl ?_
  refine r_getR (pc := 103) dX3_again_103 fl_X3_24_3 ht1.2.1 (fun _ _ => rfl) (ht1.2.2 1 (by decide)).1 ?_
  refine r_iconst (pc := 106) (v := 0) dX3_again_106 (by decide) ?_
  refine r_aload_n (pc := 107) dX3_again_107 rfl ?_
  refine r_getIe (pc := 108) (v := σ 0 0) dX3_again_108 fl_X3_60_3 hv1.k (fun _ _ => rfl) hv1.i4 ?_
  refine r_copy (t := 0) (na := 8) (nb := 8) (pc := 111) dX3_again_111 q934 hv1.k10 (ht1.2.2 1 (by decide)).2.1 hv1.z10 (ht1.2.2 1 (by decide)).2.2 (by decide) (by decide) (n_neg hB.1.1.1) (by have h9 := hB.1.1; show 0 + (σ 0 0).toInt.toNat ≤ 8; omega) (by have h9 := hB.1.1; show 0 + (σ 0 0).toInt.toNat ≤ 8; omega) (fun ty h i hi => by cases h; rfl) (fun C h => by cases h) (fun ty h => by cases h) (Nat.le_of_ble_eq_true rfl) (Nat.le_of_ble_eq_true rfl) ?_
  refine r_gen (P := fun M' => CP M2 M' wa M.1 2 σ) (c1.step (by omega) (by omega) (by decide)) (fun Mc2 c2 => ?_)
  have hv2 := c2.old hw2 hs2 (by omega) (by decide)
  have ht2 := c2.new hs2
  refine r_aload_n (pc := 114) dX3_again_114 rfl ?_
  refine r_getR (pc := 115) dX3_again_115 fl_X3_28_3 hv2.k (fun _ _ => rfl) hv2.r11 ?_
  refine r_iconst (pc := 118) (v := 0) dX3_again_118 (by decide) ?_
  refine r_aload_n (pc := 119) dX3_again_119 rfl ?_
  refine r_getR (pc := 120) dX3_again_120 fl_X3_28_3 ht2.2.1 (fun _ _ => rfl) (ht2.2.2 2 (by decide)).1 ?_
  refine r_iconst (pc := 123) (v := 0) dX3_again_123 (by decide) ?_
  refine r_aload_n (pc := 124) dX3_again_124 rfl ?_
  refine r_getIe (pc := 125) (v := σ 0 0) dX3_again_125 fl_X3_60_3 hv2.k (fun _ _ => rfl) hv2.i4 ?_
  refine r_copy (t := 0) (na := 8) (nb := 8) (pc := 128) dX3_again_128 q934 hv2.k11 (ht2.2.2 2 (by decide)).2.1 hv2.z11 (ht2.2.2 2 (by decide)).2.2 (by decide) (by decide) (n_neg hB.1.1.1) (by have h9 := hB.1.1; show 0 + (σ 0 0).toInt.toNat ≤ 8; omega) (by have h9 := hB.1.1; show 0 + (σ 0 0).toInt.toNat ≤ 8; omega) (fun ty h i hi => by cases h; rfl) (fun C h => by cases h) (fun ty h => by cases h) (Nat.le_of_ble_eq_true rfl) (Nat.le_of_ble_eq_true rfl) ?_
  refine r_gen (P := fun M' => CP M2 M' wa M.1 3 σ) (c2.step (by omega) (by omega) (by decide)) (fun Mc3 c3 => ?_)
  have hv3 := c3.old hw2 hs2 (by omega) (by decide)
  have ht3 := c3.new hs2
  refine r_aload_n (pc := 131) dX3_again_131 rfl ?_
  refine r_getR (pc := 132) dX3_again_132 fl_X3_31_3 hv3.k (fun _ _ => rfl) hv3.r12 ?_
  refine r_iconst (pc := 135) (v := 0) dX3_again_135 (by decide) ?_
  refine r_aload_n (pc := 136) dX3_again_136 rfl ?_
  refine r_getR (pc := 137) dX3_again_137 fl_X3_31_3 ht3.2.1 (fun _ _ => rfl) (ht3.2.2 3 (by decide)).1 ?_
  refine r_iconst (pc := 140) (v := 0) dX3_again_140 (by decide) ?_
  refine r_aload_n (pc := 141) dX3_again_141 rfl ?_
  refine r_getIe (pc := 142) (v := σ 0 0) dX3_again_142 fl_X3_60_3 hv3.k (fun _ _ => rfl) hv3.i4 ?_
  refine r_copy (t := 3) (na := 8) (nb := 8) (pc := 145) dX3_again_145 q934 hv3.k12 (ht3.2.2 3 (by decide)).2.1 hv3.z12 (ht3.2.2 3 (by decide)).2.2 (by decide) (by decide) (n_neg hB.1.1.1) (by have h9 := hB.1.1; show 0 + (σ 0 0).toInt.toNat ≤ 8; omega) (by have h9 := hB.1.1; show 0 + (σ 0 0).toInt.toNat ≤ 8; omega) (fun ty h i hi => by cases h; exact bfit hv3 hB9 i hi) (fun C h => by cases h) (fun ty h => by cases h) (Nat.le_of_ble_eq_true rfl) (Nat.le_of_ble_eq_true rfl) ?_
  refine r_gen (P := fun M' => CP M2 M' wa M.1 4 σ) (c3.step (by omega) (by omega) (by decide)) (fun Mc4 c4 => ?_)
  have hv4 := c4.old hw2 hs2 (by omega) (by decide)
  have ht4 := c4.new hs2
  refine r_aload_n (pc := 148) dX3_again_148 rfl ?_
  refine r_getR (pc := 149) dX3_again_149 fl_X3_35_3 hv4.k (fun _ _ => rfl) hv4.r13 ?_
  refine r_iconst (pc := 152) (v := 0) dX3_again_152 (by decide) ?_
  refine r_aload_n (pc := 153) dX3_again_153 rfl ?_
  refine r_getR (pc := 154) dX3_again_154 fl_X3_35_3 ht4.2.1 (fun _ _ => rfl) (ht4.2.2 4 (by decide)).1 ?_
  refine r_iconst (pc := 157) (v := 0) dX3_again_157 (by decide) ?_
  refine r_aload_n (pc := 158) dX3_again_158 rfl ?_
  refine r_getIe (pc := 159) (v := σ 1 0) dX3_again_159 fl_X3_63_3 hv4.k (fun _ _ => rfl) hv4.i5 ?_
  refine r_copy (t := 0) (na := 8) (nb := 8) (pc := 162) dX3_again_162 q934 hv4.k13 (ht4.2.2 4 (by decide)).2.1 hv4.z13 (ht4.2.2 4 (by decide)).2.2 (by decide) (by decide) (n_neg hB.1.2.1.1) (by have h9 := hB.1.2.1; show 0 + (σ 1 0).toInt.toNat ≤ 8; omega) (by have h9 := hB.1.2.1; show 0 + (σ 1 0).toInt.toNat ≤ 8; omega) (fun ty h i hi => by cases h; rfl) (fun C h => by cases h) (fun ty h => by cases h) (Nat.le_of_ble_eq_true rfl) (Nat.le_of_ble_eq_true rfl) ?_
  refine r_gen (P := fun M' => CP M2 M' wa M.1 5 σ) (c4.step (by omega) (by omega) (by decide)) (fun Mc5 c5 => ?_)
  have hv5 := c5.old hw2 hs2 (by omega) (by decide)
  have ht5 := c5.new hs2
  refine r_aload_n (pc := 165) dX3_again_165 rfl ?_
  refine r_getR (pc := 166) dX3_again_166 fl_X3_38_3 hv5.k (fun _ _ => rfl) hv5.r14 ?_
  refine r_iconst (pc := 169) (v := 0) dX3_again_169 (by decide) ?_
  refine r_aload_n (pc := 170) dX3_again_170 rfl ?_
  refine r_getR (pc := 171) dX3_again_171 fl_X3_38_3 ht5.2.1 (fun _ _ => rfl) (ht5.2.2 5 (by decide)).1 ?_
  refine r_iconst (pc := 174) (v := 0) dX3_again_174 (by decide) ?_
  refine r_aload_n (pc := 175) dX3_again_175 rfl ?_
  refine r_getIe (pc := 176) (v := σ 1 0) dX3_again_176 fl_X3_63_3 hv5.k (fun _ _ => rfl) hv5.i5 ?_
  refine r_copy (t := 0) (na := 8) (nb := 8) (pc := 179) dX3_again_179 q934 hv5.k14 (ht5.2.2 5 (by decide)).2.1 hv5.z14 (ht5.2.2 5 (by decide)).2.2 (by decide) (by decide) (n_neg hB.1.2.1.1) (by have h9 := hB.1.2.1; show 0 + (σ 1 0).toInt.toNat ≤ 8; omega) (by have h9 := hB.1.2.1; show 0 + (σ 1 0).toInt.toNat ≤ 8; omega) (fun ty h i hi => by cases h; rfl) (fun C h => by cases h) (fun ty h => by cases h) (Nat.le_of_ble_eq_true rfl) (Nat.le_of_ble_eq_true rfl) ?_
  refine r_gen (P := fun M' => CP M2 M' wa M.1 6 σ) (c5.step (by omega) (by omega) (by decide)) (fun Mc6 c6 => ?_)
  have hv6 := c6.old hw2 hs2 (by omega) (by decide)
  have ht6 := c6.new hs2
  refine r_aload_n (pc := 182) dX3_again_182 rfl ?_
  refine r_getR (pc := 183) dX3_again_183 fl_X3_41_3 hv6.k (fun _ _ => rfl) hv6.r15 ?_
  refine r_iconst (pc := 186) (v := 0) dX3_again_186 (by decide) ?_
  refine r_aload_n (pc := 187) dX3_again_187 rfl ?_
  refine r_getR (pc := 188) dX3_again_188 fl_X3_41_3 ht6.2.1 (fun _ _ => rfl) (ht6.2.2 6 (by decide)).1 ?_
  refine r_iconst (pc := 191) (v := 0) dX3_again_191 (by decide) ?_
  refine r_aload_n (pc := 192) dX3_again_192 rfl ?_
  refine r_getIe (pc := 193) (v := σ 2 0) dX3_again_193 fl_X3_66_3 hv6.k (fun _ _ => rfl) hv6.i6 ?_
  refine r_copy (t := 0) (na := 4) (nb := 4) (pc := 196) dX3_again_196 q934 hv6.k15 (ht6.2.2 6 (by decide)).2.1 hv6.z15 (ht6.2.2 6 (by decide)).2.2 (by decide) (by decide) (n_neg hB.1.2.2.1) (by have h9 := hB.1.2.2; show 0 + (σ 2 0).toInt.toNat ≤ 4; omega) (by have h9 := hB.1.2.2; show 0 + (σ 2 0).toInt.toNat ≤ 4; omega) (fun ty h i hi => by cases h; rfl) (fun C h => by cases h) (fun ty h => by cases h) (Nat.le_of_ble_eq_true rfl) (Nat.le_of_ble_eq_true rfl) ?_
  refine r_gen (P := fun M' => CP M2 M' wa M.1 7 σ) (c6.step (by omega) (by omega) (by decide)) (fun Mc7 c7 => ?_)
  have hv7 := c7.old hw2 hs2 (by omega) (by decide)
  have ht7 := c7.new hs2
  refine r_aload_n (pc := 199) dX3_again_199 rfl ?_
  refine r_getR (pc := 200) dX3_again_200 fl_X3_44_3 hv7.k (fun _ _ => rfl) hv7.r16 ?_
  refine r_iconst (pc := 203) (v := 0) dX3_again_203 (by decide) ?_
  refine r_aload_n (pc := 204) dX3_again_204 rfl ?_
  refine r_getR (pc := 205) dX3_again_205 fl_X3_44_3 ht7.2.1 (fun _ _ => rfl) (ht7.2.2 7 (by decide)).1 ?_
  refine r_iconst (pc := 208) (v := 0) dX3_again_208 (by decide) ?_
  refine r_aload_n (pc := 209) dX3_again_209 rfl ?_
  refine r_getIe (pc := 210) (v := σ 2 0) dX3_again_210 fl_X3_66_3 hv7.k (fun _ _ => rfl) hv7.i6 ?_
  refine r_copy (t := 0) (na := 4) (nb := 4) (pc := 213) dX3_again_213 q934 hv7.k16 (ht7.2.2 7 (by decide)).2.1 hv7.z16 (ht7.2.2 7 (by decide)).2.2 (by decide) (by decide) (n_neg hB.1.2.2.1) (by have h9 := hB.1.2.2; show 0 + (σ 2 0).toInt.toNat ≤ 4; omega) (by have h9 := hB.1.2.2; show 0 + (σ 2 0).toInt.toNat ≤ 4; omega) (fun ty h i hi => by cases h; rfl) (fun C h => by cases h) (fun ty h => by cases h) (Nat.le_of_ble_eq_true rfl) (Nat.le_of_ble_eq_true rfl) ?_
  refine r_gen (P := fun M' => CP M2 M' wa M.1 8 σ) (c7.step (by omega) (by omega) (by decide)) (fun Mc8 c8 => ?_)
  have hv8 := c8.old hw2 hs2 (by omega) (by decide)
  have ht8 := c8.new hs2
  refine r_aload_n (pc := 216) dX3_again_216 rfl ?_
  refine r_getR (pc := 217) dX3_again_217 fl_X3_47_3 hv8.k (fun _ _ => rfl) hv8.r17 ?_
  refine r_iconst (pc := 220) (v := 0) dX3_again_220 (by decide) ?_
  refine r_aload_n (pc := 221) dX3_again_221 rfl ?_
  refine r_getR (pc := 222) dX3_again_222 fl_X3_47_3 ht8.2.1 (fun _ _ => rfl) (ht8.2.2 8 (by decide)).1 ?_
  refine r_iconst (pc := 225) (v := 0) dX3_again_225 (by decide) ?_
  refine r_aload_n (pc := 226) dX3_again_226 rfl ?_
  refine r_getIe (pc := 227) (v := σ 2 0) dX3_again_227 fl_X3_66_3 hv8.k (fun _ _ => rfl) hv8.i6 ?_
  refine r_copy (t := 0) (na := 4) (nb := 4) (pc := 230) dX3_again_230 q934 hv8.k17 (ht8.2.2 8 (by decide)).2.1 hv8.z17 (ht8.2.2 8 (by decide)).2.2 (by decide) (by decide) (n_neg hB.1.2.2.1) (by have h9 := hB.1.2.2; show 0 + (σ 2 0).toInt.toNat ≤ 4; omega) (by have h9 := hB.1.2.2; show 0 + (σ 2 0).toInt.toNat ≤ 4; omega) (fun ty h i hi => by cases h; rfl) (fun C h => by cases h) (fun ty h => by cases h) (Nat.le_of_ble_eq_true rfl) (Nat.le_of_ble_eq_true rfl) ?_
  refine r_gen (P := fun M' => CP M2 M' wa M.1 9 σ) (c8.step (by omega) (by omega) (by decide)) (fun Mc9 c9 => ?_)
  have hv9 := c9.old hw2 hs2 (by omega) (by decide)
  have ht9 := c9.new hs2
  refine r_aload_n (pc := 233) dX3_again_233 rfl ?_
  refine r_areturn (pc := 234) rfl (Or.inl ⟨_, rfl⟩) (Or.inr ⟨_, rfl⟩) dX3_again_234 ⟨_, rfl, ?_⟩
  refine ⟨rfl, c9.done hw2 hs2 (by omega) hi2, c9.2.1.trans n9, ?_, fun i hi => ?_⟩
  · exact frP.mono (P := fun a => M.1 ≤ a) (frP.trans (f0.mono (fun _ _ h => h.elim)) (frP.trans f9 (c9.1.mono (fun a _ hp => by omega)))) (fun a ha hp => by omega)
  · rw [(c9.2.2 1 (by decide) (by decide) i (by unfold nnW; rw [if_pos (by decide)]; exact hi)).2, ((f9.2 (wa + 1) (by omega)).2.2 (by omega)).2.2, ((f0.2 (wa + 1) (by omega)).2.2 id).2.2]
