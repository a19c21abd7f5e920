/-! THE LAW'S LOOP (printed by gen/mk_x93.py) -/
set_option maxRecDepth 100000
theorem law_loop {Ω : OM} {l : Launch} {p : Program} {e : Env} {s : State} {m : MethodId} {args : Array Value} {below : List Frame} {meth : Method} {c : Code} (F : Fx Ω GL l p s m args meth c) {xo mo : Nat} (hL : Ω.2.2.2.2 7 ≤ 384)
    (h2 : ∀ (M : PM) (j n : Nat), 6 * j + 5 < Ω.2.2.2.2 7 → LI M xo mo → (∀ M', LI M' xo mo → WL Ω l p e s m args below meth c GL (2773 * n) (19897 * n) M' 1747 [some (.ref (Ω.2.2.2.2 6)), some (.ref xo), some (.ref mo), some (.int (nI (6 * j)))] []) → WL Ω l p e s m args below meth c GL (2773 * (n + 1)) (19897 * (n + 1)) M 340 [some (.ref (Ω.2.2.2.2 6)), some (.ref xo), some (.ref mo), some (.int (nI (6 * j)))] []) :
    ∀ (n j : Nat) (M : PM), j + n = 64 → LI M xo mo → WL Ω l p e s m args below meth c GL (2773 * n) (19897 * n) M 18 [some (.ref (Ω.2.2.2.2 6)), some (.ref xo), some (.ref mo), some (.int (nI (6 * j)))] [] := by
  intro n
  induction n with
  | zero =>
    intro j M hj hl
    have e64 : j = 64 := by omega
    subst e64
    refine l_iload_n F (pc := 18) dL_law_18 rfl ?_
    refine l_aload_n F (pc := 19) dL_law_19 rfl ?_
    refine l_scrLen F (pc := 20) dL_law_20 ?_
    refine l_bipush F (pc := 21) (v := 6) dL_law_21 (by decide) ?_
    refine l_isub F (pc := 23) dL_law_23 ?_
    refine l_icmp_gt F (pc := 24) 1753 dL_law_24 rfl (fun _ => ?_) (fun hno => False.elim (hno ((scr_go hL (by decide)).mpr (by omega))))
    refine l_iconst F (pc := 1753) (v := 1) dL_law_1753 (by decide) ?_
    refine l_zreturn F (pc := 1754) rfl rfl dL_law_1754 ⟨_, rfl, ?_⟩
    rfl
  | succ n ih =>
    intro j M hj hl
    have hnx : ∀ M', LI M' xo mo → WL Ω l p e s m args below meth c GL (2773 * n) (19897 * n) M' 1747 [some (.ref (Ω.2.2.2.2 6)), some (.ref xo), some (.ref mo), some (.int (nI (6 * j)))] [] := by
      intro M' hl'
      refine l_iinc3 F (pc := 1747) dL_law_1747 (scr_nx (by omega)) rfl ?_
      refine l_goto F (pc := 1750) 18 dL_law_1750 rfl ?_
      exact ih (j + 1) M' (by omega) hl'
    refine l_iload_n F (pc := 18) dL_law_18 rfl ?_
    refine l_aload_n F (pc := 19) dL_law_19 rfl ?_
    refine l_scrLen F (pc := 20) dL_law_20 ?_
    refine l_bipush F (pc := 21) (v := 6) dL_law_21 (by decide) ?_
    refine l_isub F (pc := 23) dL_law_23 ?_
    refine l_icmp_gt F (pc := 24) 1753 dL_law_24 rfl (fun h24 => ?_) (fun h24 => ?_)
    · refine l_iconst F (pc := 1753) (v := 1) dL_law_1753 (by decide) ?_
      refine l_zreturn F (pc := 1754) rfl rfl dL_law_1754 ⟨_, rfl, ?_⟩
      rfl
    · have hj6 : 6 * j + 5 < Ω.2.2.2.2 7 := Classical.byContradiction fun q => h24 ((scr_go hL (by omega)).mpr q)
      refine l_aload_n F (pc := 27) dL_law_27 rfl ?_
      refine l_iload_n F (pc := 28) dL_law_28 rfl ?_
      refine l_scr F (pc := 29) dL_law_29 (scr_0 hj6 hL) ?_
      refine l_bipush F (pc := 30) (v := 63) dL_law_30 (by decide) ?_
      refine l_iand F (pc := 32) dL_law_32 ?_
      refine l_sp_0_43 F (fun _ => ?_) (fun _ => ?_) (fun _ => ?_) (fun _ => ?_) (fun _ => ?_) (fun _ => ?_) (fun _ => ?_) (fun _ => ?_) (fun _ => ?_) (fun _ => ?_) (fun _ => ?_) (fun _ => ?_) (fun _ => ?_) (fun _ => ?_) (fun _ => ?_) (fun _ => ?_) (fun _ => ?_) (fun _ => ?_) (fun _ => ?_) (fun _ => ?_) (fun _ => ?_) (fun _ => ?_) (fun _ => ?_) (fun _ => ?_) (fun _ => ?_) (fun _ => ?_) (fun _ => ?_) (fun _ => ?_) (fun _ => ?_) (fun _ => ?_) (fun _ => ?_) (fun _ => ?_) (fun _ => ?_) (fun _ => ?_) (fun _ => ?_) (fun _ => ?_) (fun _ => ?_) (fun _ => ?_) (fun _ => ?_) (fun _ => ?_) (fun _ => ?_) (fun _ => ?_) (fun _ => ?_) (fun _ => ?_) (fun h33 => ?_)
      · exact l_swIn F (pc := 33) 224 dL_law_33 (by decide) (by decide) rfl rfl (law_0 F hL hj6 hl hnx)
      · exact l_swIn F (pc := 33) 267 dL_law_33 (by decide) (by decide) rfl rfl (law_1 F hL hj6 hl hnx)
      · exact l_swIn F (pc := 33) 340 dL_law_33 (by decide) (by decide) rfl rfl (h2 M j n hj6 hl hnx)
      · exact l_swIn F (pc := 33) 403 dL_law_33 (by decide) (by decide) rfl rfl (law_3 F hL hj6 hl hnx)
      · exact l_swIn F (pc := 33) 437 dL_law_33 (by decide) (by decide) rfl rfl (law_4 F hL hj6 hl hnx)
      · exact l_swIn F (pc := 33) 470 dL_law_33 (by decide) (by decide) rfl rfl (law_5 F hL hj6 hl hnx)
      · exact l_swIn F (pc := 33) 493 dL_law_33 (by decide) (by decide) rfl rfl (law_6 F hL hj6 hl hnx)
      · exact l_swIn F (pc := 33) 526 dL_law_33 (by decide) (by decide) rfl rfl (law_7 F hL hj6 hl hnx)
      · exact l_swIn F (pc := 33) 579 dL_law_33 (by decide) (by decide) rfl rfl (law_8 F hL hj6 hl hnx)
      · exact l_swIn F (pc := 33) 602 dL_law_33 (by decide) (by decide) rfl rfl (law_9 F hL hj6 hl hnx)
      · exact l_swIn F (pc := 33) 645 dL_law_33 (by decide) (by decide) rfl rfl (law_10 F hL hj6 hl hnx)
      · exact l_swIn F (pc := 33) 688 dL_law_33 (by decide) (by decide) rfl rfl (law_11 F hL hj6 hl hnx)
      · exact l_swIn F (pc := 33) 721 dL_law_33 (by decide) (by decide) rfl rfl (law_12 F hL hj6 hl hnx)
      · exact l_swIn F (pc := 33) 754 dL_law_33 (by decide) (by decide) rfl rfl (law_13 F hL hj6 hl hnx)
      · exact l_swIn F (pc := 33) 787 dL_law_33 (by decide) (by decide) rfl rfl (law_14 F hL hj6 hl hnx)
      · exact l_swIn F (pc := 33) 820 dL_law_33 (by decide) (by decide) rfl rfl (law_15 F hL hj6 hl hnx)
      · exact l_swIn F (pc := 33) 853 dL_law_33 (by decide) (by decide) rfl rfl (law_16 F hL hj6 hl hnx)
      · exact l_swIn F (pc := 33) 876 dL_law_33 (by decide) (by decide) rfl rfl (law_17 F hL hj6 hl hnx)
      · exact l_swIn F (pc := 33) 889 dL_law_33 (by decide) (by decide) rfl rfl (law_18 F hL hj6 hl hnx)
      · exact l_swIn F (pc := 33) 922 dL_law_33 (by decide) (by decide) rfl rfl (law_19 F hL hj6 hl hnx)
      · exact l_swIn F (pc := 33) 965 dL_law_33 (by decide) (by decide) rfl rfl (law_20 F hL hj6 hl hnx)
      · exact l_swIn F (pc := 33) 1008 dL_law_33 (by decide) (by decide) rfl rfl (law_21 F hL hj6 hl hnx)
      · exact l_swIn F (pc := 33) 1051 dL_law_33 (by decide) (by decide) rfl rfl (law_22 F hL hj6 hl hnx)
      · exact l_swIn F (pc := 33) 1084 dL_law_33 (by decide) (by decide) rfl rfl (law_23 F hL hj6 hl hnx)
      · exact l_swIn F (pc := 33) 1127 dL_law_33 (by decide) (by decide) rfl rfl (law_24 F hL hj6 hl hnx)
      · exact l_swIn F (pc := 33) 1160 dL_law_33 (by decide) (by decide) rfl rfl (law_25 F hL hj6 hl hnx)
      · exact l_swIn F (pc := 33) 1213 dL_law_33 (by decide) (by decide) rfl rfl (law_26 F hL hj6 hl hnx)
      · exact l_swIn F (pc := 33) 1246 dL_law_33 (by decide) (by decide) rfl rfl (law_27 F hL hj6 hl hnx)
      · exact l_swIn F (pc := 33) 1259 dL_law_33 (by decide) (by decide) rfl rfl (law_28 F hL hj6 hl hnx)
      · exact l_swIn F (pc := 33) 1282 dL_law_33 (by decide) (by decide) rfl rfl (law_29 F hL hj6 hl hnx)
      · exact l_swIn F (pc := 33) 1325 dL_law_33 (by decide) (by decide) rfl rfl (law_30 F hL hj6 hl hnx)
      · exact l_swIn F (pc := 33) 1358 dL_law_33 (by decide) (by decide) rfl rfl (law_31 F hL hj6 hl hnx)
      · exact l_swIn F (pc := 33) 1411 dL_law_33 (by decide) (by decide) rfl rfl (law_32 F hL hj6 hl hnx)
      · exact l_swIn F (pc := 33) 1454 dL_law_33 (by decide) (by decide) rfl rfl (law_33 F hL hj6 hl hnx)
      · exact l_swIn F (pc := 33) 1497 dL_law_33 (by decide) (by decide) rfl rfl (law_34 F hL hj6 hl hnx)
      · exact l_swIn F (pc := 33) 1530 dL_law_33 (by decide) (by decide) rfl rfl (law_35 F hL hj6 hl hnx)
      · exact l_swIn F (pc := 33) 1573 dL_law_33 (by decide) (by decide) rfl rfl (law_36 F hL hj6 hl hnx)
      · exact l_swIn F (pc := 33) 1596 dL_law_33 (by decide) (by decide) rfl rfl (law_37 F hL hj6 hl hnx)
      · exact l_swIn F (pc := 33) 1609 dL_law_33 (by decide) (by decide) rfl rfl (law_38 F hL hj6 hl hnx)
      · exact l_swIn F (pc := 33) 1632 dL_law_33 (by decide) (by decide) rfl rfl (law_39 F hL hj6 hl hnx)
      · exact l_swIn F (pc := 33) 1675 dL_law_33 (by decide) (by decide) rfl rfl (law_40 F hL hj6 hl hnx)
      · exact l_swIn F (pc := 33) 1698 dL_law_33 (by decide) (by decide) rfl rfl (law_41 F hL hj6 hl hnx)
      · exact l_swIn F (pc := 33) 1711 dL_law_33 (by decide) (by decide) rfl rfl (law_42 F hL hj6 hl hnx)
      · exact l_swIn F (pc := 33) 1724 dL_law_33 (by decide) (by decide) rfl rfl (law_43 F hL hj6 hl hnx)
      · exact l_swOut F (pc := 33) 1747 dL_law_33 h33 rfl (l_les (by show 2773 * n ≤ 2773 * (n + 1); omega) (by show 19897 * n ≤ 19897 * (n + 1); omega) (hnx M hl))
theorem dv_0 : ∀ j, j < 9 → defaultValue (ftX 0 j) = fv (ftX 0 j) 0 none := by
  intro j hj
  match j, hj with
  | 0, _ => rfl
  | 1, _ => rfl
  | 2, _ => rfl
  | 3, _ => rfl
  | 4, _ => rfl
  | 5, _ => rfl
  | 6, _ => rfl
  | 7, _ => rfl
  | 8, _ => rfl
theorem dv_5 : ∀ j, j < 50 → defaultValue (ftX 5 j) = fv (ftX 5 j) 0 none := by
  intro j hj
  match j, hj with
  | 0, _ => rfl
  | 1, _ => rfl
  | 2, _ => rfl
  | 3, _ => rfl
  | 4, _ => rfl
  | 5, _ => rfl
  | 6, _ => rfl
  | 7, _ => rfl
  | 8, _ => rfl
  | 9, _ => rfl
  | 10, _ => rfl
  | 11, _ => rfl
  | 12, _ => rfl
  | 13, _ => rfl
  | 14, _ => rfl
  | 15, _ => rfl
  | 16, _ => rfl
  | 17, _ => rfl
  | 18, _ => rfl
  | 19, _ => rfl
  | 20, _ => rfl
  | 21, _ => rfl
  | 22, _ => rfl
  | 23, _ => rfl
  | 24, _ => rfl
  | 25, _ => rfl
  | 26, _ => rfl
  | 27, _ => rfl
  | 28, _ => rfl
  | 29, _ => rfl
  | 30, _ => rfl
  | 31, _ => rfl
  | 32, _ => rfl
  | 33, _ => rfl
  | 34, _ => rfl
  | 35, _ => rfl
  | 36, _ => rfl
  | 37, _ => rfl
  | 38, _ => rfl
  | 39, _ => rfl
  | 40, _ => rfl
  | 41, _ => rfl
  | 42, _ => rfl
  | 43, _ => rfl
  | 44, _ => rfl
  | 45, _ => rfl
  | 46, _ => rfl
  | 47, _ => rfl
  | 48, _ => rfl
  | 49, _ => rfl
  | j + 50, h => exact absurd h (by omega)
theorem law_start {Ω : OM} {l : Launch} {p : Program} {e : Env} {s : State} {m : MethodId} {args : Array Value} {below : List Frame} {meth : Method} {c : Code} (F : Fx Ω GL l p s m args meth c) (hL : Ω.2.2.2.2 7 ≤ 384)
    (h2 : ∀ (xo mo : Nat) (M : PM) (j n : Nat), 6 * j + 5 < Ω.2.2.2.2 7 → LI M xo mo → (∀ M', LI M' xo mo → WL Ω l p e s m args below meth c GL (2773 * n) (19897 * n) M' 1747 [some (.ref (Ω.2.2.2.2 6)), some (.ref xo), some (.ref mo), some (.int (nI (6 * j)))] []) → WL Ω l p e s m args below meth c GL (2773 * (n + 1)) (19897 * (n + 1)) M 340 [some (.ref (Ω.2.2.2.2 6)), some (.ref xo), some (.ref mo), some (.int (nI (6 * j)))] []) (M0 : PM) :
    WL Ω l p e s m args below meth c GL 603072 7262314 M0 0 [some (.ref (Ω.2.2.2.2 6)), none, none, none] [] := by
  refine l_new F (c9 := 0) (pc := 0) (RX0, TX0, 9) dL_law_0 rfl q114 q115 q79 dv_0 (Nat.le_of_ble_eq_true rfl) rfl (Nat.le_of_ble_eq_true rfl) ?_
  refine l_dup F (pc := 3) dL_law_3 rfl ?_
  refine l_call F (pc := 4) (bc' := 603072 - 1 - 34) (bs' := 7262314 - 9 - 1450) (vs := [.ref M0.1]) (ct_X0_init (xo := M0.1) (nw_K _ _ _) rfl (nw_R _ _ _ _)) k_L_9_0 dL_law_4 rfl rfl (fun _ h => by cases h; exact ⟨_, _, rfl, nw_K _ _ _⟩) (Nat.le_of_ble_eq_true rfl) ⟨Nat.le_of_ble_eq_true rfl, Nat.le_of_ble_eq_true rfl⟩ ⟨Nat.le_of_ble_eq_true rfl, Nat.le_of_ble_eq_true rfl⟩ (fun _ _ _ h => h) (l_cv fun M1 p1 => ?_)
  obtain ⟨i1, s1, -⟩ := p1
  refine l_astore1 F (pc := 7) dL_law_7 rfl ?_
  refine l_new F (c9 := 5) (pc := 8) (RX5, TX5, 50) dL_law_8 rfl q1400 q1401 q84 dv_5 (Nat.le_of_ble_eq_true rfl) rfl (Nat.le_of_ble_eq_true rfl) ?_
  refine l_dup F (pc := 11) dL_law_11 rfl ?_
  refine l_call F (pc := 12) (bc' := 603072 - 1 - 34 - 1 - 32) (bs' := 7262314 - 9 - 1450 - 50 - 3213) (vs := [.ref M1.1]) (ct_X5_init (mo := M1.1) (nw_K _ _ _) rfl (nw_I _ _ _)) k_L_12_5 dL_law_12 rfl rfl (fun _ h => by cases h; exact ⟨_, _, rfl, nw_K _ _ _⟩) (Nat.le_of_ble_eq_true rfl) ⟨Nat.le_of_ble_eq_true rfl, Nat.le_of_ble_eq_true rfl⟩ ⟨Nat.le_of_ble_eq_true rfl, Nat.le_of_ble_eq_true rfl⟩ (fun _ _ _ h => h) (l_cv fun M2 p2 => ?_)
  have hl := li_0 i1 s1 rfl (frP.rf.nw (κ := (1, 5)) (n := 0)) p2 rfl
  refine l_astore2 F (pc := 15) dL_law_15 rfl ?_
  refine l_iconst F (pc := 16) (v := 0) dL_law_16 (by decide) ?_
  refine l_istore3 F (pc := 17) dL_law_17 rfl ?_
  rw [show (0 : Int32) = nI (6 * 0) by decide]
  exact l_les (bc' := 2773 * 64) (bs' := 19897 * 64) (Nat.le_of_ble_eq_true rfl) (Nat.le_of_ble_eq_true rfl) (law_loop F hL (h2 M0.1 M1.1) 64 0 M2 rfl hl)
