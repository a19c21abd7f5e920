/-! X: calls that tell (printed by gen/mk_x51.py) -/
set_option maxRecDepth 100000
theorem sw_o {x : Int32} {n : Nat} {m : Int32} (hm : m.toInt = n) (h : x.toInt < 0 ∨ (n : Int) < x.toInt) : x < 0 ∨ m < x := by
  rw [i_lt, i_lt, hm]
  have : (0 : Int32).toInt = 0 := by decide
  omega
theorem ct_X0_thingOf {M : PM} {xo wa mo : Nat} {Z : PM} {S : ST} (hx : XO M xo wa mo Z S) (x1 x2 : Int32) (hS : OkS S.1) : Ct (YX0_thingOf, (2, 46, 0, 0), qi (fun r M' => oX xo mo Z (thingOfS S x1 x2) r M'), noX) [.ref xo, .int x1, .int x2] M := by
  refine ct_of [some (.ref xo), some (.int x1), some (.int x2), none] rfl rfl rfl (Nat.le_of_ble_eq_true rfl) rfl rfl ?_
  have hB := hS.1.t
  refine r_aload_n (pc := 0) dX0_thingOf_0 rfl ?_
  refine r_iload_n (pc := 1) dX0_thingOf_1 rfl ?_
  refine r_o2 (pc := 2) (bc' := 0) (bs' := 0) (ct_X0_isThing hx x1 hB) k_X0_111_0 dX0_thingOf_2 hx.1.2.1 (Nat.le_of_ble_eq_true rfl) ⟨Nat.le_of_ble_eq_true rfl, Nat.le_of_ble_eq_true rfl⟩ ⟨Nat.le_of_ble_eq_true rfl, Nat.le_of_ble_eq_true rfl⟩ (r_ci fun r2 M2 p2 => ?_) nox
  obtain ⟨rfl, p2⟩ := p2
  have p2 := Eq.symm (show _ = _ from p2)
  subst p2
  refine r_if_ne (pc := 5) 13 dX0_thingOf_5 rfl (fun h5 => ?_) (fun h5 => ?_)
  · rw [bI_ne0] at h5
    refine r_aload_n (pc := 13) dX0_thingOf_13 rfl ?_
    refine r_getR (pc := 14) dX0_thingOf_14 fl_X0_90_0 hx.1.2.1 (fun _ _ => rfl) hx.2.2.1.1 ?_
    refine r_getR (pc := 17) dX0_thingOf_17 fl_X0_119_3 hx.2.2.1.2.2.k (fun _ _ => rfl) hx.2.2.1.2.2.r9 ?_
    refine r_iload_n (pc := 20) dX0_thingOf_20 rfl ?_
    obtain ⟨ta, hr, hT⟩ := hx.2.2.1.2.2.th h5
    refine r_aaldR (pc := 21) dX0_thingOf_21 hx.2.2.1.2.2.k9 rfl hx.2.2.1.2.2.z9 (hB.vt h5) hr ?_
    refine r_astore3 (pc := 22) dX0_thingOf_22 rfl ?_
    refine r_iload_n (pc := 23) dX0_thingOf_23 rfl ?_
    refine r_sp_0_5 (fun h24 => ?_) (fun h24 => ?_) (fun h24 => ?_) (fun h24 => ?_) (fun h24 => ?_) (fun h24 => ?_) (fun h24 => ?_)
    · refine r_swIn (pc := 24) 64 dX0_thingOf_24 (by decide) (by decide) rfl rfl ?_
      refine r_aload_n (pc := 64) dX0_thingOf_64 rfl ?_
      rcases kd7 (hB.2 _ (ix_lt h5.1 h5.2)).1 with e7 | e7 | e7 | e7 | e7 | e7 | e7
      · have hK7 := hT.k e7 (c := 12) rfl
        refine r_o1 (pc := 65) (bc' := 0) (bs' := 0) (ct_X12_kind_12 hK7) k_X0_253_12 dX0_thingOf_65 hK7 (Nat.le_of_ble_eq_true rfl) ⟨Nat.le_of_ble_eq_true rfl, Nat.le_of_ble_eq_true rfl⟩ ⟨Nat.le_of_ble_eq_true rfl, Nat.le_of_ble_eq_true rfl⟩ (r_ci fun r7 M7 p7 => ?_) nox
        obtain ⟨rfl, p7⟩ := p7
        have p7 := Eq.symm (show _ = _ from p7)
        subst p7
        refine r_ireturn (pc := 68) rfl dX0_thingOf_68 ⟨_, rfl, ?_⟩
        exact (show oX xo mo Z (thingOfS S x1 x2) _ _ by unfold thingOfS; rw [h24, cI_f (fun hh => hh.elim (fun q => q h5) (by decide)), cI_t rfl]; exact ⟨e7.symm, wa, hx⟩)
      · have hK7 := hT.k e7 (c := 13) rfl
        refine r_o1 (pc := 65) (bc' := 0) (bs' := 0) (ct_X13_kind_13 hK7) k_X0_253_13 dX0_thingOf_65 hK7 (Nat.le_of_ble_eq_true rfl) ⟨Nat.le_of_ble_eq_true rfl, Nat.le_of_ble_eq_true rfl⟩ ⟨Nat.le_of_ble_eq_true rfl, Nat.le_of_ble_eq_true rfl⟩ (r_ci fun r7 M7 p7 => ?_) nox
        obtain ⟨rfl, p7⟩ := p7
        have p7 := Eq.symm (show _ = _ from p7)
        subst p7
        refine r_ireturn (pc := 68) rfl dX0_thingOf_68 ⟨_, rfl, ?_⟩
        exact (show oX xo mo Z (thingOfS S x1 x2) _ _ by unfold thingOfS; rw [h24, cI_f (fun hh => hh.elim (fun q => q h5) (by decide)), cI_t rfl]; exact ⟨e7.symm, wa, hx⟩)
      · have hK7 := hT.k e7 (c := 14) rfl
        refine r_o1 (pc := 65) (bc' := 0) (bs' := 0) (ct_X14_kind_14 hK7) k_X0_253_14 dX0_thingOf_65 hK7 (Nat.le_of_ble_eq_true rfl) ⟨Nat.le_of_ble_eq_true rfl, Nat.le_of_ble_eq_true rfl⟩ ⟨Nat.le_of_ble_eq_true rfl, Nat.le_of_ble_eq_true rfl⟩ (r_ci fun r7 M7 p7 => ?_) nox
        obtain ⟨rfl, p7⟩ := p7
        have p7 := Eq.symm (show _ = _ from p7)
        subst p7
        refine r_ireturn (pc := 68) rfl dX0_thingOf_68 ⟨_, rfl, ?_⟩
        exact (show oX xo mo Z (thingOfS S x1 x2) _ _ by unfold thingOfS; rw [h24, cI_f (fun hh => hh.elim (fun q => q h5) (by decide)), cI_t rfl]; exact ⟨e7.symm, wa, hx⟩)
      · have hK7 := hT.k e7 (c := 15) rfl
        refine r_o1 (pc := 65) (bc' := 0) (bs' := 0) (ct_X15_kind_15 hK7) k_X0_253_15 dX0_thingOf_65 hK7 (Nat.le_of_ble_eq_true rfl) ⟨Nat.le_of_ble_eq_true rfl, Nat.le_of_ble_eq_true rfl⟩ ⟨Nat.le_of_ble_eq_true rfl, Nat.le_of_ble_eq_true rfl⟩ (r_ci fun r7 M7 p7 => ?_) nox
        obtain ⟨rfl, p7⟩ := p7
        have p7 := Eq.symm (show _ = _ from p7)
        subst p7
        refine r_ireturn (pc := 68) rfl dX0_thingOf_68 ⟨_, rfl, ?_⟩
        exact (show oX xo mo Z (thingOfS S x1 x2) _ _ by unfold thingOfS; rw [h24, cI_f (fun hh => hh.elim (fun q => q h5) (by decide)), cI_t rfl]; exact ⟨e7.symm, wa, hx⟩)
      · have hK7 := hT.k e7 (c := 16) rfl
        refine r_o1 (pc := 65) (bc' := 0) (bs' := 0) (ct_X16_kind_16 hK7) k_X0_253_16 dX0_thingOf_65 hK7 (Nat.le_of_ble_eq_true rfl) ⟨Nat.le_of_ble_eq_true rfl, Nat.le_of_ble_eq_true rfl⟩ ⟨Nat.le_of_ble_eq_true rfl, Nat.le_of_ble_eq_true rfl⟩ (r_ci fun r7 M7 p7 => ?_) nox
        obtain ⟨rfl, p7⟩ := p7
        have p7 := Eq.symm (show _ = _ from p7)
        subst p7
        refine r_ireturn (pc := 68) rfl dX0_thingOf_68 ⟨_, rfl, ?_⟩
        exact (show oX xo mo Z (thingOfS S x1 x2) _ _ by unfold thingOfS; rw [h24, cI_f (fun hh => hh.elim (fun q => q h5) (by decide)), cI_t rfl]; exact ⟨e7.symm, wa, hx⟩)
      · have hK7 := hT.k e7 (c := 17) rfl
        refine r_o1 (pc := 65) (bc' := 0) (bs' := 0) (ct_X17_kind_17 hK7) k_X0_253_17 dX0_thingOf_65 hK7 (Nat.le_of_ble_eq_true rfl) ⟨Nat.le_of_ble_eq_true rfl, Nat.le_of_ble_eq_true rfl⟩ ⟨Nat.le_of_ble_eq_true rfl, Nat.le_of_ble_eq_true rfl⟩ (r_ci fun r7 M7 p7 => ?_) nox
        obtain ⟨rfl, p7⟩ := p7
        have p7 := Eq.symm (show _ = _ from p7)
        subst p7
        refine r_ireturn (pc := 68) rfl dX0_thingOf_68 ⟨_, rfl, ?_⟩
        exact (show oX xo mo Z (thingOfS S x1 x2) _ _ by unfold thingOfS; rw [h24, cI_f (fun hh => hh.elim (fun q => q h5) (by decide)), cI_t rfl]; exact ⟨e7.symm, wa, hx⟩)
      · have hK7 := hT.k e7 (c := 18) rfl
        refine r_o1 (pc := 65) (bc' := 0) (bs' := 0) (ct_X18_kind_18 hK7) k_X0_253_18 dX0_thingOf_65 hK7 (Nat.le_of_ble_eq_true rfl) ⟨Nat.le_of_ble_eq_true rfl, Nat.le_of_ble_eq_true rfl⟩ ⟨Nat.le_of_ble_eq_true rfl, Nat.le_of_ble_eq_true rfl⟩ (r_ci fun r7 M7 p7 => ?_) nox
        obtain ⟨rfl, p7⟩ := p7
        have p7 := Eq.symm (show _ = _ from p7)
        subst p7
        refine r_ireturn (pc := 68) rfl dX0_thingOf_68 ⟨_, rfl, ?_⟩
        exact (show oX xo mo Z (thingOfS S x1 x2) _ _ by unfold thingOfS; rw [h24, cI_f (fun hh => hh.elim (fun q => q h5) (by decide)), cI_t rfl]; exact ⟨e7.symm, wa, hx⟩)
    · refine r_swIn (pc := 24) 69 dX0_thingOf_24 (by decide) (by decide) rfl rfl ?_
      refine r_aload_n (pc := 69) dX0_thingOf_69 rfl ?_
      refine r_thI (pc := 70) (k := 1) (v := S.1 12 (Int32.toNatClampNeg x1)) dX0_thingOf_70 hT (hB.2 _ (ix_lt h5.1 h5.2)).1 fls_X0_256 fvs_1 hT.2.2.2.1 ?_
      refine r_ireturn (pc := 73) rfl dX0_thingOf_73 ⟨_, rfl, ?_⟩
      exact (show oX xo mo Z (thingOfS S x1 x2) _ _ by unfold thingOfS; rw [h24, cI_f (fun hh => hh.elim (fun q => q h5) (by decide)), cI_f (by decide), cI_t rfl]; exact ⟨rfl, wa, hx⟩)
    · refine r_swIn (pc := 24) 74 dX0_thingOf_24 (by decide) (by decide) rfl rfl ?_
      refine r_aload_n (pc := 74) dX0_thingOf_74 rfl ?_
      refine r_thI (pc := 75) (k := 2) (v := S.1 13 (Int32.toNatClampNeg x1)) dX0_thingOf_75 hT (hB.2 _ (ix_lt h5.1 h5.2)).1 fls_X0_259 fvs_2 hT.2.2.2.2 ?_
      refine r_ireturn (pc := 78) rfl dX0_thingOf_78 ⟨_, rfl, ?_⟩
      exact (show oX xo mo Z (thingOfS S x1 x2) _ _ by unfold thingOfS; rw [h24, cI_f (fun hh => hh.elim (fun q => q h5) (by decide)), cI_f (by decide), cI_f (by decide), cI_t rfl]; exact ⟨rfl, wa, hx⟩)
    · refine r_swIn (pc := 24) 79 dX0_thingOf_24 (by decide) (by decide) rfl rfl ?_
      refine r_aload_n (pc := 79) dX0_thingOf_79 rfl ?_
      refine r_getR (pc := 80) dX0_thingOf_80 fl_X0_90_0 hx.1.2.1 (fun _ _ => rfl) hx.2.2.1.1 ?_
      refine r_getR (pc := 83) dX0_thingOf_83 fl_X0_132_3 hx.2.2.1.2.2.k (fun _ _ => rfl) hx.2.2.1.2.2.r10 ?_
      refine r_iload_n (pc := 86) dX0_thingOf_86 rfl ?_
      refine r_ialdv (pc := 87) (v := S.1 14 (Int32.toNatClampNeg x1)) dX0_thingOf_87 hx.2.2.1.2.2.k10 hx.2.2.1.2.2.z10 (hB.vt h5) (hx.2.2.1.2.2.a14 h5) ?_
      refine r_ireturn (pc := 88) rfl dX0_thingOf_88 ⟨_, rfl, ?_⟩
      exact (show oX xo mo Z (thingOfS S x1 x2) _ _ by unfold thingOfS; rw [h24, cI_f (fun hh => hh.elim (fun q => q h5) (by decide)), cI_f (by decide), cI_f (by decide), cI_f (by decide), cI_t rfl]; exact ⟨rfl, wa, hx⟩)
    · refine r_swIn (pc := 24) 89 dX0_thingOf_24 (by decide) (by decide) rfl rfl ?_
      refine r_aload_n (pc := 89) dX0_thingOf_89 rfl ?_
      refine r_getR (pc := 90) dX0_thingOf_90 fl_X0_90_0 hx.1.2.1 (fun _ _ => rfl) hx.2.2.1.1 ?_
      refine r_getR (pc := 93) dX0_thingOf_93 fl_X0_262_3 hx.2.2.1.2.2.k (fun _ _ => rfl) hx.2.2.1.2.2.r11 ?_
      refine r_iload_n (pc := 96) dX0_thingOf_96 rfl ?_
      refine r_ialdv (pc := 97) (v := S.1 15 (Int32.toNatClampNeg x1)) dX0_thingOf_97 hx.2.2.1.2.2.k11 hx.2.2.1.2.2.z11 (hB.vt h5) (hx.2.2.1.2.2.a15 h5) ?_
      refine r_ireturn (pc := 98) rfl dX0_thingOf_98 ⟨_, rfl, ?_⟩
      exact (show oX xo mo Z (thingOfS S x1 x2) _ _ by unfold thingOfS; rw [h24, cI_f (fun hh => hh.elim (fun q => q h5) (by decide)), cI_f (by decide), cI_f (by decide), cI_f (by decide), cI_f (by decide), cI_t rfl]; exact ⟨rfl, wa, hx⟩)
    · refine r_swIn (pc := 24) 99 dX0_thingOf_24 (by decide) (by decide) rfl rfl ?_
      refine r_aload_n (pc := 99) dX0_thingOf_99 rfl ?_
      refine r_getR (pc := 100) dX0_thingOf_100 fl_X0_90_0 hx.1.2.1 (fun _ _ => rfl) hx.2.2.1.1 ?_
      refine r_getR (pc := 103) dX0_thingOf_103 fl_X0_265_3 hx.2.2.1.2.2.k (fun _ _ => rfl) hx.2.2.1.2.2.r12 ?_
      refine r_iload_n (pc := 106) dX0_thingOf_106 rfl ?_
      refine r_zaldv (pc := 107) (v := S.1 16 (Int32.toNatClampNeg x1)) dX0_thingOf_107 hx.2.2.1.2.2.k12 hx.2.2.1.2.2.z12 (hB.vt h5) (hx.2.2.1.2.2.a16 h5) ?_
      refine r_if_eq (pc := 108) 115 dX0_thingOf_108 rfl (fun h108 => ?_) (fun h108 => ?_)
      · refine r_iconst (pc := 115) (v := 0) dX0_thingOf_115 (by decide) ?_
        refine r_ireturn (pc := 116) rfl dX0_thingOf_116 ⟨_, rfl, ?_⟩
        exact (show oX xo mo Z (thingOfS S x1 x2) _ _ by unfold thingOfS; rw [h24, cI_f (fun hh => hh.elim (fun q => q h5) (by decide)), cI_f (by decide), cI_f (by decide), cI_f (by decide), cI_f (by decide), cI_f (by decide)]; exact ⟨by rcases (hS.1.2.2.1 _ (ix_lt h5.1 h5.2)).2.2.2.2.2 with e | ⟨e, -⟩ <;> first | exact e.symm | (exact absurd e h108) | (rw [h108] at e; exact absurd e (by decide)), wa, hx⟩)
      · refine r_iconst (pc := 111) (v := 1) dX0_thingOf_111 (by decide) ?_
        refine r_goto (pc := 112) 116 dX0_thingOf_112 rfl ?_
        refine r_ireturn (pc := 116) rfl dX0_thingOf_116 ⟨_, rfl, ?_⟩
        exact (show oX xo mo Z (thingOfS S x1 x2) _ _ by unfold thingOfS; rw [h24, cI_f (fun hh => hh.elim (fun q => q h5) (by decide)), cI_f (by decide), cI_f (by decide), cI_f (by decide), cI_f (by decide), cI_f (by decide)]; exact ⟨by rcases (hS.1.2.2.1 _ (ix_lt h5.1 h5.2)).2.2.2.2.2 with e | ⟨e, -⟩ <;> first | exact e.symm | (exact absurd e h108) | (rw [h108] at e; exact absurd e (by decide)), wa, hx⟩)
    · refine r_swOut (pc := 24) 117 dX0_thingOf_24 h24 rfl ?_
      refine r_aload_n (pc := 117) dX0_thingOf_117 rfl ?_
      refine r_o1 (pc := 118) (bc' := 0) (bs' := 0) (ct_X0_beyond hx) k_X0_250_0 dX0_thingOf_118 hx.1.2.1 (Nat.le_of_ble_eq_true rfl) ⟨Nat.le_of_ble_eq_true rfl, Nat.le_of_ble_eq_true rfl⟩ ⟨Nat.le_of_ble_eq_true rfl, Nat.le_of_ble_eq_true rfl⟩ (r_ci fun r118 M118 p118 => ?_) nox
      obtain ⟨rfl, hx1⟩ := p118
      refine r_ireturn (pc := 121) rfl dX0_thingOf_121 ⟨_, rfl, ?_⟩
      exact (show oX xo mo Z (thingOfS S x1 x2) _ _ by unfold thingOfS; rw [cI_t (Or.inr (sw_o (n := 5) (m := 5) (by decide) h24))]; exact ⟨rfl, wa, hx1⟩)
  · rw [bI_eq0] at h5
    refine r_aload_n (pc := 8) dX0_thingOf_8 rfl ?_
    refine r_o1 (pc := 9) (bc' := 0) (bs' := 0) (ct_X0_beyond hx) k_X0_250_0 dX0_thingOf_9 hx.1.2.1 (Nat.le_of_ble_eq_true rfl) ⟨Nat.le_of_ble_eq_true rfl, Nat.le_of_ble_eq_true rfl⟩ ⟨Nat.le_of_ble_eq_true rfl, Nat.le_of_ble_eq_true rfl⟩ (r_ci fun r9 M9 p9 => ?_) nox
    obtain ⟨rfl, hx1⟩ := p9
    refine r_ireturn (pc := 12) rfl dX0_thingOf_12 ⟨_, rfl, ?_⟩
    exact (show oX xo mo Z (thingOfS S x1 x2) _ _ by unfold thingOfS; rw [cI_t (Or.inl h5)]; exact ⟨rfl, wa, hx1⟩)
theorem wn_n {x n w : Int32} {m : Int32} (hb : bd n 0 4) (h : ¬ (¬ x < 0 ∧ ¬ n - 1 < x)) : x < 0 ∨ ¬ x < n ∨ w < 0 ∨ m < w := by
  rw [in_c hb (by decide)] at h
  by_cases a : x < 0
  · exact Or.inl a
  · exact Or.inr (Or.inl fun b => h ⟨a, b⟩)
theorem OkW.wt {σ : cS} (h : OkW σ) {i : Int32} (hi : wnP σ i) : thP σ (σ 19 (Int32.toNatClampNeg i)) := by
  obtain ⟨⟨a, b⟩, -⟩ := h.2.2.2.2 _ (ix_lt hi.1 hi.2)
  exact ⟨n_neg a, i_lt.mpr b⟩
theorem ct_X0_wantOf {M : PM} {xo wa mo : Nat} {Z : PM} {S : ST} (hx : XO M xo wa mo Z S) (x1 x2 : Int32) (hS : OkS S.1) : Ct (YX0_wantOf, (1, 25, 0, 0), qi (fun r M' => oX xo mo Z (wantOfS S x1 x2) r M'), noX) [.ref xo, .int x1, .int x2] M := by
  refine ct_of [some (.ref xo), some (.int x1), some (.int x2)] rfl rfl rfl (Nat.le_of_ble_eq_true rfl) rfl rfl ?_
  have hB := hS.1.t
  refine r_iload_n (pc := 0) dX0_wantOf_0 rfl ?_
  refine r_i2l (pc := 1) dX0_wantOf_1 ?_
  refine r_lconst (pc := 2) (v := 0) dX0_wantOf_2 (by decide) ?_
  refine r_aload_n (pc := 3) dX0_wantOf_3 rfl ?_
  refine r_getR (pc := 4) dX0_wantOf_4 fl_X0_90_0 hx.1.2.1 (fun _ _ => rfl) hx.2.2.1.1 ?_
  refine r_getIe (pc := 7) (v := S.1 2 0) dX0_wantOf_7 fl_X0_219_3 hx.2.2.1.2.2.k (fun _ _ => rfl) hx.2.2.1.2.2.i6 ?_
  refine r_iconst (pc := 10) (v := 1) dX0_wantOf_10 (by decide) ?_
  refine r_isub (pc := 11) dX0_wantOf_11 ?_
  refine r_i2l (pc := 12) dX0_wantOf_12 ?_
  refine r_s3 (pc := 13) (bc' := 0) (bs' := 0) (ct_X0_in x1 0 _ rfl (by decide) rfl) k_X0_107 dX0_wantOf_13 (Nat.le_of_ble_eq_true rfl) ⟨Nat.le_of_ble_eq_true rfl, Nat.le_of_ble_eq_true rfl⟩ ⟨Nat.le_of_ble_eq_true rfl, Nat.le_of_ble_eq_true rfl⟩ (r_ci fun r13 M13 p13 => ?_) nox
  obtain ⟨rfl, p13⟩ := p13
  have p13 := Eq.symm (show _ = _ from p13)
  subst p13
  refine r_if_ne (pc := 16) 24 dX0_wantOf_16 rfl (fun h16 => ?_) (fun h16 => ?_)
  · rw [bI_ne0] at h16
    have h5 : wnP S.1 x1 := (in_c hB.1.2.2 (by decide)).mp h16
    refine r_iload_n (pc := 24) dX0_wantOf_24 rfl ?_
    refine r_sp_0_3 (fun h25 => ?_) (fun h25 => ?_) (fun h25 => ?_) (fun h25 => ?_) (fun h25 => ?_)
    · refine r_swIn (pc := 25) 56 dX0_wantOf_25 (by decide) (by decide) rfl rfl ?_
      refine r_aload_n (pc := 56) dX0_wantOf_56 rfl ?_
      refine r_getR (pc := 57) dX0_wantOf_57 fl_X0_90_0 hx.1.2.1 (fun _ _ => rfl) hx.2.2.1.1 ?_
      refine r_getR (pc := 60) dX0_wantOf_60 fl_X0_275_3 hx.2.2.1.2.2.k (fun _ _ => rfl) hx.2.2.1.2.2.r15 ?_
      refine r_iload_n (pc := 63) dX0_wantOf_63 rfl ?_
      refine r_ialdv (pc := 64) (v := S.1 19 (Int32.toNatClampNeg x1)) dX0_wantOf_64 hx.2.2.1.2.2.k15 hx.2.2.1.2.2.z15 (hB.vw h5) (hx.2.2.1.2.2.a19 h5) ?_
      refine r_ireturn (pc := 65) rfl dX0_wantOf_65 ⟨_, rfl, ?_⟩
      exact (show oX xo mo Z (wantOfS S x1 x2) _ _ by unfold wantOfS; rw [h25, cI_f (fun hh => hh.elim h5.1 (fun q => q.elim (fun q => q h5.2) (by decide))), cI_t rfl]; exact ⟨rfl, wa, hx⟩)
    · refine r_swIn (pc := 25) 66 dX0_wantOf_25 (by decide) (by decide) rfl rfl ?_
      refine r_aload_n (pc := 66) dX0_wantOf_66 rfl ?_
      refine r_getR (pc := 67) dX0_wantOf_67 fl_X0_90_0 hx.1.2.1 (fun _ _ => rfl) hx.2.2.1.1 ?_
      refine r_getR (pc := 70) dX0_wantOf_70 fl_X0_278_3 hx.2.2.1.2.2.k (fun _ _ => rfl) hx.2.2.1.2.2.r16 ?_
      refine r_iload_n (pc := 73) dX0_wantOf_73 rfl ?_
      refine r_ialdv (pc := 74) (v := S.1 20 (Int32.toNatClampNeg x1)) dX0_wantOf_74 hx.2.2.1.2.2.k16 hx.2.2.1.2.2.z16 (hB.vw h5) (hx.2.2.1.2.2.a20 h5) ?_
      refine r_ireturn (pc := 75) rfl dX0_wantOf_75 ⟨_, rfl, ?_⟩
      exact (show oX xo mo Z (wantOfS S x1 x2) _ _ by unfold wantOfS; rw [h25, cI_f (fun hh => hh.elim h5.1 (fun q => q.elim (fun q => q h5.2) (by decide))), cI_f (by decide), cI_t rfl]; exact ⟨rfl, wa, hx⟩)
    · refine r_swIn (pc := 25) 76 dX0_wantOf_25 (by decide) (by decide) rfl rfl ?_
      refine r_aload_n (pc := 76) dX0_wantOf_76 rfl ?_
      refine r_getR (pc := 77) dX0_wantOf_77 fl_X0_90_0 hx.1.2.1 (fun _ _ => rfl) hx.2.2.1.1 ?_
      refine r_getR (pc := 80) dX0_wantOf_80 fl_X0_281_3 hx.2.2.1.2.2.k (fun _ _ => rfl) hx.2.2.1.2.2.r17 ?_
      refine r_iload_n (pc := 83) dX0_wantOf_83 rfl ?_
      refine r_ialdv (pc := 84) (v := S.1 21 (Int32.toNatClampNeg x1)) dX0_wantOf_84 hx.2.2.1.2.2.k17 hx.2.2.1.2.2.z17 (hB.vw h5) (hx.2.2.1.2.2.a21 h5) ?_
      refine r_ireturn (pc := 85) rfl dX0_wantOf_85 ⟨_, rfl, ?_⟩
      exact (show oX xo mo Z (wantOfS S x1 x2) _ _ by unfold wantOfS; rw [h25, cI_f (fun hh => hh.elim h5.1 (fun q => q.elim (fun q => q h5.2) (by decide))), cI_f (by decide), cI_f (by decide), cI_t rfl]; exact ⟨rfl, wa, hx⟩)
    · refine r_swIn (pc := 25) 86 dX0_wantOf_25 (by decide) (by decide) rfl rfl ?_
      refine r_aload_n (pc := 86) dX0_wantOf_86 rfl ?_
      refine r_getR (pc := 87) dX0_wantOf_87 fl_X0_90_0 hx.1.2.1 (fun _ _ => rfl) hx.2.2.1.1 ?_
      refine r_getR (pc := 90) dX0_wantOf_90 fl_X0_132_3 hx.2.2.1.2.2.k (fun _ _ => rfl) hx.2.2.1.2.2.r10 ?_
      refine r_aload_n (pc := 93) dX0_wantOf_93 rfl ?_
      refine r_getR (pc := 94) dX0_wantOf_94 fl_X0_90_0 hx.1.2.1 (fun _ _ => rfl) hx.2.2.1.1 ?_
      refine r_getR (pc := 97) dX0_wantOf_97 fl_X0_275_3 hx.2.2.1.2.2.k (fun _ _ => rfl) hx.2.2.1.2.2.r15 ?_
      refine r_iload_n (pc := 100) dX0_wantOf_100 rfl ?_
      refine r_ialdv (pc := 101) (v := S.1 19 (Int32.toNatClampNeg x1)) dX0_wantOf_101 hx.2.2.1.2.2.k15 hx.2.2.1.2.2.z15 (hB.vw h5) (hx.2.2.1.2.2.a19 h5) ?_
      refine r_ialdv (pc := 102) (v := S.1 14 (Int32.toNatClampNeg (S.1 19 (Int32.toNatClampNeg x1)))) dX0_wantOf_102 hx.2.2.1.2.2.k10 hx.2.2.1.2.2.z10 (hB.vt (hS.1.wt h5)) (hx.2.2.1.2.2.a14 (hS.1.wt h5)) ?_
      refine r_aload_n (pc := 103) dX0_wantOf_103 rfl ?_
      refine r_getR (pc := 104) dX0_wantOf_104 fl_X0_90_0 hx.1.2.1 (fun _ _ => rfl) hx.2.2.1.1 ?_
      refine r_getR (pc := 107) dX0_wantOf_107 fl_X0_278_3 hx.2.2.1.2.2.k (fun _ _ => rfl) hx.2.2.1.2.2.r16 ?_
      refine r_iload_n (pc := 110) dX0_wantOf_110 rfl ?_
      refine r_ialdv (pc := 111) (v := S.1 20 (Int32.toNatClampNeg x1)) dX0_wantOf_111 hx.2.2.1.2.2.k16 hx.2.2.1.2.2.z16 (hB.vw h5) (hx.2.2.1.2.2.a20 h5) ?_
      refine r_icmp_ne (pc := 112) 119 dX0_wantOf_112 rfl (fun h112 => ?_) (fun h112 => ?_)
      · refine r_iconst (pc := 119) (v := 0) dX0_wantOf_119 (by decide) ?_
        refine r_ireturn (pc := 120) rfl dX0_wantOf_120 ⟨_, rfl, ?_⟩
        exact (show oX xo mo Z (wantOfS S x1 x2) _ _ by unfold wantOfS; rw [h25, cI_f (fun hh => hh.elim h5.1 (fun q => q.elim (fun q => q h5.2) (by decide))), cI_f (by decide), cI_f (by decide), cI_f (by decide)]; exact ⟨by first | exact bI_t' h112 | exact bI_f' h112, wa, hx⟩)
      · refine r_iconst (pc := 115) (v := 1) dX0_wantOf_115 (by decide) ?_
        refine r_goto (pc := 116) 120 dX0_wantOf_116 rfl ?_
        refine r_ireturn (pc := 120) rfl dX0_wantOf_120 ⟨_, rfl, ?_⟩
        exact (show oX xo mo Z (wantOfS S x1 x2) _ _ by unfold wantOfS; rw [h25, cI_f (fun hh => hh.elim h5.1 (fun q => q.elim (fun q => q h5.2) (by decide))), cI_f (by decide), cI_f (by decide), cI_f (by decide)]; exact ⟨by first | exact bI_t' h112 | exact bI_f' h112, wa, hx⟩)
    · refine r_swOut (pc := 25) 121 dX0_wantOf_25 h25 rfl ?_
      refine r_aload_n (pc := 121) dX0_wantOf_121 rfl ?_
      refine r_o1 (pc := 122) (bc' := 0) (bs' := 0) (ct_X0_beyond hx) k_X0_250_0 dX0_wantOf_122 hx.1.2.1 (Nat.le_of_ble_eq_true rfl) ⟨Nat.le_of_ble_eq_true rfl, Nat.le_of_ble_eq_true rfl⟩ ⟨Nat.le_of_ble_eq_true rfl, Nat.le_of_ble_eq_true rfl⟩ (r_ci fun r122 M122 p122 => ?_) nox
      obtain ⟨rfl, hx1⟩ := p122
      refine r_ireturn (pc := 125) rfl dX0_wantOf_125 ⟨_, rfl, ?_⟩
      exact (show oX xo mo Z (wantOfS S x1 x2) _ _ by unfold wantOfS; rw [cI_t (Or.inr (Or.inr (sw_o (n := 3) (m := 3) (by decide) h25)))]; exact ⟨rfl, wa, hx1⟩)
  · rw [bI_eq0] at h16
    refine r_aload_n (pc := 19) dX0_wantOf_19 rfl ?_
    refine r_o1 (pc := 20) (bc' := 0) (bs' := 0) (ct_X0_beyond hx) k_X0_250_0 dX0_wantOf_20 hx.1.2.1 (Nat.le_of_ble_eq_true rfl) ⟨Nat.le_of_ble_eq_true rfl, Nat.le_of_ble_eq_true rfl⟩ ⟨Nat.le_of_ble_eq_true rfl, Nat.le_of_ble_eq_true rfl⟩ (r_ci fun r20 M20 p20 => ?_) nox
    obtain ⟨rfl, hx1⟩ := p20
    refine r_ireturn (pc := 23) rfl dX0_wantOf_23 ⟨_, rfl, ?_⟩
    exact (show oX xo mo Z (wantOfS S x1 x2) _ _ by unfold wantOfS; rw [cI_t (wn_n hB.1.2.2 h16)]; exact ⟨rfl, wa, hx1⟩)
theorem st_n {x : Int32} (h : x.toInt < 0 ∨ 9 < x.toInt) : ¬ x = 0 ∧ ¬ x = 1 ∧ ¬ x = 2 ∧ ¬ x = 3 ∧ ¬ x = 4 ∧ ¬ x = 5 ∧ ¬ x = 6 ∧ ¬ x = 7 ∧ ¬ x = 8 ∧ ¬ x = 9 := by
  refine ⟨?_, ?_, ?_, ?_, ?_, ?_, ?_, ?_, ?_, ?_⟩ <;> (intro e; rw [e] at h; revert h; decide)
theorem st_v {x : Int32} (h : ¬ x < 11 ∧ ¬ 17 < x) : vp_in (x - 10) 8 := by
  rw [i_lt, i_lt] at h
  have c1 : (11 : Int32).toInt = 11 := by decide
  have c2 : (17 : Int32).toInt = 17 := by decide
  have c3 : (10 : Int32).toInt = 10 := by decide
  rw [vp_in_iff, i_sub (by omega) (by omega)]
  omega
theorem ct_X0_status {M : PM} {xo wa mo : Nat} {Z : PM} {S : ST} (hx : XO M xo wa mo Z S) (x1 : Int32) (hS : OkS S.1) : Ct (YX0_status, (1, 25, 0, 0), qi (fun r M' => oX xo mo Z ((statusS S x1, S)) r M'), noX) [.ref xo, .int x1] M := by
  refine ct_of [some (.ref xo), some (.int x1)] rfl rfl rfl (Nat.le_of_ble_eq_true rfl) rfl rfl ?_
  have hB := hS.1.t
  refine r_iload_n (pc := 0) dX0_status_0 rfl ?_
  refine r_sp_0_9 (fun h1 => ?_) (fun h1 => ?_) (fun h1 => ?_) (fun h1 => ?_) (fun h1 => ?_) (fun h1 => ?_) (fun h1 => ?_) (fun h1 => ?_) (fun h1 => ?_) (fun h1 => ?_) (fun h1 => ?_)
  · refine r_swIn (pc := 1) 56 dX0_status_1 (by decide) (by decide) rfl rfl ?_
    refine r_aload_n (pc := 56) dX0_status_56 rfl ?_
    refine r_getR (pc := 57) dX0_status_57 fl_X0_90_0 hx.1.2.1 (fun _ _ => rfl) hx.2.2.1.1 ?_
    refine r_getIe (pc := 60) (v := S.1 0 0) dX0_status_60 fl_X0_104_3 hx.2.2.1.2.2.k (fun _ _ => rfl) hx.2.2.1.2.2.i4 ?_
    refine r_ireturn (pc := 63) rfl dX0_status_63 ⟨_, rfl, ?_⟩
    exact (show oX xo mo Z (statusS S x1, S) _ _ by unfold statusS; rw [h1, cI_f (by decide), cI_t rfl]; exact ⟨rfl, wa, hx⟩)
  · refine r_swIn (pc := 1) 64 dX0_status_1 (by decide) (by decide) rfl rfl ?_
    refine r_aload_n (pc := 64) dX0_status_64 rfl ?_
    refine r_getR (pc := 65) dX0_status_65 fl_X0_90_0 hx.1.2.1 (fun _ _ => rfl) hx.2.2.1.1 ?_
    refine r_getIe (pc := 68) (v := S.1 1 0) dX0_status_68 fl_X0_123_3 hx.2.2.1.2.2.k (fun _ _ => rfl) hx.2.2.1.2.2.i5 ?_
    refine r_ireturn (pc := 71) rfl dX0_status_71 ⟨_, rfl, ?_⟩
    exact (show oX xo mo Z (statusS S x1, S) _ _ by unfold statusS; rw [h1, cI_f (by decide), cI_f (by decide), cI_t rfl]; exact ⟨rfl, wa, hx⟩)
  · refine r_swIn (pc := 1) 72 dX0_status_1 (by decide) (by decide) rfl rfl ?_
    refine r_aload_n (pc := 72) dX0_status_72 rfl ?_
    refine r_getR (pc := 73) dX0_status_73 fl_X0_90_0 hx.1.2.1 (fun _ _ => rfl) hx.2.2.1.1 ?_
    refine r_getIe (pc := 76) (v := S.1 2 0) dX0_status_76 fl_X0_219_3 hx.2.2.1.2.2.k (fun _ _ => rfl) hx.2.2.1.2.2.i6 ?_
    refine r_ireturn (pc := 79) rfl dX0_status_79 ⟨_, rfl, ?_⟩
    exact (show oX xo mo Z (statusS S x1, S) _ _ by unfold statusS; rw [h1, cI_f (by decide), cI_f (by decide), cI_f (by decide), cI_t rfl]; exact ⟨rfl, wa, hx⟩)
  · refine r_swIn (pc := 1) 80 dX0_status_1 (by decide) (by decide) rfl rfl ?_
    refine r_aload_n (pc := 80) dX0_status_80 rfl ?_
    refine r_getR (pc := 81) dX0_status_81 fl_X0_90_0 hx.1.2.1 (fun _ _ => rfl) hx.2.2.1.1 ?_
    refine r_getIe (pc := 84) (v := S.1 3 0) dX0_status_84 fl_X0_234_3 hx.2.2.1.2.2.k (fun _ _ => rfl) hx.2.2.1.2.2.i0 ?_
    refine r_ireturn (pc := 87) rfl dX0_status_87 ⟨_, rfl, ?_⟩
    exact (show oX xo mo Z (statusS S x1, S) _ _ by unfold statusS; rw [h1, cI_f (by decide), cI_f (by decide), cI_f (by decide), cI_f (by decide), cI_t rfl]; exact ⟨rfl, wa, hx⟩)
  · refine r_swIn (pc := 1) 88 dX0_status_1 (by decide) (by decide) rfl rfl ?_
    refine r_aload_n (pc := 88) dX0_status_88 rfl ?_
    refine r_getR (pc := 89) dX0_status_89 fl_X0_90_0 hx.1.2.1 (fun _ _ => rfl) hx.2.2.1.1 ?_
    refine r_getIe (pc := 92) (v := S.1 4 0) dX0_status_92 fl_X0_244_3 hx.2.2.1.2.2.k (fun _ _ => rfl) hx.2.2.1.2.2.i1 ?_
    refine r_ireturn (pc := 95) rfl dX0_status_95 ⟨_, rfl, ?_⟩
    exact (show oX xo mo Z (statusS S x1, S) _ _ by unfold statusS; rw [h1, cI_f (by decide), cI_f (by decide), cI_f (by decide), cI_f (by decide), cI_f (by decide), cI_t rfl]; exact ⟨rfl, wa, hx⟩)
  · refine r_swIn (pc := 1) 96 dX0_status_1 (by decide) (by decide) rfl rfl ?_
    refine r_aload_n (pc := 96) dX0_status_96 rfl ?_
    refine r_getR (pc := 97) dX0_status_97 fl_X0_90_0 hx.1.2.1 (fun _ _ => rfl) hx.2.2.1.1 ?_
    refine r_getIe (pc := 100) (v := S.1 5 0) dX0_status_100 fl_X0_247_3 hx.2.2.1.2.2.k (fun _ _ => rfl) hx.2.2.1.2.2.i2 ?_
    refine r_ireturn (pc := 103) rfl dX0_status_103 ⟨_, rfl, ?_⟩
    exact (show oX xo mo Z (statusS S x1, S) _ _ by unfold statusS; rw [h1, cI_f (by decide), cI_f (by decide), cI_f (by decide), cI_f (by decide), cI_f (by decide), cI_f (by decide), cI_t rfl]; exact ⟨rfl, wa, hx⟩)
  · refine r_swIn (pc := 1) 104 dX0_status_1 (by decide) (by decide) rfl rfl ?_
    refine r_aload_n (pc := 104) dX0_status_104 rfl ?_
    refine r_getR (pc := 105) dX0_status_105 fl_X0_90_0 hx.1.2.1 (fun _ _ => rfl) hx.2.2.1.1 ?_
    refine r_getIe (pc := 108) (v := S.1 6 0) dX0_status_108 fl_X0_237_3 hx.2.2.1.2.2.k (fun _ _ => rfl) hx.2.2.1.2.2.i3 ?_
    refine r_ireturn (pc := 111) rfl dX0_status_111 ⟨_, rfl, ?_⟩
    exact (show oX xo mo Z (statusS S x1, S) _ _ by unfold statusS; rw [h1, cI_f (by decide), cI_f (by decide), cI_f (by decide), cI_f (by decide), cI_f (by decide), cI_f (by decide), cI_f (by decide), cI_t rfl]; exact ⟨rfl, wa, hx⟩)
  · refine r_swIn (pc := 1) 112 dX0_status_1 (by decide) (by decide) rfl rfl ?_
    refine r_aload_n (pc := 112) dX0_status_112 rfl ?_
    refine r_getR (pc := 113) dX0_status_113 fl_X0_90_0 hx.1.2.1 (fun _ _ => rfl) hx.2.2.1.1 ?_
    refine r_getIe (pc := 116) (v := S.1 7 0) dX0_status_116 fl_X0_388_3 hx.2.2.1.2.2.k (fun _ _ => rfl) hx.2.2.1.2.2.i8 ?_
    refine r_ireturn (pc := 119) rfl dX0_status_119 ⟨_, rfl, ?_⟩
    exact (show oX xo mo Z (statusS S x1, S) _ _ by unfold statusS; rw [h1, cI_f (by decide), cI_f (by decide), cI_f (by decide), cI_f (by decide), cI_f (by decide), cI_f (by decide), cI_f (by decide), cI_f (by decide), cI_t rfl]; exact ⟨rfl, wa, hx⟩)
  · refine r_swIn (pc := 1) 120 dX0_status_1 (by decide) (by decide) rfl rfl ?_
    refine r_aload_n (pc := 120) dX0_status_120 rfl ?_
    refine r_getR (pc := 121) dX0_status_121 fl_X0_70_0 hx.1.2.1 (fun _ _ => rfl) hx.1.2.2.1.2.2.1 ?_
    refine r_getIe (pc := 124) (v := S.1 48 0) dX0_status_124 fl_X0_391_1 hx.1.2.2.2.2.2.1.1 (fun _ _ => rfl) hx.2.2.2.2.1.2.1 ?_
    refine r_ireturn (pc := 127) rfl dX0_status_127 ⟨_, rfl, ?_⟩
    exact (show oX xo mo Z (statusS S x1, S) _ _ by unfold statusS; rw [h1, cI_f (by decide), cI_f (by decide), cI_f (by decide), cI_f (by decide), cI_f (by decide), cI_f (by decide), cI_f (by decide), cI_f (by decide), cI_f (by decide), cI_t rfl]; exact ⟨rfl, wa, hx⟩)
  · refine r_swIn (pc := 1) 128 dX0_status_1 (by decide) (by decide) rfl rfl ?_
    refine r_aload_n (pc := 128) dX0_status_128 rfl ?_
    refine r_getR (pc := 129) dX0_status_129 fl_X0_90_0 hx.1.2.1 (fun _ _ => rfl) hx.2.2.1.1 ?_
    refine r_getIe (pc := 132) (v := S.1 8 0) dX0_status_132 fl_X0_314_3 hx.2.2.1.2.2.k (fun _ _ => rfl) hx.2.2.1.2.2.i7 ?_
    refine r_ireturn (pc := 135) rfl dX0_status_135 ⟨_, rfl, ?_⟩
    exact (show oX xo mo Z (statusS S x1, S) _ _ by unfold statusS; rw [h1, cI_f (by decide), cI_f (by decide), cI_f (by decide), cI_f (by decide), cI_f (by decide), cI_f (by decide), cI_f (by decide), cI_f (by decide), cI_f (by decide), cI_f (by decide), cI_t rfl]; exact ⟨rfl, wa, hx⟩)
  · refine r_swOut (pc := 1) 136 dX0_status_1 h1 rfl ?_
    refine r_iload_n (pc := 136) dX0_status_136 rfl ?_
    refine r_i2l (pc := 137) dX0_status_137 ?_
    refine r_ldc2 (pc := 138) dX0_status_138 q1398 ?_
    refine r_ldc2 (pc := 141) dX0_status_141 q1399 ?_
    refine r_s3 (pc := 144) (bc' := 0) (bs' := 0) (ct_X0_in x1 11 17 rfl (by decide) (by decide)) k_X0_107 dX0_status_144 (Nat.le_of_ble_eq_true rfl) ⟨Nat.le_of_ble_eq_true rfl, Nat.le_of_ble_eq_true rfl⟩ ⟨Nat.le_of_ble_eq_true rfl, Nat.le_of_ble_eq_true rfl⟩ (r_ci fun r144 M144 p144 => ?_) nox
    obtain ⟨rfl, p144⟩ := p144
    have p144 := Eq.symm (show _ = _ from p144)
    subst p144
    refine r_if_eq (pc := 147) 162 dX0_status_147 rfl (fun h147 => ?_) (fun h147 => ?_)
    · rw [bI_eq0] at h147
      refine r_iconst (pc := 162) (v := (-1)) dX0_status_162 (by decide) ?_
      refine r_ireturn (pc := 163) rfl dX0_status_163 ⟨_, rfl, ?_⟩
      exact (show oX xo mo Z (statusS S x1, S) _ _ by unfold statusS; first | (rw [cI_t h147]; exact ⟨rfl, wa, hx⟩) | (rw [cI_f h147]; obtain ⟨a0, a1, a2, a3, a4, a5, a6, a7, a8, a9⟩ := st_n h1; rw [cI_f a0, cI_f a1, cI_f a2, cI_f a3, cI_f a4, cI_f a5, cI_f a6, cI_f a7, cI_f a8, cI_f a9]; exact ⟨rfl, wa, hx⟩))
    · rw [bI_ne0] at h147
      refine r_aload_n (pc := 150) dX0_status_150 rfl ?_
      refine r_getR (pc := 151) dX0_status_151 fl_X0_63_0 hx.1.2.1 (fun _ _ => rfl) hx.1.2.2.1.2.1 ?_
      refine r_iload_n (pc := 154) dX0_status_154 rfl ?_
      refine r_bipush (pc := 155) (v := 10) dX0_status_155 (by decide) ?_
      refine r_isub (pc := 157) dX0_status_157 ?_
      refine r_ialdv (pc := 158) (v := S.1 10 (Int32.toNatClampNeg (x1 - 10))) dX0_status_158 hx.1.2.2.2.2.1.1 hx.1.2.2.2.2.1.2 (st_v h147) (hx.2.2.2.2.1.1 _ (vp_in_lt (st_v h147))) ?_
      refine r_goto (pc := 159) 163 dX0_status_159 rfl ?_
      refine r_ireturn (pc := 163) rfl dX0_status_163 ⟨_, rfl, ?_⟩
      exact (show oX xo mo Z (statusS S x1, S) _ _ by unfold statusS; first | (rw [cI_t h147]; exact ⟨rfl, wa, hx⟩) | (rw [cI_f h147]; obtain ⟨a0, a1, a2, a3, a4, a5, a6, a7, a8, a9⟩ := st_n h1; rw [cI_f a0, cI_f a1, cI_f a2, cI_f a3, cI_f a4, cI_f a5, cI_f a6, cI_f a7, cI_f a8, cI_f a9]; exact ⟨rfl, wa, hx⟩))
