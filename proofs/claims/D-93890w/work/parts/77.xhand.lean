/-! X: goesOn, handovers (printed by gen/mk_x77.py) -/
set_option maxRecDepth 100000
/-- scratch cells change, whatever of them -/
theorem XO.scr2 {M M' Z : PM} {xo wa mo : Nat} {S : ST} (h : XO M xo wa mo Z S) (f : frP (xC xo) M M') : XO M' xo wa mo Z S := by
  obtain ⟨x1, ⟨x2, x3⟩, ⟨x4, x5, x6⟩, x7, ⟨y1, y2, y3, y4⟩, x9, x10, x11⟩ := h
  have x0 := x1.1
  have hP : ∀ a, xC xo a → xI xo a := fun a ha => Or.inr (Or.inr (Or.inr (Or.inr ha)))
  have hx : ∀ o, o < 35 → (o < 7 ∨ 16 < o) → mI M' (xo + o) = mI M (xo + o) ∧ mR M' (xo + o) = mR M (xo + o) := fun o ho hn => by
    obtain ⟨a1, -, a3⟩ := (f.2 (xo + o) (by omega)).2.2 (fun hp => by have := hp.1; have := hp.2; omega)
    exact ⟨a1, a3⟩
  have hw : ∀ w σ, dyW xo mo w → WX M w σ → WX M' w σ := fun w σ hd hw => hw.fr f (fun a ha hp => (hd.out x2 ha).1 (hP a hp)) (fun a c hK hp => x1.nth hK (hP a hp))
  refine ⟨x1.same f.1 (fun a ha => ⟨(f.2 a ha).1, (f.2 a ha).2.1⟩) (fun k _ => congrFun (hx 0 (by decide) (by decide)).2 k) (fun a ha => ?_), ⟨x2, Nat.le_trans x3 f.1⟩, ⟨(congrFun (hx 0 (by decide) (by decide)).2 6).trans x4, x5, hw wa _ x5 x6⟩, ?_, ⟨fun i hi => ?_, ?_, fun i hi => ?_, ?_⟩, fun s hs => ?_, ?_, fun a ha1 ha2 => ?_⟩
  · rcases ha with e | e | e | e <;> rw [e]
    · exact (hx 1 (by decide) (by decide)).2
    · exact (hx 3 (by decide) (by decide)).2
    · exact (hx 5 (by decide) (by decide)).2
    · exact (hx 6 (by decide) (by decide)).2
  · rcases x7 with ⟨a1, a2⟩ | ⟨a1, wi, a2, a3, a4, a5⟩
    · exact Or.inl ⟨a1, (congrFun (hx 0 (by decide) (by decide)).2 7).trans a2⟩
    · exact Or.inr ⟨a1, wi, (congrFun (hx 0 (by decide) (by decide)).2 7).trans a2, a3, a4, hw wi _ a3 a5⟩
  · rw [(hx 2 (by decide) (by decide)).1]; exact y1 i hi
  · rw [(hx 3 (by decide) (by decide)).1]; exact y2
  · rw [(hx 4 (by decide) (by decide)).1]; exact y3 i hi
  · rw [show mI M' xo = mI M xo from (hx 0 (by decide) (by decide)).1]; exact y4
  · rw [(hx (27 + s) (by omega) (by omega)).2]
    have w1 := x6.1.1
    exact (x9 s hs).fr f (by omega) (fun hp => (x5.out x2 (inW_o (o := 1) (by decide))).1 (hP _ hp)) (fun ra n c t hr hm _ => ⟨fun hp => by have := hp.2; omega, fun hp => by have := hp.2; omega⟩) (fun _ _ _ => rfl) (fun _ _ => rfl)
  · intro s s' ra hs hs' e1 e2 e3
    rw [(hx (27 + s) (by omega) (by omega)).2] at e1
    rw [(hx (27 + s') (by omega) (by omega)).2] at e2
    exact x10 s s' ra hs hs' e1 e2 e3
  · obtain ⟨a1, a2, a3⟩ := f.2 a (by omega)
    obtain ⟨b1, b2, b3⟩ := a3 (fun hp => by have := hp.2; omega)
    obtain ⟨z1, z2, z3, z4, z5⟩ := x11 a ha1 ha2
    exact ⟨a1.trans z1, a2.trans z2, b1.trans z3, b2.trans z4, b3.trans z5⟩
theorem nI_inj {a b : Nat} (ha : a < 2147483648) (hb : b < 2147483648) : nI a = nI b ↔ a = b := ⟨fun h => by have := congrArg Int32.toNatClampNeg h; rwa [ix_nI ha, ix_nI hb] at this, fun h => by rw [h]⟩
theorem cpM_fr {M : PM} {a b sp dp n : Nat} : frP (fun q => q = b) M (cpM M a b sp dp n) := ⟨Nat.le_refl _, fun q _ => ⟨rfl, rfl, fun hp => cpM_ne hp⟩⟩
theorem ct_X0_goesOn_0 {M : PM} {xo wa mo : Nat} {Z : PM} {S : ST} (hx : XO M xo wa mo Z S) (x1 : Int32) (hB : OkT S.1) (ht : thP S.1 x1) {now : Nat → Int32} (hn : ∀ i, i < ppN S.1 → mI M (xo + 15) i = now i) : Ct (YX0_goesOn, (6, 143, 0, 0), qi (fun r M' => r = msX now (-1) (fun m => farS S.1 m (Int32.toNatClampNeg x1)) (ppN S.1) (ppN S.1) ∧ XO M' xo wa mo Z S ∧ frP (fun q => q = (xo + 16)) M M' ∧ mR M' = mR M ∧ ∀ i, i < ppN S.1 → mI M' (xo + 16) i = thX now (-1) (fun m => farS S.1 m (Int32.toNatClampNeg x1)) (ppN S.1) i), noX) [.ref xo, .int x1, .int 0] M := by
  refine ct_of [some (.ref xo), some (.int x1), some (.int 0), none, none, none, none] rfl rfl rfl (Nat.le_of_ble_eq_true rfl) rfl rfl ?_
  obtain ⟨N1, hN1, e1⟩ := bd_nI (n := 8) hB.1.2.1
  have n1 : ppN S.1 = N1 := by show Int32.toNatClampNeg (S.1 1 0) = N1; rw [e1]; exact ix_nI (by omega)
  rw [n1] at hn
  have L : ∀ (n m : Nat) (M9 : PM) (o5 o6 : Option Value), m + n = N1 → frP (fun q => q = (xo + 16)) M M9 → mR M9 = mR M → (∀ i, i < m → mI M9 (xo + 16) i = thX now (-1) (fun m => farS S.1 m (Int32.toNatClampNeg x1)) N1 i) → Wx (YX0_goesOn, (6, 143, 0, 0), qi (fun r M' => r = msX now (-1) (fun m => farS S.1 m (Int32.toNatClampNeg x1)) (ppN S.1) (ppN S.1) ∧ XO M' xo wa mo Z S ∧ frP (fun q => q = (xo + 16)) M M' ∧ mR M' = mR M ∧ ∀ i, i < ppN S.1 → mI M' (xo + 16) i = thX now (-1) (fun m => farS S.1 m (Int32.toNatClampNeg x1)) (ppN S.1) i), noX) 0 0 M9 5 [some (.ref xo), some (.int x1), some (.int 0), some (.int (msX now (-1) (fun m => farS S.1 m (Int32.toNatClampNeg x1)) N1 m)), some (.int (nI m)), o5, o6] [] := by
    intro n
    induction n with
    | zero =>
      intro m M9 o5 o6 hm f9 hR9 hI
      have hx9 := hx.scr2 (f9.mono (fun a _ hp => ⟨by omega, by omega⟩))
      obtain rfl : N1 = m := by omega
      refine r_iload (pc := 5) dX0_goesOn_5 rfl ?_
      refine r_aload_n (pc := 7) dX0_goesOn_7 rfl ?_
      refine r_getR (pc := 8) dX0_goesOn_8 fl_X0_90_0 hx9.1.2.1 (fun _ _ => rfl) hx9.2.2.1.1 ?_
      refine r_getIe (pc := 11) (v := S.1 1 0) dX0_goesOn_11 fl_X0_123_3 hx9.2.2.1.2.2.k (fun _ _ => rfl) hx9.2.2.1.2.2.i5 ?_
      refine r_icmp_ge (pc := 14) 132 dX0_goesOn_14 rfl (fun _ => ?_) (fun hno => False.elim (by rw [e1, ltI (by omega) (by omega)] at hno; omega))
      refine r_iload_n (pc := 132) dX0_goesOn_132 rfl ?_
      refine r_ireturn (pc := 133) rfl dX0_goesOn_133 ⟨_, rfl, ?_⟩
      rw [n1]
      exact ⟨rfl, hx9, f9, hR9, hI⟩
    | succ n ih =>
      intro m M9 o5 o6 hm f9 hR9 hI
      have hx9 := hx.scr2 (f9.mono (fun a _ hp => ⟨by omega, by omega⟩))
      have hmn : mnP S.1 (nI m) := ⟨nn_nI (by omega), by rw [e1, ltI (by omega) (by omega)]; omega⟩
      have ixm : Int32.toNatClampNeg (nI m) = m := ix_nI (by omega)
      have x0 := hx.1.1
      have nw9 : ∀ i, i < N1 → mI M9 (xo + 15) i = now i := fun i hi => by rw [((f9.2 (xo + 15) (by omega)).2.2 (by omega)).1]; exact hn i hi
      have L2 : ∀ (k l : Nat), l + k = N1 → Wx (YX0_goesOn, (6, 143, 0, 0), qi (fun r M' => r = msX now (-1) (fun m => farS S.1 m (Int32.toNatClampNeg x1)) (ppN S.1) (ppN S.1) ∧ XO M' xo wa mo Z S ∧ frP (fun q => q = (xo + 16)) M M' ∧ mR M' = mR M ∧ ∀ i, i < ppN S.1 → mI M' (xo + 16) i = thX now (-1) (fun m => farS S.1 m (Int32.toNatClampNeg x1)) (ppN S.1) i), noX) 0 0 M9 31 [some (.ref xo), some (.int x1), some (.int 0), some (.int (msX now (-1) (fun m => farS S.1 m (Int32.toNatClampNeg x1)) N1 m)), some (.int (nI m)), some (.int (bfX now (-1) m l)), some (.int (nI l))] [] := by
        intro k
        induction k with
        | zero =>
          intro l hl
          obtain rfl : N1 = l := by omega
          refine r_iload (pc := 31) dX0_goesOn_31 rfl ?_
          refine r_aload_n (pc := 33) dX0_goesOn_33 rfl ?_
          refine r_getR (pc := 34) dX0_goesOn_34 fl_X0_90_0 hx9.1.2.1 (fun _ _ => rfl) hx9.2.2.1.1 ?_
          refine r_getIe (pc := 37) (v := S.1 1 0) dX0_goesOn_37 fl_X0_123_3 hx9.2.2.1.2.2.k (fun _ _ => rfl) hx9.2.2.1.2.2.i5 ?_
          refine r_icmp_ge (pc := 40) 75 dX0_goesOn_40 rfl (fun _ => ?_) (fun hno => False.elim (by rw [e1, ltI (by omega) (by omega)] at hno; omega))
          refine r_aload_n (pc := 75) dX0_goesOn_75 rfl ?_
          refine r_getR (pc := 76) dX0_goesOn_76 fl_X0_90_0 hx9.1.2.1 (fun _ _ => rfl) hx9.2.2.1.1 ?_
          refine r_iload (pc := 79) dX0_goesOn_79 rfl ?_
          refine r_iload_n (pc := 81) dX0_goesOn_81 rfl ?_
          refine r_o3 (pc := 82) (bc' := 0) (bs' := 0) (ct_X3_far hx9.2.2.1.2.2 (nI m) x1 hB hmn ht) k_X0_304_3 dX0_goesOn_82 hx9.2.2.1.2.2.k (Nat.le_of_ble_eq_true rfl) ⟨Nat.le_of_ble_eq_true rfl, Nat.le_of_ble_eq_true rfl⟩ ⟨Nat.le_of_ble_eq_true rfl, Nat.le_of_ble_eq_true rfl⟩ (r_ci fun r82 M82 p82 => ?_) nox
          obtain ⟨rfl, p82⟩ := p82
          have p82 := Eq.symm (show _ = _ from p82)
          subst p82
          rw [ixm]
          refine r_istore6 (pc := 85) dX0_goesOn_85 rfl ?_
          refine r_aload_n (pc := 87) dX0_goesOn_87 rfl ?_
          refine r_getR (pc := 88) dX0_goesOn_88 fl_X0_84_0 hx9.1.2.1 (fun _ _ => rfl) hx9.1.2.2.1.2.2.2.2.2 ?_
          refine r_iload (pc := 91) dX0_goesOn_91 rfl ?_
          refine r_iload (pc := 93) dX0_goesOn_93 rfl ?_
          refine r_iconst (pc := 95) (v := (-1)) dX0_goesOn_95 (by decide) ?_
          refine r_icmp_eq (pc := 96) 104 dX0_goesOn_96 rfl (fun h96 => ?_) (fun h96 => ?_)
          · refine r_iconst (pc := 104) (v := (-1)) dX0_goesOn_104 (by decide) ?_
            refine r_goto (pc := 105) 113 dX0_goesOn_105 rfl ?_
            refine r_eqi (thX now (-1) (fun m => farS S.1 m (Int32.toNatClampNeg x1)) N1 m) (by unfold thX; first | rw [if_pos h96] | rw [if_neg h96, if_neg h101] | rw [if_neg h96, if_pos h101]) ?_
            refine r_iast (pc := 113) dX0_goesOn_113 hx9.1.2.2.2.2.2.2.2.2.1.1 hx9.1.2.2.2.2.2.2.2.2.1.2 (hB.vm hmn) ?_
            rw [ixm]
            have hx10 := hx9.s1 (a := (xo + 16)) (k := m) (v := thX now (-1) (fun m => farS S.1 m (Int32.toNatClampNeg x1)) N1 m) ⟨by omega, by omega⟩
            refine r_iload_n (pc := 114) dX0_goesOn_114 rfl ?_
            refine r_aload_n (pc := 115) dX0_goesOn_115 rfl ?_
            refine r_getR (pc := 116) dX0_goesOn_116 fl_X0_84_0 hx10.1.2.1 (fun _ _ => rfl) hx10.1.2.2.1.2.2.2.2.2 ?_
            refine r_iload (pc := 119) dX0_goesOn_119 rfl ?_
            refine r_ialdv (pc := 121) (v := thX now (-1) (fun m => farS S.1 m (Int32.toNatClampNeg x1)) N1 m) dX0_goesOn_121 hx10.1.2.2.2.2.2.2.2.2.1.1 hx10.1.2.2.2.2.2.2.2.2.1.2 (hB.vm hmn) (by rw [ixm]; exact sI_at) ?_
            refine r_mmax (pc := 122) dX0_goesOn_122 q871 (Nat.le_of_ble_eq_true rfl) (Nat.le_of_ble_eq_true rfl) ?_
            refine r_istore3 (pc := 125) dX0_goesOn_125 rfl ?_
            refine r_iinc4 (pc := 126) dX0_goesOn_126 (nI_1 _) rfl ?_
            refine r_goto (pc := 129) 5 dX0_goesOn_129 rfl ?_
            refine ih (m + 1) _ _ _ (by omega) (f9.sI fun _ => rfl) hR9 (fun i hi => ?_)
            by_cases c : i = m
            · rw [c]; exact sI_at
            · rw [sI_ne c]; exact hI i (by omega)
          · refine r_iload (pc := 99) dX0_goesOn_99 rfl ?_
            refine r_if_ne (pc := 101) 108 dX0_goesOn_101 rfl (fun h101 => ?_) (fun h101 => ?_)
            · refine r_iload (pc := 108) dX0_goesOn_108 rfl ?_
              refine r_iload (pc := 110) dX0_goesOn_110 rfl ?_
              refine r_iadd (pc := 112) dX0_goesOn_112 ?_
              refine r_eqi (thX now (-1) (fun m => farS S.1 m (Int32.toNatClampNeg x1)) N1 m) (by unfold thX; first | rw [if_pos h96] | rw [if_neg h96, if_neg h101] | rw [if_neg h96, if_pos h101]) ?_
              refine r_iast (pc := 113) dX0_goesOn_113 hx9.1.2.2.2.2.2.2.2.2.1.1 hx9.1.2.2.2.2.2.2.2.2.1.2 (hB.vm hmn) ?_
              rw [ixm]
              have hx10 := hx9.s1 (a := (xo + 16)) (k := m) (v := thX now (-1) (fun m => farS S.1 m (Int32.toNatClampNeg x1)) N1 m) ⟨by omega, by omega⟩
              refine r_iload_n (pc := 114) dX0_goesOn_114 rfl ?_
              refine r_aload_n (pc := 115) dX0_goesOn_115 rfl ?_
              refine r_getR (pc := 116) dX0_goesOn_116 fl_X0_84_0 hx10.1.2.1 (fun _ _ => rfl) hx10.1.2.2.1.2.2.2.2.2 ?_
              refine r_iload (pc := 119) dX0_goesOn_119 rfl ?_
              refine r_ialdv (pc := 121) (v := thX now (-1) (fun m => farS S.1 m (Int32.toNatClampNeg x1)) N1 m) dX0_goesOn_121 hx10.1.2.2.2.2.2.2.2.2.1.1 hx10.1.2.2.2.2.2.2.2.2.1.2 (hB.vm hmn) (by rw [ixm]; exact sI_at) ?_
              refine r_mmax (pc := 122) dX0_goesOn_122 q871 (Nat.le_of_ble_eq_true rfl) (Nat.le_of_ble_eq_true rfl) ?_
              refine r_istore3 (pc := 125) dX0_goesOn_125 rfl ?_
              refine r_iinc4 (pc := 126) dX0_goesOn_126 (nI_1 _) rfl ?_
              refine r_goto (pc := 129) 5 dX0_goesOn_129 rfl ?_
              refine ih (m + 1) _ _ _ (by omega) (f9.sI fun _ => rfl) hR9 (fun i hi => ?_)
              by_cases c : i = m
              · rw [c]; exact sI_at
              · rw [sI_ne c]; exact hI i (by omega)
            · refine r_iconst (pc := 104) (v := (-1)) dX0_goesOn_104 (by decide) ?_
              refine r_goto (pc := 105) 113 dX0_goesOn_105 rfl ?_
              refine r_eqi (thX now (-1) (fun m => farS S.1 m (Int32.toNatClampNeg x1)) N1 m) (by unfold thX; first | rw [if_pos h96] | rw [if_neg h96, if_neg h101] | rw [if_neg h96, if_pos h101]) ?_
              refine r_iast (pc := 113) dX0_goesOn_113 hx9.1.2.2.2.2.2.2.2.2.1.1 hx9.1.2.2.2.2.2.2.2.2.1.2 (hB.vm hmn) ?_
              rw [ixm]
              have hx10 := hx9.s1 (a := (xo + 16)) (k := m) (v := thX now (-1) (fun m => farS S.1 m (Int32.toNatClampNeg x1)) N1 m) ⟨by omega, by omega⟩
              refine r_iload_n (pc := 114) dX0_goesOn_114 rfl ?_
              refine r_aload_n (pc := 115) dX0_goesOn_115 rfl ?_
              refine r_getR (pc := 116) dX0_goesOn_116 fl_X0_84_0 hx10.1.2.1 (fun _ _ => rfl) hx10.1.2.2.1.2.2.2.2.2 ?_
              refine r_iload (pc := 119) dX0_goesOn_119 rfl ?_
              refine r_ialdv (pc := 121) (v := thX now (-1) (fun m => farS S.1 m (Int32.toNatClampNeg x1)) N1 m) dX0_goesOn_121 hx10.1.2.2.2.2.2.2.2.2.1.1 hx10.1.2.2.2.2.2.2.2.2.1.2 (hB.vm hmn) (by rw [ixm]; exact sI_at) ?_
              refine r_mmax (pc := 122) dX0_goesOn_122 q871 (Nat.le_of_ble_eq_true rfl) (Nat.le_of_ble_eq_true rfl) ?_
              refine r_istore3 (pc := 125) dX0_goesOn_125 rfl ?_
              refine r_iinc4 (pc := 126) dX0_goesOn_126 (nI_1 _) rfl ?_
              refine r_goto (pc := 129) 5 dX0_goesOn_129 rfl ?_
              refine ih (m + 1) _ _ _ (by omega) (f9.sI fun _ => rfl) hR9 (fun i hi => ?_)
              by_cases c : i = m
              · rw [c]; exact sI_at
              · rw [sI_ne c]; exact hI i (by omega)
        | succ k ih2 =>
          intro l hl
          have ixl : Int32.toNatClampNeg (nI l) = l := ix_nI (by omega)
          refine r_iload (pc := 31) dX0_goesOn_31 rfl ?_
          refine r_aload_n (pc := 33) dX0_goesOn_33 rfl ?_
          refine r_getR (pc := 34) dX0_goesOn_34 fl_X0_90_0 hx9.1.2.1 (fun _ _ => rfl) hx9.2.2.1.1 ?_
          refine r_getIe (pc := 37) (v := S.1 1 0) dX0_goesOn_37 fl_X0_123_3 hx9.2.2.1.2.2.k (fun _ _ => rfl) hx9.2.2.1.2.2.i5 ?_
          refine r_icmp_ge (pc := 40) 75 dX0_goesOn_40 rfl (fun hno => False.elim (by rw [e1, ltI (by omega) (by omega)] at hno; omega)) (fun _ => ?_)
          refine r_iload (pc := 43) dX0_goesOn_43 rfl ?_
          refine r_iload (pc := 45) dX0_goesOn_45 rfl ?_
          refine r_icmp_eq (pc := 47) 65 dX0_goesOn_47 rfl (fun h47 => ?_) (fun h47 => ?_)
          · rw [nI_inj (by omega) (by omega)] at h47
            refine r_iload (pc := 65) dX0_goesOn_65 rfl ?_
            refine r_istore5 (pc := 67) dX0_goesOn_67 rfl ?_
            refine r_iinc6 (pc := 69) dX0_goesOn_69 (nI_1 _) rfl ?_
            refine r_goto (pc := 72) 31 dX0_goesOn_72 rfl ?_
            have Z2 := ih2 (l + 1) (by omega)
            first | (rw [bfX, if_pos h47] at Z2; exact Z2) | (rw [bfX, if_neg h47] at Z2; exact Z2)
          · rw [nI_inj (by omega) (by omega)] at h47
            refine r_iload (pc := 50) dX0_goesOn_50 rfl ?_
            refine r_aload_n (pc := 52) dX0_goesOn_52 rfl ?_
            refine r_getR (pc := 53) dX0_goesOn_53 fl_X0_81_0 hx9.1.2.1 (fun _ _ => rfl) hx9.1.2.2.1.2.2.2.2.1 ?_
            refine r_iload (pc := 56) dX0_goesOn_56 rfl ?_
            refine r_ialdv (pc := 58) (v := now l) dX0_goesOn_58 hx9.1.2.2.2.2.2.2.2.1.1 hx9.1.2.2.2.2.2.2.2.1.2 (vp_in_nI (by omega) (by decide)) (by rw [ixl]; exact nw9 l (by omega)) ?_
            refine r_mmax (pc := 59) dX0_goesOn_59 q871 (Nat.le_of_ble_eq_true rfl) (Nat.le_of_ble_eq_true rfl) ?_
            refine r_goto (pc := 62) 67 dX0_goesOn_62 rfl ?_
            refine r_istore5 (pc := 67) dX0_goesOn_67 rfl ?_
            refine r_iinc6 (pc := 69) dX0_goesOn_69 (nI_1 _) rfl ?_
            refine r_goto (pc := 72) 31 dX0_goesOn_72 rfl ?_
            have Z2 := ih2 (l + 1) (by omega)
            first | (rw [bfX, if_pos h47] at Z2; exact Z2) | (rw [bfX, if_neg h47] at Z2; exact Z2)
      refine r_iload (pc := 5) dX0_goesOn_5 rfl ?_
      refine r_aload_n (pc := 7) dX0_goesOn_7 rfl ?_
      refine r_getR (pc := 8) dX0_goesOn_8 fl_X0_90_0 hx9.1.2.1 (fun _ _ => rfl) hx9.2.2.1.1 ?_
      refine r_getIe (pc := 11) (v := S.1 1 0) dX0_goesOn_11 fl_X0_123_3 hx9.2.2.1.2.2.k (fun _ _ => rfl) hx9.2.2.1.2.2.i5 ?_
      refine r_icmp_ge (pc := 14) 132 dX0_goesOn_14 rfl (fun hno => False.elim (hno hmn.2)) (fun _ => ?_)
      refine r_iload_n (pc := 17) dX0_goesOn_17 rfl ?_
      refine r_if_eq (pc := 18) 25 dX0_goesOn_18 rfl (fun _ => ?_) (fun hno => absurd hno (by decide))
      refine r_iconst (pc := 25) (v := (-1)) dX0_goesOn_25 (by decide) ?_
      refine r_istore5 (pc := 26) dX0_goesOn_26 rfl ?_
      refine r_iconst (pc := 28) (v := 0) dX0_goesOn_28 (by decide) ?_
      refine r_istore6 (pc := 29) dX0_goesOn_29 rfl ?_
      exact L2 N1 0 (by omega)
  refine r_iconst (pc := 0) (v := (-1)) dX0_goesOn_0 (by decide) ?_
  refine r_istore3 (pc := 1) dX0_goesOn_1 rfl ?_
  refine r_iconst (pc := 2) (v := 0) dX0_goesOn_2 (by decide) ?_
  refine r_istore4 (pc := 3) dX0_goesOn_3 rfl ?_
  exact L N1 0 M _ _ (by omega) frP.rf rfl (fun i hi => absurd hi (by omega))
theorem ct_X0_goesOn_1 {M : PM} {xo wa mo : Nat} {Z : PM} {S : ST} (hx : XO M xo wa mo Z S) (x1 : Int32) (hB : OkT S.1) (ht : thP S.1 x1) {now : Nat → Int32} (hn : ∀ i, i < ppN S.1 → mI M (xo + 15) i = now i) : Ct (YX0_goesOn, (6, 143, 0, 0), qi (fun r M' => r = msX now 0 (fun m => farS S.1 m (Int32.toNatClampNeg x1)) (ppN S.1) (ppN S.1) ∧ XO M' xo wa mo Z S ∧ frP (fun q => q = (xo + 16)) M M' ∧ mR M' = mR M ∧ ∀ i, i < ppN S.1 → mI M' (xo + 16) i = thX now 0 (fun m => farS S.1 m (Int32.toNatClampNeg x1)) (ppN S.1) i), noX) [.ref xo, .int x1, .int 1] M := by
  refine ct_of [some (.ref xo), some (.int x1), some (.int 1), none, none, none, none] rfl rfl rfl (Nat.le_of_ble_eq_true rfl) rfl rfl ?_
  obtain ⟨N1, hN1, e1⟩ := bd_nI (n := 8) hB.1.2.1
  have n1 : ppN S.1 = N1 := by show Int32.toNatClampNeg (S.1 1 0) = N1; rw [e1]; exact ix_nI (by omega)
  rw [n1] at hn
  have L : ∀ (n m : Nat) (M9 : PM) (o5 o6 : Option Value), m + n = N1 → frP (fun q => q = (xo + 16)) M M9 → mR M9 = mR M → (∀ i, i < m → mI M9 (xo + 16) i = thX now 0 (fun m => farS S.1 m (Int32.toNatClampNeg x1)) N1 i) → Wx (YX0_goesOn, (6, 143, 0, 0), qi (fun r M' => r = msX now 0 (fun m => farS S.1 m (Int32.toNatClampNeg x1)) (ppN S.1) (ppN S.1) ∧ XO M' xo wa mo Z S ∧ frP (fun q => q = (xo + 16)) M M' ∧ mR M' = mR M ∧ ∀ i, i < ppN S.1 → mI M' (xo + 16) i = thX now 0 (fun m => farS S.1 m (Int32.toNatClampNeg x1)) (ppN S.1) i), noX) 0 0 M9 5 [some (.ref xo), some (.int x1), some (.int 1), some (.int (msX now 0 (fun m => farS S.1 m (Int32.toNatClampNeg x1)) N1 m)), some (.int (nI m)), o5, o6] [] := by
    intro n
    induction n with
    | zero =>
      intro m M9 o5 o6 hm f9 hR9 hI
      have hx9 := hx.scr2 (f9.mono (fun a _ hp => ⟨by omega, by omega⟩))
      obtain rfl : N1 = m := by omega
      refine r_iload (pc := 5) dX0_goesOn_5 rfl ?_
      refine r_aload_n (pc := 7) dX0_goesOn_7 rfl ?_
      refine r_getR (pc := 8) dX0_goesOn_8 fl_X0_90_0 hx9.1.2.1 (fun _ _ => rfl) hx9.2.2.1.1 ?_
      refine r_getIe (pc := 11) (v := S.1 1 0) dX0_goesOn_11 fl_X0_123_3 hx9.2.2.1.2.2.k (fun _ _ => rfl) hx9.2.2.1.2.2.i5 ?_
      refine r_icmp_ge (pc := 14) 132 dX0_goesOn_14 rfl (fun _ => ?_) (fun hno => False.elim (by rw [e1, ltI (by omega) (by omega)] at hno; omega))
      refine r_iload_n (pc := 132) dX0_goesOn_132 rfl ?_
      refine r_ireturn (pc := 133) rfl dX0_goesOn_133 ⟨_, rfl, ?_⟩
      rw [n1]
      exact ⟨rfl, hx9, f9, hR9, hI⟩
    | succ n ih =>
      intro m M9 o5 o6 hm f9 hR9 hI
      have hx9 := hx.scr2 (f9.mono (fun a _ hp => ⟨by omega, by omega⟩))
      have hmn : mnP S.1 (nI m) := ⟨nn_nI (by omega), by rw [e1, ltI (by omega) (by omega)]; omega⟩
      have ixm : Int32.toNatClampNeg (nI m) = m := ix_nI (by omega)
      have x0 := hx.1.1
      have nw9 : ∀ i, i < N1 → mI M9 (xo + 15) i = now i := fun i hi => by rw [((f9.2 (xo + 15) (by omega)).2.2 (by omega)).1]; exact hn i hi
      have L2 : ∀ (k l : Nat), l + k = N1 → Wx (YX0_goesOn, (6, 143, 0, 0), qi (fun r M' => r = msX now 0 (fun m => farS S.1 m (Int32.toNatClampNeg x1)) (ppN S.1) (ppN S.1) ∧ XO M' xo wa mo Z S ∧ frP (fun q => q = (xo + 16)) M M' ∧ mR M' = mR M ∧ ∀ i, i < ppN S.1 → mI M' (xo + 16) i = thX now 0 (fun m => farS S.1 m (Int32.toNatClampNeg x1)) (ppN S.1) i), noX) 0 0 M9 31 [some (.ref xo), some (.int x1), some (.int 1), some (.int (msX now 0 (fun m => farS S.1 m (Int32.toNatClampNeg x1)) N1 m)), some (.int (nI m)), some (.int (bfX now 0 m l)), some (.int (nI l))] [] := by
        intro k
        induction k with
        | zero =>
          intro l hl
          obtain rfl : N1 = l := by omega
          refine r_iload (pc := 31) dX0_goesOn_31 rfl ?_
          refine r_aload_n (pc := 33) dX0_goesOn_33 rfl ?_
          refine r_getR (pc := 34) dX0_goesOn_34 fl_X0_90_0 hx9.1.2.1 (fun _ _ => rfl) hx9.2.2.1.1 ?_
          refine r_getIe (pc := 37) (v := S.1 1 0) dX0_goesOn_37 fl_X0_123_3 hx9.2.2.1.2.2.k (fun _ _ => rfl) hx9.2.2.1.2.2.i5 ?_
          refine r_icmp_ge (pc := 40) 75 dX0_goesOn_40 rfl (fun _ => ?_) (fun hno => False.elim (by rw [e1, ltI (by omega) (by omega)] at hno; omega))
          refine r_aload_n (pc := 75) dX0_goesOn_75 rfl ?_
          refine r_getR (pc := 76) dX0_goesOn_76 fl_X0_90_0 hx9.1.2.1 (fun _ _ => rfl) hx9.2.2.1.1 ?_
          refine r_iload (pc := 79) dX0_goesOn_79 rfl ?_
          refine r_iload_n (pc := 81) dX0_goesOn_81 rfl ?_
          refine r_o3 (pc := 82) (bc' := 0) (bs' := 0) (ct_X3_far hx9.2.2.1.2.2 (nI m) x1 hB hmn ht) k_X0_304_3 dX0_goesOn_82 hx9.2.2.1.2.2.k (Nat.le_of_ble_eq_true rfl) ⟨Nat.le_of_ble_eq_true rfl, Nat.le_of_ble_eq_true rfl⟩ ⟨Nat.le_of_ble_eq_true rfl, Nat.le_of_ble_eq_true rfl⟩ (r_ci fun r82 M82 p82 => ?_) nox
          obtain ⟨rfl, p82⟩ := p82
          have p82 := Eq.symm (show _ = _ from p82)
          subst p82
          rw [ixm]
          refine r_istore6 (pc := 85) dX0_goesOn_85 rfl ?_
          refine r_aload_n (pc := 87) dX0_goesOn_87 rfl ?_
          refine r_getR (pc := 88) dX0_goesOn_88 fl_X0_84_0 hx9.1.2.1 (fun _ _ => rfl) hx9.1.2.2.1.2.2.2.2.2 ?_
          refine r_iload (pc := 91) dX0_goesOn_91 rfl ?_
          refine r_iload (pc := 93) dX0_goesOn_93 rfl ?_
          refine r_iconst (pc := 95) (v := (-1)) dX0_goesOn_95 (by decide) ?_
          refine r_icmp_eq (pc := 96) 104 dX0_goesOn_96 rfl (fun h96 => ?_) (fun h96 => ?_)
          · refine r_iconst (pc := 104) (v := (-1)) dX0_goesOn_104 (by decide) ?_
            refine r_goto (pc := 105) 113 dX0_goesOn_105 rfl ?_
            refine r_eqi (thX now 0 (fun m => farS S.1 m (Int32.toNatClampNeg x1)) N1 m) (by unfold thX; first | rw [if_pos h96] | rw [if_neg h96, if_neg h101] | rw [if_neg h96, if_pos h101]) ?_
            refine r_iast (pc := 113) dX0_goesOn_113 hx9.1.2.2.2.2.2.2.2.2.1.1 hx9.1.2.2.2.2.2.2.2.2.1.2 (hB.vm hmn) ?_
            rw [ixm]
            have hx10 := hx9.s1 (a := (xo + 16)) (k := m) (v := thX now 0 (fun m => farS S.1 m (Int32.toNatClampNeg x1)) N1 m) ⟨by omega, by omega⟩
            refine r_iload_n (pc := 114) dX0_goesOn_114 rfl ?_
            refine r_aload_n (pc := 115) dX0_goesOn_115 rfl ?_
            refine r_getR (pc := 116) dX0_goesOn_116 fl_X0_84_0 hx10.1.2.1 (fun _ _ => rfl) hx10.1.2.2.1.2.2.2.2.2 ?_
            refine r_iload (pc := 119) dX0_goesOn_119 rfl ?_
            refine r_ialdv (pc := 121) (v := thX now 0 (fun m => farS S.1 m (Int32.toNatClampNeg x1)) N1 m) dX0_goesOn_121 hx10.1.2.2.2.2.2.2.2.2.1.1 hx10.1.2.2.2.2.2.2.2.2.1.2 (hB.vm hmn) (by rw [ixm]; exact sI_at) ?_
            refine r_mmax (pc := 122) dX0_goesOn_122 q871 (Nat.le_of_ble_eq_true rfl) (Nat.le_of_ble_eq_true rfl) ?_
            refine r_istore3 (pc := 125) dX0_goesOn_125 rfl ?_
            refine r_iinc4 (pc := 126) dX0_goesOn_126 (nI_1 _) rfl ?_
            refine r_goto (pc := 129) 5 dX0_goesOn_129 rfl ?_
            refine ih (m + 1) _ _ _ (by omega) (f9.sI fun _ => rfl) hR9 (fun i hi => ?_)
            by_cases c : i = m
            · rw [c]; exact sI_at
            · rw [sI_ne c]; exact hI i (by omega)
          · refine r_iload (pc := 99) dX0_goesOn_99 rfl ?_
            refine r_if_ne (pc := 101) 108 dX0_goesOn_101 rfl (fun h101 => ?_) (fun h101 => ?_)
            · refine r_iload (pc := 108) dX0_goesOn_108 rfl ?_
              refine r_iload (pc := 110) dX0_goesOn_110 rfl ?_
              refine r_iadd (pc := 112) dX0_goesOn_112 ?_
              refine r_eqi (thX now 0 (fun m => farS S.1 m (Int32.toNatClampNeg x1)) N1 m) (by unfold thX; first | rw [if_pos h96] | rw [if_neg h96, if_neg h101] | rw [if_neg h96, if_pos h101]) ?_
              refine r_iast (pc := 113) dX0_goesOn_113 hx9.1.2.2.2.2.2.2.2.2.1.1 hx9.1.2.2.2.2.2.2.2.2.1.2 (hB.vm hmn) ?_
              rw [ixm]
              have hx10 := hx9.s1 (a := (xo + 16)) (k := m) (v := thX now 0 (fun m => farS S.1 m (Int32.toNatClampNeg x1)) N1 m) ⟨by omega, by omega⟩
              refine r_iload_n (pc := 114) dX0_goesOn_114 rfl ?_
              refine r_aload_n (pc := 115) dX0_goesOn_115 rfl ?_
              refine r_getR (pc := 116) dX0_goesOn_116 fl_X0_84_0 hx10.1.2.1 (fun _ _ => rfl) hx10.1.2.2.1.2.2.2.2.2 ?_
              refine r_iload (pc := 119) dX0_goesOn_119 rfl ?_
              refine r_ialdv (pc := 121) (v := thX now 0 (fun m => farS S.1 m (Int32.toNatClampNeg x1)) N1 m) dX0_goesOn_121 hx10.1.2.2.2.2.2.2.2.2.1.1 hx10.1.2.2.2.2.2.2.2.2.1.2 (hB.vm hmn) (by rw [ixm]; exact sI_at) ?_
              refine r_mmax (pc := 122) dX0_goesOn_122 q871 (Nat.le_of_ble_eq_true rfl) (Nat.le_of_ble_eq_true rfl) ?_
              refine r_istore3 (pc := 125) dX0_goesOn_125 rfl ?_
              refine r_iinc4 (pc := 126) dX0_goesOn_126 (nI_1 _) rfl ?_
              refine r_goto (pc := 129) 5 dX0_goesOn_129 rfl ?_
              refine ih (m + 1) _ _ _ (by omega) (f9.sI fun _ => rfl) hR9 (fun i hi => ?_)
              by_cases c : i = m
              · rw [c]; exact sI_at
              · rw [sI_ne c]; exact hI i (by omega)
            · refine r_iconst (pc := 104) (v := (-1)) dX0_goesOn_104 (by decide) ?_
              refine r_goto (pc := 105) 113 dX0_goesOn_105 rfl ?_
              refine r_eqi (thX now 0 (fun m => farS S.1 m (Int32.toNatClampNeg x1)) N1 m) (by unfold thX; first | rw [if_pos h96] | rw [if_neg h96, if_neg h101] | rw [if_neg h96, if_pos h101]) ?_
              refine r_iast (pc := 113) dX0_goesOn_113 hx9.1.2.2.2.2.2.2.2.2.1.1 hx9.1.2.2.2.2.2.2.2.2.1.2 (hB.vm hmn) ?_
              rw [ixm]
              have hx10 := hx9.s1 (a := (xo + 16)) (k := m) (v := thX now 0 (fun m => farS S.1 m (Int32.toNatClampNeg x1)) N1 m) ⟨by omega, by omega⟩
              refine r_iload_n (pc := 114) dX0_goesOn_114 rfl ?_
              refine r_aload_n (pc := 115) dX0_goesOn_115 rfl ?_
              refine r_getR (pc := 116) dX0_goesOn_116 fl_X0_84_0 hx10.1.2.1 (fun _ _ => rfl) hx10.1.2.2.1.2.2.2.2.2 ?_
              refine r_iload (pc := 119) dX0_goesOn_119 rfl ?_
              refine r_ialdv (pc := 121) (v := thX now 0 (fun m => farS S.1 m (Int32.toNatClampNeg x1)) N1 m) dX0_goesOn_121 hx10.1.2.2.2.2.2.2.2.2.1.1 hx10.1.2.2.2.2.2.2.2.2.1.2 (hB.vm hmn) (by rw [ixm]; exact sI_at) ?_
              refine r_mmax (pc := 122) dX0_goesOn_122 q871 (Nat.le_of_ble_eq_true rfl) (Nat.le_of_ble_eq_true rfl) ?_
              refine r_istore3 (pc := 125) dX0_goesOn_125 rfl ?_
              refine r_iinc4 (pc := 126) dX0_goesOn_126 (nI_1 _) rfl ?_
              refine r_goto (pc := 129) 5 dX0_goesOn_129 rfl ?_
              refine ih (m + 1) _ _ _ (by omega) (f9.sI fun _ => rfl) hR9 (fun i hi => ?_)
              by_cases c : i = m
              · rw [c]; exact sI_at
              · rw [sI_ne c]; exact hI i (by omega)
        | succ k ih2 =>
          intro l hl
          have ixl : Int32.toNatClampNeg (nI l) = l := ix_nI (by omega)
          refine r_iload (pc := 31) dX0_goesOn_31 rfl ?_
          refine r_aload_n (pc := 33) dX0_goesOn_33 rfl ?_
          refine r_getR (pc := 34) dX0_goesOn_34 fl_X0_90_0 hx9.1.2.1 (fun _ _ => rfl) hx9.2.2.1.1 ?_
          refine r_getIe (pc := 37) (v := S.1 1 0) dX0_goesOn_37 fl_X0_123_3 hx9.2.2.1.2.2.k (fun _ _ => rfl) hx9.2.2.1.2.2.i5 ?_
          refine r_icmp_ge (pc := 40) 75 dX0_goesOn_40 rfl (fun hno => False.elim (by rw [e1, ltI (by omega) (by omega)] at hno; omega)) (fun _ => ?_)
          refine r_iload (pc := 43) dX0_goesOn_43 rfl ?_
          refine r_iload (pc := 45) dX0_goesOn_45 rfl ?_
          refine r_icmp_eq (pc := 47) 65 dX0_goesOn_47 rfl (fun h47 => ?_) (fun h47 => ?_)
          · rw [nI_inj (by omega) (by omega)] at h47
            refine r_iload (pc := 65) dX0_goesOn_65 rfl ?_
            refine r_istore5 (pc := 67) dX0_goesOn_67 rfl ?_
            refine r_iinc6 (pc := 69) dX0_goesOn_69 (nI_1 _) rfl ?_
            refine r_goto (pc := 72) 31 dX0_goesOn_72 rfl ?_
            have Z2 := ih2 (l + 1) (by omega)
            first | (rw [bfX, if_pos h47] at Z2; exact Z2) | (rw [bfX, if_neg h47] at Z2; exact Z2)
          · rw [nI_inj (by omega) (by omega)] at h47
            refine r_iload (pc := 50) dX0_goesOn_50 rfl ?_
            refine r_aload_n (pc := 52) dX0_goesOn_52 rfl ?_
            refine r_getR (pc := 53) dX0_goesOn_53 fl_X0_81_0 hx9.1.2.1 (fun _ _ => rfl) hx9.1.2.2.1.2.2.2.2.1 ?_
            refine r_iload (pc := 56) dX0_goesOn_56 rfl ?_
            refine r_ialdv (pc := 58) (v := now l) dX0_goesOn_58 hx9.1.2.2.2.2.2.2.2.1.1 hx9.1.2.2.2.2.2.2.2.1.2 (vp_in_nI (by omega) (by decide)) (by rw [ixl]; exact nw9 l (by omega)) ?_
            refine r_mmax (pc := 59) dX0_goesOn_59 q871 (Nat.le_of_ble_eq_true rfl) (Nat.le_of_ble_eq_true rfl) ?_
            refine r_goto (pc := 62) 67 dX0_goesOn_62 rfl ?_
            refine r_istore5 (pc := 67) dX0_goesOn_67 rfl ?_
            refine r_iinc6 (pc := 69) dX0_goesOn_69 (nI_1 _) rfl ?_
            refine r_goto (pc := 72) 31 dX0_goesOn_72 rfl ?_
            have Z2 := ih2 (l + 1) (by omega)
            first | (rw [bfX, if_pos h47] at Z2; exact Z2) | (rw [bfX, if_neg h47] at Z2; exact Z2)
      refine r_iload (pc := 5) dX0_goesOn_5 rfl ?_
      refine r_aload_n (pc := 7) dX0_goesOn_7 rfl ?_
      refine r_getR (pc := 8) dX0_goesOn_8 fl_X0_90_0 hx9.1.2.1 (fun _ _ => rfl) hx9.2.2.1.1 ?_
      refine r_getIe (pc := 11) (v := S.1 1 0) dX0_goesOn_11 fl_X0_123_3 hx9.2.2.1.2.2.k (fun _ _ => rfl) hx9.2.2.1.2.2.i5 ?_
      refine r_icmp_ge (pc := 14) 132 dX0_goesOn_14 rfl (fun hno => False.elim (hno hmn.2)) (fun _ => ?_)
      refine r_iload_n (pc := 17) dX0_goesOn_17 rfl ?_
      refine r_if_eq (pc := 18) 25 dX0_goesOn_18 rfl (fun hno => absurd hno (by decide)) (fun _ => ?_)
      refine r_iconst (pc := 21) (v := 0) dX0_goesOn_21 (by decide) ?_
      refine r_goto (pc := 22) 26 dX0_goesOn_22 rfl ?_
      refine r_istore5 (pc := 26) dX0_goesOn_26 rfl ?_
      refine r_iconst (pc := 28) (v := 0) dX0_goesOn_28 (by decide) ?_
      refine r_istore6 (pc := 29) dX0_goesOn_29 rfl ?_
      exact L2 N1 0 (by omega)
  refine r_iconst (pc := 0) (v := (-1)) dX0_goesOn_0 (by decide) ?_
  refine r_istore3 (pc := 1) dX0_goesOn_1 rfl ?_
  refine r_iconst (pc := 2) (v := 0) dX0_goesOn_2 (by decide) ?_
  refine r_istore4 (pc := 3) dX0_goesOn_3 rfl ?_
  exact L N1 0 M _ _ (by omega) frP.rf rfl (fun i hi => absurd hi (by omega))
theorem had_m1 {σ : cS} {h : Int32} (hh : -1 ≤ h.toInt ∧ h.toInt < (σ 1 0).toInt) (hm : ¬ mnP σ h) : h = -1 := by
  rw [m1_i]
  apply Classical.byContradiction
  intro q
  exact hm ⟨n_neg (by omega), i_lt.mpr hh.2⟩
theorem ct_X0_handovers {M : PM} {xo wa mo : Nat} {Z : PM} {S : ST} (hx : XO M xo wa mo Z S) (x1 x2 : Int32) (hS : OkS S.1) : Ct (YX0_handovers, (7, 169, 2, 14), qi (fun r M' => oX xo mo Z (handoversS S x1 x2) r M'), noX) [.ref xo, .int x1, .int x2] M := by
  refine ct_ofH [some (.ref xo), some (.int x1), some (.int x2), none, none, none, none] rfl rfl (Nat.le_of_ble_eq_true rfl) rfl rfl ?_
  have hB := hS.1.t
  have hC : ∀ (M9 : PM) (q : Nat) (b : Int32) (o3 o4 o5 o6 : Option Value), mK M9 q = (1, 6) → mI M9 q 6 = b → bd b (-7) (-1) → XO M9 xo wa mo Z S → handoversS S x1 x2 = noTenS S b → Wx (YX0_handovers, (7, 169, 2, 14), qi (fun r M' => oX xo mo Z (handoversS S x1 x2) r M'), noX) 0 0 M9 165 [some (.ref xo), some (.int x1), some (.int x2), o3, o4, o5, o6] [.ref q] := by
    intro M9 q b o3 o4 o5 o6 h1 h2 h3 h4 h5
    refine r_astore3 (pc := 165) dX0_handovers_165 rfl ?_
    refine r_aload_n (pc := 166) dX0_handovers_166 rfl ?_
    refine r_aload_n (pc := 167) dX0_handovers_167 rfl ?_
    refine r_o2 (pc := 168) (bc' := 0) (bs' := 0) (ct_X0_refused h4 h1 h2 h3) k_X0_173_0 dX0_handovers_168 h4.1.2.1 (Nat.le_of_ble_eq_true rfl) ⟨Nat.le_of_ble_eq_true rfl, Nat.le_of_ble_eq_true rfl⟩ ⟨Nat.le_of_ble_eq_true rfl, Nat.le_of_ble_eq_true rfl⟩ (r_ci fun r168 M168 p168 => ?_) nox
    obtain ⟨rfl, h6⟩ := p168
    refine r_bipush (pc := 171) (v := 10) dX0_handovers_171 (by decide) ?_
    refine r_isub (pc := 173) dX0_handovers_173 ?_
    refine r_ireturn (pc := 174) rfl dX0_handovers_174 ⟨_, rfl, ?_⟩
    exact (show oX xo mo Z (handoversS S x1 x2) _ _ by rw [h5]; exact ⟨rfl, wa, h6⟩)
  obtain ⟨N1, hN1, e1⟩ := bd_nI (n := 8) hB.1.2.1
  have n1 : ppN S.1 = N1 := by show Int32.toNatClampNeg (S.1 1 0) = N1; rw [e1]; exact ix_nI (by omega)
  have L1 : thP S.1 x1 → ∀ (c k : Nat) (M9 : PM) (now : Nat → Int32) (w4 : Int32) (o6 : Option Value), k + c = 251 → 2 ≤ k → XO M9 xo wa mo Z S → (∀ i, i < ppN S.1 → mI M9 (xo + 15) i = now i) → handoversS S x1 x2 = (hoL (fun m => farS S.1 m (Int32.toNatClampNeg x1)) (ppN S.1) (x2 - S.1 14 (Int32.toNatClampNeg x1)) c k (now) (-1), S) → Wx (YX0_handovers, (7, 169, 2, 14), qi (fun r M' => oX xo mo Z (handoversS S x1 x2) r M'), noX) 0 0 M9 97 [some (.ref xo), some (.int x1), some (.int x2), some (.int (x2 - S.1 14 (Int32.toNatClampNeg x1))), some (.int w4), some (.int (nI k)), o6] [] := by
    intro hy c
    induction c with
    | zero =>
      intro k M9 now w4 o6 hk hk2 hx9 hnow hI
      refine r_iload (pc := 97) dX0_handovers_97 rfl ?_
      refine r_sipush (pc := 99) (v := 250) dX0_handovers_99 (by decide) ?_
      refine r_icmp_gt (pc := 102) 163 dX0_handovers_102 rfl (fun _ => ?_) (fun hno => False.elim (by rw [show (250 : Int32) = nI 250 from rfl, ltI (by omega) (by omega)] at hno; omega))
      refine r_iconst (pc := 163) (v := (-1)) dX0_handovers_163 (by decide) ?_
      refine r_ireturn (pc := 164) rfl dX0_handovers_164 ⟨_, rfl, ?_⟩
      exact (show oX xo mo Z (handoversS S x1 x2) _ _ by rw [hI]; exact ⟨rfl, wa, hx9⟩)
    | succ c ih =>
      intro k M9 now w4 o6 hk hk2 hx9 hnow hI
      rw [hoL] at hI
      refine r_iload (pc := 97) dX0_handovers_97 rfl ?_
      refine r_sipush (pc := 99) (v := 250) dX0_handovers_99 (by decide) ?_
      refine r_icmp_gt (pc := 102) 163 dX0_handovers_102 rfl (fun hno => False.elim (by rw [show (250 : Int32) = nI 250 from rfl, ltI (by omega) (by omega)] at hno; omega)) (fun _ => ?_)
      refine r_aload_n (pc := 105) dX0_handovers_105 rfl ?_
      refine r_iload_n (pc := 106) dX0_handovers_106 rfl ?_
      refine r_iload (pc := 107) dX0_handovers_107 rfl ?_
      refine r_iconst (pc := 109) (v := 1) dX0_handovers_109 (by decide) ?_
      refine r_icmp_ne (pc := 110) 122 dX0_handovers_110 rfl (fun _ => ?_) (fun hno => False.elim (by have h5 := (nI_inj (a := k) (b := 1) (by omega) (by decide)).mp hno; omega))
      refine r_iconst (pc := 122) (v := 0) dX0_handovers_122 (by decide) ?_
      refine r_o3 (pc := 123) (bc' := 0) (bs' := 0) (ct_X0_goesOn_0 hx9 x1 hB hy hnow) k_X0_343_0 dX0_handovers_123 hx9.1.2.1 (Nat.le_of_ble_eq_true rfl) ⟨Nat.le_of_ble_eq_true rfl, Nat.le_of_ble_eq_true rfl⟩ ⟨Nat.le_of_ble_eq_true rfl, Nat.le_of_ble_eq_true rfl⟩ (r_ci fun r123 M123 p123 => ?_) nox
      obtain ⟨rfl, hx10, f10, hR10, hth⟩ := p123
      refine r_istore6 (pc := 126) dX0_handovers_126 rfl ?_
      refine r_iload (pc := 128) dX0_handovers_128 rfl ?_
      refine r_iload_n (pc := 130) dX0_handovers_130 rfl ?_
      refine r_icmp_lt (pc := 131) 137 dX0_handovers_131 rfl (fun h131 => ?_) (fun h131 => ?_)
      · refine r_aload_n (pc := 137) dX0_handovers_137 rfl ?_
        refine r_getR (pc := 138) dX0_handovers_138 fl_X0_84_0 hx10.1.2.1 (fun _ _ => rfl) hx10.1.2.2.1.2.2.2.2.2 ?_
        refine r_iconst (pc := 141) (v := 0) dX0_handovers_141 (by decide) ?_
        refine r_aload_n (pc := 142) dX0_handovers_142 rfl ?_
        refine r_getR (pc := 143) dX0_handovers_143 fl_X0_81_0 hx10.1.2.1 (fun _ _ => rfl) hx10.1.2.2.1.2.2.2.2.1 ?_
        refine r_iconst (pc := 146) (v := 0) dX0_handovers_146 (by decide) ?_
        refine r_aload_n (pc := 147) dX0_handovers_147 rfl ?_
        refine r_getR (pc := 148) dX0_handovers_148 fl_X0_90_0 hx10.1.2.1 (fun _ _ => rfl) hx10.2.2.1.1 ?_
        refine r_getIe (pc := 151) (v := S.1 1 0) dX0_handovers_151 fl_X0_123_3 hx10.2.2.1.2.2.k (fun _ _ => rfl) hx10.2.2.1.2.2.i5 ?_
        have b9 : 0 + Int32.toNatClampNeg (S.1 1 0) ≤ 8 := by have h9 := hB.1.2.1; show 0 + (S.1 1 0).toInt.toNat ≤ 8; omega
        refine r_copy (t := 0) (na := 8) (nb := 8) (pc := 154) dX0_handovers_154 q565 hx10.1.2.2.2.2.2.2.2.2.1.1 hx10.1.2.2.2.2.2.2.2.1.1 hx10.1.2.2.2.2.2.2.2.2.1.2 hx10.1.2.2.2.2.2.2.2.1.2 (by decide) (by decide) (n_neg hB.1.2.1.1) b9 b9 (fun ty h i hi => by cases h; rfl) (fun C h => by cases h) (fun ty h => by cases h) (Nat.le_of_ble_eq_true rfl) (Nat.le_of_ble_eq_true rfl) ?_
        have hx11 := hx10.scr2 ((cpM_fr (a := (xo + 16)) (b := (xo + 15)) (sp := 0) (dp := 0) (n := Int32.toNatClampNeg (S.1 1 0))).mono (fun a _ hp => ⟨by omega, by omega⟩))
        refine r_iinc5 (pc := 157) dX0_handovers_157 (nI_1 _) rfl ?_
        refine r_goto (pc := 160) 97 dX0_handovers_160 rfl ?_
        rw [if_pos h131] at hI
        refine ih (k + 1) _ _ _ _ (by omega) (by omega) hx11 (fun i hi => ?_) hI
        have h5 := (cpM_at (M := M123) (a := (xo + 16)) (b := (xo + 15)) (n := Int32.toNatClampNeg (S.1 1 0)) (i := i) hi).1
        exact h5.trans (hth i hi)
      · refine r_iload (pc := 134) dX0_handovers_134 rfl ?_
        refine r_ireturn (pc := 136) rfl dX0_handovers_136 ⟨_, rfl, ?_⟩
        exact (show oX xo mo Z (handoversS S x1 x2) _ _ by rw [hI, if_neg h131]; exact ⟨rfl, wa, hx10⟩)
  have F0 : thP S.1 x1 → ∀ (M9 : PM) (o6 : Option Value), XO M9 xo wa mo Z S → (∀ i, i < ppN S.1 → mI M9 (xo + 15) i = (fun m => if nI m = (S.1 15 (Int32.toNatClampNeg x1)) then 0 else -1) i) → handoversS S x1 x2 = (hoL (fun m => farS S.1 m (Int32.toNatClampNeg x1)) (ppN S.1) (x2 - S.1 14 (Int32.toNatClampNeg x1)) 250 1 (fun m => if nI m = (S.1 15 (Int32.toNatClampNeg x1)) then 0 else -1) (-1), S) → Wx (YX0_handovers, (7, 169, 2, 14), qi (fun r M' => oX xo mo Z (handoversS S x1 x2) r M'), noX) 0 0 M9 97 [some (.ref xo), some (.int x1), some (.int x2), some (.int (x2 - S.1 14 (Int32.toNatClampNeg x1))), some (.int 0), some (.int 1), o6] [] := by
    intro hy M9 o6 hx9 hnow hI
    rw [show (250 : Nat) = 249 + 1 from rfl, hoL] at hI
    refine r_iload (pc := 97) dX0_handovers_97 rfl ?_
    refine r_sipush (pc := 99) (v := 250) dX0_handovers_99 (by decide) ?_
    refine r_icmp_gt (pc := 102) 163 dX0_handovers_102 rfl (fun hno => absurd hno (by decide)) (fun _ => ?_)
    refine r_aload_n (pc := 105) dX0_handovers_105 rfl ?_
    refine r_iload_n (pc := 106) dX0_handovers_106 rfl ?_
    refine r_iload (pc := 107) dX0_handovers_107 rfl ?_
    refine r_iconst (pc := 109) (v := 1) dX0_handovers_109 (by decide) ?_
    refine r_icmp_ne (pc := 110) 122 dX0_handovers_110 rfl (fun hno => absurd hno (by decide)) (fun _ => ?_)
    refine r_iload (pc := 113) dX0_handovers_113 rfl ?_
    refine r_if_eq (pc := 115) 122 dX0_handovers_115 rfl (fun _ => ?_) (fun hno => absurd hno (by decide))
    refine r_iconst (pc := 122) (v := 0) dX0_handovers_122 (by decide) ?_
    refine r_o3 (pc := 123) (bc' := 0) (bs' := 0) (ct_X0_goesOn_0 hx9 x1 hB hy hnow) k_X0_343_0 dX0_handovers_123 hx9.1.2.1 (Nat.le_of_ble_eq_true rfl) ⟨Nat.le_of_ble_eq_true rfl, Nat.le_of_ble_eq_true rfl⟩ ⟨Nat.le_of_ble_eq_true rfl, Nat.le_of_ble_eq_true rfl⟩ (r_ci fun r123 M123 p123 => ?_) nox
    obtain ⟨rfl, hx10, f10, hR10, hth⟩ := p123
    refine r_istore6 (pc := 126) dX0_handovers_126 rfl ?_
    refine r_iload (pc := 128) dX0_handovers_128 rfl ?_
    refine r_iload_n (pc := 130) dX0_handovers_130 rfl ?_
    refine r_icmp_lt (pc := 131) 137 dX0_handovers_131 rfl (fun h131 => ?_) (fun h131 => ?_)
    · refine r_aload_n (pc := 137) dX0_handovers_137 rfl ?_
      refine r_getR (pc := 138) dX0_handovers_138 fl_X0_84_0 hx10.1.2.1 (fun _ _ => rfl) hx10.1.2.2.1.2.2.2.2.2 ?_
      refine r_iconst (pc := 141) (v := 0) dX0_handovers_141 (by decide) ?_
      refine r_aload_n (pc := 142) dX0_handovers_142 rfl ?_
      refine r_getR (pc := 143) dX0_handovers_143 fl_X0_81_0 hx10.1.2.1 (fun _ _ => rfl) hx10.1.2.2.1.2.2.2.2.1 ?_
      refine r_iconst (pc := 146) (v := 0) dX0_handovers_146 (by decide) ?_
      refine r_aload_n (pc := 147) dX0_handovers_147 rfl ?_
      refine r_getR (pc := 148) dX0_handovers_148 fl_X0_90_0 hx10.1.2.1 (fun _ _ => rfl) hx10.2.2.1.1 ?_
      refine r_getIe (pc := 151) (v := S.1 1 0) dX0_handovers_151 fl_X0_123_3 hx10.2.2.1.2.2.k (fun _ _ => rfl) hx10.2.2.1.2.2.i5 ?_
      have b9 : 0 + Int32.toNatClampNeg (S.1 1 0) ≤ 8 := by have h9 := hB.1.2.1; show 0 + (S.1 1 0).toInt.toNat ≤ 8; omega
      refine r_copy (t := 0) (na := 8) (nb := 8) (pc := 154) dX0_handovers_154 q565 hx10.1.2.2.2.2.2.2.2.2.1.1 hx10.1.2.2.2.2.2.2.2.1.1 hx10.1.2.2.2.2.2.2.2.2.1.2 hx10.1.2.2.2.2.2.2.2.1.2 (by decide) (by decide) (n_neg hB.1.2.1.1) b9 b9 (fun ty h i hi => by cases h; rfl) (fun C h => by cases h) (fun ty h => by cases h) (Nat.le_of_ble_eq_true rfl) (Nat.le_of_ble_eq_true rfl) ?_
      have hx11 := hx10.scr2 ((cpM_fr (a := (xo + 16)) (b := (xo + 15)) (sp := 0) (dp := 0) (n := Int32.toNatClampNeg (S.1 1 0))).mono (fun a _ hp => ⟨by omega, by omega⟩))
      refine r_iinc5 (pc := 157) dX0_handovers_157 (nI_1 1) rfl ?_
      refine r_goto (pc := 160) 97 dX0_handovers_160 rfl ?_
      rw [if_pos h131] at hI
      refine L1 hy 249 2 _ _ _ _ (by omega) (by omega) hx11 (fun i hi => ?_) hI
      have h5 := (cpM_at (M := M123) (a := (xo + 16)) (b := (xo + 15)) (n := Int32.toNatClampNeg (S.1 1 0)) (i := i) hi).1
      exact h5.trans (hth i hi)
    · refine r_iload (pc := 134) dX0_handovers_134 rfl ?_
      refine r_ireturn (pc := 136) rfl dX0_handovers_136 ⟨_, rfl, ?_⟩
      exact (show oX xo mo Z (handoversS S x1 x2) _ _ by rw [hI, if_neg h131]; exact ⟨rfl, wa, hx10⟩)
  have F1 : thP S.1 x1 → ∀ (M9 : PM) (o6 : Option Value), XO M9 xo wa mo Z S → (∀ i, i < ppN S.1 → mI M9 (xo + 15) i = (fun m => if nI m = (S.1 15 (Int32.toNatClampNeg x1)) then 0 else -1) i) → handoversS S x1 x2 = (hoL (fun m => farS S.1 m (Int32.toNatClampNeg x1)) (ppN S.1) (x2 - S.1 14 (Int32.toNatClampNeg x1)) 250 1 (fun m => if nI m = (S.1 15 (Int32.toNatClampNeg x1)) then 0 else -1) 0, S) → Wx (YX0_handovers, (7, 169, 2, 14), qi (fun r M' => oX xo mo Z (handoversS S x1 x2) r M'), noX) 0 0 M9 97 [some (.ref xo), some (.int x1), some (.int x2), some (.int (x2 - S.1 14 (Int32.toNatClampNeg x1))), some (.int 1), some (.int 1), o6] [] := by
    intro hy M9 o6 hx9 hnow hI
    rw [show (250 : Nat) = 249 + 1 from rfl, hoL] at hI
    refine r_iload (pc := 97) dX0_handovers_97 rfl ?_
    refine r_sipush (pc := 99) (v := 250) dX0_handovers_99 (by decide) ?_
    refine r_icmp_gt (pc := 102) 163 dX0_handovers_102 rfl (fun hno => absurd hno (by decide)) (fun _ => ?_)
    refine r_aload_n (pc := 105) dX0_handovers_105 rfl ?_
    refine r_iload_n (pc := 106) dX0_handovers_106 rfl ?_
    refine r_iload (pc := 107) dX0_handovers_107 rfl ?_
    refine r_iconst (pc := 109) (v := 1) dX0_handovers_109 (by decide) ?_
    refine r_icmp_ne (pc := 110) 122 dX0_handovers_110 rfl (fun hno => absurd hno (by decide)) (fun _ => ?_)
    refine r_iload (pc := 113) dX0_handovers_113 rfl ?_
    refine r_if_eq (pc := 115) 122 dX0_handovers_115 rfl (fun hno => absurd hno (by decide)) (fun _ => ?_)
    refine r_iconst (pc := 118) (v := 1) dX0_handovers_118 (by decide) ?_
    refine r_goto (pc := 119) 123 dX0_handovers_119 rfl ?_
    refine r_o3 (pc := 123) (bc' := 0) (bs' := 0) (ct_X0_goesOn_1 hx9 x1 hB hy hnow) k_X0_343_0 dX0_handovers_123 hx9.1.2.1 (Nat.le_of_ble_eq_true rfl) ⟨Nat.le_of_ble_eq_true rfl, Nat.le_of_ble_eq_true rfl⟩ ⟨Nat.le_of_ble_eq_true rfl, Nat.le_of_ble_eq_true rfl⟩ (r_ci fun r123 M123 p123 => ?_) nox
    obtain ⟨rfl, hx10, f10, hR10, hth⟩ := p123
    refine r_istore6 (pc := 126) dX0_handovers_126 rfl ?_
    refine r_iload (pc := 128) dX0_handovers_128 rfl ?_
    refine r_iload_n (pc := 130) dX0_handovers_130 rfl ?_
    refine r_icmp_lt (pc := 131) 137 dX0_handovers_131 rfl (fun h131 => ?_) (fun h131 => ?_)
    · refine r_aload_n (pc := 137) dX0_handovers_137 rfl ?_
      refine r_getR (pc := 138) dX0_handovers_138 fl_X0_84_0 hx10.1.2.1 (fun _ _ => rfl) hx10.1.2.2.1.2.2.2.2.2 ?_
      refine r_iconst (pc := 141) (v := 0) dX0_handovers_141 (by decide) ?_
      refine r_aload_n (pc := 142) dX0_handovers_142 rfl ?_
      refine r_getR (pc := 143) dX0_handovers_143 fl_X0_81_0 hx10.1.2.1 (fun _ _ => rfl) hx10.1.2.2.1.2.2.2.2.1 ?_
      refine r_iconst (pc := 146) (v := 0) dX0_handovers_146 (by decide) ?_
      refine r_aload_n (pc := 147) dX0_handovers_147 rfl ?_
      refine r_getR (pc := 148) dX0_handovers_148 fl_X0_90_0 hx10.1.2.1 (fun _ _ => rfl) hx10.2.2.1.1 ?_
      refine r_getIe (pc := 151) (v := S.1 1 0) dX0_handovers_151 fl_X0_123_3 hx10.2.2.1.2.2.k (fun _ _ => rfl) hx10.2.2.1.2.2.i5 ?_
      have b9 : 0 + Int32.toNatClampNeg (S.1 1 0) ≤ 8 := by have h9 := hB.1.2.1; show 0 + (S.1 1 0).toInt.toNat ≤ 8; omega
      refine r_copy (t := 0) (na := 8) (nb := 8) (pc := 154) dX0_handovers_154 q565 hx10.1.2.2.2.2.2.2.2.2.1.1 hx10.1.2.2.2.2.2.2.2.1.1 hx10.1.2.2.2.2.2.2.2.2.1.2 hx10.1.2.2.2.2.2.2.2.1.2 (by decide) (by decide) (n_neg hB.1.2.1.1) b9 b9 (fun ty h i hi => by cases h; rfl) (fun C h => by cases h) (fun ty h => by cases h) (Nat.le_of_ble_eq_true rfl) (Nat.le_of_ble_eq_true rfl) ?_
      have hx11 := hx10.scr2 ((cpM_fr (a := (xo + 16)) (b := (xo + 15)) (sp := 0) (dp := 0) (n := Int32.toNatClampNeg (S.1 1 0))).mono (fun a _ hp => ⟨by omega, by omega⟩))
      refine r_iinc5 (pc := 157) dX0_handovers_157 (nI_1 1) rfl ?_
      refine r_goto (pc := 160) 97 dX0_handovers_160 rfl ?_
      rw [if_pos h131] at hI
      refine L1 hy 249 2 _ _ _ _ (by omega) (by omega) hx11 (fun i hi => ?_) hI
      have h5 := (cpM_at (M := M123) (a := (xo + 16)) (b := (xo + 15)) (n := Int32.toNatClampNeg (S.1 1 0)) (i := i) hi).1
      exact h5.trans (hth i hi)
    · refine r_iload (pc := 134) dX0_handovers_134 rfl ?_
      refine r_ireturn (pc := 136) rfl dX0_handovers_136 ⟨_, rfl, ?_⟩
      exact (show oX xo mo Z (handoversS S x1 x2) _ _ by rw [hI, if_neg h131]; exact ⟨rfl, wa, hx10⟩)
  have L0 : thP S.1 x1 → onP S.1 x1 x2 → ∀ (n m : Nat) (M9 : PM) (o5 o6 : Option Value), m + n = N1 → XO M9 xo wa mo Z S → (∀ i, i < m → mI M9 (xo + 15) i = (fun m => if nI m = (S.1 15 (Int32.toNatClampNeg x1)) then 0 else -1) i) → Wx (YX0_handovers, (7, 169, 2, 14), qi (fun r M' => oX xo mo Z (handoversS S x1 x2) r M'), noX) 0 0 M9 27 [some (.ref xo), some (.int x1), some (.int x2), some (.int (x2 - S.1 14 (Int32.toNatClampNeg x1))), some (.int (nI m)), o5, o6] [] := by
    intro hy ho n
    have hwt := hS.1.2.2.1 _ (ix_lt hy.1 hy.2)
    have hh := hwt.2.2.2.2.1
    induction n with
    | zero =>
      intro m M9 o5 o6 hm hx9 hI
      have hsp : handoversS S x1 x2 = (hoL (fun m => farS S.1 m (Int32.toNatClampNeg x1)) (ppN S.1) (x2 - S.1 14 (Int32.toNatClampNeg x1)) 250 1 (fun m => if nI m = (S.1 15 (Int32.toNatClampNeg x1)) then 0 else -1) (if (S.1 15 (Int32.toNatClampNeg x1)) = -1 then 0 else -1), S) := by
        obtain ⟨hon, h99⟩ := on_p hS.1 (ix_lt hy.1 hy.2) ho.1 (Int.le_of_lt (i_lt.mp ho.2))
        have o2 := i_lt.mp ho.2
        have fe : (x2 - S.1 14 (Int32.toNatClampNeg x1)).toInt = x2.toInt - (S.1 14 (Int32.toNatClampNeg x1)).toInt := i_sub (by have := hon.1; omega) (by have := hon.1; omega)
        unfold handoversS
        rw [cI_f (fun q => q hy), cI_f (fun q => q ho)]
        congr 1
        have st := ho_start (n := ppN S.1) (by omega) (had := (S.1 15 (Int32.toNatClampNeg x1))) (st := S.1 14 (Int32.toNatClampNeg x1)) ⟨hh.1, by rw [n1]; have := hh.2; rw [e1, nI_toInt (by omega)] at this; omega⟩ hon.1
        refine (ho_eq (n := ppN S.1) (by omega) ⟨hon.1, by have := hon.2.1; omega⟩ (hS.1.frs (ix_lt hy.1 hy.2)) fe (by omega) (by have := hon.1; omega) 99 1 _ _ _ (by omega) (by omega) (fun q => absurd q (by omega)) st (fun l hl => ?_)).symm
        show (if nI l = (S.1 15 (Int32.toNatClampNeg x1)) then (0 : Int32) else -1).toInt < _
        split
        · rw [c_0]; omega
        · rw [c_m1]; omega
      have hnow : ∀ i, i < ppN S.1 → mI M9 (xo + 15) i = (fun m => if nI m = (S.1 15 (Int32.toNatClampNeg x1)) then 0 else -1) i := fun i hi => hI i (by omega)
      refine r_iload (pc := 27) dX0_handovers_27 rfl ?_
      refine r_aload_n (pc := 29) dX0_handovers_29 rfl ?_
      refine r_getR (pc := 30) dX0_handovers_30 fl_X0_90_0 hx9.1.2.1 (fun _ _ => rfl) hx9.2.2.1.1 ?_
      refine r_getIe (pc := 33) (v := S.1 1 0) dX0_handovers_33 fl_X0_123_3 hx9.2.2.1.2.2.k (fun _ _ => rfl) hx9.2.2.1.2.2.i5 ?_
      refine r_icmp_ge (pc := 36) 71 dX0_handovers_36 rfl (fun _ => ?_) (fun hno => False.elim (by rw [e1, ltI (by omega) (by omega)] at hno; omega))
      refine r_aload_n (pc := 71) dX0_handovers_71 rfl ?_
      refine r_aload_n (pc := 72) dX0_handovers_72 rfl ?_
      refine r_getR (pc := 73) dX0_handovers_73 fl_X0_90_0 hx9.1.2.1 (fun _ _ => rfl) hx9.2.2.1.1 ?_
      refine r_getR (pc := 76) dX0_handovers_76 fl_X0_262_3 hx9.2.2.1.2.2.k (fun _ _ => rfl) hx9.2.2.1.2.2.r11 ?_
      refine r_iload_n (pc := 79) dX0_handovers_79 rfl ?_
      refine r_ialdv (pc := 80) (v := S.1 15 (Int32.toNatClampNeg x1)) dX0_handovers_80 hx9.2.2.1.2.2.k11 hx9.2.2.1.2.2.z11 (hB.vt hy) (hx9.2.2.1.2.2.a15 hy) ?_
      refine r_o2 (pc := 81) (bc' := 0) (bs' := 0) (ct_X0_isMan hx9 (S.1 15 (Int32.toNatClampNeg x1)) hB) k_X0_126_0 dX0_handovers_81 hx9.1.2.1 (Nat.le_of_ble_eq_true rfl) ⟨Nat.le_of_ble_eq_true rfl, Nat.le_of_ble_eq_true rfl⟩ ⟨Nat.le_of_ble_eq_true rfl, Nat.le_of_ble_eq_true rfl⟩ (r_ci fun r81 M81 p81 => ?_) nox
      obtain ⟨rfl, p81⟩ := p81
      have p81 := Eq.symm (show _ = _ from p81)
      subst p81
      refine r_if_ne (pc := 84) 91 dX0_handovers_84 rfl (fun h84 => ?_) (fun h84 => ?_)
      · rw [bI_ne0] at h84
        refine r_iconst (pc := 91) (v := 0) dX0_handovers_91 (by decide) ?_
        refine r_istore4 (pc := 92) dX0_handovers_92 rfl ?_
        refine r_iconst (pc := 94) (v := 1) dX0_handovers_94 (by decide) ?_
        refine r_istore5 (pc := 95) dX0_handovers_95 rfl ?_
        first | exact F0 hy M9 _ hx9 hnow (by rw [hsp, if_neg (fun q => by rw [q] at h84; exact absurd h84.1 (by decide))]) | exact F1 hy M9 _ hx9 hnow (by rw [hsp, if_pos (had_m1 hh h84)])
      · rw [bI_eq0] at h84
        refine r_iconst (pc := 87) (v := 1) dX0_handovers_87 (by decide) ?_
        refine r_goto (pc := 88) 92 dX0_handovers_88 rfl ?_
        refine r_istore4 (pc := 92) dX0_handovers_92 rfl ?_
        refine r_iconst (pc := 94) (v := 1) dX0_handovers_94 (by decide) ?_
        refine r_istore5 (pc := 95) dX0_handovers_95 rfl ?_
        first | exact F0 hy M9 _ hx9 hnow (by rw [hsp, if_neg (fun q => by rw [q] at h84; exact absurd h84.1 (by decide))]) | exact F1 hy M9 _ hx9 hnow (by rw [hsp, if_pos (had_m1 hh h84)])
    | succ n ih =>
      intro m M9 o5 o6 hm hx9 hI
      have hmn : mnP S.1 (nI m) := ⟨nn_nI (by omega), by rw [e1, ltI (by omega) (by omega)]; omega⟩
      have ixm : Int32.toNatClampNeg (nI m) = m := ix_nI (by omega)
      refine r_iload (pc := 27) dX0_handovers_27 rfl ?_
      refine r_aload_n (pc := 29) dX0_handovers_29 rfl ?_
      refine r_getR (pc := 30) dX0_handovers_30 fl_X0_90_0 hx9.1.2.1 (fun _ _ => rfl) hx9.2.2.1.1 ?_
      refine r_getIe (pc := 33) (v := S.1 1 0) dX0_handovers_33 fl_X0_123_3 hx9.2.2.1.2.2.k (fun _ _ => rfl) hx9.2.2.1.2.2.i5 ?_
      refine r_icmp_ge (pc := 36) 71 dX0_handovers_36 rfl (fun hno => False.elim (hno hmn.2)) (fun _ => ?_)
      refine r_aload_n (pc := 39) dX0_handovers_39 rfl ?_
      refine r_getR (pc := 40) dX0_handovers_40 fl_X0_81_0 hx9.1.2.1 (fun _ _ => rfl) hx9.1.2.2.1.2.2.2.2.1 ?_
      refine r_iload (pc := 43) dX0_handovers_43 rfl ?_
      refine r_iload (pc := 45) dX0_handovers_45 rfl ?_
      refine r_aload_n (pc := 47) dX0_handovers_47 rfl ?_
      refine r_getR (pc := 48) dX0_handovers_48 fl_X0_90_0 hx9.1.2.1 (fun _ _ => rfl) hx9.2.2.1.1 ?_
      refine r_getR (pc := 51) dX0_handovers_51 fl_X0_262_3 hx9.2.2.1.2.2.k (fun _ _ => rfl) hx9.2.2.1.2.2.r11 ?_
      refine r_iload_n (pc := 54) dX0_handovers_54 rfl ?_
      refine r_ialdv (pc := 55) (v := S.1 15 (Int32.toNatClampNeg x1)) dX0_handovers_55 hx9.2.2.1.2.2.k11 hx9.2.2.1.2.2.z11 (hB.vt hy) (hx9.2.2.1.2.2.a15 hy) ?_
      refine r_icmp_ne (pc := 56) 63 dX0_handovers_56 rfl (fun h56 => ?_) (fun h56 => ?_)
      · refine r_iconst (pc := 63) (v := (-1)) dX0_handovers_63 (by decide) ?_
        refine r_eqi ((fun m => if nI m = (S.1 15 (Int32.toNatClampNeg x1)) then 0 else -1) m) (by first | exact (if_pos h56).symm | exact (if_neg h56).symm) ?_
        refine r_iast (pc := 64) dX0_handovers_64 hx9.1.2.2.2.2.2.2.2.1.1 hx9.1.2.2.2.2.2.2.2.1.2 (hB.vm hmn) ?_
        rw [ixm]
        have hx10 := hx9.s1 (a := (xo + 15)) (k := m) (v := (fun m => if nI m = (S.1 15 (Int32.toNatClampNeg x1)) then 0 else -1) m) ⟨by omega, by omega⟩
        refine r_iinc4 (pc := 65) dX0_handovers_65 (nI_1 _) rfl ?_
        refine r_goto (pc := 68) 27 dX0_handovers_68 rfl ?_
        refine ih (m + 1) _ _ _ (by omega) hx10 (fun i hi => ?_)
        by_cases c : i = m
        · rw [c]; exact sI_at
        · rw [sI_ne c]; exact hI i (by omega)
      · refine r_iconst (pc := 59) (v := 0) dX0_handovers_59 (by decide) ?_
        refine r_goto (pc := 60) 64 dX0_handovers_60 rfl ?_
        refine r_eqi ((fun m => if nI m = (S.1 15 (Int32.toNatClampNeg x1)) then 0 else -1) m) (by first | exact (if_pos h56).symm | exact (if_neg h56).symm) ?_
        refine r_iast (pc := 64) dX0_handovers_64 hx9.1.2.2.2.2.2.2.2.1.1 hx9.1.2.2.2.2.2.2.2.1.2 (hB.vm hmn) ?_
        rw [ixm]
        have hx10 := hx9.s1 (a := (xo + 15)) (k := m) (v := (fun m => if nI m = (S.1 15 (Int32.toNatClampNeg x1)) then 0 else -1) m) ⟨by omega, by omega⟩
        refine r_iinc4 (pc := 65) dX0_handovers_65 (nI_1 _) rfl ?_
        refine r_goto (pc := 68) 27 dX0_handovers_68 rfl ?_
        refine ih (m + 1) _ _ _ (by omega) hx10 (fun i hi => ?_)
        by_cases c : i = m
        · rw [c]; exact sI_at
        · rw [sI_ne c]; exact hI i (by omega)
  refine r_aload_n (pc := 0) dX0_handovers_0 rfl ?_
  refine r_iload_n (pc := 1) dX0_handovers_1 rfl ?_
  refine r_o2 (pc := 2) (bc' := 1) (bs' := 7) (ct_X0_thingAt hx x1 hB) k_X0_193_0 dX0_handovers_2 hx.1.2.1 (Nat.le_of_ble_eq_true rfl) ⟨Nat.le_of_ble_eq_true rfl, Nat.le_of_ble_eq_true rfl⟩ ⟨Nat.le_of_ble_eq_true rfl, Nat.le_of_ble_eq_true rfl⟩ (r_cr fun r2 M2 p2 => ?_) (fun q E M9 h9 => by obtain ⟨hn9, rfl, k9, w9, o9⟩ := h9; exact t_catch [] _ _ _ rfl (fun z hz => absurd hz List.not_mem_nil) rfl (by decide) q305 q389 ((hC M9 q _ _ _ _ _ k9 w9 (by decide) o9 (by unfold handoversS; rw [cI_t hn9])).loose (Nat.zero_le _) (Nat.zero_le _)))
  obtain ⟨hy, -, p2⟩ := p2
  have p2 := Eq.symm (show _ = _ from p2)
  subst p2
  refine r_pop (pc := 5) dX0_handovers_5 rfl ?_
  refine r_aload_n (pc := 6) dX0_handovers_6 rfl ?_
  refine r_iload_n (pc := 7) dX0_handovers_7 rfl ?_
  refine r_iload_n (pc := 8) dX0_handovers_8 rfl ?_
  refine r_o3 (pc := 9) (bc' := 0) (bs' := 0) (ct_X0_mustEnd hx x1 x2 hB hy) k_X0_324_0 dX0_handovers_9 hx.1.2.1 (Nat.le_of_ble_eq_true rfl) ⟨Nat.le_of_ble_eq_true rfl, Nat.le_of_ble_eq_true rfl⟩ ⟨Nat.le_of_ble_eq_true rfl, Nat.le_of_ble_eq_true rfl⟩ (r_cv fun M9 p9 => ?_) (fun q E M9 h9 => by obtain ⟨hn9, rfl, k9, w9, o9⟩ := h9; exact t_catch [] _ _ _ rfl (fun z hz => absurd hz List.not_mem_nil) rfl (by decide) q305 q389 ((hC M9 q _ _ _ _ _ k9 w9 (by decide) o9 (by unfold handoversS; rw [cI_f (fun q => q hy), cI_t hn9])).loose (Nat.zero_le _) (Nat.zero_le _)))
  obtain ⟨ho, p9⟩ := p9
  have p9 := Eq.symm (show _ = _ from p9)
  subst p9
  refine r_iload_n (pc := 12) dX0_handovers_12 rfl ?_
  refine r_aload_n (pc := 13) dX0_handovers_13 rfl ?_
  refine r_getR (pc := 14) dX0_handovers_14 fl_X0_90_0 hx.1.2.1 (fun _ _ => rfl) hx.2.2.1.1 ?_
  refine r_getR (pc := 17) dX0_handovers_17 fl_X0_132_3 hx.2.2.1.2.2.k (fun _ _ => rfl) hx.2.2.1.2.2.r10 ?_
  refine r_iload_n (pc := 20) dX0_handovers_20 rfl ?_
  refine r_ialdv (pc := 21) (v := S.1 14 (Int32.toNatClampNeg x1)) dX0_handovers_21 hx.2.2.1.2.2.k10 hx.2.2.1.2.2.z10 (hB.vt hy) (hx.2.2.1.2.2.a14 hy) ?_
  refine r_isub (pc := 22) dX0_handovers_22 ?_
  refine r_istore3 (pc := 23) dX0_handovers_23 rfl ?_
  refine r_iconst (pc := 24) (v := 0) dX0_handovers_24 (by decide) ?_
  refine r_istore4 (pc := 25) dX0_handovers_25 rfl ?_
  exact L0 hy ho N1 0 M _ _ (by omega) hx (fun i hi => absurd hi (by omega))
