/-! X: helps (printed by gen/mk_x75.py) -/
set_option maxRecDepth 100000
theorem st_k {σ : cS} {m k : Nat} {v : Int32} (h : k ≠ 17) : up2 σ 17 m v k = σ k := up2_ne h
theorem hlp_n {A B C D : Prop} (a : A) (b : B) (c : C) (d : ¬ D) : ¬ (¬ A ∨ ¬ B ∨ ¬ C ∨ D) := by
  rintro (q | q | q | q)
  · exact q a
  · exact q b
  · exact q c
  · exact d q
theorem hlp_t {A B C D : Prop} (h : ¬ (B ∧ ¬ D)) : ¬ A ∨ ¬ B ∨ ¬ C ∨ D := by
  by_cases b : B
  · exact Or.inr (Or.inr (Or.inr (Classical.byContradiction fun d => h ⟨b, d⟩)))
  · exact Or.inr (Or.inl b)
theorem ct_X0_helps {M : PM} {xo wa mo : Nat} {Z : PM} {S : ST} (hx : XO M xo wa mo Z S) (x1 x2 x3 x4 : Int32) (hS : OkS S.1) : Ct (YX0_helps, (9, 216, 303, 2121), qi (fun r M' => oX xo mo Z (helpsS S x1 x2 x3 x4) r M'), noX) [.ref xo, .int x1, .int x2, .int x3, .int x4] M := by
  refine ct_ofH [some (.ref xo), some (.int x1), some (.int x2), some (.int x3), some (.int x4), none, none, none, none] rfl rfl (Nat.le_of_ble_eq_true rfl) rfl rfl ?_
  have hB := hS.1.t
  by_cases hm : mnP S.1 x4
  · have hC : ∀ (M9 : PM) (q : Nat) (b : Int32) (o6 o7 o8 : Option Value), mK M9 q = (1, 6) → mI M9 q 6 = b → bd b (-7) (-1) → XO M9 xo wa mo Z S → helpsS S x1 x2 x3 x4 = noTenS S b → Wx (YX0_helps, (9, 216, 303, 2121), qi (fun r M' => oX xo mo Z (helpsS S x1 x2 x3 x4) r M'), noX) 0 0 M9 174 [some (.ref xo), some (.int x1), some (.int x2), some (.int x3), some (.int x4), some (.int (S.1 17 (Int32.toNatClampNeg x4))), o6, o7, o8] [.ref q] := by
      intro M9 q b o6 o7 o8 h1 h2 h3 h4 h5
      refine r_astore6 (pc := 174) dX0_helps_174 rfl ?_
      refine r_aload_n (pc := 176) dX0_helps_176 rfl ?_
      refine r_aload (pc := 177) dX0_helps_177 rfl ?_
      refine r_o2 (pc := 179) (bc' := 0) (bs' := 0) (ct_X0_refused h4 h1 h2 h3) k_X0_173_0 dX0_helps_179 h4.1.2.1 (Nat.le_of_ble_eq_true rfl) ⟨Nat.le_of_ble_eq_true rfl, Nat.le_of_ble_eq_true rfl⟩ ⟨Nat.le_of_ble_eq_true rfl, Nat.le_of_ble_eq_true rfl⟩ (r_ci fun r179 M179 p179 => ?_) nox
      obtain ⟨e6, h6⟩ := p179
      rw [e6]
      refine r_bipush (pc := 182) (v := 10) dX0_helps_182 (by decide) ?_
      refine r_isub (pc := 184) dX0_helps_184 ?_
      refine r_istore7 (pc := 185) dX0_helps_185 rfl ?_
      refine r_aload_n (pc := 187) dX0_helps_187 rfl ?_
      refine r_iload (pc := 188) dX0_helps_188 rfl ?_
      refine r_o2 (pc := 190) (bc' := 0) (bs' := 0) (ct_X0_isMan h6 x4 hB) k_X0_126_0 dX0_helps_190 h6.1.2.1 (Nat.le_of_ble_eq_true rfl) ⟨Nat.le_of_ble_eq_true rfl, Nat.le_of_ble_eq_true rfl⟩ ⟨Nat.le_of_ble_eq_true rfl, Nat.le_of_ble_eq_true rfl⟩ (r_ci fun r190 M190 p190 => ?_) nox
      obtain ⟨rfl, p190⟩ := p190
      have p190 := Eq.symm (show _ = _ from p190)
      subst p190
      refine r_if_eq (pc := 193) 208 dX0_helps_193 rfl (fun hno => absurd hm (bI_eq0.mp hno)) (fun _ => ?_)
      refine r_aload_n (pc := 196) dX0_helps_196 rfl ?_
      refine r_getR (pc := 197) dX0_helps_197 fl_X0_90_0 h6.1.2.1 (fun _ _ => rfl) h6.2.2.1.1 ?_
      refine r_getR (pc := 200) dX0_helps_200 fl_X0_269_3 h6.2.2.1.2.2.k (fun _ _ => rfl) h6.2.2.1.2.2.r13 ?_
      refine r_iload (pc := 203) dX0_helps_203 rfl ?_
      refine r_iload (pc := 205) dX0_helps_205 rfl ?_
      refine r_iast (pc := 207) dX0_helps_207 h6.2.2.1.2.2.k13 h6.2.2.1.2.2.z13 (hB.vm hm) ?_
      have h7 := h6.put (k := 17) (i := (Int32.toNatClampNeg x4)) (v := S.1 17 (Int32.toNatClampNeg x4)) (by decide) (by decide)
      rw [up2_id (f := up2 S.1 10 (Int32.toNatClampNeg (-b)) (S.1 10 (Int32.toNatClampNeg (-b)) + 1)) (a := 17) (k := (Int32.toNatClampNeg x4)) (v := S.1 17 (Int32.toNatClampNeg x4)) (by rw [up2_ne (by decide)])] at h7
      refine r_iload (pc := 208) dX0_helps_208 rfl ?_
      refine r_ireturn (pc := 210) rfl dX0_helps_210 ⟨_, rfl, ?_⟩
      exact (show oX xo mo Z (helpsS S x1 x2 x3 x4) _ _ by rw [h5]; exact ⟨rfl, wa, h7⟩)
    have hmi := ix_lt hm.1 hm.2
    have L : ∀ (sN : Nat), thP S.1 x1 → setP S.1 x2 → onP S.1 x1 x3 → ∀ (n v : Nat) (M9 : PM) (vv : Int32) (o7 o8 : Option Value), v + n = 100 → 1 ≤ v → XO M9 xo wa mo Z (up2 S.1 17 (Int32.toNatClampNeg x4) (S.1 17 (Int32.toNatClampNeg x4) + vv), S.2) → helpsS S x1 x2 x3 x4 = (helpL S.1 (Int32.toNatClampNeg x1) (Int32.toNatClampNeg x4) (Int32.toNatClampNeg x2) x3 n v, S) → Wx (YX0_helps, (9, 216, 303, 2121), qi (fun r M' => oX xo mo Z (helpsS S x1 x2 x3 x4) r M'), noX) (3 * n) (21 * n) M9 81 [some (.ref xo), some (.int x1), some (.int x2), some (.int x3), some (.int x4), some (.int (S.1 17 (Int32.toNatClampNeg x4))), some (.int (nI v)), o7, o8] [] := by
      intro sN hy hz ho n
      induction n with
      | zero =>
        intro v M9 vv o7 o8 hv hv1 hx9 hI
        refine r_iload (pc := 81) dX0_helps_81 rfl ?_
        refine r_bipush (pc := 83) (v := 99) dX0_helps_83 (by decide) ?_
        refine r_icmp_gt (pc := 85) 147 dX0_helps_85 rfl (fun _ => ?_) (fun hno => False.elim (by rw [show (99 : Int32) = nI 99 from rfl, ltI (by omega) (by omega)] at hno; omega))
        refine r_iconst (pc := 147) (v := (-1)) dX0_helps_147 (by decide) ?_
        refine r_istore6 (pc := 148) dX0_helps_148 rfl ?_
        refine r_aload_n (pc := 150) dX0_helps_150 rfl ?_
        refine r_iload (pc := 151) dX0_helps_151 rfl ?_
        refine r_o2 (pc := 153) (bc' := 0) (bs' := 0) (ct_X0_isMan hx9 x4 hB) k_X0_126_0 dX0_helps_153 hx9.1.2.1 (Nat.le_of_ble_eq_true rfl) ⟨Nat.le_of_ble_eq_true rfl, Nat.le_of_ble_eq_true rfl⟩ ⟨Nat.le_of_ble_eq_true rfl, Nat.le_of_ble_eq_true rfl⟩ (r_ci fun r153 M153 p153 => ?_) nox
        obtain ⟨rfl, p153⟩ := p153
        have p153 := Eq.symm (show _ = _ from p153)
        subst p153
        refine r_if_eq (pc := 156) 171 dX0_helps_156 rfl (fun hno => absurd hm (bI_eq0.mp hno)) (fun _ => ?_)
        refine r_aload_n (pc := 159) dX0_helps_159 rfl ?_
        refine r_getR (pc := 160) dX0_helps_160 fl_X0_90_0 hx9.1.2.1 (fun _ _ => rfl) hx9.2.2.1.1 ?_
        refine r_getR (pc := 163) dX0_helps_163 fl_X0_269_3 hx9.2.2.1.2.2.k (fun _ _ => rfl) hx9.2.2.1.2.2.r13 ?_
        refine r_iload (pc := 166) dX0_helps_166 rfl ?_
        refine r_iload (pc := 168) dX0_helps_168 rfl ?_
        refine r_iast (pc := 170) dX0_helps_170 hx9.2.2.1.2.2.k13 hx9.2.2.1.2.2.z13 (hB.vm hm) ?_
        have hx11 := hx9.put (k := 17) (i := (Int32.toNatClampNeg x4)) (v := S.1 17 (Int32.toNatClampNeg x4)) (by decide) (by decide)
        rw [up_up, up2_id (f := S.1) (a := 17) (k := (Int32.toNatClampNeg x4)) (v := S.1 17 (Int32.toNatClampNeg x4)) rfl] at hx11
        refine r_iload (pc := 171) dX0_helps_171 rfl ?_
        refine r_ireturn (pc := 173) rfl dX0_helps_173 ⟨_, rfl, ?_⟩
        exact (show oX xo mo Z (helpsS S x1 x2 x3 x4) _ _ by rw [hI]; exact ⟨rfl, wa, hx11⟩)
      | succ n ih =>
        intro v M9 vv o7 o8 hv hv1 hx9 hI
        rw [helpL] at hI
        have hFv := fun (_ : thP S.1 x1) (_ : onP S.1 x1 x3) (s : Nat) => enX_H (v := v) hS.1 (ix_lt hy.1 hy.2) hmi (by omega) ho.1 (Int.le_of_lt (i_lt.mp ho.2)) s
        have hBv : OkT (up2 S.1 17 (Int32.toNatClampNeg x4) (S.1 17 (Int32.toNatClampNeg x4) + nI v)) := hB.u (Or.inl (by decide))
        refine r_iload (pc := 81) dX0_helps_81 rfl ?_
        refine r_bipush (pc := 83) (v := 99) dX0_helps_83 (by decide) ?_
        refine r_icmp_gt (pc := 85) 147 dX0_helps_85 rfl (fun hno => False.elim (by rw [show (99 : Int32) = nI 99 from rfl, ltI (by omega) (by omega)] at hno; omega)) (fun _ => ?_)
        refine r_aload_n (pc := 88) dX0_helps_88 rfl ?_
        refine r_getR (pc := 89) dX0_helps_89 fl_X0_90_0 hx9.1.2.1 (fun _ _ => rfl) hx9.2.2.1.1 ?_
        refine r_getR (pc := 92) dX0_helps_92 fl_X0_269_3 hx9.2.2.1.2.2.k (fun _ _ => rfl) hx9.2.2.1.2.2.r13 ?_
        refine r_iload (pc := 95) dX0_helps_95 rfl ?_
        refine r_iload (pc := 97) dX0_helps_97 rfl ?_
        refine r_iload (pc := 99) dX0_helps_99 rfl ?_
        refine r_iadd (pc := 101) dX0_helps_101 ?_
        refine r_iast (pc := 102) dX0_helps_102 hx9.2.2.1.2.2.k13 hx9.2.2.1.2.2.z13 (hB.vm hm) ?_
        have hx10 := hx9.put (k := 17) (i := (Int32.toNatClampNeg x4)) (v := S.1 17 (Int32.toNatClampNeg x4) + nI v) (by decide) (by decide)
        rw [up_up] at hx10
        refine r_aload_n (pc := 103) dX0_helps_103 rfl ?_
        refine r_iload_n (pc := 104) dX0_helps_104 rfl ?_
        refine r_iload_n (pc := 105) dX0_helps_105 rfl ?_
        refine r_iload_n (pc := 106) dX0_helps_106 rfl ?_
        refine r_o4 (pc := 107) (bc' := 3 * n) (bs' := 21 * n) (ct_X0_isDone (S := (up2 S.1 17 (Int32.toNatClampNeg x4) (S.1 17 (Int32.toNatClampNeg x4) + (nI v)), S.2)) hx10 x1 x2 x3 hBv hFv) k_X0_327_0 dX0_helps_107 hx10.1.2.1 (Nat.le_of_ble_eq_true rfl) ⟨Nat.le_of_ble_eq_true rfl, Nat.le_of_ble_eq_true rfl⟩ ⟨by show 3 * n + 3 ≤ 3 * (n + 1); omega, by show 21 * n + 21 ≤ 21 * (n + 1); omega⟩ (r_ci fun r107 M107 p107 => ?_) (fun q E M8 h8 => False.elim (h8.elim (fun q => q.1 ⟨hy, hz⟩) (fun q => q.2.1 ho)))
        obtain ⟨-, rfl, hx12⟩ := p107
        refine r_if_eq (pc := 110) 141 dX0_helps_110 rfl (fun h110 => ?_) (fun h110 => ?_)
        · rw [bI_eq0] at h110
          refine r_iinc6 (pc := 141) dX0_helps_141 (nI_1 _) rfl ?_
          refine r_goto (pc := 144) 81 dX0_helps_144 rfl ?_
          rw [cI_f h110] at hI
          exact ih (v + 1) _ _ _ _ (by omega) (by omega) hx12 hI
        · rw [bI_ne0] at h110
          refine r_iload (pc := 113) dX0_helps_113 rfl ?_
          refine r_istore7 (pc := 115) dX0_helps_115 rfl ?_
          refine r_aload_n (pc := 117) dX0_helps_117 rfl ?_
          refine r_iload (pc := 118) dX0_helps_118 rfl ?_
          refine r_o2 (pc := 120) (bc' := 0) (bs' := 0) (ct_X0_isMan hx12 x4 hB) k_X0_126_0 dX0_helps_120 hx12.1.2.1 (Nat.le_of_ble_eq_true rfl) ⟨Nat.le_of_ble_eq_true rfl, Nat.le_of_ble_eq_true rfl⟩ ⟨Nat.le_of_ble_eq_true rfl, Nat.le_of_ble_eq_true rfl⟩ (r_ci fun r120 M120 p120 => ?_) nox
          obtain ⟨rfl, p120⟩ := p120
          have p120 := Eq.symm (show _ = _ from p120)
          subst p120
          refine r_if_eq (pc := 123) 138 dX0_helps_123 rfl (fun hno => absurd hm (bI_eq0.mp hno)) (fun _ => ?_)
          refine r_aload_n (pc := 126) dX0_helps_126 rfl ?_
          refine r_getR (pc := 127) dX0_helps_127 fl_X0_90_0 hx12.1.2.1 (fun _ _ => rfl) hx12.2.2.1.1 ?_
          refine r_getR (pc := 130) dX0_helps_130 fl_X0_269_3 hx12.2.2.1.2.2.k (fun _ _ => rfl) hx12.2.2.1.2.2.r13 ?_
          refine r_iload (pc := 133) dX0_helps_133 rfl ?_
          refine r_iload (pc := 135) dX0_helps_135 rfl ?_
          refine r_iast (pc := 137) dX0_helps_137 hx12.2.2.1.2.2.k13 hx12.2.2.1.2.2.z13 (hB.vm hm) ?_
          have hx11 := hx12.put (k := 17) (i := (Int32.toNatClampNeg x4)) (v := S.1 17 (Int32.toNatClampNeg x4)) (by decide) (by decide)
          rw [up_up, up2_id (f := S.1) (a := 17) (k := (Int32.toNatClampNeg x4)) (v := S.1 17 (Int32.toNatClampNeg x4)) rfl] at hx11
          refine r_iload (pc := 138) dX0_helps_138 rfl ?_
          refine r_ireturn (pc := 140) rfl dX0_helps_140 ⟨_, rfl, ?_⟩
          exact (show oX xo mo Z (helpsS S x1 x2 x3 x4) _ _ by rw [hI, cI_t h110]; exact ⟨rfl, wa, hx11⟩)
    refine r_aload_n (pc := 0) dX0_helps_0 rfl ?_
    refine r_iload (pc := 1) dX0_helps_1 rfl ?_
    refine r_o2 (pc := 3) (bc' := 303) (bs' := 2121) (ct_X0_isMan hx x4 hB) k_X0_126_0 dX0_helps_3 hx.1.2.1 (Nat.le_of_ble_eq_true rfl) ⟨Nat.le_of_ble_eq_true rfl, Nat.le_of_ble_eq_true rfl⟩ ⟨Nat.le_of_ble_eq_true rfl, Nat.le_of_ble_eq_true rfl⟩ (r_ci fun r3 M3 p3 => ?_) nox
    obtain ⟨rfl, p3⟩ := p3
    have p3 := Eq.symm (show _ = _ from p3)
    subst p3
    refine r_if_eq (pc := 6) 22 dX0_helps_6 rfl (fun hno => absurd hm (bI_eq0.mp hno)) (fun _ => ?_)
    refine r_aload_n (pc := 9) dX0_helps_9 rfl ?_
    refine r_getR (pc := 10) dX0_helps_10 fl_X0_90_0 hx.1.2.1 (fun _ _ => rfl) hx.2.2.1.1 ?_
    refine r_getR (pc := 13) dX0_helps_13 fl_X0_269_3 hx.2.2.1.2.2.k (fun _ _ => rfl) hx.2.2.1.2.2.r13 ?_
    refine r_iload (pc := 16) dX0_helps_16 rfl ?_
    refine r_ialdv (pc := 18) (v := S.1 17 (Int32.toNatClampNeg x4)) dX0_helps_18 hx.2.2.1.2.2.k13 hx.2.2.1.2.2.z13 (hB.vm hm) (hx.2.2.1.2.2.a17 hm) ?_
    refine r_goto (pc := 19) 23 dX0_helps_19 rfl ?_
    refine r_istore5 (pc := 23) dX0_helps_23 rfl ?_
    refine r_aload_n (pc := 25) dX0_helps_25 rfl ?_
    refine r_iload (pc := 26) dX0_helps_26 rfl ?_
    refine r_iload_n (pc := 28) dX0_helps_28 rfl ?_
    refine r_o3 (pc := 29) (bc' := 302) (bs' := 2114) (ct_X0_must hx x4 x1 hB) k_X0_300_0 dX0_helps_29 hx.1.2.1 (Nat.le_of_ble_eq_true rfl) ⟨Nat.le_of_ble_eq_true rfl, Nat.le_of_ble_eq_true rfl⟩ ⟨Nat.le_of_ble_eq_true rfl, Nat.le_of_ble_eq_true rfl⟩ (r_cv fun M29 p29 => ?_) (fun q E M9 h9 => by obtain ⟨hn9, rfl, k9, w9, o9⟩ := h9; exact t_catch [] _ _ _ rfl (fun z hz => absurd hz List.not_mem_nil) rfl (by decide) q305 q389 ((hC M9 q _ _ _ _ k9 w9 (by decide) o9 (by unfold helpsS; rw [cI_t (Or.inl (fun q => hn9 ⟨hm, q⟩))])).loose (Nat.zero_le _) (Nat.zero_le _)))
    obtain ⟨⟨-, hy⟩, p29⟩ := p29
    have p29 := Eq.symm (show _ = _ from p29)
    subst p29
    refine r_aload_n (pc := 32) dX0_helps_32 rfl ?_
    refine r_iload_n (pc := 33) dX0_helps_33 rfl ?_
    refine r_o2 (pc := 34) (bc' := 302) (bs' := 2114) (ct_X0_isSet hx x2 hB) k_X0_317_0 dX0_helps_34 hx.1.2.1 (Nat.le_of_ble_eq_true rfl) ⟨Nat.le_of_ble_eq_true rfl, Nat.le_of_ble_eq_true rfl⟩ ⟨Nat.le_of_ble_eq_true rfl, Nat.le_of_ble_eq_true rfl⟩ (r_ci fun r34 M34 p34 => ?_) nox
    obtain ⟨rfl, p34⟩ := p34
    have p34 := Eq.symm (show _ = _ from p34)
    subst p34
    refine r_if_eq (pc := 37) 53 dX0_helps_37 rfl (fun h37 => ?_) (fun h37 => ?_)
    · rw [bI_eq0] at h37
      refine r_iconst (pc := 53) (v := 0) dX0_helps_53 (by decide) ?_
      refine r_eqi (bI (setP S.1 x2 ∧ ¬ ((x2 >>> (x4 &&& 31)) &&& 1 = 0))) (by first | exact bI_t' ⟨h37, h46⟩ | exact bI_f' (fun h => h37 h.1) | exact bI_f' (fun h => h.2 h46)) ?_
      refine r_iconst (pc := 54) (v := (-1)) dX0_helps_54 (by decide) ?_
      refine r_s2 (pc := 55) (bc' := 301) (bs' := 2107) (ct_X0_need _ _) k_X0_115 dX0_helps_55 (Nat.le_of_ble_eq_true rfl) ⟨Nat.le_of_ble_eq_true rfl, Nat.le_of_ble_eq_true rfl⟩ ⟨Nat.le_of_ble_eq_true rfl, Nat.le_of_ble_eq_true rfl⟩ (r_cv fun M55 p55 => ?_) (fun q E M9 h8 => by have hn9 := bI_eq0.mp h8.1; have h9 := hx.rf h8.2; obtain ⟨rfl, k9, w9, o9⟩ := h9; exact t_catch [] _ _ _ rfl (fun z hz => absurd hz List.not_mem_nil) rfl (by decide) q305 q389 ((hC M9 q _ _ _ _ k9 w9 (by decide) o9 (by unfold helpsS; rw [cI_t (hlp_t hn9)])).loose (Nat.zero_le _) (Nat.zero_le _)))
      obtain ⟨hz, p55⟩ := p55
      have p55 := Eq.symm (show _ = _ from p55)
      subst p55
      rw [bI_ne0] at hz
      refine r_aload_n (pc := 58) dX0_helps_58 rfl ?_
      refine r_iload_n (pc := 59) dX0_helps_59 rfl ?_
      refine r_iload_n (pc := 60) dX0_helps_60 rfl ?_
      refine r_iload_n (pc := 61) dX0_helps_61 rfl ?_
      refine r_o4 (pc := 62) (bc' := 298) (bs' := 2086) (ct_X0_isDone hx x1 x2 x3 hB (hF_of hS.1)) k_X0_327_0 dX0_helps_62 hx.1.2.1 (Nat.le_of_ble_eq_true rfl) ⟨Nat.le_of_ble_eq_true rfl, Nat.le_of_ble_eq_true rfl⟩ ⟨Nat.le_of_ble_eq_true rfl, Nat.le_of_ble_eq_true rfl⟩ (r_ci fun r62 M62 p62 => ?_) (fun q E M9 h9 => by rcases h9 with ⟨hn9, -⟩ | ⟨hm9, hn9, rfl, k9, w9, o9⟩; exact absurd ⟨hy, hz.1⟩ hn9; exact t_catch [] _ _ _ rfl (fun z hz => absurd hz List.not_mem_nil) rfl (by decide) q305 q389 ((hC M9 q _ _ _ _ k9 w9 (by decide) o9 (by unfold helpsS; rw [cI_f (hlp_n hy hz.1 hm hz.2), cI_t hn9])).loose (Nat.zero_le _) (Nat.zero_le _)))
      obtain ⟨⟨-, -, ho⟩, rfl, hx1⟩ := p62
      refine r_if_ne (pc := 65) 72 dX0_helps_65 rfl (fun h65 => ?_) (fun h65 => ?_)
      · rw [bI_ne0] at h65
        refine r_iconst (pc := 72) (v := 0) dX0_helps_72 (by decide) ?_
        refine r_eqi (bI (¬ endF S.1 (Int32.toNatClampNeg x1) x3 (Int32.toNatClampNeg x2) = x3)) (by first | exact bI_t' h65 | exact bI_f' (fun h => h h65)) ?_
        refine r_bipush (pc := 73) (v := (-6)) dX0_helps_73 (by decide) ?_
        refine r_s2 (pc := 75) (bc' := 297) (bs' := 2079) (ct_X0_need _ _) k_X0_115 dX0_helps_75 (Nat.le_of_ble_eq_true rfl) ⟨Nat.le_of_ble_eq_true rfl, Nat.le_of_ble_eq_true rfl⟩ ⟨Nat.le_of_ble_eq_true rfl, Nat.le_of_ble_eq_true rfl⟩ (r_cv fun M75 p75 => ?_) (fun q E M9 h8 => by have hn9 := bI_eq0.mp h8.1; have h9 := hx1.rf h8.2; obtain ⟨rfl, k9, w9, o9⟩ := h9; exact t_catch [] _ _ _ rfl (fun z hz => absurd hz List.not_mem_nil) rfl (by decide) q305 q389 ((hC M9 q _ _ _ _ k9 w9 (by decide) o9 (by unfold helpsS; rw [cI_f (hlp_n hy hz.1 hm hz.2), cI_f (fun q => q ho), cI_t (Classical.not_not.mp hn9)])).loose (Nat.zero_le _) (Nat.zero_le _)))
        obtain ⟨hd, p75⟩ := p75
        have p75 := Eq.symm (show _ = _ from p75)
        subst p75
        rw [bI_ne0] at hd
        refine r_iconst (pc := 78) (v := 1) dX0_helps_78 (by decide) ?_
        refine r_istore6 (pc := 79) dX0_helps_79 rfl ?_
        have hx2 : XO M62 xo wa mo Z (up2 S.1 17 (Int32.toNatClampNeg x4) (S.1 17 (Int32.toNatClampNeg x4) + 0), S.2) := by rw [Int32.add_zero, up2_id (f := S.1) (a := 17) (k := (Int32.toNatClampNeg x4)) (v := S.1 17 (Int32.toNatClampNeg x4)) rfl]; exact hx1
        exact (L 0 hy hz.1 ho 99 1 _ 0 _ _ (by omega) (by omega) hx2 (by unfold helpsS; rw [cI_f (hlp_n hy hz.1 hm hz.2), cI_f (fun q => q ho), cI_f hd])).loose (by omega) (by omega)
      · rw [bI_eq0] at h65
        refine r_iconst (pc := 68) (v := 1) dX0_helps_68 (by decide) ?_
        refine r_goto (pc := 69) 73 dX0_helps_69 rfl ?_
        refine r_eqi (bI (¬ endF S.1 (Int32.toNatClampNeg x1) x3 (Int32.toNatClampNeg x2) = x3)) (by first | exact bI_t' h65 | exact bI_f' (fun h => h h65)) ?_
        refine r_bipush (pc := 73) (v := (-6)) dX0_helps_73 (by decide) ?_
        refine r_s2 (pc := 75) (bc' := 297) (bs' := 2079) (ct_X0_need _ _) k_X0_115 dX0_helps_75 (Nat.le_of_ble_eq_true rfl) ⟨Nat.le_of_ble_eq_true rfl, Nat.le_of_ble_eq_true rfl⟩ ⟨Nat.le_of_ble_eq_true rfl, Nat.le_of_ble_eq_true rfl⟩ (r_cv fun M75 p75 => ?_) (fun q E M9 h8 => by have hn9 := bI_eq0.mp h8.1; have h9 := hx1.rf h8.2; obtain ⟨rfl, k9, w9, o9⟩ := h9; exact t_catch [] _ _ _ rfl (fun z hz => absurd hz List.not_mem_nil) rfl (by decide) q305 q389 ((hC M9 q _ _ _ _ k9 w9 (by decide) o9 (by unfold helpsS; rw [cI_f (hlp_n hy hz.1 hm hz.2), cI_f (fun q => q ho), cI_t (Classical.not_not.mp hn9)])).loose (Nat.zero_le _) (Nat.zero_le _)))
        obtain ⟨hd, p75⟩ := p75
        have p75 := Eq.symm (show _ = _ from p75)
        subst p75
        rw [bI_ne0] at hd
        refine r_iconst (pc := 78) (v := 1) dX0_helps_78 (by decide) ?_
        refine r_istore6 (pc := 79) dX0_helps_79 rfl ?_
        have hx2 : XO M62 xo wa mo Z (up2 S.1 17 (Int32.toNatClampNeg x4) (S.1 17 (Int32.toNatClampNeg x4) + 0), S.2) := by rw [Int32.add_zero, up2_id (f := S.1) (a := 17) (k := (Int32.toNatClampNeg x4)) (v := S.1 17 (Int32.toNatClampNeg x4)) rfl]; exact hx1
        exact (L 0 hy hz.1 ho 99 1 _ 0 _ _ (by omega) (by omega) hx2 (by unfold helpsS; rw [cI_f (hlp_n hy hz.1 hm hz.2), cI_f (fun q => q ho), cI_f hd])).loose (by omega) (by omega)
    · rw [bI_ne0] at h37
      refine r_iload_n (pc := 40) dX0_helps_40 rfl ?_
      refine r_iload (pc := 41) dX0_helps_41 rfl ?_
      refine r_ishr (pc := 43) dX0_helps_43 ?_
      refine r_iconst (pc := 44) (v := 1) dX0_helps_44 (by decide) ?_
      refine r_iand (pc := 45) dX0_helps_45 ?_
      refine r_if_eq (pc := 46) 53 dX0_helps_46 rfl (fun h46 => ?_) (fun h46 => ?_)
      · refine r_iconst (pc := 53) (v := 0) dX0_helps_53 (by decide) ?_
        refine r_eqi (bI (setP S.1 x2 ∧ ¬ ((x2 >>> (x4 &&& 31)) &&& 1 = 0))) (by first | exact bI_t' ⟨h37, h46⟩ | exact bI_f' (fun h => h37 h.1) | exact bI_f' (fun h => h.2 h46)) ?_
        refine r_iconst (pc := 54) (v := (-1)) dX0_helps_54 (by decide) ?_
        refine r_s2 (pc := 55) (bc' := 301) (bs' := 2107) (ct_X0_need _ _) k_X0_115 dX0_helps_55 (Nat.le_of_ble_eq_true rfl) ⟨Nat.le_of_ble_eq_true rfl, Nat.le_of_ble_eq_true rfl⟩ ⟨Nat.le_of_ble_eq_true rfl, Nat.le_of_ble_eq_true rfl⟩ (r_cv fun M55 p55 => ?_) (fun q E M9 h8 => by have hn9 := bI_eq0.mp h8.1; have h9 := hx.rf h8.2; obtain ⟨rfl, k9, w9, o9⟩ := h9; exact t_catch [] _ _ _ rfl (fun z hz => absurd hz List.not_mem_nil) rfl (by decide) q305 q389 ((hC M9 q _ _ _ _ k9 w9 (by decide) o9 (by unfold helpsS; rw [cI_t (hlp_t hn9)])).loose (Nat.zero_le _) (Nat.zero_le _)))
        obtain ⟨hz, p55⟩ := p55
        have p55 := Eq.symm (show _ = _ from p55)
        subst p55
        rw [bI_ne0] at hz
        refine r_aload_n (pc := 58) dX0_helps_58 rfl ?_
        refine r_iload_n (pc := 59) dX0_helps_59 rfl ?_
        refine r_iload_n (pc := 60) dX0_helps_60 rfl ?_
        refine r_iload_n (pc := 61) dX0_helps_61 rfl ?_
        refine r_o4 (pc := 62) (bc' := 298) (bs' := 2086) (ct_X0_isDone hx x1 x2 x3 hB (hF_of hS.1)) k_X0_327_0 dX0_helps_62 hx.1.2.1 (Nat.le_of_ble_eq_true rfl) ⟨Nat.le_of_ble_eq_true rfl, Nat.le_of_ble_eq_true rfl⟩ ⟨Nat.le_of_ble_eq_true rfl, Nat.le_of_ble_eq_true rfl⟩ (r_ci fun r62 M62 p62 => ?_) (fun q E M9 h9 => by rcases h9 with ⟨hn9, -⟩ | ⟨hm9, hn9, rfl, k9, w9, o9⟩; exact absurd ⟨hy, hz.1⟩ hn9; exact t_catch [] _ _ _ rfl (fun z hz => absurd hz List.not_mem_nil) rfl (by decide) q305 q389 ((hC M9 q _ _ _ _ k9 w9 (by decide) o9 (by unfold helpsS; rw [cI_f (hlp_n hy hz.1 hm hz.2), cI_t hn9])).loose (Nat.zero_le _) (Nat.zero_le _)))
        obtain ⟨⟨-, -, ho⟩, rfl, hx1⟩ := p62
        refine r_if_ne (pc := 65) 72 dX0_helps_65 rfl (fun h65 => ?_) (fun h65 => ?_)
        · rw [bI_ne0] at h65
          refine r_iconst (pc := 72) (v := 0) dX0_helps_72 (by decide) ?_
          refine r_eqi (bI (¬ endF S.1 (Int32.toNatClampNeg x1) x3 (Int32.toNatClampNeg x2) = x3)) (by first | exact bI_t' h65 | exact bI_f' (fun h => h h65)) ?_
          refine r_bipush (pc := 73) (v := (-6)) dX0_helps_73 (by decide) ?_
          refine r_s2 (pc := 75) (bc' := 297) (bs' := 2079) (ct_X0_need _ _) k_X0_115 dX0_helps_75 (Nat.le_of_ble_eq_true rfl) ⟨Nat.le_of_ble_eq_true rfl, Nat.le_of_ble_eq_true rfl⟩ ⟨Nat.le_of_ble_eq_true rfl, Nat.le_of_ble_eq_true rfl⟩ (r_cv fun M75 p75 => ?_) (fun q E M9 h8 => by have hn9 := bI_eq0.mp h8.1; have h9 := hx1.rf h8.2; obtain ⟨rfl, k9, w9, o9⟩ := h9; exact t_catch [] _ _ _ rfl (fun z hz => absurd hz List.not_mem_nil) rfl (by decide) q305 q389 ((hC M9 q _ _ _ _ k9 w9 (by decide) o9 (by unfold helpsS; rw [cI_f (hlp_n hy hz.1 hm hz.2), cI_f (fun q => q ho), cI_t (Classical.not_not.mp hn9)])).loose (Nat.zero_le _) (Nat.zero_le _)))
          obtain ⟨hd, p75⟩ := p75
          have p75 := Eq.symm (show _ = _ from p75)
          subst p75
          rw [bI_ne0] at hd
          refine r_iconst (pc := 78) (v := 1) dX0_helps_78 (by decide) ?_
          refine r_istore6 (pc := 79) dX0_helps_79 rfl ?_
          have hx2 : XO M62 xo wa mo Z (up2 S.1 17 (Int32.toNatClampNeg x4) (S.1 17 (Int32.toNatClampNeg x4) + 0), S.2) := by rw [Int32.add_zero, up2_id (f := S.1) (a := 17) (k := (Int32.toNatClampNeg x4)) (v := S.1 17 (Int32.toNatClampNeg x4)) rfl]; exact hx1
          exact (L 0 hy hz.1 ho 99 1 _ 0 _ _ (by omega) (by omega) hx2 (by unfold helpsS; rw [cI_f (hlp_n hy hz.1 hm hz.2), cI_f (fun q => q ho), cI_f hd])).loose (by omega) (by omega)
        · rw [bI_eq0] at h65
          refine r_iconst (pc := 68) (v := 1) dX0_helps_68 (by decide) ?_
          refine r_goto (pc := 69) 73 dX0_helps_69 rfl ?_
          refine r_eqi (bI (¬ endF S.1 (Int32.toNatClampNeg x1) x3 (Int32.toNatClampNeg x2) = x3)) (by first | exact bI_t' h65 | exact bI_f' (fun h => h h65)) ?_
          refine r_bipush (pc := 73) (v := (-6)) dX0_helps_73 (by decide) ?_
          refine r_s2 (pc := 75) (bc' := 297) (bs' := 2079) (ct_X0_need _ _) k_X0_115 dX0_helps_75 (Nat.le_of_ble_eq_true rfl) ⟨Nat.le_of_ble_eq_true rfl, Nat.le_of_ble_eq_true rfl⟩ ⟨Nat.le_of_ble_eq_true rfl, Nat.le_of_ble_eq_true rfl⟩ (r_cv fun M75 p75 => ?_) (fun q E M9 h8 => by have hn9 := bI_eq0.mp h8.1; have h9 := hx1.rf h8.2; obtain ⟨rfl, k9, w9, o9⟩ := h9; exact t_catch [] _ _ _ rfl (fun z hz => absurd hz List.not_mem_nil) rfl (by decide) q305 q389 ((hC M9 q _ _ _ _ k9 w9 (by decide) o9 (by unfold helpsS; rw [cI_f (hlp_n hy hz.1 hm hz.2), cI_f (fun q => q ho), cI_t (Classical.not_not.mp hn9)])).loose (Nat.zero_le _) (Nat.zero_le _)))
          obtain ⟨hd, p75⟩ := p75
          have p75 := Eq.symm (show _ = _ from p75)
          subst p75
          rw [bI_ne0] at hd
          refine r_iconst (pc := 78) (v := 1) dX0_helps_78 (by decide) ?_
          refine r_istore6 (pc := 79) dX0_helps_79 rfl ?_
          have hx2 : XO M62 xo wa mo Z (up2 S.1 17 (Int32.toNatClampNeg x4) (S.1 17 (Int32.toNatClampNeg x4) + 0), S.2) := by rw [Int32.add_zero, up2_id (f := S.1) (a := 17) (k := (Int32.toNatClampNeg x4)) (v := S.1 17 (Int32.toNatClampNeg x4)) rfl]; exact hx1
          exact (L 0 hy hz.1 ho 99 1 _ 0 _ _ (by omega) (by omega) hx2 (by unfold helpsS; rw [cI_f (hlp_n hy hz.1 hm hz.2), cI_f (fun q => q ho), cI_f hd])).loose (by omega) (by omega)
      · refine r_iconst (pc := 49) (v := 1) dX0_helps_49 (by decide) ?_
        refine r_goto (pc := 50) 54 dX0_helps_50 rfl ?_
        refine r_eqi (bI (setP S.1 x2 ∧ ¬ ((x2 >>> (x4 &&& 31)) &&& 1 = 0))) (by first | exact bI_t' ⟨h37, h46⟩ | exact bI_f' (fun h => h37 h.1) | exact bI_f' (fun h => h.2 h46)) ?_
        refine r_iconst (pc := 54) (v := (-1)) dX0_helps_54 (by decide) ?_
        refine r_s2 (pc := 55) (bc' := 301) (bs' := 2107) (ct_X0_need _ _) k_X0_115 dX0_helps_55 (Nat.le_of_ble_eq_true rfl) ⟨Nat.le_of_ble_eq_true rfl, Nat.le_of_ble_eq_true rfl⟩ ⟨Nat.le_of_ble_eq_true rfl, Nat.le_of_ble_eq_true rfl⟩ (r_cv fun M55 p55 => ?_) (fun q E M9 h8 => by have hn9 := bI_eq0.mp h8.1; have h9 := hx.rf h8.2; obtain ⟨rfl, k9, w9, o9⟩ := h9; exact t_catch [] _ _ _ rfl (fun z hz => absurd hz List.not_mem_nil) rfl (by decide) q305 q389 ((hC M9 q _ _ _ _ k9 w9 (by decide) o9 (by unfold helpsS; rw [cI_t (hlp_t hn9)])).loose (Nat.zero_le _) (Nat.zero_le _)))
        obtain ⟨hz, p55⟩ := p55
        have p55 := Eq.symm (show _ = _ from p55)
        subst p55
        rw [bI_ne0] at hz
        refine r_aload_n (pc := 58) dX0_helps_58 rfl ?_
        refine r_iload_n (pc := 59) dX0_helps_59 rfl ?_
        refine r_iload_n (pc := 60) dX0_helps_60 rfl ?_
        refine r_iload_n (pc := 61) dX0_helps_61 rfl ?_
        refine r_o4 (pc := 62) (bc' := 298) (bs' := 2086) (ct_X0_isDone hx x1 x2 x3 hB (hF_of hS.1)) k_X0_327_0 dX0_helps_62 hx.1.2.1 (Nat.le_of_ble_eq_true rfl) ⟨Nat.le_of_ble_eq_true rfl, Nat.le_of_ble_eq_true rfl⟩ ⟨Nat.le_of_ble_eq_true rfl, Nat.le_of_ble_eq_true rfl⟩ (r_ci fun r62 M62 p62 => ?_) (fun q E M9 h9 => by rcases h9 with ⟨hn9, -⟩ | ⟨hm9, hn9, rfl, k9, w9, o9⟩; exact absurd ⟨hy, hz.1⟩ hn9; exact t_catch [] _ _ _ rfl (fun z hz => absurd hz List.not_mem_nil) rfl (by decide) q305 q389 ((hC M9 q _ _ _ _ k9 w9 (by decide) o9 (by unfold helpsS; rw [cI_f (hlp_n hy hz.1 hm hz.2), cI_t hn9])).loose (Nat.zero_le _) (Nat.zero_le _)))
        obtain ⟨⟨-, -, ho⟩, rfl, hx1⟩ := p62
        refine r_if_ne (pc := 65) 72 dX0_helps_65 rfl (fun h65 => ?_) (fun h65 => ?_)
        · rw [bI_ne0] at h65
          refine r_iconst (pc := 72) (v := 0) dX0_helps_72 (by decide) ?_
          refine r_eqi (bI (¬ endF S.1 (Int32.toNatClampNeg x1) x3 (Int32.toNatClampNeg x2) = x3)) (by first | exact bI_t' h65 | exact bI_f' (fun h => h h65)) ?_
          refine r_bipush (pc := 73) (v := (-6)) dX0_helps_73 (by decide) ?_
          refine r_s2 (pc := 75) (bc' := 297) (bs' := 2079) (ct_X0_need _ _) k_X0_115 dX0_helps_75 (Nat.le_of_ble_eq_true rfl) ⟨Nat.le_of_ble_eq_true rfl, Nat.le_of_ble_eq_true rfl⟩ ⟨Nat.le_of_ble_eq_true rfl, Nat.le_of_ble_eq_true rfl⟩ (r_cv fun M75 p75 => ?_) (fun q E M9 h8 => by have hn9 := bI_eq0.mp h8.1; have h9 := hx1.rf h8.2; obtain ⟨rfl, k9, w9, o9⟩ := h9; exact t_catch [] _ _ _ rfl (fun z hz => absurd hz List.not_mem_nil) rfl (by decide) q305 q389 ((hC M9 q _ _ _ _ k9 w9 (by decide) o9 (by unfold helpsS; rw [cI_f (hlp_n hy hz.1 hm hz.2), cI_f (fun q => q ho), cI_t (Classical.not_not.mp hn9)])).loose (Nat.zero_le _) (Nat.zero_le _)))
          obtain ⟨hd, p75⟩ := p75
          have p75 := Eq.symm (show _ = _ from p75)
          subst p75
          rw [bI_ne0] at hd
          refine r_iconst (pc := 78) (v := 1) dX0_helps_78 (by decide) ?_
          refine r_istore6 (pc := 79) dX0_helps_79 rfl ?_
          have hx2 : XO M62 xo wa mo Z (up2 S.1 17 (Int32.toNatClampNeg x4) (S.1 17 (Int32.toNatClampNeg x4) + 0), S.2) := by rw [Int32.add_zero, up2_id (f := S.1) (a := 17) (k := (Int32.toNatClampNeg x4)) (v := S.1 17 (Int32.toNatClampNeg x4)) rfl]; exact hx1
          exact (L 0 hy hz.1 ho 99 1 _ 0 _ _ (by omega) (by omega) hx2 (by unfold helpsS; rw [cI_f (hlp_n hy hz.1 hm hz.2), cI_f (fun q => q ho), cI_f hd])).loose (by omega) (by omega)
        · rw [bI_eq0] at h65
          refine r_iconst (pc := 68) (v := 1) dX0_helps_68 (by decide) ?_
          refine r_goto (pc := 69) 73 dX0_helps_69 rfl ?_
          refine r_eqi (bI (¬ endF S.1 (Int32.toNatClampNeg x1) x3 (Int32.toNatClampNeg x2) = x3)) (by first | exact bI_t' h65 | exact bI_f' (fun h => h h65)) ?_
          refine r_bipush (pc := 73) (v := (-6)) dX0_helps_73 (by decide) ?_
          refine r_s2 (pc := 75) (bc' := 297) (bs' := 2079) (ct_X0_need _ _) k_X0_115 dX0_helps_75 (Nat.le_of_ble_eq_true rfl) ⟨Nat.le_of_ble_eq_true rfl, Nat.le_of_ble_eq_true rfl⟩ ⟨Nat.le_of_ble_eq_true rfl, Nat.le_of_ble_eq_true rfl⟩ (r_cv fun M75 p75 => ?_) (fun q E M9 h8 => by have hn9 := bI_eq0.mp h8.1; have h9 := hx1.rf h8.2; obtain ⟨rfl, k9, w9, o9⟩ := h9; exact t_catch [] _ _ _ rfl (fun z hz => absurd hz List.not_mem_nil) rfl (by decide) q305 q389 ((hC M9 q _ _ _ _ k9 w9 (by decide) o9 (by unfold helpsS; rw [cI_f (hlp_n hy hz.1 hm hz.2), cI_f (fun q => q ho), cI_t (Classical.not_not.mp hn9)])).loose (Nat.zero_le _) (Nat.zero_le _)))
          obtain ⟨hd, p75⟩ := p75
          have p75 := Eq.symm (show _ = _ from p75)
          subst p75
          rw [bI_ne0] at hd
          refine r_iconst (pc := 78) (v := 1) dX0_helps_78 (by decide) ?_
          refine r_istore6 (pc := 79) dX0_helps_79 rfl ?_
          have hx2 : XO M62 xo wa mo Z (up2 S.1 17 (Int32.toNatClampNeg x4) (S.1 17 (Int32.toNatClampNeg x4) + 0), S.2) := by rw [Int32.add_zero, up2_id (f := S.1) (a := 17) (k := (Int32.toNatClampNeg x4)) (v := S.1 17 (Int32.toNatClampNeg x4)) rfl]; exact hx1
          exact (L 0 hy hz.1 ho 99 1 _ 0 _ _ (by omega) (by omega) hx2 (by unfold helpsS; rw [cI_f (hlp_n hy hz.1 hm hz.2), cI_f (fun q => q ho), cI_f hd])).loose (by omega) (by omega)
  · have hC : ∀ (M9 : PM) (q : Nat) (b : Int32) (o6 o7 o8 : Option Value), mK M9 q = (1, 6) → mI M9 q 6 = b → bd b (-7) (-1) → XO M9 xo wa mo Z S → helpsS S x1 x2 x3 x4 = noTenS S b → Wx (YX0_helps, (9, 216, 303, 2121), qi (fun r M' => oX xo mo Z (helpsS S x1 x2 x3 x4) r M'), noX) 0 0 M9 174 [some (.ref xo), some (.int x1), some (.int x2), some (.int x3), some (.int x4), some (.int 0), o6, o7, o8] [.ref q] := by
      intro M9 q b o6 o7 o8 h1 h2 h3 h4 h5
      refine r_astore6 (pc := 174) dX0_helps_174 rfl ?_
      refine r_aload_n (pc := 176) dX0_helps_176 rfl ?_
      refine r_aload (pc := 177) dX0_helps_177 rfl ?_
      refine r_o2 (pc := 179) (bc' := 0) (bs' := 0) (ct_X0_refused h4 h1 h2 h3) k_X0_173_0 dX0_helps_179 h4.1.2.1 (Nat.le_of_ble_eq_true rfl) ⟨Nat.le_of_ble_eq_true rfl, Nat.le_of_ble_eq_true rfl⟩ ⟨Nat.le_of_ble_eq_true rfl, Nat.le_of_ble_eq_true rfl⟩ (r_ci fun r179 M179 p179 => ?_) nox
      obtain ⟨e6, h6⟩ := p179
      rw [e6]
      refine r_bipush (pc := 182) (v := 10) dX0_helps_182 (by decide) ?_
      refine r_isub (pc := 184) dX0_helps_184 ?_
      refine r_istore7 (pc := 185) dX0_helps_185 rfl ?_
      refine r_aload_n (pc := 187) dX0_helps_187 rfl ?_
      refine r_iload (pc := 188) dX0_helps_188 rfl ?_
      refine r_o2 (pc := 190) (bc' := 0) (bs' := 0) (ct_X0_isMan h6 x4 hB) k_X0_126_0 dX0_helps_190 h6.1.2.1 (Nat.le_of_ble_eq_true rfl) ⟨Nat.le_of_ble_eq_true rfl, Nat.le_of_ble_eq_true rfl⟩ ⟨Nat.le_of_ble_eq_true rfl, Nat.le_of_ble_eq_true rfl⟩ (r_ci fun r190 M190 p190 => ?_) nox
      obtain ⟨rfl, p190⟩ := p190
      have p190 := Eq.symm (show _ = _ from p190)
      subst p190
      refine r_if_eq (pc := 193) 208 dX0_helps_193 rfl (fun _ => ?_) (fun hno => absurd (bI_ne0.mp hno) hm)
      refine r_iload (pc := 208) dX0_helps_208 rfl ?_
      refine r_ireturn (pc := 210) rfl dX0_helps_210 ⟨_, rfl, ?_⟩
      exact (show oX xo mo Z (helpsS S x1 x2 x3 x4) _ _ by rw [h5]; exact ⟨rfl, wa, h6⟩)
    refine r_aload_n (pc := 0) dX0_helps_0 rfl ?_
    refine r_iload (pc := 1) dX0_helps_1 rfl ?_
    refine r_o2 (pc := 3) (bc' := 9) (bs' := 63) (ct_X0_isMan hx x4 hB) k_X0_126_0 dX0_helps_3 hx.1.2.1 (Nat.le_of_ble_eq_true rfl) ⟨Nat.le_of_ble_eq_true rfl, Nat.le_of_ble_eq_true rfl⟩ ⟨Nat.le_of_ble_eq_true rfl, Nat.le_of_ble_eq_true rfl⟩ (r_ci fun r3 M3 p3 => ?_) nox
    obtain ⟨rfl, p3⟩ := p3
    have p3 := Eq.symm (show _ = _ from p3)
    subst p3
    refine r_if_eq (pc := 6) 22 dX0_helps_6 rfl (fun _ => ?_) (fun hno => absurd (bI_ne0.mp hno) hm)
    refine r_iconst (pc := 22) (v := 0) dX0_helps_22 (by decide) ?_
    refine r_istore5 (pc := 23) dX0_helps_23 rfl ?_
    refine r_aload_n (pc := 25) dX0_helps_25 rfl ?_
    refine r_iload (pc := 26) dX0_helps_26 rfl ?_
    refine r_iload_n (pc := 28) dX0_helps_28 rfl ?_
    refine r_o3 (pc := 29) (bc' := 8) (bs' := 56) (ct_X0_must hx x4 x1 hB) k_X0_300_0 dX0_helps_29 hx.1.2.1 (Nat.le_of_ble_eq_true rfl) ⟨Nat.le_of_ble_eq_true rfl, Nat.le_of_ble_eq_true rfl⟩ ⟨Nat.le_of_ble_eq_true rfl, Nat.le_of_ble_eq_true rfl⟩ (r_cv fun M29 p29 => ?_) (fun q E M9 h9 => by obtain ⟨hn9, rfl, k9, w9, o9⟩ := h9; exact t_catch [] _ _ _ rfl (fun z hz => absurd hz List.not_mem_nil) rfl (by decide) q305 q389 ((hC M9 q _ _ _ _ k9 w9 (by decide) o9 (by unfold helpsS; rw [cI_t (Or.inr (Or.inr (Or.inl hm)))])).loose (Nat.zero_le _) (Nat.zero_le _)))
    exact absurd p29.1.1 hm
