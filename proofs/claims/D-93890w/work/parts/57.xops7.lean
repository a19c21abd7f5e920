/-! X: toss (printed by gen/mk_x57.py) -/
set_option maxRecDepth 100000
theorem up2_id {f : cS} {a k : Nat} {v : Int32} (h : f a k = v) : up2 f a k v = f := by
  funext b j
  rw [up2_ap]
  by_cases c : b = a
  · rw [if_pos c]
    by_cases d : j = k
    · rw [if_pos d, c, d, h]
    · rw [if_neg d]
  · rw [if_neg c]
theorem toss_0 {σ : cS} {m t d : Int32} (h : σ 16 (Int32.toNatClampNeg t) = 0) : up2 (tiresS (up2 (up2 (up2 (up2 σ 7 0 (sdC (σ 7 0))) 14 (Int32.toNatClampNeg t) (σ 14 (Int32.toNatClampNeg t) + d)) 15 (Int32.toNatClampNeg t) (-1)) 16 (Int32.toNatClampNeg t) 0) (Int32.toNatClampNeg m) (Int32.toNatClampNeg t)) 8 0 (σ 8 0 + 1) = tossM σ m t d false := by
  rw [up2_id (f := up2 (up2 (up2 σ 7 0 (sdC (σ 7 0))) 14 (Int32.toNatClampNeg t) (σ 14 (Int32.toNatClampNeg t) + d)) 15 (Int32.toNatClampNeg t) (-1)) (a := 16) (k := Int32.toNatClampNeg t) (v := 0) h]
  rfl
theorem toss_1 {σ : cS} {m t d : Int32} : up2 (tiresS (up2 (up2 (up2 (up2 σ 7 0 (sdC (σ 7 0))) 14 (Int32.toNatClampNeg t) (σ 14 (Int32.toNatClampNeg t) + d)) 15 (Int32.toNatClampNeg t) (-1)) 16 (Int32.toNatClampNeg t) 1) (Int32.toNatClampNeg m) (Int32.toNatClampNeg t)) 8 0 (σ 8 0 + 1) = tossM σ m t d true := rfl
theorem br_01 {σ : cS} (h : OkW σ) {t : Int32} (ht : thP σ t) {A B : Prop} (hn : ¬ (A ∧ B ∧ σ 16 (Int32.toNatClampNeg t) = 0)) : ¬ A ∨ ¬ B ∨ σ 16 (Int32.toNatClampNeg t) = 1 := by
  by_cases a : A
  · by_cases b : B
    · rcases (h.2.2.1 _ (ix_lt ht.1 ht.2)).2.2.2.2.2 with e | ⟨e, -⟩
      · exact absurd ⟨a, b, e⟩ hn
      · exact Or.inr (Or.inr e)
    · exact Or.inr (Or.inl b)
  · exact Or.inl a
theorem br_00 {x : Int32} {A B : Prop} (h : A ∧ B ∧ x = 0) : ¬ (¬ A ∨ ¬ B ∨ x = 1) := by
  rintro (a | a | a)
  · exact a h.1
  · exact a h.2.1
  · exact absurd (a.symm.trans h.2.2) (by decide)
theorem ct_X0_toss {M : PM} {xo wa mo : Nat} {Z : PM} {S : ST} (hx : XO M xo wa mo Z S) (x1 x2 x3 : Int32) (hS : OkS S.1) : Ct (YX0_toss, (7, 166, 2, 14), qi (fun r M' => oX xo mo Z (tossS S x1 x2 x3) r M'), noX) [.ref xo, .int x1, .int x2, .int x3] M := by
  refine ct_ofH [some (.ref xo), some (.int x1), some (.int x2), some (.int x3), none] rfl rfl (Nat.le_of_ble_eq_true rfl) rfl rfl ?_
  have hB := hS.1.t
  have hC : ∀ (M9 : PM) (q : Nat) (b : Int32) (o4 : Option Value), mK M9 q = (1, 6) → mI M9 q 6 = b → bd b (-7) (-1) → XO M9 xo wa mo Z S → tossS S x1 x2 x3 = noS S b → Wx (YX0_toss, (7, 166, 2, 14), qi (fun r M' => oX xo mo Z (tossS S x1 x2 x3) r M'), noX) 0 0 M9 166 [some (.ref xo), some (.int x1), some (.int x2), some (.int x3), o4] [.ref q] := by
    intro M9 q b o4 h1 h2 h3 h4 h5
    refine r_astore4 (pc := 166) dX0_toss_166 rfl ?_
    refine r_aload_n (pc := 168) dX0_toss_168 rfl ?_
    refine r_aload (pc := 169) dX0_toss_169 rfl ?_
    refine r_o2 (pc := 171) (bc' := 0) (bs' := 0) (ct_X0_refused h4 h1 h2 h3) k_X0_173_0 dX0_toss_171 h4.1.2.1 (Nat.le_of_ble_eq_true rfl) ⟨Nat.le_of_ble_eq_true rfl, Nat.le_of_ble_eq_true rfl⟩ ⟨Nat.le_of_ble_eq_true rfl, Nat.le_of_ble_eq_true rfl⟩ (r_ci fun r171 M171 p171 => ?_) nox
    obtain ⟨rfl, h6⟩ := p171
    refine r_ireturn (pc := 174) rfl dX0_toss_174 ⟨_, rfl, ?_⟩
    exact (show oX xo mo Z (tossS S x1 x2 x3) _ _ by rw [h5]; exact ⟨rfl, wa, h6⟩)
  refine r_aload_n (pc := 0) dX0_toss_0 rfl ?_
  refine r_iload_n (pc := 1) dX0_toss_1 rfl ?_
  refine r_iload_n (pc := 2) dX0_toss_2 rfl ?_
  refine r_o3 (pc := 3) (bc' := 1) (bs' := 7) (ct_X0_must hx x1 x2 hB) k_X0_300_0 dX0_toss_3 hx.1.2.1 (Nat.le_of_ble_eq_true rfl) ⟨Nat.le_of_ble_eq_true rfl, Nat.le_of_ble_eq_true rfl⟩ ⟨Nat.le_of_ble_eq_true rfl, Nat.le_of_ble_eq_true rfl⟩ (r_cv fun M3 p3 => ?_) (fun q E M9 h9 => by obtain ⟨hn9, rfl, k9, w9, o9⟩ := h9; exact t_catch [] _ _ _ rfl (fun z hz => absurd hz List.not_mem_nil) rfl (by decide) q305 q389 ((hC M9 q _ _ k9 w9 (by decide) o9 (by unfold tossS; rw [cI_t (n_and hn9)])).loose (Nat.zero_le _) (Nat.zero_le _)))
  obtain ⟨hy, p3⟩ := p3
  have p3 := Eq.symm (show _ = _ from p3)
  subst p3
  refine r_iload_n (pc := 6) dX0_toss_6 rfl ?_
  refine r_i2l (pc := 7) dX0_toss_7 ?_
  refine r_lconst (pc := 8) (v := 1) dX0_toss_8 (by decide) ?_
  refine r_ldc2 (pc := 9) dX0_toss_9 q1241 ?_
  refine r_s3 (pc := 12) (bc' := 1) (bs' := 7) (ct_X0_in x3 1 40 rfl (by decide) (by decide)) k_X0_107 dX0_toss_12 (Nat.le_of_ble_eq_true rfl) ⟨Nat.le_of_ble_eq_true rfl, Nat.le_of_ble_eq_true rfl⟩ ⟨Nat.le_of_ble_eq_true rfl, Nat.le_of_ble_eq_true rfl⟩ (r_ci fun r12 M12 p12 => ?_) nox
  obtain ⟨rfl, p12⟩ := p12
  have p12 := Eq.symm (show _ = _ from p12)
  subst p12
  refine r_if_eq (pc := 15) 47 dX0_toss_15 rfl (fun h15 => ?_) (fun h15 => ?_)
  · rw [bI_eq0] at h15
    refine r_iconst (pc := 47) (v := 0) dX0_toss_47 (by decide) ?_
    refine r_eqi (bI ((¬ x3 < 1 ∧ ¬ 40 < x3) ∧ throwP S.1 x1 x2 x3 ∧ S.1 16 (Int32.toNatClampNeg x2) = 0)) (by first | exact bI_t' ⟨h15, h28, h40⟩ | exact bI_f' (fun hh => h15 hh.1) | exact bI_f' (fun hh => h28 hh.2.1) | exact bI_f' (fun hh => h40 hh.2.2)) ?_
    refine r_bipush (pc := 48) (v := (-6)) dX0_toss_48 (by decide) ?_
    refine r_s2 (pc := 50) (bc' := 0) (bs' := 0) (ct_X0_need _ _) k_X0_115 dX0_toss_50 (Nat.le_of_ble_eq_true rfl) ⟨Nat.le_of_ble_eq_true rfl, Nat.le_of_ble_eq_true rfl⟩ ⟨Nat.le_of_ble_eq_true rfl, Nat.le_of_ble_eq_true rfl⟩ (r_cv fun M50 p50 => ?_) (fun q E M9 h8 => by have h9 := And.intro (bI_eq0.mp h8.1) (hx.rf h8.2); obtain ⟨hn9, rfl, k9, w9, o9⟩ := h9; exact t_catch [] _ _ _ rfl (fun z hz => absurd hz List.not_mem_nil) rfl (by decide) q305 q389 ((hC M9 q _ _ k9 w9 (by decide) o9 (by unfold tossS; rw [cI_f (n_or hy), cI_t (br_01 hS.1 hy.2 hn9)])).loose (Nat.zero_le _) (Nat.zero_le _)))
    obtain ⟨hz, p50⟩ := p50
    have p50 := Eq.symm (show _ = _ from p50)
    subst p50
    rw [bI_ne0] at hz
    refine r_aload_n (pc := 53) dX0_toss_53 rfl ?_
    refine r_getR (pc := 54) dX0_toss_54 fl_X0_90_0 hx.1.2.1 (fun _ _ => rfl) hx.2.2.1.1 ?_
    refine r_bipush (pc := 57) (v := 10) dX0_toss_57 (by decide) ?_
    refine r_o2 (pc := 59) (bc' := 0) (bs' := 0) (ct_X3_draw hx.2.2.1.2.2 10 (by decide)) k_X0_369_3 dX0_toss_59 hx.2.2.1.2.2.k (Nat.le_of_ble_eq_true rfl) ⟨Nat.le_of_ble_eq_true rfl, Nat.le_of_ble_eq_true rfl⟩ ⟨Nat.le_of_ble_eq_true rfl, Nat.le_of_ble_eq_true rfl⟩ (r_ci fun r59 M59 p59 => ?_) nox
    obtain ⟨rfl, w1, f1, g1⟩ := p59
    have hx1 := hx.world (S' := (up2 S.1 7 0 (sdC (S.1 7 0)), S.2)) w1 f1 (fun s _ _ => by rw [g1]) rfl (fun k hk => up2_ne (by omega))
    have hcE : caughtC x3 (farS S.1 (Int32.toNatClampNeg x1) (Int32.toNatClampNeg x2)) = (if (10 - x3 / 4 : Int32) < 0 then 0 else 10 - x3 / 4) := by unfold caughtC; rw [if_neg hz.2.1.1]
    refine r_iload_n (pc := 62) dX0_toss_62 rfl ?_
    refine r_s1 (pc := 63) (bc' := 0) (bs' := 0) (ct_X0_caughtBy x3) k_X0_360 dX0_toss_63 (Nat.le_of_ble_eq_true rfl) ⟨Nat.le_of_ble_eq_true rfl, Nat.le_of_ble_eq_true rfl⟩ ⟨Nat.le_of_ble_eq_true rfl, Nat.le_of_ble_eq_true rfl⟩ (r_ci fun r63 M63 p63 => ?_) nox
    obtain ⟨rfl, p63⟩ := p63
    have p63 := Eq.symm (show _ = _ from p63)
    subst p63
    refine r_icmp_ge (pc := 66) 73 dX0_toss_66 rfl (fun h66 => ?_) (fun h66 => ?_)
    · have hct : ¬ drC (S.1 7 0) 10 < caughtC x3 (farS S.1 (Int32.toNatClampNeg x1) (Int32.toNatClampNeg x2)) := by rw [hcE]; exact h66
      refine r_iconst (pc := 73) (v := 0) dX0_toss_73 (by decide) ?_
      refine r_istore4 (pc := 74) dX0_toss_74 rfl ?_
      refine r_aload_n (pc := 76) dX0_toss_76 rfl ?_
      refine r_getR (pc := 77) dX0_toss_77 fl_X0_90_0 hx1.1.2.1 (fun _ _ => rfl) hx1.2.2.1.1 ?_
      refine r_getR (pc := 80) dX0_toss_80 fl_X0_132_3 hx1.2.2.1.2.2.k (fun _ _ => rfl) hx1.2.2.1.2.2.r10 ?_
      refine r_iload_n (pc := 83) dX0_toss_83 rfl ?_
      refine r_dup2 (pc := 84) dX0_toss_84 rfl rfl ?_
      refine r_ialdv (pc := 85) (v := S.1 14 (Int32.toNatClampNeg x2)) dX0_toss_85 hx1.2.2.1.2.2.k10 hx1.2.2.1.2.2.z10 (hB.vt hy.2) (hx1.2.2.1.2.2.a14 hy.2) ?_
      refine r_iload_n (pc := 86) dX0_toss_86 rfl ?_
      refine r_iadd (pc := 87) dX0_toss_87 ?_
      refine r_iast (pc := 88) dX0_toss_88 hx1.2.2.1.2.2.k10 hx1.2.2.1.2.2.z10 (hB.vt hy.2) ?_
      have hx2 := hx1.put (k := 14) (i := (Int32.toNatClampNeg x2)) (v := S.1 14 (Int32.toNatClampNeg x2) + x3) (by decide) (by decide)
      refine r_aload_n (pc := 89) dX0_toss_89 rfl ?_
      refine r_getR (pc := 90) dX0_toss_90 fl_X0_90_0 hx2.1.2.1 (fun _ _ => rfl) hx2.2.2.1.1 ?_
      refine r_getR (pc := 93) dX0_toss_93 fl_X0_262_3 hx2.2.2.1.2.2.k (fun _ _ => rfl) hx2.2.2.1.2.2.r11 ?_
      refine r_iload_n (pc := 96) dX0_toss_96 rfl ?_
      refine r_iconst (pc := 97) (v := (-1)) dX0_toss_97 (by decide) ?_
      refine r_iast (pc := 98) dX0_toss_98 hx2.2.2.1.2.2.k11 hx2.2.2.1.2.2.z11 (hB.vt hy.2) ?_
      have hx3 := hx2.put (k := 15) (i := (Int32.toNatClampNeg x2)) (v := -1) (by decide) (by decide)
      refine r_aload_n (pc := 99) dX0_toss_99 rfl ?_
      refine r_getR (pc := 100) dX0_toss_100 fl_X0_90_0 hx3.1.2.1 (fun _ _ => rfl) hx3.2.2.1.1 ?_
      refine r_getR (pc := 103) dX0_toss_103 fl_X0_265_3 hx3.2.2.1.2.2.k (fun _ _ => rfl) hx3.2.2.1.2.2.r12 ?_
      refine r_iload_n (pc := 106) dX0_toss_106 rfl ?_
      refine r_iload (pc := 107) dX0_toss_107 rfl ?_
      refine r_if_ne (pc := 109) 131 dX0_toss_109 rfl (fun hno => absurd hno (by decide)) (fun _ => ?_)
      refine r_aload_n (pc := 112) dX0_toss_112 rfl ?_
      refine r_getR (pc := 113) dX0_toss_113 fl_X0_90_0 hx3.1.2.1 (fun _ _ => rfl) hx3.2.2.1.1 ?_
      refine r_getR (pc := 116) dX0_toss_116 fl_X0_119_3 hx3.2.2.1.2.2.k (fun _ _ => rfl) hx3.2.2.1.2.2.r9 ?_
      refine r_iload_n (pc := 119) dX0_toss_119 rfl ?_
      obtain ⟨ta, hr, hT⟩ := hx3.2.2.1.2.2.th (t := x2) hy.2
      refine r_aaldR (pc := 120) dX0_toss_120 hx3.2.2.1.2.2.k9 rfl hx3.2.2.1.2.2.z9 (hB.vt hy.2) hr ?_
      have K0 : ¬ S.1 11 (Int32.toNatClampNeg x2) = 4 → Wx (YX0_toss, (7, 166, 2, 14), qi (fun r M' => oX xo mo Z (tossS S x1 x2 x3) r M'), noX) 0 0 (sI (sI M59 (wa + 2) (Int32.toNatClampNeg x2) (S.1 14 (Int32.toNatClampNeg x2) + x3)) (wa + 3) (Int32.toNatClampNeg x2) (-1)) 124 [some (.ref xo), some (.int x1), some (.int x2), some (.int x3), some (.int 0)] [.int 0, .int x2, .ref (wa + 4)] := by
        intro hgl
        refine r_if_eq (pc := 124) 131 dX0_toss_124 rfl (fun _ => ?_) (fun hno => absurd hno (by decide))
        refine r_iconst (pc := 131) (v := 0) dX0_toss_131 (by decide) ?_
        refine r_zast (pc := 132) dX0_toss_132 hx3.2.2.1.2.2.k12 hx3.2.2.1.2.2.z12 (hB.vt hy.2) ?_
        have hx4 := hx3.put (k := 16) (i := (Int32.toNatClampNeg x2)) (v := 0) (by decide) (by decide)
        refine r_aload_n (pc := 133) dX0_toss_133 rfl ?_
        refine r_getR (pc := 134) dX0_toss_134 fl_X0_90_0 hx4.1.2.1 (fun _ _ => rfl) hx4.2.2.1.1 ?_
        refine r_iload_n (pc := 137) dX0_toss_137 rfl ?_
        refine r_iload_n (pc := 138) dX0_toss_138 rfl ?_
        refine r_o3 (pc := 139) (bc' := 0) (bs' := 0) (ct_X3_tires hx4.2.2.1.2.2 x1 x2 ((((hB.u (Or.inr ⟨by decide, by decide⟩)).u (Or.inl (by decide))).u (Or.inl (by decide))).u (Or.inl (by decide))) hy.1 hy.2) k_X0_375_3 dX0_toss_139 hx4.2.2.1.2.2.k (Nat.le_of_ble_eq_true rfl) ⟨Nat.le_of_ble_eq_true rfl, Nat.le_of_ble_eq_true rfl⟩ ⟨Nat.le_of_ble_eq_true rfl, Nat.le_of_ble_eq_true rfl⟩ (r_cv fun M139 p139 => ?_) nox
        obtain ⟨w5, f5, g5⟩ := p139
        have hx5 := hx4.world (S' := (tiresS (up2 (up2 (up2 (up2 S.1 7 0 (sdC (S.1 7 0))) 14 (Int32.toNatClampNeg x2) (S.1 14 (Int32.toNatClampNeg x2) + x3)) 15 (Int32.toNatClampNeg x2) (-1)) 16 (Int32.toNatClampNeg x2) 0) (Int32.toNatClampNeg x1) (Int32.toNatClampNeg x2), S.2)) w5 f5 (fun s _ _ => by rw [g5]) rfl (fun k hk => by show tiresS (up2 (up2 (up2 (up2 S.1 7 0 (sdC (S.1 7 0))) 14 (Int32.toNatClampNeg x2) (S.1 14 (Int32.toNatClampNeg x2) + x3)) 15 (Int32.toNatClampNeg x2) (-1)) 16 (Int32.toNatClampNeg x2) 0) (Int32.toNatClampNeg x1) (Int32.toNatClampNeg x2) k = (up2 (up2 (up2 (up2 S.1 7 0 (sdC (S.1 7 0))) 14 (Int32.toNatClampNeg x2) (S.1 14 (Int32.toNatClampNeg x2) + x3)) 15 (Int32.toNatClampNeg x2) (-1)) 16 (Int32.toNatClampNeg x2) 0) k; unfold tiresS; rw [up2_ne (by omega)])
        refine r_aload_n (pc := 142) dX0_toss_142 rfl ?_
        refine r_getR (pc := 143) dX0_toss_143 fl_X0_90_0 hx5.1.2.1 (fun _ _ => rfl) hx5.2.2.1.1 ?_
        refine r_dup (pc := 146) dX0_toss_146 rfl ?_
        refine r_getIe (pc := 147) (v := S.1 8 0) dX0_toss_147 fl_X0_314_3 hx5.2.2.1.2.2.k (fun _ _ => rfl) hx5.2.2.1.2.2.i7 ?_
        refine r_iconst (pc := 150) (v := 1) dX0_toss_150 (by decide) ?_
        refine r_iadd (pc := 151) dX0_toss_151 ?_
        refine r_putI (pc := 152) dX0_toss_152 fl_X0_314_3 hx5.2.2.1.2.2.k rfl rfl ?_
        have hx6 := hx5.world (S' := (up2 (tiresS (up2 (up2 (up2 (up2 S.1 7 0 (sdC (S.1 7 0))) 14 (Int32.toNatClampNeg x2) (S.1 14 (Int32.toNatClampNeg x2) + x3)) 15 (Int32.toNatClampNeg x2) (-1)) 16 (Int32.toNatClampNeg x2) 0) (Int32.toNatClampNeg x1) (Int32.toNatClampNeg x2)) 8 0 (S.1 8 0 + 1), S.2)) (WX.s8 w5) (frP.rf.sI fun _ => inW_0) (fun _ _ _ => rfl) rfl (fun k hk => by show (up2 (tiresS (up2 (up2 (up2 (up2 S.1 7 0 (sdC (S.1 7 0))) 14 (Int32.toNatClampNeg x2) (S.1 14 (Int32.toNatClampNeg x2) + x3)) 15 (Int32.toNatClampNeg x2) (-1)) 16 (Int32.toNatClampNeg x2) 0) (Int32.toNatClampNeg x1) (Int32.toNatClampNeg x2)) 8 0 (S.1 8 0 + 1)) k = (tiresS (up2 (up2 (up2 (up2 S.1 7 0 (sdC (S.1 7 0))) 14 (Int32.toNatClampNeg x2) (S.1 14 (Int32.toNatClampNeg x2) + x3)) 15 (Int32.toNatClampNeg x2) (-1)) 16 (Int32.toNatClampNeg x2) 0) (Int32.toNatClampNeg x1) (Int32.toNatClampNeg x2)) k; rw [up2_ne (by omega)])
        refine r_iload (pc := 155) dX0_toss_155 rfl ?_
        refine r_if_eq (pc := 157) 164 dX0_toss_157 rfl (fun _ => ?_) (fun hno => absurd hno (by decide))
        refine r_iconst (pc := 164) (v := 0) dX0_toss_164 (by decide) ?_
        refine r_ireturn (pc := 165) rfl dX0_toss_165 ⟨_, rfl, ?_⟩
        exact (show oX xo mo Z (tossS S x1 x2 x3) _ _ by unfold tossS; rw [cI_f (n_or hy), cI_f (br_00 hz), cI_f hct, cI_f hgl, ← toss_0 (σ := S.1) (m := x1) (t := x2) (d := x3) hz.2.2]; exact ⟨rfl, wa, hx6⟩)
      have K1 : S.1 11 (Int32.toNatClampNeg x2) = 4 → Wx (YX0_toss, (7, 166, 2, 14), qi (fun r M' => oX xo mo Z (tossS S x1 x2 x3) r M'), noX) 0 0 (sI (sI M59 (wa + 2) (Int32.toNatClampNeg x2) (S.1 14 (Int32.toNatClampNeg x2) + x3)) (wa + 3) (Int32.toNatClampNeg x2) (-1)) 124 [some (.ref xo), some (.int x1), some (.int x2), some (.int x3), some (.int 0)] [.int 1, .int x2, .ref (wa + 4)] := by
        intro hgl
        refine r_if_eq (pc := 124) 131 dX0_toss_124 rfl (fun hno => absurd hno (by decide)) (fun _ => ?_)
        refine r_iconst (pc := 127) (v := 1) dX0_toss_127 (by decide) ?_
        refine r_goto (pc := 128) 132 dX0_toss_128 rfl ?_
        refine r_zast (pc := 132) dX0_toss_132 hx3.2.2.1.2.2.k12 hx3.2.2.1.2.2.z12 (hB.vt hy.2) ?_
        have hx4 := hx3.put (k := 16) (i := (Int32.toNatClampNeg x2)) (v := 1) (by decide) (by decide)
        refine r_aload_n (pc := 133) dX0_toss_133 rfl ?_
        refine r_getR (pc := 134) dX0_toss_134 fl_X0_90_0 hx4.1.2.1 (fun _ _ => rfl) hx4.2.2.1.1 ?_
        refine r_iload_n (pc := 137) dX0_toss_137 rfl ?_
        refine r_iload_n (pc := 138) dX0_toss_138 rfl ?_
        refine r_o3 (pc := 139) (bc' := 0) (bs' := 0) (ct_X3_tires hx4.2.2.1.2.2 x1 x2 ((((hB.u (Or.inr ⟨by decide, by decide⟩)).u (Or.inl (by decide))).u (Or.inl (by decide))).u (Or.inl (by decide))) hy.1 hy.2) k_X0_375_3 dX0_toss_139 hx4.2.2.1.2.2.k (Nat.le_of_ble_eq_true rfl) ⟨Nat.le_of_ble_eq_true rfl, Nat.le_of_ble_eq_true rfl⟩ ⟨Nat.le_of_ble_eq_true rfl, Nat.le_of_ble_eq_true rfl⟩ (r_cv fun M139 p139 => ?_) nox
        obtain ⟨w5, f5, g5⟩ := p139
        have hx5 := hx4.world (S' := (tiresS (up2 (up2 (up2 (up2 S.1 7 0 (sdC (S.1 7 0))) 14 (Int32.toNatClampNeg x2) (S.1 14 (Int32.toNatClampNeg x2) + x3)) 15 (Int32.toNatClampNeg x2) (-1)) 16 (Int32.toNatClampNeg x2) 1) (Int32.toNatClampNeg x1) (Int32.toNatClampNeg x2), S.2)) w5 f5 (fun s _ _ => by rw [g5]) rfl (fun k hk => by show tiresS (up2 (up2 (up2 (up2 S.1 7 0 (sdC (S.1 7 0))) 14 (Int32.toNatClampNeg x2) (S.1 14 (Int32.toNatClampNeg x2) + x3)) 15 (Int32.toNatClampNeg x2) (-1)) 16 (Int32.toNatClampNeg x2) 1) (Int32.toNatClampNeg x1) (Int32.toNatClampNeg x2) k = (up2 (up2 (up2 (up2 S.1 7 0 (sdC (S.1 7 0))) 14 (Int32.toNatClampNeg x2) (S.1 14 (Int32.toNatClampNeg x2) + x3)) 15 (Int32.toNatClampNeg x2) (-1)) 16 (Int32.toNatClampNeg x2) 1) k; unfold tiresS; rw [up2_ne (by omega)])
        refine r_aload_n (pc := 142) dX0_toss_142 rfl ?_
        refine r_getR (pc := 143) dX0_toss_143 fl_X0_90_0 hx5.1.2.1 (fun _ _ => rfl) hx5.2.2.1.1 ?_
        refine r_dup (pc := 146) dX0_toss_146 rfl ?_
        refine r_getIe (pc := 147) (v := S.1 8 0) dX0_toss_147 fl_X0_314_3 hx5.2.2.1.2.2.k (fun _ _ => rfl) hx5.2.2.1.2.2.i7 ?_
        refine r_iconst (pc := 150) (v := 1) dX0_toss_150 (by decide) ?_
        refine r_iadd (pc := 151) dX0_toss_151 ?_
        refine r_putI (pc := 152) dX0_toss_152 fl_X0_314_3 hx5.2.2.1.2.2.k rfl rfl ?_
        have hx6 := hx5.world (S' := (up2 (tiresS (up2 (up2 (up2 (up2 S.1 7 0 (sdC (S.1 7 0))) 14 (Int32.toNatClampNeg x2) (S.1 14 (Int32.toNatClampNeg x2) + x3)) 15 (Int32.toNatClampNeg x2) (-1)) 16 (Int32.toNatClampNeg x2) 1) (Int32.toNatClampNeg x1) (Int32.toNatClampNeg x2)) 8 0 (S.1 8 0 + 1), S.2)) (WX.s8 w5) (frP.rf.sI fun _ => inW_0) (fun _ _ _ => rfl) rfl (fun k hk => by show (up2 (tiresS (up2 (up2 (up2 (up2 S.1 7 0 (sdC (S.1 7 0))) 14 (Int32.toNatClampNeg x2) (S.1 14 (Int32.toNatClampNeg x2) + x3)) 15 (Int32.toNatClampNeg x2) (-1)) 16 (Int32.toNatClampNeg x2) 1) (Int32.toNatClampNeg x1) (Int32.toNatClampNeg x2)) 8 0 (S.1 8 0 + 1)) k = (tiresS (up2 (up2 (up2 (up2 S.1 7 0 (sdC (S.1 7 0))) 14 (Int32.toNatClampNeg x2) (S.1 14 (Int32.toNatClampNeg x2) + x3)) 15 (Int32.toNatClampNeg x2) (-1)) 16 (Int32.toNatClampNeg x2) 1) (Int32.toNatClampNeg x1) (Int32.toNatClampNeg x2)) k; rw [up2_ne (by omega)])
        refine r_iload (pc := 155) dX0_toss_155 rfl ?_
        refine r_if_eq (pc := 157) 164 dX0_toss_157 rfl (fun _ => ?_) (fun hno => absurd hno (by decide))
        refine r_iconst (pc := 164) (v := 0) dX0_toss_164 (by decide) ?_
        refine r_ireturn (pc := 165) rfl dX0_toss_165 ⟨_, rfl, ?_⟩
        exact (show oX xo mo Z (tossS S x1 x2 x3) _ _ by unfold tossS; rw [cI_f (n_or hy), cI_f (br_00 hz), cI_f hct, cI_t hgl, ← toss_1 (σ := S.1) (m := x1) (t := x2) (d := x3)]; exact ⟨rfl, wa, hx6⟩)
      rcases kd7 (hB.2 _ (ix_lt hy.2.1 hy.2.2)).1 with e7 | e7 | e7 | e7 | e7 | e7 | e7
      · have hK7 := hT.k (k := 0) e7 (c := 12) rfl
        refine r_o1 (pc := 121) (bc' := 0) (bs' := 0) (ct_X12_breaks_12 hK7) k_X0_372_12 dX0_toss_121 hK7 (Nat.le_of_ble_eq_true rfl) ⟨Nat.le_of_ble_eq_true rfl, Nat.le_of_ble_eq_true rfl⟩ ⟨Nat.le_of_ble_eq_true rfl, Nat.le_of_ble_eq_true rfl⟩ (r_ci fun r7 M7 p7 => ?_) nox
        obtain ⟨rfl, p7⟩ := p7
        have p7 := Eq.symm (show _ = _ from p7)
        subst p7
        exact K0 (by rw [e7]; decide)
      · have hK7 := hT.k (k := 1) e7 (c := 13) rfl
        refine r_o1 (pc := 121) (bc' := 0) (bs' := 0) (ct_X12_breaks_13 hK7) k_X0_372_13 dX0_toss_121 hK7 (Nat.le_of_ble_eq_true rfl) ⟨Nat.le_of_ble_eq_true rfl, Nat.le_of_ble_eq_true rfl⟩ ⟨Nat.le_of_ble_eq_true rfl, Nat.le_of_ble_eq_true rfl⟩ (r_ci fun r7 M7 p7 => ?_) nox
        obtain ⟨rfl, p7⟩ := p7
        have p7 := Eq.symm (show _ = _ from p7)
        subst p7
        exact K0 (by rw [e7]; decide)
      · have hK7 := hT.k (k := 2) e7 (c := 14) rfl
        refine r_o1 (pc := 121) (bc' := 0) (bs' := 0) (ct_X12_breaks_14 hK7) k_X0_372_14 dX0_toss_121 hK7 (Nat.le_of_ble_eq_true rfl) ⟨Nat.le_of_ble_eq_true rfl, Nat.le_of_ble_eq_true rfl⟩ ⟨Nat.le_of_ble_eq_true rfl, Nat.le_of_ble_eq_true rfl⟩ (r_ci fun r7 M7 p7 => ?_) nox
        obtain ⟨rfl, p7⟩ := p7
        have p7 := Eq.symm (show _ = _ from p7)
        subst p7
        exact K0 (by rw [e7]; decide)
      · have hK7 := hT.k (k := 3) e7 (c := 15) rfl
        refine r_o1 (pc := 121) (bc' := 0) (bs' := 0) (ct_X12_breaks_15 hK7) k_X0_372_15 dX0_toss_121 hK7 (Nat.le_of_ble_eq_true rfl) ⟨Nat.le_of_ble_eq_true rfl, Nat.le_of_ble_eq_true rfl⟩ ⟨Nat.le_of_ble_eq_true rfl, Nat.le_of_ble_eq_true rfl⟩ (r_ci fun r7 M7 p7 => ?_) nox
        obtain ⟨rfl, p7⟩ := p7
        have p7 := Eq.symm (show _ = _ from p7)
        subst p7
        exact K0 (by rw [e7]; decide)
      · have hK7 := hT.k (k := 4) e7 (c := 16) rfl
        refine r_o1 (pc := 121) (bc' := 0) (bs' := 0) (ct_X16_breaks_16 hK7) k_X0_372_16 dX0_toss_121 hK7 (Nat.le_of_ble_eq_true rfl) ⟨Nat.le_of_ble_eq_true rfl, Nat.le_of_ble_eq_true rfl⟩ ⟨Nat.le_of_ble_eq_true rfl, Nat.le_of_ble_eq_true rfl⟩ (r_ci fun r7 M7 p7 => ?_) nox
        obtain ⟨rfl, p7⟩ := p7
        have p7 := Eq.symm (show _ = _ from p7)
        subst p7
        exact K1 e7
      · have hK7 := hT.k (k := 5) e7 (c := 17) rfl
        refine r_o1 (pc := 121) (bc' := 0) (bs' := 0) (ct_X12_breaks_17 hK7) k_X0_372_17 dX0_toss_121 hK7 (Nat.le_of_ble_eq_true rfl) ⟨Nat.le_of_ble_eq_true rfl, Nat.le_of_ble_eq_true rfl⟩ ⟨Nat.le_of_ble_eq_true rfl, Nat.le_of_ble_eq_true rfl⟩ (r_ci fun r7 M7 p7 => ?_) nox
        obtain ⟨rfl, p7⟩ := p7
        have p7 := Eq.symm (show _ = _ from p7)
        subst p7
        exact K0 (by rw [e7]; decide)
      · have hK7 := hT.k (k := 6) e7 (c := 18) rfl
        refine r_o1 (pc := 121) (bc' := 0) (bs' := 0) (ct_X12_breaks_18 hK7) k_X0_372_18 dX0_toss_121 hK7 (Nat.le_of_ble_eq_true rfl) ⟨Nat.le_of_ble_eq_true rfl, Nat.le_of_ble_eq_true rfl⟩ ⟨Nat.le_of_ble_eq_true rfl, Nat.le_of_ble_eq_true rfl⟩ (r_ci fun r7 M7 p7 => ?_) nox
        obtain ⟨rfl, p7⟩ := p7
        have p7 := Eq.symm (show _ = _ from p7)
        subst p7
        exact K0 (by rw [e7]; decide)
    · have hct : drC (S.1 7 0) 10 < caughtC x3 (farS S.1 (Int32.toNatClampNeg x1) (Int32.toNatClampNeg x2)) := by rw [hcE]; exact h66
      refine r_iconst (pc := 69) (v := 1) dX0_toss_69 (by decide) ?_
      refine r_goto (pc := 70) 74 dX0_toss_70 rfl ?_
      refine r_istore4 (pc := 74) dX0_toss_74 rfl ?_
      refine r_aload_n (pc := 76) dX0_toss_76 rfl ?_
      refine r_getR (pc := 77) dX0_toss_77 fl_X0_90_0 hx1.1.2.1 (fun _ _ => rfl) hx1.2.2.1.1 ?_
      refine r_getR (pc := 80) dX0_toss_80 fl_X0_132_3 hx1.2.2.1.2.2.k (fun _ _ => rfl) hx1.2.2.1.2.2.r10 ?_
      refine r_iload_n (pc := 83) dX0_toss_83 rfl ?_
      refine r_dup2 (pc := 84) dX0_toss_84 rfl rfl ?_
      refine r_ialdv (pc := 85) (v := S.1 14 (Int32.toNatClampNeg x2)) dX0_toss_85 hx1.2.2.1.2.2.k10 hx1.2.2.1.2.2.z10 (hB.vt hy.2) (hx1.2.2.1.2.2.a14 hy.2) ?_
      refine r_iload_n (pc := 86) dX0_toss_86 rfl ?_
      refine r_iadd (pc := 87) dX0_toss_87 ?_
      refine r_iast (pc := 88) dX0_toss_88 hx1.2.2.1.2.2.k10 hx1.2.2.1.2.2.z10 (hB.vt hy.2) ?_
      have hx2 := hx1.put (k := 14) (i := (Int32.toNatClampNeg x2)) (v := S.1 14 (Int32.toNatClampNeg x2) + x3) (by decide) (by decide)
      refine r_aload_n (pc := 89) dX0_toss_89 rfl ?_
      refine r_getR (pc := 90) dX0_toss_90 fl_X0_90_0 hx2.1.2.1 (fun _ _ => rfl) hx2.2.2.1.1 ?_
      refine r_getR (pc := 93) dX0_toss_93 fl_X0_262_3 hx2.2.2.1.2.2.k (fun _ _ => rfl) hx2.2.2.1.2.2.r11 ?_
      refine r_iload_n (pc := 96) dX0_toss_96 rfl ?_
      refine r_iconst (pc := 97) (v := (-1)) dX0_toss_97 (by decide) ?_
      refine r_iast (pc := 98) dX0_toss_98 hx2.2.2.1.2.2.k11 hx2.2.2.1.2.2.z11 (hB.vt hy.2) ?_
      have hx3 := hx2.put (k := 15) (i := (Int32.toNatClampNeg x2)) (v := -1) (by decide) (by decide)
      refine r_aload_n (pc := 99) dX0_toss_99 rfl ?_
      refine r_getR (pc := 100) dX0_toss_100 fl_X0_90_0 hx3.1.2.1 (fun _ _ => rfl) hx3.2.2.1.1 ?_
      refine r_getR (pc := 103) dX0_toss_103 fl_X0_265_3 hx3.2.2.1.2.2.k (fun _ _ => rfl) hx3.2.2.1.2.2.r12 ?_
      refine r_iload_n (pc := 106) dX0_toss_106 rfl ?_
      refine r_iload (pc := 107) dX0_toss_107 rfl ?_
      refine r_if_ne (pc := 109) 131 dX0_toss_109 rfl (fun _ => ?_) (fun hno => absurd hno (by decide))
      refine r_iconst (pc := 131) (v := 0) dX0_toss_131 (by decide) ?_
      refine r_zast (pc := 132) dX0_toss_132 hx3.2.2.1.2.2.k12 hx3.2.2.1.2.2.z12 (hB.vt hy.2) ?_
      have hx4 := hx3.put (k := 16) (i := (Int32.toNatClampNeg x2)) (v := 0) (by decide) (by decide)
      refine r_aload_n (pc := 133) dX0_toss_133 rfl ?_
      refine r_getR (pc := 134) dX0_toss_134 fl_X0_90_0 hx4.1.2.1 (fun _ _ => rfl) hx4.2.2.1.1 ?_
      refine r_iload_n (pc := 137) dX0_toss_137 rfl ?_
      refine r_iload_n (pc := 138) dX0_toss_138 rfl ?_
      refine r_o3 (pc := 139) (bc' := 0) (bs' := 0) (ct_X3_tires hx4.2.2.1.2.2 x1 x2 ((((hB.u (Or.inr ⟨by decide, by decide⟩)).u (Or.inl (by decide))).u (Or.inl (by decide))).u (Or.inl (by decide))) hy.1 hy.2) k_X0_375_3 dX0_toss_139 hx4.2.2.1.2.2.k (Nat.le_of_ble_eq_true rfl) ⟨Nat.le_of_ble_eq_true rfl, Nat.le_of_ble_eq_true rfl⟩ ⟨Nat.le_of_ble_eq_true rfl, Nat.le_of_ble_eq_true rfl⟩ (r_cv fun M139 p139 => ?_) nox
      obtain ⟨w5, f5, g5⟩ := p139
      have hx5 := hx4.world (S' := (tiresS (up2 (up2 (up2 (up2 S.1 7 0 (sdC (S.1 7 0))) 14 (Int32.toNatClampNeg x2) (S.1 14 (Int32.toNatClampNeg x2) + x3)) 15 (Int32.toNatClampNeg x2) (-1)) 16 (Int32.toNatClampNeg x2) 0) (Int32.toNatClampNeg x1) (Int32.toNatClampNeg x2), S.2)) w5 f5 (fun s _ _ => by rw [g5]) rfl (fun k hk => by show tiresS (up2 (up2 (up2 (up2 S.1 7 0 (sdC (S.1 7 0))) 14 (Int32.toNatClampNeg x2) (S.1 14 (Int32.toNatClampNeg x2) + x3)) 15 (Int32.toNatClampNeg x2) (-1)) 16 (Int32.toNatClampNeg x2) 0) (Int32.toNatClampNeg x1) (Int32.toNatClampNeg x2) k = (up2 (up2 (up2 (up2 S.1 7 0 (sdC (S.1 7 0))) 14 (Int32.toNatClampNeg x2) (S.1 14 (Int32.toNatClampNeg x2) + x3)) 15 (Int32.toNatClampNeg x2) (-1)) 16 (Int32.toNatClampNeg x2) 0) k; unfold tiresS; rw [up2_ne (by omega)])
      refine r_aload_n (pc := 142) dX0_toss_142 rfl ?_
      refine r_getR (pc := 143) dX0_toss_143 fl_X0_90_0 hx5.1.2.1 (fun _ _ => rfl) hx5.2.2.1.1 ?_
      refine r_dup (pc := 146) dX0_toss_146 rfl ?_
      refine r_getIe (pc := 147) (v := S.1 8 0) dX0_toss_147 fl_X0_314_3 hx5.2.2.1.2.2.k (fun _ _ => rfl) hx5.2.2.1.2.2.i7 ?_
      refine r_iconst (pc := 150) (v := 1) dX0_toss_150 (by decide) ?_
      refine r_iadd (pc := 151) dX0_toss_151 ?_
      refine r_putI (pc := 152) dX0_toss_152 fl_X0_314_3 hx5.2.2.1.2.2.k rfl rfl ?_
      have hx6 := hx5.world (S' := (up2 (tiresS (up2 (up2 (up2 (up2 S.1 7 0 (sdC (S.1 7 0))) 14 (Int32.toNatClampNeg x2) (S.1 14 (Int32.toNatClampNeg x2) + x3)) 15 (Int32.toNatClampNeg x2) (-1)) 16 (Int32.toNatClampNeg x2) 0) (Int32.toNatClampNeg x1) (Int32.toNatClampNeg x2)) 8 0 (S.1 8 0 + 1), S.2)) (WX.s8 w5) (frP.rf.sI fun _ => inW_0) (fun _ _ _ => rfl) rfl (fun k hk => by show (up2 (tiresS (up2 (up2 (up2 (up2 S.1 7 0 (sdC (S.1 7 0))) 14 (Int32.toNatClampNeg x2) (S.1 14 (Int32.toNatClampNeg x2) + x3)) 15 (Int32.toNatClampNeg x2) (-1)) 16 (Int32.toNatClampNeg x2) 0) (Int32.toNatClampNeg x1) (Int32.toNatClampNeg x2)) 8 0 (S.1 8 0 + 1)) k = (tiresS (up2 (up2 (up2 (up2 S.1 7 0 (sdC (S.1 7 0))) 14 (Int32.toNatClampNeg x2) (S.1 14 (Int32.toNatClampNeg x2) + x3)) 15 (Int32.toNatClampNeg x2) (-1)) 16 (Int32.toNatClampNeg x2) 0) (Int32.toNatClampNeg x1) (Int32.toNatClampNeg x2)) k; rw [up2_ne (by omega)])
      refine r_iload (pc := 155) dX0_toss_155 rfl ?_
      refine r_if_eq (pc := 157) 164 dX0_toss_157 rfl (fun hno => absurd hno (by decide)) (fun _ => ?_)
      refine r_iconst (pc := 160) (v := 1) dX0_toss_160 (by decide) ?_
      refine r_goto (pc := 161) 165 dX0_toss_161 rfl ?_
      refine r_ireturn (pc := 165) rfl dX0_toss_165 ⟨_, rfl, ?_⟩
      exact (show oX xo mo Z (tossS S x1 x2 x3) _ _ by unfold tossS; rw [cI_f (n_or hy), cI_f (br_00 hz), cI_t hct, ← toss_0 (σ := S.1) (m := x1) (t := x2) (d := x3) hz.2.2]; exact ⟨rfl, wa, hx6⟩)
  · rw [bI_ne0] at h15
    refine r_aload_n (pc := 18) dX0_toss_18 rfl ?_
    refine r_getR (pc := 19) dX0_toss_19 fl_X0_90_0 hx.1.2.1 (fun _ _ => rfl) hx.2.2.1.1 ?_
    refine r_iload_n (pc := 22) dX0_toss_22 rfl ?_
    refine r_iload_n (pc := 23) dX0_toss_23 rfl ?_
    refine r_iload_n (pc := 24) dX0_toss_24 rfl ?_
    refine r_o4 (pc := 25) (bc' := 1) (bs' := 7) (ct_X3_mayThrow hx.2.2.1.2.2 x1 x2 x3 hB hy.1 hy.2) k_X0_363_3 dX0_toss_25 hx.2.2.1.2.2.k (Nat.le_of_ble_eq_true rfl) ⟨Nat.le_of_ble_eq_true rfl, Nat.le_of_ble_eq_true rfl⟩ ⟨Nat.le_of_ble_eq_true rfl, Nat.le_of_ble_eq_true rfl⟩ (r_ci fun r25 M25 p25 => ?_) nox
    obtain ⟨rfl, p25⟩ := p25
    have p25 := Eq.symm (show _ = _ from p25)
    subst p25
    refine r_if_eq (pc := 28) 47 dX0_toss_28 rfl (fun h28 => ?_) (fun h28 => ?_)
    · rw [bI_eq0] at h28
      refine r_iconst (pc := 47) (v := 0) dX0_toss_47 (by decide) ?_
      refine r_eqi (bI ((¬ x3 < 1 ∧ ¬ 40 < x3) ∧ throwP S.1 x1 x2 x3 ∧ S.1 16 (Int32.toNatClampNeg x2) = 0)) (by first | exact bI_t' ⟨h15, h28, h40⟩ | exact bI_f' (fun hh => h15 hh.1) | exact bI_f' (fun hh => h28 hh.2.1) | exact bI_f' (fun hh => h40 hh.2.2)) ?_
      refine r_bipush (pc := 48) (v := (-6)) dX0_toss_48 (by decide) ?_
      refine r_s2 (pc := 50) (bc' := 0) (bs' := 0) (ct_X0_need _ _) k_X0_115 dX0_toss_50 (Nat.le_of_ble_eq_true rfl) ⟨Nat.le_of_ble_eq_true rfl, Nat.le_of_ble_eq_true rfl⟩ ⟨Nat.le_of_ble_eq_true rfl, Nat.le_of_ble_eq_true rfl⟩ (r_cv fun M50 p50 => ?_) (fun q E M9 h8 => by have h9 := And.intro (bI_eq0.mp h8.1) (hx.rf h8.2); obtain ⟨hn9, rfl, k9, w9, o9⟩ := h9; exact t_catch [] _ _ _ rfl (fun z hz => absurd hz List.not_mem_nil) rfl (by decide) q305 q389 ((hC M9 q _ _ k9 w9 (by decide) o9 (by unfold tossS; rw [cI_f (n_or hy), cI_t (br_01 hS.1 hy.2 hn9)])).loose (Nat.zero_le _) (Nat.zero_le _)))
      obtain ⟨hz, p50⟩ := p50
      have p50 := Eq.symm (show _ = _ from p50)
      subst p50
      rw [bI_ne0] at hz
      refine r_aload_n (pc := 53) dX0_toss_53 rfl ?_
      refine r_getR (pc := 54) dX0_toss_54 fl_X0_90_0 hx.1.2.1 (fun _ _ => rfl) hx.2.2.1.1 ?_
      refine r_bipush (pc := 57) (v := 10) dX0_toss_57 (by decide) ?_
      refine r_o2 (pc := 59) (bc' := 0) (bs' := 0) (ct_X3_draw hx.2.2.1.2.2 10 (by decide)) k_X0_369_3 dX0_toss_59 hx.2.2.1.2.2.k (Nat.le_of_ble_eq_true rfl) ⟨Nat.le_of_ble_eq_true rfl, Nat.le_of_ble_eq_true rfl⟩ ⟨Nat.le_of_ble_eq_true rfl, Nat.le_of_ble_eq_true rfl⟩ (r_ci fun r59 M59 p59 => ?_) nox
      obtain ⟨rfl, w1, f1, g1⟩ := p59
      have hx1 := hx.world (S' := (up2 S.1 7 0 (sdC (S.1 7 0)), S.2)) w1 f1 (fun s _ _ => by rw [g1]) rfl (fun k hk => up2_ne (by omega))
      have hcE : caughtC x3 (farS S.1 (Int32.toNatClampNeg x1) (Int32.toNatClampNeg x2)) = (if (10 - x3 / 4 : Int32) < 0 then 0 else 10 - x3 / 4) := by unfold caughtC; rw [if_neg hz.2.1.1]
      refine r_iload_n (pc := 62) dX0_toss_62 rfl ?_
      refine r_s1 (pc := 63) (bc' := 0) (bs' := 0) (ct_X0_caughtBy x3) k_X0_360 dX0_toss_63 (Nat.le_of_ble_eq_true rfl) ⟨Nat.le_of_ble_eq_true rfl, Nat.le_of_ble_eq_true rfl⟩ ⟨Nat.le_of_ble_eq_true rfl, Nat.le_of_ble_eq_true rfl⟩ (r_ci fun r63 M63 p63 => ?_) nox
      obtain ⟨rfl, p63⟩ := p63
      have p63 := Eq.symm (show _ = _ from p63)
      subst p63
      refine r_icmp_ge (pc := 66) 73 dX0_toss_66 rfl (fun h66 => ?_) (fun h66 => ?_)
      · have hct : ¬ drC (S.1 7 0) 10 < caughtC x3 (farS S.1 (Int32.toNatClampNeg x1) (Int32.toNatClampNeg x2)) := by rw [hcE]; exact h66
        refine r_iconst (pc := 73) (v := 0) dX0_toss_73 (by decide) ?_
        refine r_istore4 (pc := 74) dX0_toss_74 rfl ?_
        refine r_aload_n (pc := 76) dX0_toss_76 rfl ?_
        refine r_getR (pc := 77) dX0_toss_77 fl_X0_90_0 hx1.1.2.1 (fun _ _ => rfl) hx1.2.2.1.1 ?_
        refine r_getR (pc := 80) dX0_toss_80 fl_X0_132_3 hx1.2.2.1.2.2.k (fun _ _ => rfl) hx1.2.2.1.2.2.r10 ?_
        refine r_iload_n (pc := 83) dX0_toss_83 rfl ?_
        refine r_dup2 (pc := 84) dX0_toss_84 rfl rfl ?_
        refine r_ialdv (pc := 85) (v := S.1 14 (Int32.toNatClampNeg x2)) dX0_toss_85 hx1.2.2.1.2.2.k10 hx1.2.2.1.2.2.z10 (hB.vt hy.2) (hx1.2.2.1.2.2.a14 hy.2) ?_
        refine r_iload_n (pc := 86) dX0_toss_86 rfl ?_
        refine r_iadd (pc := 87) dX0_toss_87 ?_
        refine r_iast (pc := 88) dX0_toss_88 hx1.2.2.1.2.2.k10 hx1.2.2.1.2.2.z10 (hB.vt hy.2) ?_
        have hx2 := hx1.put (k := 14) (i := (Int32.toNatClampNeg x2)) (v := S.1 14 (Int32.toNatClampNeg x2) + x3) (by decide) (by decide)
        refine r_aload_n (pc := 89) dX0_toss_89 rfl ?_
        refine r_getR (pc := 90) dX0_toss_90 fl_X0_90_0 hx2.1.2.1 (fun _ _ => rfl) hx2.2.2.1.1 ?_
        refine r_getR (pc := 93) dX0_toss_93 fl_X0_262_3 hx2.2.2.1.2.2.k (fun _ _ => rfl) hx2.2.2.1.2.2.r11 ?_
        refine r_iload_n (pc := 96) dX0_toss_96 rfl ?_
        refine r_iconst (pc := 97) (v := (-1)) dX0_toss_97 (by decide) ?_
        refine r_iast (pc := 98) dX0_toss_98 hx2.2.2.1.2.2.k11 hx2.2.2.1.2.2.z11 (hB.vt hy.2) ?_
        have hx3 := hx2.put (k := 15) (i := (Int32.toNatClampNeg x2)) (v := -1) (by decide) (by decide)
        refine r_aload_n (pc := 99) dX0_toss_99 rfl ?_
        refine r_getR (pc := 100) dX0_toss_100 fl_X0_90_0 hx3.1.2.1 (fun _ _ => rfl) hx3.2.2.1.1 ?_
        refine r_getR (pc := 103) dX0_toss_103 fl_X0_265_3 hx3.2.2.1.2.2.k (fun _ _ => rfl) hx3.2.2.1.2.2.r12 ?_
        refine r_iload_n (pc := 106) dX0_toss_106 rfl ?_
        refine r_iload (pc := 107) dX0_toss_107 rfl ?_
        refine r_if_ne (pc := 109) 131 dX0_toss_109 rfl (fun hno => absurd hno (by decide)) (fun _ => ?_)
        refine r_aload_n (pc := 112) dX0_toss_112 rfl ?_
        refine r_getR (pc := 113) dX0_toss_113 fl_X0_90_0 hx3.1.2.1 (fun _ _ => rfl) hx3.2.2.1.1 ?_
        refine r_getR (pc := 116) dX0_toss_116 fl_X0_119_3 hx3.2.2.1.2.2.k (fun _ _ => rfl) hx3.2.2.1.2.2.r9 ?_
        refine r_iload_n (pc := 119) dX0_toss_119 rfl ?_
        obtain ⟨ta, hr, hT⟩ := hx3.2.2.1.2.2.th (t := x2) hy.2
        refine r_aaldR (pc := 120) dX0_toss_120 hx3.2.2.1.2.2.k9 rfl hx3.2.2.1.2.2.z9 (hB.vt hy.2) hr ?_
        have K0 : ¬ S.1 11 (Int32.toNatClampNeg x2) = 4 → Wx (YX0_toss, (7, 166, 2, 14), qi (fun r M' => oX xo mo Z (tossS S x1 x2 x3) r M'), noX) 0 0 (sI (sI M59 (wa + 2) (Int32.toNatClampNeg x2) (S.1 14 (Int32.toNatClampNeg x2) + x3)) (wa + 3) (Int32.toNatClampNeg x2) (-1)) 124 [some (.ref xo), some (.int x1), some (.int x2), some (.int x3), some (.int 0)] [.int 0, .int x2, .ref (wa + 4)] := by
          intro hgl
          refine r_if_eq (pc := 124) 131 dX0_toss_124 rfl (fun _ => ?_) (fun hno => absurd hno (by decide))
          refine r_iconst (pc := 131) (v := 0) dX0_toss_131 (by decide) ?_
          refine r_zast (pc := 132) dX0_toss_132 hx3.2.2.1.2.2.k12 hx3.2.2.1.2.2.z12 (hB.vt hy.2) ?_
          have hx4 := hx3.put (k := 16) (i := (Int32.toNatClampNeg x2)) (v := 0) (by decide) (by decide)
          refine r_aload_n (pc := 133) dX0_toss_133 rfl ?_
          refine r_getR (pc := 134) dX0_toss_134 fl_X0_90_0 hx4.1.2.1 (fun _ _ => rfl) hx4.2.2.1.1 ?_
          refine r_iload_n (pc := 137) dX0_toss_137 rfl ?_
          refine r_iload_n (pc := 138) dX0_toss_138 rfl ?_
          refine r_o3 (pc := 139) (bc' := 0) (bs' := 0) (ct_X3_tires hx4.2.2.1.2.2 x1 x2 ((((hB.u (Or.inr ⟨by decide, by decide⟩)).u (Or.inl (by decide))).u (Or.inl (by decide))).u (Or.inl (by decide))) hy.1 hy.2) k_X0_375_3 dX0_toss_139 hx4.2.2.1.2.2.k (Nat.le_of_ble_eq_true rfl) ⟨Nat.le_of_ble_eq_true rfl, Nat.le_of_ble_eq_true rfl⟩ ⟨Nat.le_of_ble_eq_true rfl, Nat.le_of_ble_eq_true rfl⟩ (r_cv fun M139 p139 => ?_) nox
          obtain ⟨w5, f5, g5⟩ := p139
          have hx5 := hx4.world (S' := (tiresS (up2 (up2 (up2 (up2 S.1 7 0 (sdC (S.1 7 0))) 14 (Int32.toNatClampNeg x2) (S.1 14 (Int32.toNatClampNeg x2) + x3)) 15 (Int32.toNatClampNeg x2) (-1)) 16 (Int32.toNatClampNeg x2) 0) (Int32.toNatClampNeg x1) (Int32.toNatClampNeg x2), S.2)) w5 f5 (fun s _ _ => by rw [g5]) rfl (fun k hk => by show tiresS (up2 (up2 (up2 (up2 S.1 7 0 (sdC (S.1 7 0))) 14 (Int32.toNatClampNeg x2) (S.1 14 (Int32.toNatClampNeg x2) + x3)) 15 (Int32.toNatClampNeg x2) (-1)) 16 (Int32.toNatClampNeg x2) 0) (Int32.toNatClampNeg x1) (Int32.toNatClampNeg x2) k = (up2 (up2 (up2 (up2 S.1 7 0 (sdC (S.1 7 0))) 14 (Int32.toNatClampNeg x2) (S.1 14 (Int32.toNatClampNeg x2) + x3)) 15 (Int32.toNatClampNeg x2) (-1)) 16 (Int32.toNatClampNeg x2) 0) k; unfold tiresS; rw [up2_ne (by omega)])
          refine r_aload_n (pc := 142) dX0_toss_142 rfl ?_
          refine r_getR (pc := 143) dX0_toss_143 fl_X0_90_0 hx5.1.2.1 (fun _ _ => rfl) hx5.2.2.1.1 ?_
          refine r_dup (pc := 146) dX0_toss_146 rfl ?_
          refine r_getIe (pc := 147) (v := S.1 8 0) dX0_toss_147 fl_X0_314_3 hx5.2.2.1.2.2.k (fun _ _ => rfl) hx5.2.2.1.2.2.i7 ?_
          refine r_iconst (pc := 150) (v := 1) dX0_toss_150 (by decide) ?_
          refine r_iadd (pc := 151) dX0_toss_151 ?_
          refine r_putI (pc := 152) dX0_toss_152 fl_X0_314_3 hx5.2.2.1.2.2.k rfl rfl ?_
          have hx6 := hx5.world (S' := (up2 (tiresS (up2 (up2 (up2 (up2 S.1 7 0 (sdC (S.1 7 0))) 14 (Int32.toNatClampNeg x2) (S.1 14 (Int32.toNatClampNeg x2) + x3)) 15 (Int32.toNatClampNeg x2) (-1)) 16 (Int32.toNatClampNeg x2) 0) (Int32.toNatClampNeg x1) (Int32.toNatClampNeg x2)) 8 0 (S.1 8 0 + 1), S.2)) (WX.s8 w5) (frP.rf.sI fun _ => inW_0) (fun _ _ _ => rfl) rfl (fun k hk => by show (up2 (tiresS (up2 (up2 (up2 (up2 S.1 7 0 (sdC (S.1 7 0))) 14 (Int32.toNatClampNeg x2) (S.1 14 (Int32.toNatClampNeg x2) + x3)) 15 (Int32.toNatClampNeg x2) (-1)) 16 (Int32.toNatClampNeg x2) 0) (Int32.toNatClampNeg x1) (Int32.toNatClampNeg x2)) 8 0 (S.1 8 0 + 1)) k = (tiresS (up2 (up2 (up2 (up2 S.1 7 0 (sdC (S.1 7 0))) 14 (Int32.toNatClampNeg x2) (S.1 14 (Int32.toNatClampNeg x2) + x3)) 15 (Int32.toNatClampNeg x2) (-1)) 16 (Int32.toNatClampNeg x2) 0) (Int32.toNatClampNeg x1) (Int32.toNatClampNeg x2)) k; rw [up2_ne (by omega)])
          refine r_iload (pc := 155) dX0_toss_155 rfl ?_
          refine r_if_eq (pc := 157) 164 dX0_toss_157 rfl (fun _ => ?_) (fun hno => absurd hno (by decide))
          refine r_iconst (pc := 164) (v := 0) dX0_toss_164 (by decide) ?_
          refine r_ireturn (pc := 165) rfl dX0_toss_165 ⟨_, rfl, ?_⟩
          exact (show oX xo mo Z (tossS S x1 x2 x3) _ _ by unfold tossS; rw [cI_f (n_or hy), cI_f (br_00 hz), cI_f hct, cI_f hgl, ← toss_0 (σ := S.1) (m := x1) (t := x2) (d := x3) hz.2.2]; exact ⟨rfl, wa, hx6⟩)
        have K1 : S.1 11 (Int32.toNatClampNeg x2) = 4 → Wx (YX0_toss, (7, 166, 2, 14), qi (fun r M' => oX xo mo Z (tossS S x1 x2 x3) r M'), noX) 0 0 (sI (sI M59 (wa + 2) (Int32.toNatClampNeg x2) (S.1 14 (Int32.toNatClampNeg x2) + x3)) (wa + 3) (Int32.toNatClampNeg x2) (-1)) 124 [some (.ref xo), some (.int x1), some (.int x2), some (.int x3), some (.int 0)] [.int 1, .int x2, .ref (wa + 4)] := by
          intro hgl
          refine r_if_eq (pc := 124) 131 dX0_toss_124 rfl (fun hno => absurd hno (by decide)) (fun _ => ?_)
          refine r_iconst (pc := 127) (v := 1) dX0_toss_127 (by decide) ?_
          refine r_goto (pc := 128) 132 dX0_toss_128 rfl ?_
          refine r_zast (pc := 132) dX0_toss_132 hx3.2.2.1.2.2.k12 hx3.2.2.1.2.2.z12 (hB.vt hy.2) ?_
          have hx4 := hx3.put (k := 16) (i := (Int32.toNatClampNeg x2)) (v := 1) (by decide) (by decide)
          refine r_aload_n (pc := 133) dX0_toss_133 rfl ?_
          refine r_getR (pc := 134) dX0_toss_134 fl_X0_90_0 hx4.1.2.1 (fun _ _ => rfl) hx4.2.2.1.1 ?_
          refine r_iload_n (pc := 137) dX0_toss_137 rfl ?_
          refine r_iload_n (pc := 138) dX0_toss_138 rfl ?_
          refine r_o3 (pc := 139) (bc' := 0) (bs' := 0) (ct_X3_tires hx4.2.2.1.2.2 x1 x2 ((((hB.u (Or.inr ⟨by decide, by decide⟩)).u (Or.inl (by decide))).u (Or.inl (by decide))).u (Or.inl (by decide))) hy.1 hy.2) k_X0_375_3 dX0_toss_139 hx4.2.2.1.2.2.k (Nat.le_of_ble_eq_true rfl) ⟨Nat.le_of_ble_eq_true rfl, Nat.le_of_ble_eq_true rfl⟩ ⟨Nat.le_of_ble_eq_true rfl, Nat.le_of_ble_eq_true rfl⟩ (r_cv fun M139 p139 => ?_) nox
          obtain ⟨w5, f5, g5⟩ := p139
          have hx5 := hx4.world (S' := (tiresS (up2 (up2 (up2 (up2 S.1 7 0 (sdC (S.1 7 0))) 14 (Int32.toNatClampNeg x2) (S.1 14 (Int32.toNatClampNeg x2) + x3)) 15 (Int32.toNatClampNeg x2) (-1)) 16 (Int32.toNatClampNeg x2) 1) (Int32.toNatClampNeg x1) (Int32.toNatClampNeg x2), S.2)) w5 f5 (fun s _ _ => by rw [g5]) rfl (fun k hk => by show tiresS (up2 (up2 (up2 (up2 S.1 7 0 (sdC (S.1 7 0))) 14 (Int32.toNatClampNeg x2) (S.1 14 (Int32.toNatClampNeg x2) + x3)) 15 (Int32.toNatClampNeg x2) (-1)) 16 (Int32.toNatClampNeg x2) 1) (Int32.toNatClampNeg x1) (Int32.toNatClampNeg x2) k = (up2 (up2 (up2 (up2 S.1 7 0 (sdC (S.1 7 0))) 14 (Int32.toNatClampNeg x2) (S.1 14 (Int32.toNatClampNeg x2) + x3)) 15 (Int32.toNatClampNeg x2) (-1)) 16 (Int32.toNatClampNeg x2) 1) k; unfold tiresS; rw [up2_ne (by omega)])
          refine r_aload_n (pc := 142) dX0_toss_142 rfl ?_
          refine r_getR (pc := 143) dX0_toss_143 fl_X0_90_0 hx5.1.2.1 (fun _ _ => rfl) hx5.2.2.1.1 ?_
          refine r_dup (pc := 146) dX0_toss_146 rfl ?_
          refine r_getIe (pc := 147) (v := S.1 8 0) dX0_toss_147 fl_X0_314_3 hx5.2.2.1.2.2.k (fun _ _ => rfl) hx5.2.2.1.2.2.i7 ?_
          refine r_iconst (pc := 150) (v := 1) dX0_toss_150 (by decide) ?_
          refine r_iadd (pc := 151) dX0_toss_151 ?_
          refine r_putI (pc := 152) dX0_toss_152 fl_X0_314_3 hx5.2.2.1.2.2.k rfl rfl ?_
          have hx6 := hx5.world (S' := (up2 (tiresS (up2 (up2 (up2 (up2 S.1 7 0 (sdC (S.1 7 0))) 14 (Int32.toNatClampNeg x2) (S.1 14 (Int32.toNatClampNeg x2) + x3)) 15 (Int32.toNatClampNeg x2) (-1)) 16 (Int32.toNatClampNeg x2) 1) (Int32.toNatClampNeg x1) (Int32.toNatClampNeg x2)) 8 0 (S.1 8 0 + 1), S.2)) (WX.s8 w5) (frP.rf.sI fun _ => inW_0) (fun _ _ _ => rfl) rfl (fun k hk => by show (up2 (tiresS (up2 (up2 (up2 (up2 S.1 7 0 (sdC (S.1 7 0))) 14 (Int32.toNatClampNeg x2) (S.1 14 (Int32.toNatClampNeg x2) + x3)) 15 (Int32.toNatClampNeg x2) (-1)) 16 (Int32.toNatClampNeg x2) 1) (Int32.toNatClampNeg x1) (Int32.toNatClampNeg x2)) 8 0 (S.1 8 0 + 1)) k = (tiresS (up2 (up2 (up2 (up2 S.1 7 0 (sdC (S.1 7 0))) 14 (Int32.toNatClampNeg x2) (S.1 14 (Int32.toNatClampNeg x2) + x3)) 15 (Int32.toNatClampNeg x2) (-1)) 16 (Int32.toNatClampNeg x2) 1) (Int32.toNatClampNeg x1) (Int32.toNatClampNeg x2)) k; rw [up2_ne (by omega)])
          refine r_iload (pc := 155) dX0_toss_155 rfl ?_
          refine r_if_eq (pc := 157) 164 dX0_toss_157 rfl (fun _ => ?_) (fun hno => absurd hno (by decide))
          refine r_iconst (pc := 164) (v := 0) dX0_toss_164 (by decide) ?_
          refine r_ireturn (pc := 165) rfl dX0_toss_165 ⟨_, rfl, ?_⟩
          exact (show oX xo mo Z (tossS S x1 x2 x3) _ _ by unfold tossS; rw [cI_f (n_or hy), cI_f (br_00 hz), cI_f hct, cI_t hgl, ← toss_1 (σ := S.1) (m := x1) (t := x2) (d := x3)]; exact ⟨rfl, wa, hx6⟩)
        rcases kd7 (hB.2 _ (ix_lt hy.2.1 hy.2.2)).1 with e7 | e7 | e7 | e7 | e7 | e7 | e7
        · have hK7 := hT.k (k := 0) e7 (c := 12) rfl
          refine r_o1 (pc := 121) (bc' := 0) (bs' := 0) (ct_X12_breaks_12 hK7) k_X0_372_12 dX0_toss_121 hK7 (Nat.le_of_ble_eq_true rfl) ⟨Nat.le_of_ble_eq_true rfl, Nat.le_of_ble_eq_true rfl⟩ ⟨Nat.le_of_ble_eq_true rfl, Nat.le_of_ble_eq_true rfl⟩ (r_ci fun r7 M7 p7 => ?_) nox
          obtain ⟨rfl, p7⟩ := p7
          have p7 := Eq.symm (show _ = _ from p7)
          subst p7
          exact K0 (by rw [e7]; decide)
        · have hK7 := hT.k (k := 1) e7 (c := 13) rfl
          refine r_o1 (pc := 121) (bc' := 0) (bs' := 0) (ct_X12_breaks_13 hK7) k_X0_372_13 dX0_toss_121 hK7 (Nat.le_of_ble_eq_true rfl) ⟨Nat.le_of_ble_eq_true rfl, Nat.le_of_ble_eq_true rfl⟩ ⟨Nat.le_of_ble_eq_true rfl, Nat.le_of_ble_eq_true rfl⟩ (r_ci fun r7 M7 p7 => ?_) nox
          obtain ⟨rfl, p7⟩ := p7
          have p7 := Eq.symm (show _ = _ from p7)
          subst p7
          exact K0 (by rw [e7]; decide)
        · have hK7 := hT.k (k := 2) e7 (c := 14) rfl
          refine r_o1 (pc := 121) (bc' := 0) (bs' := 0) (ct_X12_breaks_14 hK7) k_X0_372_14 dX0_toss_121 hK7 (Nat.le_of_ble_eq_true rfl) ⟨Nat.le_of_ble_eq_true rfl, Nat.le_of_ble_eq_true rfl⟩ ⟨Nat.le_of_ble_eq_true rfl, Nat.le_of_ble_eq_true rfl⟩ (r_ci fun r7 M7 p7 => ?_) nox
          obtain ⟨rfl, p7⟩ := p7
          have p7 := Eq.symm (show _ = _ from p7)
          subst p7
          exact K0 (by rw [e7]; decide)
        · have hK7 := hT.k (k := 3) e7 (c := 15) rfl
          refine r_o1 (pc := 121) (bc' := 0) (bs' := 0) (ct_X12_breaks_15 hK7) k_X0_372_15 dX0_toss_121 hK7 (Nat.le_of_ble_eq_true rfl) ⟨Nat.le_of_ble_eq_true rfl, Nat.le_of_ble_eq_true rfl⟩ ⟨Nat.le_of_ble_eq_true rfl, Nat.le_of_ble_eq_true rfl⟩ (r_ci fun r7 M7 p7 => ?_) nox
          obtain ⟨rfl, p7⟩ := p7
          have p7 := Eq.symm (show _ = _ from p7)
          subst p7
          exact K0 (by rw [e7]; decide)
        · have hK7 := hT.k (k := 4) e7 (c := 16) rfl
          refine r_o1 (pc := 121) (bc' := 0) (bs' := 0) (ct_X16_breaks_16 hK7) k_X0_372_16 dX0_toss_121 hK7 (Nat.le_of_ble_eq_true rfl) ⟨Nat.le_of_ble_eq_true rfl, Nat.le_of_ble_eq_true rfl⟩ ⟨Nat.le_of_ble_eq_true rfl, Nat.le_of_ble_eq_true rfl⟩ (r_ci fun r7 M7 p7 => ?_) nox
          obtain ⟨rfl, p7⟩ := p7
          have p7 := Eq.symm (show _ = _ from p7)
          subst p7
          exact K1 e7
        · have hK7 := hT.k (k := 5) e7 (c := 17) rfl
          refine r_o1 (pc := 121) (bc' := 0) (bs' := 0) (ct_X12_breaks_17 hK7) k_X0_372_17 dX0_toss_121 hK7 (Nat.le_of_ble_eq_true rfl) ⟨Nat.le_of_ble_eq_true rfl, Nat.le_of_ble_eq_true rfl⟩ ⟨Nat.le_of_ble_eq_true rfl, Nat.le_of_ble_eq_true rfl⟩ (r_ci fun r7 M7 p7 => ?_) nox
          obtain ⟨rfl, p7⟩ := p7
          have p7 := Eq.symm (show _ = _ from p7)
          subst p7
          exact K0 (by rw [e7]; decide)
        · have hK7 := hT.k (k := 6) e7 (c := 18) rfl
          refine r_o1 (pc := 121) (bc' := 0) (bs' := 0) (ct_X12_breaks_18 hK7) k_X0_372_18 dX0_toss_121 hK7 (Nat.le_of_ble_eq_true rfl) ⟨Nat.le_of_ble_eq_true rfl, Nat.le_of_ble_eq_true rfl⟩ ⟨Nat.le_of_ble_eq_true rfl, Nat.le_of_ble_eq_true rfl⟩ (r_ci fun r7 M7 p7 => ?_) nox
          obtain ⟨rfl, p7⟩ := p7
          have p7 := Eq.symm (show _ = _ from p7)
          subst p7
          exact K0 (by rw [e7]; decide)
      · have hct : drC (S.1 7 0) 10 < caughtC x3 (farS S.1 (Int32.toNatClampNeg x1) (Int32.toNatClampNeg x2)) := by rw [hcE]; exact h66
        refine r_iconst (pc := 69) (v := 1) dX0_toss_69 (by decide) ?_
        refine r_goto (pc := 70) 74 dX0_toss_70 rfl ?_
        refine r_istore4 (pc := 74) dX0_toss_74 rfl ?_
        refine r_aload_n (pc := 76) dX0_toss_76 rfl ?_
        refine r_getR (pc := 77) dX0_toss_77 fl_X0_90_0 hx1.1.2.1 (fun _ _ => rfl) hx1.2.2.1.1 ?_
        refine r_getR (pc := 80) dX0_toss_80 fl_X0_132_3 hx1.2.2.1.2.2.k (fun _ _ => rfl) hx1.2.2.1.2.2.r10 ?_
        refine r_iload_n (pc := 83) dX0_toss_83 rfl ?_
        refine r_dup2 (pc := 84) dX0_toss_84 rfl rfl ?_
        refine r_ialdv (pc := 85) (v := S.1 14 (Int32.toNatClampNeg x2)) dX0_toss_85 hx1.2.2.1.2.2.k10 hx1.2.2.1.2.2.z10 (hB.vt hy.2) (hx1.2.2.1.2.2.a14 hy.2) ?_
        refine r_iload_n (pc := 86) dX0_toss_86 rfl ?_
        refine r_iadd (pc := 87) dX0_toss_87 ?_
        refine r_iast (pc := 88) dX0_toss_88 hx1.2.2.1.2.2.k10 hx1.2.2.1.2.2.z10 (hB.vt hy.2) ?_
        have hx2 := hx1.put (k := 14) (i := (Int32.toNatClampNeg x2)) (v := S.1 14 (Int32.toNatClampNeg x2) + x3) (by decide) (by decide)
        refine r_aload_n (pc := 89) dX0_toss_89 rfl ?_
        refine r_getR (pc := 90) dX0_toss_90 fl_X0_90_0 hx2.1.2.1 (fun _ _ => rfl) hx2.2.2.1.1 ?_
        refine r_getR (pc := 93) dX0_toss_93 fl_X0_262_3 hx2.2.2.1.2.2.k (fun _ _ => rfl) hx2.2.2.1.2.2.r11 ?_
        refine r_iload_n (pc := 96) dX0_toss_96 rfl ?_
        refine r_iconst (pc := 97) (v := (-1)) dX0_toss_97 (by decide) ?_
        refine r_iast (pc := 98) dX0_toss_98 hx2.2.2.1.2.2.k11 hx2.2.2.1.2.2.z11 (hB.vt hy.2) ?_
        have hx3 := hx2.put (k := 15) (i := (Int32.toNatClampNeg x2)) (v := -1) (by decide) (by decide)
        refine r_aload_n (pc := 99) dX0_toss_99 rfl ?_
        refine r_getR (pc := 100) dX0_toss_100 fl_X0_90_0 hx3.1.2.1 (fun _ _ => rfl) hx3.2.2.1.1 ?_
        refine r_getR (pc := 103) dX0_toss_103 fl_X0_265_3 hx3.2.2.1.2.2.k (fun _ _ => rfl) hx3.2.2.1.2.2.r12 ?_
        refine r_iload_n (pc := 106) dX0_toss_106 rfl ?_
        refine r_iload (pc := 107) dX0_toss_107 rfl ?_
        refine r_if_ne (pc := 109) 131 dX0_toss_109 rfl (fun _ => ?_) (fun hno => absurd hno (by decide))
        refine r_iconst (pc := 131) (v := 0) dX0_toss_131 (by decide) ?_
        refine r_zast (pc := 132) dX0_toss_132 hx3.2.2.1.2.2.k12 hx3.2.2.1.2.2.z12 (hB.vt hy.2) ?_
        have hx4 := hx3.put (k := 16) (i := (Int32.toNatClampNeg x2)) (v := 0) (by decide) (by decide)
        refine r_aload_n (pc := 133) dX0_toss_133 rfl ?_
        refine r_getR (pc := 134) dX0_toss_134 fl_X0_90_0 hx4.1.2.1 (fun _ _ => rfl) hx4.2.2.1.1 ?_
        refine r_iload_n (pc := 137) dX0_toss_137 rfl ?_
        refine r_iload_n (pc := 138) dX0_toss_138 rfl ?_
        refine r_o3 (pc := 139) (bc' := 0) (bs' := 0) (ct_X3_tires hx4.2.2.1.2.2 x1 x2 ((((hB.u (Or.inr ⟨by decide, by decide⟩)).u (Or.inl (by decide))).u (Or.inl (by decide))).u (Or.inl (by decide))) hy.1 hy.2) k_X0_375_3 dX0_toss_139 hx4.2.2.1.2.2.k (Nat.le_of_ble_eq_true rfl) ⟨Nat.le_of_ble_eq_true rfl, Nat.le_of_ble_eq_true rfl⟩ ⟨Nat.le_of_ble_eq_true rfl, Nat.le_of_ble_eq_true rfl⟩ (r_cv fun M139 p139 => ?_) nox
        obtain ⟨w5, f5, g5⟩ := p139
        have hx5 := hx4.world (S' := (tiresS (up2 (up2 (up2 (up2 S.1 7 0 (sdC (S.1 7 0))) 14 (Int32.toNatClampNeg x2) (S.1 14 (Int32.toNatClampNeg x2) + x3)) 15 (Int32.toNatClampNeg x2) (-1)) 16 (Int32.toNatClampNeg x2) 0) (Int32.toNatClampNeg x1) (Int32.toNatClampNeg x2), S.2)) w5 f5 (fun s _ _ => by rw [g5]) rfl (fun k hk => by show tiresS (up2 (up2 (up2 (up2 S.1 7 0 (sdC (S.1 7 0))) 14 (Int32.toNatClampNeg x2) (S.1 14 (Int32.toNatClampNeg x2) + x3)) 15 (Int32.toNatClampNeg x2) (-1)) 16 (Int32.toNatClampNeg x2) 0) (Int32.toNatClampNeg x1) (Int32.toNatClampNeg x2) k = (up2 (up2 (up2 (up2 S.1 7 0 (sdC (S.1 7 0))) 14 (Int32.toNatClampNeg x2) (S.1 14 (Int32.toNatClampNeg x2) + x3)) 15 (Int32.toNatClampNeg x2) (-1)) 16 (Int32.toNatClampNeg x2) 0) k; unfold tiresS; rw [up2_ne (by omega)])
        refine r_aload_n (pc := 142) dX0_toss_142 rfl ?_
        refine r_getR (pc := 143) dX0_toss_143 fl_X0_90_0 hx5.1.2.1 (fun _ _ => rfl) hx5.2.2.1.1 ?_
        refine r_dup (pc := 146) dX0_toss_146 rfl ?_
        refine r_getIe (pc := 147) (v := S.1 8 0) dX0_toss_147 fl_X0_314_3 hx5.2.2.1.2.2.k (fun _ _ => rfl) hx5.2.2.1.2.2.i7 ?_
        refine r_iconst (pc := 150) (v := 1) dX0_toss_150 (by decide) ?_
        refine r_iadd (pc := 151) dX0_toss_151 ?_
        refine r_putI (pc := 152) dX0_toss_152 fl_X0_314_3 hx5.2.2.1.2.2.k rfl rfl ?_
        have hx6 := hx5.world (S' := (up2 (tiresS (up2 (up2 (up2 (up2 S.1 7 0 (sdC (S.1 7 0))) 14 (Int32.toNatClampNeg x2) (S.1 14 (Int32.toNatClampNeg x2) + x3)) 15 (Int32.toNatClampNeg x2) (-1)) 16 (Int32.toNatClampNeg x2) 0) (Int32.toNatClampNeg x1) (Int32.toNatClampNeg x2)) 8 0 (S.1 8 0 + 1), S.2)) (WX.s8 w5) (frP.rf.sI fun _ => inW_0) (fun _ _ _ => rfl) rfl (fun k hk => by show (up2 (tiresS (up2 (up2 (up2 (up2 S.1 7 0 (sdC (S.1 7 0))) 14 (Int32.toNatClampNeg x2) (S.1 14 (Int32.toNatClampNeg x2) + x3)) 15 (Int32.toNatClampNeg x2) (-1)) 16 (Int32.toNatClampNeg x2) 0) (Int32.toNatClampNeg x1) (Int32.toNatClampNeg x2)) 8 0 (S.1 8 0 + 1)) k = (tiresS (up2 (up2 (up2 (up2 S.1 7 0 (sdC (S.1 7 0))) 14 (Int32.toNatClampNeg x2) (S.1 14 (Int32.toNatClampNeg x2) + x3)) 15 (Int32.toNatClampNeg x2) (-1)) 16 (Int32.toNatClampNeg x2) 0) (Int32.toNatClampNeg x1) (Int32.toNatClampNeg x2)) k; rw [up2_ne (by omega)])
        refine r_iload (pc := 155) dX0_toss_155 rfl ?_
        refine r_if_eq (pc := 157) 164 dX0_toss_157 rfl (fun hno => absurd hno (by decide)) (fun _ => ?_)
        refine r_iconst (pc := 160) (v := 1) dX0_toss_160 (by decide) ?_
        refine r_goto (pc := 161) 165 dX0_toss_161 rfl ?_
        refine r_ireturn (pc := 165) rfl dX0_toss_165 ⟨_, rfl, ?_⟩
        exact (show oX xo mo Z (tossS S x1 x2 x3) _ _ by unfold tossS; rw [cI_f (n_or hy), cI_f (br_00 hz), cI_t hct, ← toss_0 (σ := S.1) (m := x1) (t := x2) (d := x3) hz.2.2]; exact ⟨rfl, wa, hx6⟩)
    · rw [bI_ne0] at h28
      refine r_aload_n (pc := 31) dX0_toss_31 rfl ?_
      refine r_getR (pc := 32) dX0_toss_32 fl_X0_90_0 hx.1.2.1 (fun _ _ => rfl) hx.2.2.1.1 ?_
      refine r_getR (pc := 35) dX0_toss_35 fl_X0_265_3 hx.2.2.1.2.2.k (fun _ _ => rfl) hx.2.2.1.2.2.r12 ?_
      refine r_iload_n (pc := 38) dX0_toss_38 rfl ?_
      refine r_zaldv (pc := 39) (v := S.1 16 (Int32.toNatClampNeg x2)) dX0_toss_39 hx.2.2.1.2.2.k12 hx.2.2.1.2.2.z12 (hB.vt hy.2) (hx.2.2.1.2.2.a16 hy.2) ?_
      refine r_if_ne (pc := 40) 47 dX0_toss_40 rfl (fun h40 => ?_) (fun h40 => ?_)
      · refine r_iconst (pc := 47) (v := 0) dX0_toss_47 (by decide) ?_
        refine r_eqi (bI ((¬ x3 < 1 ∧ ¬ 40 < x3) ∧ throwP S.1 x1 x2 x3 ∧ S.1 16 (Int32.toNatClampNeg x2) = 0)) (by first | exact bI_t' ⟨h15, h28, h40⟩ | exact bI_f' (fun hh => h15 hh.1) | exact bI_f' (fun hh => h28 hh.2.1) | exact bI_f' (fun hh => h40 hh.2.2)) ?_
        refine r_bipush (pc := 48) (v := (-6)) dX0_toss_48 (by decide) ?_
        refine r_s2 (pc := 50) (bc' := 0) (bs' := 0) (ct_X0_need _ _) k_X0_115 dX0_toss_50 (Nat.le_of_ble_eq_true rfl) ⟨Nat.le_of_ble_eq_true rfl, Nat.le_of_ble_eq_true rfl⟩ ⟨Nat.le_of_ble_eq_true rfl, Nat.le_of_ble_eq_true rfl⟩ (r_cv fun M50 p50 => ?_) (fun q E M9 h8 => by have h9 := And.intro (bI_eq0.mp h8.1) (hx.rf h8.2); obtain ⟨hn9, rfl, k9, w9, o9⟩ := h9; exact t_catch [] _ _ _ rfl (fun z hz => absurd hz List.not_mem_nil) rfl (by decide) q305 q389 ((hC M9 q _ _ k9 w9 (by decide) o9 (by unfold tossS; rw [cI_f (n_or hy), cI_t (br_01 hS.1 hy.2 hn9)])).loose (Nat.zero_le _) (Nat.zero_le _)))
        obtain ⟨hz, p50⟩ := p50
        have p50 := Eq.symm (show _ = _ from p50)
        subst p50
        rw [bI_ne0] at hz
        refine r_aload_n (pc := 53) dX0_toss_53 rfl ?_
        refine r_getR (pc := 54) dX0_toss_54 fl_X0_90_0 hx.1.2.1 (fun _ _ => rfl) hx.2.2.1.1 ?_
        refine r_bipush (pc := 57) (v := 10) dX0_toss_57 (by decide) ?_
        refine r_o2 (pc := 59) (bc' := 0) (bs' := 0) (ct_X3_draw hx.2.2.1.2.2 10 (by decide)) k_X0_369_3 dX0_toss_59 hx.2.2.1.2.2.k (Nat.le_of_ble_eq_true rfl) ⟨Nat.le_of_ble_eq_true rfl, Nat.le_of_ble_eq_true rfl⟩ ⟨Nat.le_of_ble_eq_true rfl, Nat.le_of_ble_eq_true rfl⟩ (r_ci fun r59 M59 p59 => ?_) nox
        obtain ⟨rfl, w1, f1, g1⟩ := p59
        have hx1 := hx.world (S' := (up2 S.1 7 0 (sdC (S.1 7 0)), S.2)) w1 f1 (fun s _ _ => by rw [g1]) rfl (fun k hk => up2_ne (by omega))
        have hcE : caughtC x3 (farS S.1 (Int32.toNatClampNeg x1) (Int32.toNatClampNeg x2)) = (if (10 - x3 / 4 : Int32) < 0 then 0 else 10 - x3 / 4) := by unfold caughtC; rw [if_neg hz.2.1.1]
        refine r_iload_n (pc := 62) dX0_toss_62 rfl ?_
        refine r_s1 (pc := 63) (bc' := 0) (bs' := 0) (ct_X0_caughtBy x3) k_X0_360 dX0_toss_63 (Nat.le_of_ble_eq_true rfl) ⟨Nat.le_of_ble_eq_true rfl, Nat.le_of_ble_eq_true rfl⟩ ⟨Nat.le_of_ble_eq_true rfl, Nat.le_of_ble_eq_true rfl⟩ (r_ci fun r63 M63 p63 => ?_) nox
        obtain ⟨rfl, p63⟩ := p63
        have p63 := Eq.symm (show _ = _ from p63)
        subst p63
        refine r_icmp_ge (pc := 66) 73 dX0_toss_66 rfl (fun h66 => ?_) (fun h66 => ?_)
        · have hct : ¬ drC (S.1 7 0) 10 < caughtC x3 (farS S.1 (Int32.toNatClampNeg x1) (Int32.toNatClampNeg x2)) := by rw [hcE]; exact h66
          refine r_iconst (pc := 73) (v := 0) dX0_toss_73 (by decide) ?_
          refine r_istore4 (pc := 74) dX0_toss_74 rfl ?_
          refine r_aload_n (pc := 76) dX0_toss_76 rfl ?_
          refine r_getR (pc := 77) dX0_toss_77 fl_X0_90_0 hx1.1.2.1 (fun _ _ => rfl) hx1.2.2.1.1 ?_
          refine r_getR (pc := 80) dX0_toss_80 fl_X0_132_3 hx1.2.2.1.2.2.k (fun _ _ => rfl) hx1.2.2.1.2.2.r10 ?_
          refine r_iload_n (pc := 83) dX0_toss_83 rfl ?_
          refine r_dup2 (pc := 84) dX0_toss_84 rfl rfl ?_
          refine r_ialdv (pc := 85) (v := S.1 14 (Int32.toNatClampNeg x2)) dX0_toss_85 hx1.2.2.1.2.2.k10 hx1.2.2.1.2.2.z10 (hB.vt hy.2) (hx1.2.2.1.2.2.a14 hy.2) ?_
          refine r_iload_n (pc := 86) dX0_toss_86 rfl ?_
          refine r_iadd (pc := 87) dX0_toss_87 ?_
          refine r_iast (pc := 88) dX0_toss_88 hx1.2.2.1.2.2.k10 hx1.2.2.1.2.2.z10 (hB.vt hy.2) ?_
          have hx2 := hx1.put (k := 14) (i := (Int32.toNatClampNeg x2)) (v := S.1 14 (Int32.toNatClampNeg x2) + x3) (by decide) (by decide)
          refine r_aload_n (pc := 89) dX0_toss_89 rfl ?_
          refine r_getR (pc := 90) dX0_toss_90 fl_X0_90_0 hx2.1.2.1 (fun _ _ => rfl) hx2.2.2.1.1 ?_
          refine r_getR (pc := 93) dX0_toss_93 fl_X0_262_3 hx2.2.2.1.2.2.k (fun _ _ => rfl) hx2.2.2.1.2.2.r11 ?_
          refine r_iload_n (pc := 96) dX0_toss_96 rfl ?_
          refine r_iconst (pc := 97) (v := (-1)) dX0_toss_97 (by decide) ?_
          refine r_iast (pc := 98) dX0_toss_98 hx2.2.2.1.2.2.k11 hx2.2.2.1.2.2.z11 (hB.vt hy.2) ?_
          have hx3 := hx2.put (k := 15) (i := (Int32.toNatClampNeg x2)) (v := -1) (by decide) (by decide)
          refine r_aload_n (pc := 99) dX0_toss_99 rfl ?_
          refine r_getR (pc := 100) dX0_toss_100 fl_X0_90_0 hx3.1.2.1 (fun _ _ => rfl) hx3.2.2.1.1 ?_
          refine r_getR (pc := 103) dX0_toss_103 fl_X0_265_3 hx3.2.2.1.2.2.k (fun _ _ => rfl) hx3.2.2.1.2.2.r12 ?_
          refine r_iload_n (pc := 106) dX0_toss_106 rfl ?_
          refine r_iload (pc := 107) dX0_toss_107 rfl ?_
          refine r_if_ne (pc := 109) 131 dX0_toss_109 rfl (fun hno => absurd hno (by decide)) (fun _ => ?_)
          refine r_aload_n (pc := 112) dX0_toss_112 rfl ?_
          refine r_getR (pc := 113) dX0_toss_113 fl_X0_90_0 hx3.1.2.1 (fun _ _ => rfl) hx3.2.2.1.1 ?_
          refine r_getR (pc := 116) dX0_toss_116 fl_X0_119_3 hx3.2.2.1.2.2.k (fun _ _ => rfl) hx3.2.2.1.2.2.r9 ?_
          refine r_iload_n (pc := 119) dX0_toss_119 rfl ?_
          obtain ⟨ta, hr, hT⟩ := hx3.2.2.1.2.2.th (t := x2) hy.2
          refine r_aaldR (pc := 120) dX0_toss_120 hx3.2.2.1.2.2.k9 rfl hx3.2.2.1.2.2.z9 (hB.vt hy.2) hr ?_
          have K0 : ¬ S.1 11 (Int32.toNatClampNeg x2) = 4 → Wx (YX0_toss, (7, 166, 2, 14), qi (fun r M' => oX xo mo Z (tossS S x1 x2 x3) r M'), noX) 0 0 (sI (sI M59 (wa + 2) (Int32.toNatClampNeg x2) (S.1 14 (Int32.toNatClampNeg x2) + x3)) (wa + 3) (Int32.toNatClampNeg x2) (-1)) 124 [some (.ref xo), some (.int x1), some (.int x2), some (.int x3), some (.int 0)] [.int 0, .int x2, .ref (wa + 4)] := by
            intro hgl
            refine r_if_eq (pc := 124) 131 dX0_toss_124 rfl (fun _ => ?_) (fun hno => absurd hno (by decide))
            refine r_iconst (pc := 131) (v := 0) dX0_toss_131 (by decide) ?_
            refine r_zast (pc := 132) dX0_toss_132 hx3.2.2.1.2.2.k12 hx3.2.2.1.2.2.z12 (hB.vt hy.2) ?_
            have hx4 := hx3.put (k := 16) (i := (Int32.toNatClampNeg x2)) (v := 0) (by decide) (by decide)
            refine r_aload_n (pc := 133) dX0_toss_133 rfl ?_
            refine r_getR (pc := 134) dX0_toss_134 fl_X0_90_0 hx4.1.2.1 (fun _ _ => rfl) hx4.2.2.1.1 ?_
            refine r_iload_n (pc := 137) dX0_toss_137 rfl ?_
            refine r_iload_n (pc := 138) dX0_toss_138 rfl ?_
            refine r_o3 (pc := 139) (bc' := 0) (bs' := 0) (ct_X3_tires hx4.2.2.1.2.2 x1 x2 ((((hB.u (Or.inr ⟨by decide, by decide⟩)).u (Or.inl (by decide))).u (Or.inl (by decide))).u (Or.inl (by decide))) hy.1 hy.2) k_X0_375_3 dX0_toss_139 hx4.2.2.1.2.2.k (Nat.le_of_ble_eq_true rfl) ⟨Nat.le_of_ble_eq_true rfl, Nat.le_of_ble_eq_true rfl⟩ ⟨Nat.le_of_ble_eq_true rfl, Nat.le_of_ble_eq_true rfl⟩ (r_cv fun M139 p139 => ?_) nox
            obtain ⟨w5, f5, g5⟩ := p139
            have hx5 := hx4.world (S' := (tiresS (up2 (up2 (up2 (up2 S.1 7 0 (sdC (S.1 7 0))) 14 (Int32.toNatClampNeg x2) (S.1 14 (Int32.toNatClampNeg x2) + x3)) 15 (Int32.toNatClampNeg x2) (-1)) 16 (Int32.toNatClampNeg x2) 0) (Int32.toNatClampNeg x1) (Int32.toNatClampNeg x2), S.2)) w5 f5 (fun s _ _ => by rw [g5]) rfl (fun k hk => by show tiresS (up2 (up2 (up2 (up2 S.1 7 0 (sdC (S.1 7 0))) 14 (Int32.toNatClampNeg x2) (S.1 14 (Int32.toNatClampNeg x2) + x3)) 15 (Int32.toNatClampNeg x2) (-1)) 16 (Int32.toNatClampNeg x2) 0) (Int32.toNatClampNeg x1) (Int32.toNatClampNeg x2) k = (up2 (up2 (up2 (up2 S.1 7 0 (sdC (S.1 7 0))) 14 (Int32.toNatClampNeg x2) (S.1 14 (Int32.toNatClampNeg x2) + x3)) 15 (Int32.toNatClampNeg x2) (-1)) 16 (Int32.toNatClampNeg x2) 0) k; unfold tiresS; rw [up2_ne (by omega)])
            refine r_aload_n (pc := 142) dX0_toss_142 rfl ?_
            refine r_getR (pc := 143) dX0_toss_143 fl_X0_90_0 hx5.1.2.1 (fun _ _ => rfl) hx5.2.2.1.1 ?_
            refine r_dup (pc := 146) dX0_toss_146 rfl ?_
            refine r_getIe (pc := 147) (v := S.1 8 0) dX0_toss_147 fl_X0_314_3 hx5.2.2.1.2.2.k (fun _ _ => rfl) hx5.2.2.1.2.2.i7 ?_
            refine r_iconst (pc := 150) (v := 1) dX0_toss_150 (by decide) ?_
            refine r_iadd (pc := 151) dX0_toss_151 ?_
            refine r_putI (pc := 152) dX0_toss_152 fl_X0_314_3 hx5.2.2.1.2.2.k rfl rfl ?_
            have hx6 := hx5.world (S' := (up2 (tiresS (up2 (up2 (up2 (up2 S.1 7 0 (sdC (S.1 7 0))) 14 (Int32.toNatClampNeg x2) (S.1 14 (Int32.toNatClampNeg x2) + x3)) 15 (Int32.toNatClampNeg x2) (-1)) 16 (Int32.toNatClampNeg x2) 0) (Int32.toNatClampNeg x1) (Int32.toNatClampNeg x2)) 8 0 (S.1 8 0 + 1), S.2)) (WX.s8 w5) (frP.rf.sI fun _ => inW_0) (fun _ _ _ => rfl) rfl (fun k hk => by show (up2 (tiresS (up2 (up2 (up2 (up2 S.1 7 0 (sdC (S.1 7 0))) 14 (Int32.toNatClampNeg x2) (S.1 14 (Int32.toNatClampNeg x2) + x3)) 15 (Int32.toNatClampNeg x2) (-1)) 16 (Int32.toNatClampNeg x2) 0) (Int32.toNatClampNeg x1) (Int32.toNatClampNeg x2)) 8 0 (S.1 8 0 + 1)) k = (tiresS (up2 (up2 (up2 (up2 S.1 7 0 (sdC (S.1 7 0))) 14 (Int32.toNatClampNeg x2) (S.1 14 (Int32.toNatClampNeg x2) + x3)) 15 (Int32.toNatClampNeg x2) (-1)) 16 (Int32.toNatClampNeg x2) 0) (Int32.toNatClampNeg x1) (Int32.toNatClampNeg x2)) k; rw [up2_ne (by omega)])
            refine r_iload (pc := 155) dX0_toss_155 rfl ?_
            refine r_if_eq (pc := 157) 164 dX0_toss_157 rfl (fun _ => ?_) (fun hno => absurd hno (by decide))
            refine r_iconst (pc := 164) (v := 0) dX0_toss_164 (by decide) ?_
            refine r_ireturn (pc := 165) rfl dX0_toss_165 ⟨_, rfl, ?_⟩
            exact (show oX xo mo Z (tossS S x1 x2 x3) _ _ by unfold tossS; rw [cI_f (n_or hy), cI_f (br_00 hz), cI_f hct, cI_f hgl, ← toss_0 (σ := S.1) (m := x1) (t := x2) (d := x3) hz.2.2]; exact ⟨rfl, wa, hx6⟩)
          have K1 : S.1 11 (Int32.toNatClampNeg x2) = 4 → Wx (YX0_toss, (7, 166, 2, 14), qi (fun r M' => oX xo mo Z (tossS S x1 x2 x3) r M'), noX) 0 0 (sI (sI M59 (wa + 2) (Int32.toNatClampNeg x2) (S.1 14 (Int32.toNatClampNeg x2) + x3)) (wa + 3) (Int32.toNatClampNeg x2) (-1)) 124 [some (.ref xo), some (.int x1), some (.int x2), some (.int x3), some (.int 0)] [.int 1, .int x2, .ref (wa + 4)] := by
            intro hgl
            refine r_if_eq (pc := 124) 131 dX0_toss_124 rfl (fun hno => absurd hno (by decide)) (fun _ => ?_)
            refine r_iconst (pc := 127) (v := 1) dX0_toss_127 (by decide) ?_
            refine r_goto (pc := 128) 132 dX0_toss_128 rfl ?_
            refine r_zast (pc := 132) dX0_toss_132 hx3.2.2.1.2.2.k12 hx3.2.2.1.2.2.z12 (hB.vt hy.2) ?_
            have hx4 := hx3.put (k := 16) (i := (Int32.toNatClampNeg x2)) (v := 1) (by decide) (by decide)
            refine r_aload_n (pc := 133) dX0_toss_133 rfl ?_
            refine r_getR (pc := 134) dX0_toss_134 fl_X0_90_0 hx4.1.2.1 (fun _ _ => rfl) hx4.2.2.1.1 ?_
            refine r_iload_n (pc := 137) dX0_toss_137 rfl ?_
            refine r_iload_n (pc := 138) dX0_toss_138 rfl ?_
            refine r_o3 (pc := 139) (bc' := 0) (bs' := 0) (ct_X3_tires hx4.2.2.1.2.2 x1 x2 ((((hB.u (Or.inr ⟨by decide, by decide⟩)).u (Or.inl (by decide))).u (Or.inl (by decide))).u (Or.inl (by decide))) hy.1 hy.2) k_X0_375_3 dX0_toss_139 hx4.2.2.1.2.2.k (Nat.le_of_ble_eq_true rfl) ⟨Nat.le_of_ble_eq_true rfl, Nat.le_of_ble_eq_true rfl⟩ ⟨Nat.le_of_ble_eq_true rfl, Nat.le_of_ble_eq_true rfl⟩ (r_cv fun M139 p139 => ?_) nox
            obtain ⟨w5, f5, g5⟩ := p139
            have hx5 := hx4.world (S' := (tiresS (up2 (up2 (up2 (up2 S.1 7 0 (sdC (S.1 7 0))) 14 (Int32.toNatClampNeg x2) (S.1 14 (Int32.toNatClampNeg x2) + x3)) 15 (Int32.toNatClampNeg x2) (-1)) 16 (Int32.toNatClampNeg x2) 1) (Int32.toNatClampNeg x1) (Int32.toNatClampNeg x2), S.2)) w5 f5 (fun s _ _ => by rw [g5]) rfl (fun k hk => by show tiresS (up2 (up2 (up2 (up2 S.1 7 0 (sdC (S.1 7 0))) 14 (Int32.toNatClampNeg x2) (S.1 14 (Int32.toNatClampNeg x2) + x3)) 15 (Int32.toNatClampNeg x2) (-1)) 16 (Int32.toNatClampNeg x2) 1) (Int32.toNatClampNeg x1) (Int32.toNatClampNeg x2) k = (up2 (up2 (up2 (up2 S.1 7 0 (sdC (S.1 7 0))) 14 (Int32.toNatClampNeg x2) (S.1 14 (Int32.toNatClampNeg x2) + x3)) 15 (Int32.toNatClampNeg x2) (-1)) 16 (Int32.toNatClampNeg x2) 1) k; unfold tiresS; rw [up2_ne (by omega)])
            refine r_aload_n (pc := 142) dX0_toss_142 rfl ?_
            refine r_getR (pc := 143) dX0_toss_143 fl_X0_90_0 hx5.1.2.1 (fun _ _ => rfl) hx5.2.2.1.1 ?_
            refine r_dup (pc := 146) dX0_toss_146 rfl ?_
            refine r_getIe (pc := 147) (v := S.1 8 0) dX0_toss_147 fl_X0_314_3 hx5.2.2.1.2.2.k (fun _ _ => rfl) hx5.2.2.1.2.2.i7 ?_
            refine r_iconst (pc := 150) (v := 1) dX0_toss_150 (by decide) ?_
            refine r_iadd (pc := 151) dX0_toss_151 ?_
            refine r_putI (pc := 152) dX0_toss_152 fl_X0_314_3 hx5.2.2.1.2.2.k rfl rfl ?_
            have hx6 := hx5.world (S' := (up2 (tiresS (up2 (up2 (up2 (up2 S.1 7 0 (sdC (S.1 7 0))) 14 (Int32.toNatClampNeg x2) (S.1 14 (Int32.toNatClampNeg x2) + x3)) 15 (Int32.toNatClampNeg x2) (-1)) 16 (Int32.toNatClampNeg x2) 1) (Int32.toNatClampNeg x1) (Int32.toNatClampNeg x2)) 8 0 (S.1 8 0 + 1), S.2)) (WX.s8 w5) (frP.rf.sI fun _ => inW_0) (fun _ _ _ => rfl) rfl (fun k hk => by show (up2 (tiresS (up2 (up2 (up2 (up2 S.1 7 0 (sdC (S.1 7 0))) 14 (Int32.toNatClampNeg x2) (S.1 14 (Int32.toNatClampNeg x2) + x3)) 15 (Int32.toNatClampNeg x2) (-1)) 16 (Int32.toNatClampNeg x2) 1) (Int32.toNatClampNeg x1) (Int32.toNatClampNeg x2)) 8 0 (S.1 8 0 + 1)) k = (tiresS (up2 (up2 (up2 (up2 S.1 7 0 (sdC (S.1 7 0))) 14 (Int32.toNatClampNeg x2) (S.1 14 (Int32.toNatClampNeg x2) + x3)) 15 (Int32.toNatClampNeg x2) (-1)) 16 (Int32.toNatClampNeg x2) 1) (Int32.toNatClampNeg x1) (Int32.toNatClampNeg x2)) k; rw [up2_ne (by omega)])
            refine r_iload (pc := 155) dX0_toss_155 rfl ?_
            refine r_if_eq (pc := 157) 164 dX0_toss_157 rfl (fun _ => ?_) (fun hno => absurd hno (by decide))
            refine r_iconst (pc := 164) (v := 0) dX0_toss_164 (by decide) ?_
            refine r_ireturn (pc := 165) rfl dX0_toss_165 ⟨_, rfl, ?_⟩
            exact (show oX xo mo Z (tossS S x1 x2 x3) _ _ by unfold tossS; rw [cI_f (n_or hy), cI_f (br_00 hz), cI_f hct, cI_t hgl, ← toss_1 (σ := S.1) (m := x1) (t := x2) (d := x3)]; exact ⟨rfl, wa, hx6⟩)
          rcases kd7 (hB.2 _ (ix_lt hy.2.1 hy.2.2)).1 with e7 | e7 | e7 | e7 | e7 | e7 | e7
          · have hK7 := hT.k (k := 0) e7 (c := 12) rfl
            refine r_o1 (pc := 121) (bc' := 0) (bs' := 0) (ct_X12_breaks_12 hK7) k_X0_372_12 dX0_toss_121 hK7 (Nat.le_of_ble_eq_true rfl) ⟨Nat.le_of_ble_eq_true rfl, Nat.le_of_ble_eq_true rfl⟩ ⟨Nat.le_of_ble_eq_true rfl, Nat.le_of_ble_eq_true rfl⟩ (r_ci fun r7 M7 p7 => ?_) nox
            obtain ⟨rfl, p7⟩ := p7
            have p7 := Eq.symm (show _ = _ from p7)
            subst p7
            exact K0 (by rw [e7]; decide)
          · have hK7 := hT.k (k := 1) e7 (c := 13) rfl
            refine r_o1 (pc := 121) (bc' := 0) (bs' := 0) (ct_X12_breaks_13 hK7) k_X0_372_13 dX0_toss_121 hK7 (Nat.le_of_ble_eq_true rfl) ⟨Nat.le_of_ble_eq_true rfl, Nat.le_of_ble_eq_true rfl⟩ ⟨Nat.le_of_ble_eq_true rfl, Nat.le_of_ble_eq_true rfl⟩ (r_ci fun r7 M7 p7 => ?_) nox
            obtain ⟨rfl, p7⟩ := p7
            have p7 := Eq.symm (show _ = _ from p7)
            subst p7
            exact K0 (by rw [e7]; decide)
          · have hK7 := hT.k (k := 2) e7 (c := 14) rfl
            refine r_o1 (pc := 121) (bc' := 0) (bs' := 0) (ct_X12_breaks_14 hK7) k_X0_372_14 dX0_toss_121 hK7 (Nat.le_of_ble_eq_true rfl) ⟨Nat.le_of_ble_eq_true rfl, Nat.le_of_ble_eq_true rfl⟩ ⟨Nat.le_of_ble_eq_true rfl, Nat.le_of_ble_eq_true rfl⟩ (r_ci fun r7 M7 p7 => ?_) nox
            obtain ⟨rfl, p7⟩ := p7
            have p7 := Eq.symm (show _ = _ from p7)
            subst p7
            exact K0 (by rw [e7]; decide)
          · have hK7 := hT.k (k := 3) e7 (c := 15) rfl
            refine r_o1 (pc := 121) (bc' := 0) (bs' := 0) (ct_X12_breaks_15 hK7) k_X0_372_15 dX0_toss_121 hK7 (Nat.le_of_ble_eq_true rfl) ⟨Nat.le_of_ble_eq_true rfl, Nat.le_of_ble_eq_true rfl⟩ ⟨Nat.le_of_ble_eq_true rfl, Nat.le_of_ble_eq_true rfl⟩ (r_ci fun r7 M7 p7 => ?_) nox
            obtain ⟨rfl, p7⟩ := p7
            have p7 := Eq.symm (show _ = _ from p7)
            subst p7
            exact K0 (by rw [e7]; decide)
          · have hK7 := hT.k (k := 4) e7 (c := 16) rfl
            refine r_o1 (pc := 121) (bc' := 0) (bs' := 0) (ct_X16_breaks_16 hK7) k_X0_372_16 dX0_toss_121 hK7 (Nat.le_of_ble_eq_true rfl) ⟨Nat.le_of_ble_eq_true rfl, Nat.le_of_ble_eq_true rfl⟩ ⟨Nat.le_of_ble_eq_true rfl, Nat.le_of_ble_eq_true rfl⟩ (r_ci fun r7 M7 p7 => ?_) nox
            obtain ⟨rfl, p7⟩ := p7
            have p7 := Eq.symm (show _ = _ from p7)
            subst p7
            exact K1 e7
          · have hK7 := hT.k (k := 5) e7 (c := 17) rfl
            refine r_o1 (pc := 121) (bc' := 0) (bs' := 0) (ct_X12_breaks_17 hK7) k_X0_372_17 dX0_toss_121 hK7 (Nat.le_of_ble_eq_true rfl) ⟨Nat.le_of_ble_eq_true rfl, Nat.le_of_ble_eq_true rfl⟩ ⟨Nat.le_of_ble_eq_true rfl, Nat.le_of_ble_eq_true rfl⟩ (r_ci fun r7 M7 p7 => ?_) nox
            obtain ⟨rfl, p7⟩ := p7
            have p7 := Eq.symm (show _ = _ from p7)
            subst p7
            exact K0 (by rw [e7]; decide)
          · have hK7 := hT.k (k := 6) e7 (c := 18) rfl
            refine r_o1 (pc := 121) (bc' := 0) (bs' := 0) (ct_X12_breaks_18 hK7) k_X0_372_18 dX0_toss_121 hK7 (Nat.le_of_ble_eq_true rfl) ⟨Nat.le_of_ble_eq_true rfl, Nat.le_of_ble_eq_true rfl⟩ ⟨Nat.le_of_ble_eq_true rfl, Nat.le_of_ble_eq_true rfl⟩ (r_ci fun r7 M7 p7 => ?_) nox
            obtain ⟨rfl, p7⟩ := p7
            have p7 := Eq.symm (show _ = _ from p7)
            subst p7
            exact K0 (by rw [e7]; decide)
        · have hct : drC (S.1 7 0) 10 < caughtC x3 (farS S.1 (Int32.toNatClampNeg x1) (Int32.toNatClampNeg x2)) := by rw [hcE]; exact h66
          refine r_iconst (pc := 69) (v := 1) dX0_toss_69 (by decide) ?_
          refine r_goto (pc := 70) 74 dX0_toss_70 rfl ?_
          refine r_istore4 (pc := 74) dX0_toss_74 rfl ?_
          refine r_aload_n (pc := 76) dX0_toss_76 rfl ?_
          refine r_getR (pc := 77) dX0_toss_77 fl_X0_90_0 hx1.1.2.1 (fun _ _ => rfl) hx1.2.2.1.1 ?_
          refine r_getR (pc := 80) dX0_toss_80 fl_X0_132_3 hx1.2.2.1.2.2.k (fun _ _ => rfl) hx1.2.2.1.2.2.r10 ?_
          refine r_iload_n (pc := 83) dX0_toss_83 rfl ?_
          refine r_dup2 (pc := 84) dX0_toss_84 rfl rfl ?_
          refine r_ialdv (pc := 85) (v := S.1 14 (Int32.toNatClampNeg x2)) dX0_toss_85 hx1.2.2.1.2.2.k10 hx1.2.2.1.2.2.z10 (hB.vt hy.2) (hx1.2.2.1.2.2.a14 hy.2) ?_
          refine r_iload_n (pc := 86) dX0_toss_86 rfl ?_
          refine r_iadd (pc := 87) dX0_toss_87 ?_
          refine r_iast (pc := 88) dX0_toss_88 hx1.2.2.1.2.2.k10 hx1.2.2.1.2.2.z10 (hB.vt hy.2) ?_
          have hx2 := hx1.put (k := 14) (i := (Int32.toNatClampNeg x2)) (v := S.1 14 (Int32.toNatClampNeg x2) + x3) (by decide) (by decide)
          refine r_aload_n (pc := 89) dX0_toss_89 rfl ?_
          refine r_getR (pc := 90) dX0_toss_90 fl_X0_90_0 hx2.1.2.1 (fun _ _ => rfl) hx2.2.2.1.1 ?_
          refine r_getR (pc := 93) dX0_toss_93 fl_X0_262_3 hx2.2.2.1.2.2.k (fun _ _ => rfl) hx2.2.2.1.2.2.r11 ?_
          refine r_iload_n (pc := 96) dX0_toss_96 rfl ?_
          refine r_iconst (pc := 97) (v := (-1)) dX0_toss_97 (by decide) ?_
          refine r_iast (pc := 98) dX0_toss_98 hx2.2.2.1.2.2.k11 hx2.2.2.1.2.2.z11 (hB.vt hy.2) ?_
          have hx3 := hx2.put (k := 15) (i := (Int32.toNatClampNeg x2)) (v := -1) (by decide) (by decide)
          refine r_aload_n (pc := 99) dX0_toss_99 rfl ?_
          refine r_getR (pc := 100) dX0_toss_100 fl_X0_90_0 hx3.1.2.1 (fun _ _ => rfl) hx3.2.2.1.1 ?_
          refine r_getR (pc := 103) dX0_toss_103 fl_X0_265_3 hx3.2.2.1.2.2.k (fun _ _ => rfl) hx3.2.2.1.2.2.r12 ?_
          refine r_iload_n (pc := 106) dX0_toss_106 rfl ?_
          refine r_iload (pc := 107) dX0_toss_107 rfl ?_
          refine r_if_ne (pc := 109) 131 dX0_toss_109 rfl (fun _ => ?_) (fun hno => absurd hno (by decide))
          refine r_iconst (pc := 131) (v := 0) dX0_toss_131 (by decide) ?_
          refine r_zast (pc := 132) dX0_toss_132 hx3.2.2.1.2.2.k12 hx3.2.2.1.2.2.z12 (hB.vt hy.2) ?_
          have hx4 := hx3.put (k := 16) (i := (Int32.toNatClampNeg x2)) (v := 0) (by decide) (by decide)
          refine r_aload_n (pc := 133) dX0_toss_133 rfl ?_
          refine r_getR (pc := 134) dX0_toss_134 fl_X0_90_0 hx4.1.2.1 (fun _ _ => rfl) hx4.2.2.1.1 ?_
          refine r_iload_n (pc := 137) dX0_toss_137 rfl ?_
          refine r_iload_n (pc := 138) dX0_toss_138 rfl ?_
          refine r_o3 (pc := 139) (bc' := 0) (bs' := 0) (ct_X3_tires hx4.2.2.1.2.2 x1 x2 ((((hB.u (Or.inr ⟨by decide, by decide⟩)).u (Or.inl (by decide))).u (Or.inl (by decide))).u (Or.inl (by decide))) hy.1 hy.2) k_X0_375_3 dX0_toss_139 hx4.2.2.1.2.2.k (Nat.le_of_ble_eq_true rfl) ⟨Nat.le_of_ble_eq_true rfl, Nat.le_of_ble_eq_true rfl⟩ ⟨Nat.le_of_ble_eq_true rfl, Nat.le_of_ble_eq_true rfl⟩ (r_cv fun M139 p139 => ?_) nox
          obtain ⟨w5, f5, g5⟩ := p139
          have hx5 := hx4.world (S' := (tiresS (up2 (up2 (up2 (up2 S.1 7 0 (sdC (S.1 7 0))) 14 (Int32.toNatClampNeg x2) (S.1 14 (Int32.toNatClampNeg x2) + x3)) 15 (Int32.toNatClampNeg x2) (-1)) 16 (Int32.toNatClampNeg x2) 0) (Int32.toNatClampNeg x1) (Int32.toNatClampNeg x2), S.2)) w5 f5 (fun s _ _ => by rw [g5]) rfl (fun k hk => by show tiresS (up2 (up2 (up2 (up2 S.1 7 0 (sdC (S.1 7 0))) 14 (Int32.toNatClampNeg x2) (S.1 14 (Int32.toNatClampNeg x2) + x3)) 15 (Int32.toNatClampNeg x2) (-1)) 16 (Int32.toNatClampNeg x2) 0) (Int32.toNatClampNeg x1) (Int32.toNatClampNeg x2) k = (up2 (up2 (up2 (up2 S.1 7 0 (sdC (S.1 7 0))) 14 (Int32.toNatClampNeg x2) (S.1 14 (Int32.toNatClampNeg x2) + x3)) 15 (Int32.toNatClampNeg x2) (-1)) 16 (Int32.toNatClampNeg x2) 0) k; unfold tiresS; rw [up2_ne (by omega)])
          refine r_aload_n (pc := 142) dX0_toss_142 rfl ?_
          refine r_getR (pc := 143) dX0_toss_143 fl_X0_90_0 hx5.1.2.1 (fun _ _ => rfl) hx5.2.2.1.1 ?_
          refine r_dup (pc := 146) dX0_toss_146 rfl ?_
          refine r_getIe (pc := 147) (v := S.1 8 0) dX0_toss_147 fl_X0_314_3 hx5.2.2.1.2.2.k (fun _ _ => rfl) hx5.2.2.1.2.2.i7 ?_
          refine r_iconst (pc := 150) (v := 1) dX0_toss_150 (by decide) ?_
          refine r_iadd (pc := 151) dX0_toss_151 ?_
          refine r_putI (pc := 152) dX0_toss_152 fl_X0_314_3 hx5.2.2.1.2.2.k rfl rfl ?_
          have hx6 := hx5.world (S' := (up2 (tiresS (up2 (up2 (up2 (up2 S.1 7 0 (sdC (S.1 7 0))) 14 (Int32.toNatClampNeg x2) (S.1 14 (Int32.toNatClampNeg x2) + x3)) 15 (Int32.toNatClampNeg x2) (-1)) 16 (Int32.toNatClampNeg x2) 0) (Int32.toNatClampNeg x1) (Int32.toNatClampNeg x2)) 8 0 (S.1 8 0 + 1), S.2)) (WX.s8 w5) (frP.rf.sI fun _ => inW_0) (fun _ _ _ => rfl) rfl (fun k hk => by show (up2 (tiresS (up2 (up2 (up2 (up2 S.1 7 0 (sdC (S.1 7 0))) 14 (Int32.toNatClampNeg x2) (S.1 14 (Int32.toNatClampNeg x2) + x3)) 15 (Int32.toNatClampNeg x2) (-1)) 16 (Int32.toNatClampNeg x2) 0) (Int32.toNatClampNeg x1) (Int32.toNatClampNeg x2)) 8 0 (S.1 8 0 + 1)) k = (tiresS (up2 (up2 (up2 (up2 S.1 7 0 (sdC (S.1 7 0))) 14 (Int32.toNatClampNeg x2) (S.1 14 (Int32.toNatClampNeg x2) + x3)) 15 (Int32.toNatClampNeg x2) (-1)) 16 (Int32.toNatClampNeg x2) 0) (Int32.toNatClampNeg x1) (Int32.toNatClampNeg x2)) k; rw [up2_ne (by omega)])
          refine r_iload (pc := 155) dX0_toss_155 rfl ?_
          refine r_if_eq (pc := 157) 164 dX0_toss_157 rfl (fun hno => absurd hno (by decide)) (fun _ => ?_)
          refine r_iconst (pc := 160) (v := 1) dX0_toss_160 (by decide) ?_
          refine r_goto (pc := 161) 165 dX0_toss_161 rfl ?_
          refine r_ireturn (pc := 165) rfl dX0_toss_165 ⟨_, rfl, ?_⟩
          exact (show oX xo mo Z (tossS S x1 x2 x3) _ _ by unfold tossS; rw [cI_f (n_or hy), cI_f (br_00 hz), cI_t hct, ← toss_0 (σ := S.1) (m := x1) (t := x2) (d := x3) hz.2.2]; exact ⟨rfl, wa, hx6⟩)
      · refine r_iconst (pc := 43) (v := 1) dX0_toss_43 (by decide) ?_
        refine r_goto (pc := 44) 48 dX0_toss_44 rfl ?_
        refine r_eqi (bI ((¬ x3 < 1 ∧ ¬ 40 < x3) ∧ throwP S.1 x1 x2 x3 ∧ S.1 16 (Int32.toNatClampNeg x2) = 0)) (by first | exact bI_t' ⟨h15, h28, h40⟩ | exact bI_f' (fun hh => h15 hh.1) | exact bI_f' (fun hh => h28 hh.2.1) | exact bI_f' (fun hh => h40 hh.2.2)) ?_
        refine r_bipush (pc := 48) (v := (-6)) dX0_toss_48 (by decide) ?_
        refine r_s2 (pc := 50) (bc' := 0) (bs' := 0) (ct_X0_need _ _) k_X0_115 dX0_toss_50 (Nat.le_of_ble_eq_true rfl) ⟨Nat.le_of_ble_eq_true rfl, Nat.le_of_ble_eq_true rfl⟩ ⟨Nat.le_of_ble_eq_true rfl, Nat.le_of_ble_eq_true rfl⟩ (r_cv fun M50 p50 => ?_) (fun q E M9 h8 => by have h9 := And.intro (bI_eq0.mp h8.1) (hx.rf h8.2); obtain ⟨hn9, rfl, k9, w9, o9⟩ := h9; exact t_catch [] _ _ _ rfl (fun z hz => absurd hz List.not_mem_nil) rfl (by decide) q305 q389 ((hC M9 q _ _ k9 w9 (by decide) o9 (by unfold tossS; rw [cI_f (n_or hy), cI_t (br_01 hS.1 hy.2 hn9)])).loose (Nat.zero_le _) (Nat.zero_le _)))
        obtain ⟨hz, p50⟩ := p50
        have p50 := Eq.symm (show _ = _ from p50)
        subst p50
        rw [bI_ne0] at hz
        refine r_aload_n (pc := 53) dX0_toss_53 rfl ?_
        refine r_getR (pc := 54) dX0_toss_54 fl_X0_90_0 hx.1.2.1 (fun _ _ => rfl) hx.2.2.1.1 ?_
        refine r_bipush (pc := 57) (v := 10) dX0_toss_57 (by decide) ?_
        refine r_o2 (pc := 59) (bc' := 0) (bs' := 0) (ct_X3_draw hx.2.2.1.2.2 10 (by decide)) k_X0_369_3 dX0_toss_59 hx.2.2.1.2.2.k (Nat.le_of_ble_eq_true rfl) ⟨Nat.le_of_ble_eq_true rfl, Nat.le_of_ble_eq_true rfl⟩ ⟨Nat.le_of_ble_eq_true rfl, Nat.le_of_ble_eq_true rfl⟩ (r_ci fun r59 M59 p59 => ?_) nox
        obtain ⟨rfl, w1, f1, g1⟩ := p59
        have hx1 := hx.world (S' := (up2 S.1 7 0 (sdC (S.1 7 0)), S.2)) w1 f1 (fun s _ _ => by rw [g1]) rfl (fun k hk => up2_ne (by omega))
        have hcE : caughtC x3 (farS S.1 (Int32.toNatClampNeg x1) (Int32.toNatClampNeg x2)) = (if (10 - x3 / 4 : Int32) < 0 then 0 else 10 - x3 / 4) := by unfold caughtC; rw [if_neg hz.2.1.1]
        refine r_iload_n (pc := 62) dX0_toss_62 rfl ?_
        refine r_s1 (pc := 63) (bc' := 0) (bs' := 0) (ct_X0_caughtBy x3) k_X0_360 dX0_toss_63 (Nat.le_of_ble_eq_true rfl) ⟨Nat.le_of_ble_eq_true rfl, Nat.le_of_ble_eq_true rfl⟩ ⟨Nat.le_of_ble_eq_true rfl, Nat.le_of_ble_eq_true rfl⟩ (r_ci fun r63 M63 p63 => ?_) nox
        obtain ⟨rfl, p63⟩ := p63
        have p63 := Eq.symm (show _ = _ from p63)
        subst p63
        refine r_icmp_ge (pc := 66) 73 dX0_toss_66 rfl (fun h66 => ?_) (fun h66 => ?_)
        · have hct : ¬ drC (S.1 7 0) 10 < caughtC x3 (farS S.1 (Int32.toNatClampNeg x1) (Int32.toNatClampNeg x2)) := by rw [hcE]; exact h66
          refine r_iconst (pc := 73) (v := 0) dX0_toss_73 (by decide) ?_
          refine r_istore4 (pc := 74) dX0_toss_74 rfl ?_
          refine r_aload_n (pc := 76) dX0_toss_76 rfl ?_
          refine r_getR (pc := 77) dX0_toss_77 fl_X0_90_0 hx1.1.2.1 (fun _ _ => rfl) hx1.2.2.1.1 ?_
          refine r_getR (pc := 80) dX0_toss_80 fl_X0_132_3 hx1.2.2.1.2.2.k (fun _ _ => rfl) hx1.2.2.1.2.2.r10 ?_
          refine r_iload_n (pc := 83) dX0_toss_83 rfl ?_
          refine r_dup2 (pc := 84) dX0_toss_84 rfl rfl ?_
          refine r_ialdv (pc := 85) (v := S.1 14 (Int32.toNatClampNeg x2)) dX0_toss_85 hx1.2.2.1.2.2.k10 hx1.2.2.1.2.2.z10 (hB.vt hy.2) (hx1.2.2.1.2.2.a14 hy.2) ?_
          refine r_iload_n (pc := 86) dX0_toss_86 rfl ?_
          refine r_iadd (pc := 87) dX0_toss_87 ?_
          refine r_iast (pc := 88) dX0_toss_88 hx1.2.2.1.2.2.k10 hx1.2.2.1.2.2.z10 (hB.vt hy.2) ?_
          have hx2 := hx1.put (k := 14) (i := (Int32.toNatClampNeg x2)) (v := S.1 14 (Int32.toNatClampNeg x2) + x3) (by decide) (by decide)
          refine r_aload_n (pc := 89) dX0_toss_89 rfl ?_
          refine r_getR (pc := 90) dX0_toss_90 fl_X0_90_0 hx2.1.2.1 (fun _ _ => rfl) hx2.2.2.1.1 ?_
          refine r_getR (pc := 93) dX0_toss_93 fl_X0_262_3 hx2.2.2.1.2.2.k (fun _ _ => rfl) hx2.2.2.1.2.2.r11 ?_
          refine r_iload_n (pc := 96) dX0_toss_96 rfl ?_
          refine r_iconst (pc := 97) (v := (-1)) dX0_toss_97 (by decide) ?_
          refine r_iast (pc := 98) dX0_toss_98 hx2.2.2.1.2.2.k11 hx2.2.2.1.2.2.z11 (hB.vt hy.2) ?_
          have hx3 := hx2.put (k := 15) (i := (Int32.toNatClampNeg x2)) (v := -1) (by decide) (by decide)
          refine r_aload_n (pc := 99) dX0_toss_99 rfl ?_
          refine r_getR (pc := 100) dX0_toss_100 fl_X0_90_0 hx3.1.2.1 (fun _ _ => rfl) hx3.2.2.1.1 ?_
          refine r_getR (pc := 103) dX0_toss_103 fl_X0_265_3 hx3.2.2.1.2.2.k (fun _ _ => rfl) hx3.2.2.1.2.2.r12 ?_
          refine r_iload_n (pc := 106) dX0_toss_106 rfl ?_
          refine r_iload (pc := 107) dX0_toss_107 rfl ?_
          refine r_if_ne (pc := 109) 131 dX0_toss_109 rfl (fun hno => absurd hno (by decide)) (fun _ => ?_)
          refine r_aload_n (pc := 112) dX0_toss_112 rfl ?_
          refine r_getR (pc := 113) dX0_toss_113 fl_X0_90_0 hx3.1.2.1 (fun _ _ => rfl) hx3.2.2.1.1 ?_
          refine r_getR (pc := 116) dX0_toss_116 fl_X0_119_3 hx3.2.2.1.2.2.k (fun _ _ => rfl) hx3.2.2.1.2.2.r9 ?_
          refine r_iload_n (pc := 119) dX0_toss_119 rfl ?_
          obtain ⟨ta, hr, hT⟩ := hx3.2.2.1.2.2.th (t := x2) hy.2
          refine r_aaldR (pc := 120) dX0_toss_120 hx3.2.2.1.2.2.k9 rfl hx3.2.2.1.2.2.z9 (hB.vt hy.2) hr ?_
          have K0 : ¬ S.1 11 (Int32.toNatClampNeg x2) = 4 → Wx (YX0_toss, (7, 166, 2, 14), qi (fun r M' => oX xo mo Z (tossS S x1 x2 x3) r M'), noX) 0 0 (sI (sI M59 (wa + 2) (Int32.toNatClampNeg x2) (S.1 14 (Int32.toNatClampNeg x2) + x3)) (wa + 3) (Int32.toNatClampNeg x2) (-1)) 124 [some (.ref xo), some (.int x1), some (.int x2), some (.int x3), some (.int 0)] [.int 0, .int x2, .ref (wa + 4)] := by
            intro hgl
            refine r_if_eq (pc := 124) 131 dX0_toss_124 rfl (fun _ => ?_) (fun hno => absurd hno (by decide))
            refine r_iconst (pc := 131) (v := 0) dX0_toss_131 (by decide) ?_
            refine r_zast (pc := 132) dX0_toss_132 hx3.2.2.1.2.2.k12 hx3.2.2.1.2.2.z12 (hB.vt hy.2) ?_
            have hx4 := hx3.put (k := 16) (i := (Int32.toNatClampNeg x2)) (v := 0) (by decide) (by decide)
            refine r_aload_n (pc := 133) dX0_toss_133 rfl ?_
            refine r_getR (pc := 134) dX0_toss_134 fl_X0_90_0 hx4.1.2.1 (fun _ _ => rfl) hx4.2.2.1.1 ?_
            refine r_iload_n (pc := 137) dX0_toss_137 rfl ?_
            refine r_iload_n (pc := 138) dX0_toss_138 rfl ?_
            refine r_o3 (pc := 139) (bc' := 0) (bs' := 0) (ct_X3_tires hx4.2.2.1.2.2 x1 x2 ((((hB.u (Or.inr ⟨by decide, by decide⟩)).u (Or.inl (by decide))).u (Or.inl (by decide))).u (Or.inl (by decide))) hy.1 hy.2) k_X0_375_3 dX0_toss_139 hx4.2.2.1.2.2.k (Nat.le_of_ble_eq_true rfl) ⟨Nat.le_of_ble_eq_true rfl, Nat.le_of_ble_eq_true rfl⟩ ⟨Nat.le_of_ble_eq_true rfl, Nat.le_of_ble_eq_true rfl⟩ (r_cv fun M139 p139 => ?_) nox
            obtain ⟨w5, f5, g5⟩ := p139
            have hx5 := hx4.world (S' := (tiresS (up2 (up2 (up2 (up2 S.1 7 0 (sdC (S.1 7 0))) 14 (Int32.toNatClampNeg x2) (S.1 14 (Int32.toNatClampNeg x2) + x3)) 15 (Int32.toNatClampNeg x2) (-1)) 16 (Int32.toNatClampNeg x2) 0) (Int32.toNatClampNeg x1) (Int32.toNatClampNeg x2), S.2)) w5 f5 (fun s _ _ => by rw [g5]) rfl (fun k hk => by show tiresS (up2 (up2 (up2 (up2 S.1 7 0 (sdC (S.1 7 0))) 14 (Int32.toNatClampNeg x2) (S.1 14 (Int32.toNatClampNeg x2) + x3)) 15 (Int32.toNatClampNeg x2) (-1)) 16 (Int32.toNatClampNeg x2) 0) (Int32.toNatClampNeg x1) (Int32.toNatClampNeg x2) k = (up2 (up2 (up2 (up2 S.1 7 0 (sdC (S.1 7 0))) 14 (Int32.toNatClampNeg x2) (S.1 14 (Int32.toNatClampNeg x2) + x3)) 15 (Int32.toNatClampNeg x2) (-1)) 16 (Int32.toNatClampNeg x2) 0) k; unfold tiresS; rw [up2_ne (by omega)])
            refine r_aload_n (pc := 142) dX0_toss_142 rfl ?_
            refine r_getR (pc := 143) dX0_toss_143 fl_X0_90_0 hx5.1.2.1 (fun _ _ => rfl) hx5.2.2.1.1 ?_
            refine r_dup (pc := 146) dX0_toss_146 rfl ?_
            refine r_getIe (pc := 147) (v := S.1 8 0) dX0_toss_147 fl_X0_314_3 hx5.2.2.1.2.2.k (fun _ _ => rfl) hx5.2.2.1.2.2.i7 ?_
            refine r_iconst (pc := 150) (v := 1) dX0_toss_150 (by decide) ?_
            refine r_iadd (pc := 151) dX0_toss_151 ?_
            refine r_putI (pc := 152) dX0_toss_152 fl_X0_314_3 hx5.2.2.1.2.2.k rfl rfl ?_
            have hx6 := hx5.world (S' := (up2 (tiresS (up2 (up2 (up2 (up2 S.1 7 0 (sdC (S.1 7 0))) 14 (Int32.toNatClampNeg x2) (S.1 14 (Int32.toNatClampNeg x2) + x3)) 15 (Int32.toNatClampNeg x2) (-1)) 16 (Int32.toNatClampNeg x2) 0) (Int32.toNatClampNeg x1) (Int32.toNatClampNeg x2)) 8 0 (S.1 8 0 + 1), S.2)) (WX.s8 w5) (frP.rf.sI fun _ => inW_0) (fun _ _ _ => rfl) rfl (fun k hk => by show (up2 (tiresS (up2 (up2 (up2 (up2 S.1 7 0 (sdC (S.1 7 0))) 14 (Int32.toNatClampNeg x2) (S.1 14 (Int32.toNatClampNeg x2) + x3)) 15 (Int32.toNatClampNeg x2) (-1)) 16 (Int32.toNatClampNeg x2) 0) (Int32.toNatClampNeg x1) (Int32.toNatClampNeg x2)) 8 0 (S.1 8 0 + 1)) k = (tiresS (up2 (up2 (up2 (up2 S.1 7 0 (sdC (S.1 7 0))) 14 (Int32.toNatClampNeg x2) (S.1 14 (Int32.toNatClampNeg x2) + x3)) 15 (Int32.toNatClampNeg x2) (-1)) 16 (Int32.toNatClampNeg x2) 0) (Int32.toNatClampNeg x1) (Int32.toNatClampNeg x2)) k; rw [up2_ne (by omega)])
            refine r_iload (pc := 155) dX0_toss_155 rfl ?_
            refine r_if_eq (pc := 157) 164 dX0_toss_157 rfl (fun _ => ?_) (fun hno => absurd hno (by decide))
            refine r_iconst (pc := 164) (v := 0) dX0_toss_164 (by decide) ?_
            refine r_ireturn (pc := 165) rfl dX0_toss_165 ⟨_, rfl, ?_⟩
            exact (show oX xo mo Z (tossS S x1 x2 x3) _ _ by unfold tossS; rw [cI_f (n_or hy), cI_f (br_00 hz), cI_f hct, cI_f hgl, ← toss_0 (σ := S.1) (m := x1) (t := x2) (d := x3) hz.2.2]; exact ⟨rfl, wa, hx6⟩)
          have K1 : S.1 11 (Int32.toNatClampNeg x2) = 4 → Wx (YX0_toss, (7, 166, 2, 14), qi (fun r M' => oX xo mo Z (tossS S x1 x2 x3) r M'), noX) 0 0 (sI (sI M59 (wa + 2) (Int32.toNatClampNeg x2) (S.1 14 (Int32.toNatClampNeg x2) + x3)) (wa + 3) (Int32.toNatClampNeg x2) (-1)) 124 [some (.ref xo), some (.int x1), some (.int x2), some (.int x3), some (.int 0)] [.int 1, .int x2, .ref (wa + 4)] := by
            intro hgl
            refine r_if_eq (pc := 124) 131 dX0_toss_124 rfl (fun hno => absurd hno (by decide)) (fun _ => ?_)
            refine r_iconst (pc := 127) (v := 1) dX0_toss_127 (by decide) ?_
            refine r_goto (pc := 128) 132 dX0_toss_128 rfl ?_
            refine r_zast (pc := 132) dX0_toss_132 hx3.2.2.1.2.2.k12 hx3.2.2.1.2.2.z12 (hB.vt hy.2) ?_
            have hx4 := hx3.put (k := 16) (i := (Int32.toNatClampNeg x2)) (v := 1) (by decide) (by decide)
            refine r_aload_n (pc := 133) dX0_toss_133 rfl ?_
            refine r_getR (pc := 134) dX0_toss_134 fl_X0_90_0 hx4.1.2.1 (fun _ _ => rfl) hx4.2.2.1.1 ?_
            refine r_iload_n (pc := 137) dX0_toss_137 rfl ?_
            refine r_iload_n (pc := 138) dX0_toss_138 rfl ?_
            refine r_o3 (pc := 139) (bc' := 0) (bs' := 0) (ct_X3_tires hx4.2.2.1.2.2 x1 x2 ((((hB.u (Or.inr ⟨by decide, by decide⟩)).u (Or.inl (by decide))).u (Or.inl (by decide))).u (Or.inl (by decide))) hy.1 hy.2) k_X0_375_3 dX0_toss_139 hx4.2.2.1.2.2.k (Nat.le_of_ble_eq_true rfl) ⟨Nat.le_of_ble_eq_true rfl, Nat.le_of_ble_eq_true rfl⟩ ⟨Nat.le_of_ble_eq_true rfl, Nat.le_of_ble_eq_true rfl⟩ (r_cv fun M139 p139 => ?_) nox
            obtain ⟨w5, f5, g5⟩ := p139
            have hx5 := hx4.world (S' := (tiresS (up2 (up2 (up2 (up2 S.1 7 0 (sdC (S.1 7 0))) 14 (Int32.toNatClampNeg x2) (S.1 14 (Int32.toNatClampNeg x2) + x3)) 15 (Int32.toNatClampNeg x2) (-1)) 16 (Int32.toNatClampNeg x2) 1) (Int32.toNatClampNeg x1) (Int32.toNatClampNeg x2), S.2)) w5 f5 (fun s _ _ => by rw [g5]) rfl (fun k hk => by show tiresS (up2 (up2 (up2 (up2 S.1 7 0 (sdC (S.1 7 0))) 14 (Int32.toNatClampNeg x2) (S.1 14 (Int32.toNatClampNeg x2) + x3)) 15 (Int32.toNatClampNeg x2) (-1)) 16 (Int32.toNatClampNeg x2) 1) (Int32.toNatClampNeg x1) (Int32.toNatClampNeg x2) k = (up2 (up2 (up2 (up2 S.1 7 0 (sdC (S.1 7 0))) 14 (Int32.toNatClampNeg x2) (S.1 14 (Int32.toNatClampNeg x2) + x3)) 15 (Int32.toNatClampNeg x2) (-1)) 16 (Int32.toNatClampNeg x2) 1) k; unfold tiresS; rw [up2_ne (by omega)])
            refine r_aload_n (pc := 142) dX0_toss_142 rfl ?_
            refine r_getR (pc := 143) dX0_toss_143 fl_X0_90_0 hx5.1.2.1 (fun _ _ => rfl) hx5.2.2.1.1 ?_
            refine r_dup (pc := 146) dX0_toss_146 rfl ?_
            refine r_getIe (pc := 147) (v := S.1 8 0) dX0_toss_147 fl_X0_314_3 hx5.2.2.1.2.2.k (fun _ _ => rfl) hx5.2.2.1.2.2.i7 ?_
            refine r_iconst (pc := 150) (v := 1) dX0_toss_150 (by decide) ?_
            refine r_iadd (pc := 151) dX0_toss_151 ?_
            refine r_putI (pc := 152) dX0_toss_152 fl_X0_314_3 hx5.2.2.1.2.2.k rfl rfl ?_
            have hx6 := hx5.world (S' := (up2 (tiresS (up2 (up2 (up2 (up2 S.1 7 0 (sdC (S.1 7 0))) 14 (Int32.toNatClampNeg x2) (S.1 14 (Int32.toNatClampNeg x2) + x3)) 15 (Int32.toNatClampNeg x2) (-1)) 16 (Int32.toNatClampNeg x2) 1) (Int32.toNatClampNeg x1) (Int32.toNatClampNeg x2)) 8 0 (S.1 8 0 + 1), S.2)) (WX.s8 w5) (frP.rf.sI fun _ => inW_0) (fun _ _ _ => rfl) rfl (fun k hk => by show (up2 (tiresS (up2 (up2 (up2 (up2 S.1 7 0 (sdC (S.1 7 0))) 14 (Int32.toNatClampNeg x2) (S.1 14 (Int32.toNatClampNeg x2) + x3)) 15 (Int32.toNatClampNeg x2) (-1)) 16 (Int32.toNatClampNeg x2) 1) (Int32.toNatClampNeg x1) (Int32.toNatClampNeg x2)) 8 0 (S.1 8 0 + 1)) k = (tiresS (up2 (up2 (up2 (up2 S.1 7 0 (sdC (S.1 7 0))) 14 (Int32.toNatClampNeg x2) (S.1 14 (Int32.toNatClampNeg x2) + x3)) 15 (Int32.toNatClampNeg x2) (-1)) 16 (Int32.toNatClampNeg x2) 1) (Int32.toNatClampNeg x1) (Int32.toNatClampNeg x2)) k; rw [up2_ne (by omega)])
            refine r_iload (pc := 155) dX0_toss_155 rfl ?_
            refine r_if_eq (pc := 157) 164 dX0_toss_157 rfl (fun _ => ?_) (fun hno => absurd hno (by decide))
            refine r_iconst (pc := 164) (v := 0) dX0_toss_164 (by decide) ?_
            refine r_ireturn (pc := 165) rfl dX0_toss_165 ⟨_, rfl, ?_⟩
            exact (show oX xo mo Z (tossS S x1 x2 x3) _ _ by unfold tossS; rw [cI_f (n_or hy), cI_f (br_00 hz), cI_f hct, cI_t hgl, ← toss_1 (σ := S.1) (m := x1) (t := x2) (d := x3)]; exact ⟨rfl, wa, hx6⟩)
          rcases kd7 (hB.2 _ (ix_lt hy.2.1 hy.2.2)).1 with e7 | e7 | e7 | e7 | e7 | e7 | e7
          · have hK7 := hT.k (k := 0) e7 (c := 12) rfl
            refine r_o1 (pc := 121) (bc' := 0) (bs' := 0) (ct_X12_breaks_12 hK7) k_X0_372_12 dX0_toss_121 hK7 (Nat.le_of_ble_eq_true rfl) ⟨Nat.le_of_ble_eq_true rfl, Nat.le_of_ble_eq_true rfl⟩ ⟨Nat.le_of_ble_eq_true rfl, Nat.le_of_ble_eq_true rfl⟩ (r_ci fun r7 M7 p7 => ?_) nox
            obtain ⟨rfl, p7⟩ := p7
            have p7 := Eq.symm (show _ = _ from p7)
            subst p7
            exact K0 (by rw [e7]; decide)
          · have hK7 := hT.k (k := 1) e7 (c := 13) rfl
            refine r_o1 (pc := 121) (bc' := 0) (bs' := 0) (ct_X12_breaks_13 hK7) k_X0_372_13 dX0_toss_121 hK7 (Nat.le_of_ble_eq_true rfl) ⟨Nat.le_of_ble_eq_true rfl, Nat.le_of_ble_eq_true rfl⟩ ⟨Nat.le_of_ble_eq_true rfl, Nat.le_of_ble_eq_true rfl⟩ (r_ci fun r7 M7 p7 => ?_) nox
            obtain ⟨rfl, p7⟩ := p7
            have p7 := Eq.symm (show _ = _ from p7)
            subst p7
            exact K0 (by rw [e7]; decide)
          · have hK7 := hT.k (k := 2) e7 (c := 14) rfl
            refine r_o1 (pc := 121) (bc' := 0) (bs' := 0) (ct_X12_breaks_14 hK7) k_X0_372_14 dX0_toss_121 hK7 (Nat.le_of_ble_eq_true rfl) ⟨Nat.le_of_ble_eq_true rfl, Nat.le_of_ble_eq_true rfl⟩ ⟨Nat.le_of_ble_eq_true rfl, Nat.le_of_ble_eq_true rfl⟩ (r_ci fun r7 M7 p7 => ?_) nox
            obtain ⟨rfl, p7⟩ := p7
            have p7 := Eq.symm (show _ = _ from p7)
            subst p7
            exact K0 (by rw [e7]; decide)
          · have hK7 := hT.k (k := 3) e7 (c := 15) rfl
            refine r_o1 (pc := 121) (bc' := 0) (bs' := 0) (ct_X12_breaks_15 hK7) k_X0_372_15 dX0_toss_121 hK7 (Nat.le_of_ble_eq_true rfl) ⟨Nat.le_of_ble_eq_true rfl, Nat.le_of_ble_eq_true rfl⟩ ⟨Nat.le_of_ble_eq_true rfl, Nat.le_of_ble_eq_true rfl⟩ (r_ci fun r7 M7 p7 => ?_) nox
            obtain ⟨rfl, p7⟩ := p7
            have p7 := Eq.symm (show _ = _ from p7)
            subst p7
            exact K0 (by rw [e7]; decide)
          · have hK7 := hT.k (k := 4) e7 (c := 16) rfl
            refine r_o1 (pc := 121) (bc' := 0) (bs' := 0) (ct_X16_breaks_16 hK7) k_X0_372_16 dX0_toss_121 hK7 (Nat.le_of_ble_eq_true rfl) ⟨Nat.le_of_ble_eq_true rfl, Nat.le_of_ble_eq_true rfl⟩ ⟨Nat.le_of_ble_eq_true rfl, Nat.le_of_ble_eq_true rfl⟩ (r_ci fun r7 M7 p7 => ?_) nox
            obtain ⟨rfl, p7⟩ := p7
            have p7 := Eq.symm (show _ = _ from p7)
            subst p7
            exact K1 e7
          · have hK7 := hT.k (k := 5) e7 (c := 17) rfl
            refine r_o1 (pc := 121) (bc' := 0) (bs' := 0) (ct_X12_breaks_17 hK7) k_X0_372_17 dX0_toss_121 hK7 (Nat.le_of_ble_eq_true rfl) ⟨Nat.le_of_ble_eq_true rfl, Nat.le_of_ble_eq_true rfl⟩ ⟨Nat.le_of_ble_eq_true rfl, Nat.le_of_ble_eq_true rfl⟩ (r_ci fun r7 M7 p7 => ?_) nox
            obtain ⟨rfl, p7⟩ := p7
            have p7 := Eq.symm (show _ = _ from p7)
            subst p7
            exact K0 (by rw [e7]; decide)
          · have hK7 := hT.k (k := 6) e7 (c := 18) rfl
            refine r_o1 (pc := 121) (bc' := 0) (bs' := 0) (ct_X12_breaks_18 hK7) k_X0_372_18 dX0_toss_121 hK7 (Nat.le_of_ble_eq_true rfl) ⟨Nat.le_of_ble_eq_true rfl, Nat.le_of_ble_eq_true rfl⟩ ⟨Nat.le_of_ble_eq_true rfl, Nat.le_of_ble_eq_true rfl⟩ (r_ci fun r7 M7 p7 => ?_) nox
            obtain ⟨rfl, p7⟩ := p7
            have p7 := Eq.symm (show _ = _ from p7)
            subst p7
            exact K0 (by rw [e7]; decide)
        · have hct : drC (S.1 7 0) 10 < caughtC x3 (farS S.1 (Int32.toNatClampNeg x1) (Int32.toNatClampNeg x2)) := by rw [hcE]; exact h66
          refine r_iconst (pc := 69) (v := 1) dX0_toss_69 (by decide) ?_
          refine r_goto (pc := 70) 74 dX0_toss_70 rfl ?_
          refine r_istore4 (pc := 74) dX0_toss_74 rfl ?_
          refine r_aload_n (pc := 76) dX0_toss_76 rfl ?_
          refine r_getR (pc := 77) dX0_toss_77 fl_X0_90_0 hx1.1.2.1 (fun _ _ => rfl) hx1.2.2.1.1 ?_
          refine r_getR (pc := 80) dX0_toss_80 fl_X0_132_3 hx1.2.2.1.2.2.k (fun _ _ => rfl) hx1.2.2.1.2.2.r10 ?_
          refine r_iload_n (pc := 83) dX0_toss_83 rfl ?_
          refine r_dup2 (pc := 84) dX0_toss_84 rfl rfl ?_
          refine r_ialdv (pc := 85) (v := S.1 14 (Int32.toNatClampNeg x2)) dX0_toss_85 hx1.2.2.1.2.2.k10 hx1.2.2.1.2.2.z10 (hB.vt hy.2) (hx1.2.2.1.2.2.a14 hy.2) ?_
          refine r_iload_n (pc := 86) dX0_toss_86 rfl ?_
          refine r_iadd (pc := 87) dX0_toss_87 ?_
          refine r_iast (pc := 88) dX0_toss_88 hx1.2.2.1.2.2.k10 hx1.2.2.1.2.2.z10 (hB.vt hy.2) ?_
          have hx2 := hx1.put (k := 14) (i := (Int32.toNatClampNeg x2)) (v := S.1 14 (Int32.toNatClampNeg x2) + x3) (by decide) (by decide)
          refine r_aload_n (pc := 89) dX0_toss_89 rfl ?_
          refine r_getR (pc := 90) dX0_toss_90 fl_X0_90_0 hx2.1.2.1 (fun _ _ => rfl) hx2.2.2.1.1 ?_
          refine r_getR (pc := 93) dX0_toss_93 fl_X0_262_3 hx2.2.2.1.2.2.k (fun _ _ => rfl) hx2.2.2.1.2.2.r11 ?_
          refine r_iload_n (pc := 96) dX0_toss_96 rfl ?_
          refine r_iconst (pc := 97) (v := (-1)) dX0_toss_97 (by decide) ?_
          refine r_iast (pc := 98) dX0_toss_98 hx2.2.2.1.2.2.k11 hx2.2.2.1.2.2.z11 (hB.vt hy.2) ?_
          have hx3 := hx2.put (k := 15) (i := (Int32.toNatClampNeg x2)) (v := -1) (by decide) (by decide)
          refine r_aload_n (pc := 99) dX0_toss_99 rfl ?_
          refine r_getR (pc := 100) dX0_toss_100 fl_X0_90_0 hx3.1.2.1 (fun _ _ => rfl) hx3.2.2.1.1 ?_
          refine r_getR (pc := 103) dX0_toss_103 fl_X0_265_3 hx3.2.2.1.2.2.k (fun _ _ => rfl) hx3.2.2.1.2.2.r12 ?_
          refine r_iload_n (pc := 106) dX0_toss_106 rfl ?_
          refine r_iload (pc := 107) dX0_toss_107 rfl ?_
          refine r_if_ne (pc := 109) 131 dX0_toss_109 rfl (fun _ => ?_) (fun hno => absurd hno (by decide))
          refine r_iconst (pc := 131) (v := 0) dX0_toss_131 (by decide) ?_
          refine r_zast (pc := 132) dX0_toss_132 hx3.2.2.1.2.2.k12 hx3.2.2.1.2.2.z12 (hB.vt hy.2) ?_
          have hx4 := hx3.put (k := 16) (i := (Int32.toNatClampNeg x2)) (v := 0) (by decide) (by decide)
          refine r_aload_n (pc := 133) dX0_toss_133 rfl ?_
          refine r_getR (pc := 134) dX0_toss_134 fl_X0_90_0 hx4.1.2.1 (fun _ _ => rfl) hx4.2.2.1.1 ?_
          refine r_iload_n (pc := 137) dX0_toss_137 rfl ?_
          refine r_iload_n (pc := 138) dX0_toss_138 rfl ?_
          refine r_o3 (pc := 139) (bc' := 0) (bs' := 0) (ct_X3_tires hx4.2.2.1.2.2 x1 x2 ((((hB.u (Or.inr ⟨by decide, by decide⟩)).u (Or.inl (by decide))).u (Or.inl (by decide))).u (Or.inl (by decide))) hy.1 hy.2) k_X0_375_3 dX0_toss_139 hx4.2.2.1.2.2.k (Nat.le_of_ble_eq_true rfl) ⟨Nat.le_of_ble_eq_true rfl, Nat.le_of_ble_eq_true rfl⟩ ⟨Nat.le_of_ble_eq_true rfl, Nat.le_of_ble_eq_true rfl⟩ (r_cv fun M139 p139 => ?_) nox
          obtain ⟨w5, f5, g5⟩ := p139
          have hx5 := hx4.world (S' := (tiresS (up2 (up2 (up2 (up2 S.1 7 0 (sdC (S.1 7 0))) 14 (Int32.toNatClampNeg x2) (S.1 14 (Int32.toNatClampNeg x2) + x3)) 15 (Int32.toNatClampNeg x2) (-1)) 16 (Int32.toNatClampNeg x2) 0) (Int32.toNatClampNeg x1) (Int32.toNatClampNeg x2), S.2)) w5 f5 (fun s _ _ => by rw [g5]) rfl (fun k hk => by show tiresS (up2 (up2 (up2 (up2 S.1 7 0 (sdC (S.1 7 0))) 14 (Int32.toNatClampNeg x2) (S.1 14 (Int32.toNatClampNeg x2) + x3)) 15 (Int32.toNatClampNeg x2) (-1)) 16 (Int32.toNatClampNeg x2) 0) (Int32.toNatClampNeg x1) (Int32.toNatClampNeg x2) k = (up2 (up2 (up2 (up2 S.1 7 0 (sdC (S.1 7 0))) 14 (Int32.toNatClampNeg x2) (S.1 14 (Int32.toNatClampNeg x2) + x3)) 15 (Int32.toNatClampNeg x2) (-1)) 16 (Int32.toNatClampNeg x2) 0) k; unfold tiresS; rw [up2_ne (by omega)])
          refine r_aload_n (pc := 142) dX0_toss_142 rfl ?_
          refine r_getR (pc := 143) dX0_toss_143 fl_X0_90_0 hx5.1.2.1 (fun _ _ => rfl) hx5.2.2.1.1 ?_
          refine r_dup (pc := 146) dX0_toss_146 rfl ?_
          refine r_getIe (pc := 147) (v := S.1 8 0) dX0_toss_147 fl_X0_314_3 hx5.2.2.1.2.2.k (fun _ _ => rfl) hx5.2.2.1.2.2.i7 ?_
          refine r_iconst (pc := 150) (v := 1) dX0_toss_150 (by decide) ?_
          refine r_iadd (pc := 151) dX0_toss_151 ?_
          refine r_putI (pc := 152) dX0_toss_152 fl_X0_314_3 hx5.2.2.1.2.2.k rfl rfl ?_
          have hx6 := hx5.world (S' := (up2 (tiresS (up2 (up2 (up2 (up2 S.1 7 0 (sdC (S.1 7 0))) 14 (Int32.toNatClampNeg x2) (S.1 14 (Int32.toNatClampNeg x2) + x3)) 15 (Int32.toNatClampNeg x2) (-1)) 16 (Int32.toNatClampNeg x2) 0) (Int32.toNatClampNeg x1) (Int32.toNatClampNeg x2)) 8 0 (S.1 8 0 + 1), S.2)) (WX.s8 w5) (frP.rf.sI fun _ => inW_0) (fun _ _ _ => rfl) rfl (fun k hk => by show (up2 (tiresS (up2 (up2 (up2 (up2 S.1 7 0 (sdC (S.1 7 0))) 14 (Int32.toNatClampNeg x2) (S.1 14 (Int32.toNatClampNeg x2) + x3)) 15 (Int32.toNatClampNeg x2) (-1)) 16 (Int32.toNatClampNeg x2) 0) (Int32.toNatClampNeg x1) (Int32.toNatClampNeg x2)) 8 0 (S.1 8 0 + 1)) k = (tiresS (up2 (up2 (up2 (up2 S.1 7 0 (sdC (S.1 7 0))) 14 (Int32.toNatClampNeg x2) (S.1 14 (Int32.toNatClampNeg x2) + x3)) 15 (Int32.toNatClampNeg x2) (-1)) 16 (Int32.toNatClampNeg x2) 0) (Int32.toNatClampNeg x1) (Int32.toNatClampNeg x2)) k; rw [up2_ne (by omega)])
          refine r_iload (pc := 155) dX0_toss_155 rfl ?_
          refine r_if_eq (pc := 157) 164 dX0_toss_157 rfl (fun hno => absurd hno (by decide)) (fun _ => ?_)
          refine r_iconst (pc := 160) (v := 1) dX0_toss_160 (by decide) ?_
          refine r_goto (pc := 161) 165 dX0_toss_161 rfl ?_
          refine r_ireturn (pc := 165) rfl dX0_toss_165 ⟨_, rfl, ?_⟩
          exact (show oX xo mo Z (tossS S x1 x2 x3) _ _ by unfold tossS; rw [cI_f (n_or hy), cI_f (br_00 hz), cI_t hct, ← toss_0 (σ := S.1) (m := x1) (t := x2) (d := x3) hz.2.2]; exact ⟨rfl, wa, hx6⟩)
